set_option maxRecDepth 100000
/-! ===== the twin, 24: law ===== -/
theorem tIn.rd {s s' : tS} {W : Wd} {p : Int32} (h : tIn s W) (hW : wOK W) (h1 : s'.1 1 = 0) (h3 : s'.1 3 = p) (h17 : s'.1 17 = s.1 17) (h32 : s'.1 32 = s.1 32) (h33 : s'.1 33 = s.1 33) (h34 : s'.1 34 = s.1 34) (h35 : s'.1 35 = s.1 35) (hA : ∀ j, tAs j = false → s'.2.2 j = s.2.2 j) (ok : tOK s') : tIn s' (wsP (wsT W []) p) := by
  obtain ⟨q0, q1, q2, q3, q4, q5, q6, q7, q8, q9, q10⟩ := h
  have a16 := hW.2.2.2.2.2.2.1.1
  have a3 := hW.2.2.2.2.2.2.2.1.1
  have a6 := hW.2.2.2.2.2.2.2.2.1.1
  refine ⟨ok, ⟨h1, fun i hi => absurd (show i < 0 from hi) (Nat.not_lt_zero _)⟩, h3, ?_, ⟨h17.trans q4.1, q4.2.1, fun i hi => (hA _ (tAs_law i (by have := q4.2.1; have : i < (wLw W).length := hi; omega))).trans (q4.2.2.1 i hi), q4.2.2.2⟩, (hA 448 rfl).trans q5, ⟨h33.trans q6.1, fun i hi => (hA _ (tAs_bef i (by have : i < (wPs W).length := hi; omega))).trans (q6.2 i hi)⟩, ⟨h35.trans q7.1, fun i hi => by rw [hA _ (tAs_kep i (by have : i < (wIm W).length := hi; omega))]; exact q7.2 i hi⟩, ⟨h32.trans q8.1, fun i hi => (hA _ (tAs_lin i (by have : i < (wLn W).length := hi; omega))).trans (q8.2 i hi)⟩, h34.trans q9, (hA 2 rfl).trans q10⟩
  rw [hA 4 rfl, hA 6 rfl]
  exact q3
/-- the text that is read -/
theorem tTx_st {s : tS} {W : Wd} (hI : tIn s W) (hW : wOK W) {n : Nat} (hn : n ≤ (wTp W).length) : tTx (sSt s (nI n)) ((wTp W).take n) := by
  have hl : ((wTp W).take n).length = n := by rw [List.length_take]; omega
  have h6 := hW.1
  refine ⟨by rw [hl]; rfl, by rw [hl]; omega, fun i hi => ?_, fun i => ?_⟩
  · rw [hl] at hi
    rw [getD_take hi]
    exact hI.2.1.2 i (by omega)
  · by_cases hi : i < n
    · rw [getD_take hi]; exact hW.2.1 i
    · rw [List.getD_eq_getElem?_getD, List.getElem?_eq_none (by omega)]
      show 0 < 256
      decide
theorem rlA : ∀ j, tAs j = false → ¬ (191 ≤ j ∧ j < 351) := by
  intro j hj h
  have : ∀ i, i < 160 → tAs (191 + i) = true := by decide +kernel
  have := this (j - 191) (by omega)
  rw [show 191 + (j - 191) = j by omega, hj] at this
  cases this
section TP24
variable {G : xG} {d : Nat} {h : xH} {T0 : Nat} {s : tS} {W : Wd}
theorem lays_law (hs : tOK s) (hb : G.2.2.1 ≤ T0) (m : Nat) (hm : m ≤ 160) : xMet G d 0 0 m_X9_lays [.ref (T0 + 190), .ref (T0 + 29), .int (nI m)] (tw T0 h s) (xV (fun h' => ∃ s', h' = tw T0 h s' ∧ s'.1 = s.1 ∧ s'.2.1 = s.2.1 ∧ tOK s' ∧ (∀ j, ¬ (29 + 1 ≤ j ∧ j < 29 + 1 + m) → s'.2.2 j = s.2.2 j) ∧ ∀ i, i < m → s'.2.2 (29 + 1 + i) = s.2.2 (190 + 1 + i))) :=
  c_lays hs hb 190 29 160 2 m (by decide) (by decide) (by decide) hm (by decide) (by decide) (fun i hi => ⟨ar_rl i hi, ln_rl i hi⟩) (fun i hi => ⟨ar_law i hi, ln_law i hi⟩) (Or.inr (by decide))
theorem p_law (hI : tIn s W) (hW : wOK W) (hb : G.2.2.1 ≤ T0) (x : Int32) : xMet G (d + 30) 0 0 m_X9_law [.ref T0, .int x] (tw T0 h s) (tQ T0 h (oLaw W x)) := by
  refine xMet.of [some (.ref T0), some (.int x)] pl_X9 rfl (Nat.le_of_ble_eq_true rfl) ?_
  have hI0 := hI.J hW ((tJ.refl hI.1).seti (k := 0) (v := 0) rfl)
  have h600 := hW.1
  have h1 := hI0.2.1.1
  have no : ¬ ((0 ≤ x ∧ x ≤ nI (wTp W).length) ∧ x ≤ 150) → xRun G m_X9_law (d + 30) 0 0 25 [some (.ref T0), some (.int x)] [.ref T0] (tw T0 h (seti s 0 0)) (tQ T0 h (oLaw W x)) := by
    intro z
    rw [oLaw, if_neg z]
    refine x_iconst dX9_law_25 1 rfl ?_
    refine x_goto 30 dX9_law_26 rfl ?_
    refine x_iconst dX9_law_30 1 rfl ?_
    refine x_iconst dX9_law_31 1 rfl ?_
    refine xiV3 dX9_law_32 v_X9_171_27 tw_get0 (Nat.le_of_ble_eq_true rfl) (c_badT hI0.1 hb rfl _ (by decide) 1 (by decide)) ?_
    refine x_if_eq 40 dX9_law_35 rfl (fun hc9 => absurd hc9 (by decide)) (fun _ => ?_)
    refine x_iconst dX9_law_38 0 rfl ?_
    exact x_ireturn dX9_law_39 rfl (tQ.mk rfl (hI0.ref (by decide)) rfl)
  refine x_aload_n dX9_law_0 rfl ?_
  refine x_iconst dX9_law_1 0 rfl ?_
  refine t_pi dX9_law_2 p_X9_92_27 rfl (by decide) hb ?_
  refine x_aload_n dX9_law_5 rfl ?_
  refine x_iload_n dX9_law_6 rfl ?_
  refine x_iconst dX9_law_7 0 rfl ?_
  refine x_aload_n dX9_law_8 rfl ?_
  refine t_gi dX9_law_9 f_X9_95_27 (by decide) rfl (by decide) h1 ?_
  refine x_at 12 rfl ?_
  refine xiS3 dX9_law_12 s_X9_126 (Nat.le_of_ble_eq_true rfl) (c_in _ _ _) ?_
  refine x_if_eq 25 dX9_law_15 rfl (fun z1 => ?_) (fun z1 => ?_)
  · exact no (fun z => of_decide_eq_false (b2_eq.mp z1) z.1)
  · have c1 := of_decide_eq_true (b2_ne.mp z1)
    refine x_iload_n dX9_law_18 rfl ?_
    refine x_sipush dX9_law_19 150 (by decide) ?_
    refine x_icmp_le 29 dX9_law_22 rfl (fun z2 => ?_) (fun z2 => ?_)
    · rw [oLaw, if_pos ⟨c1, z2⟩]
      obtain ⟨n, hn, rfl, en⟩ := inN (wTp W).length (m := nI (wTp W).length) (by rw [nI_toInt (by omega)]) (by omega) c1
      rw [en]
      have n150 : n ≤ 150 := (nI_leI (b := 150) (by omega) (by decide)).mp z2
      generalize hs0 : seti s 0 0 = s0 at hI0
      have ht := tTx_st hI0 hW hn
      have hl : ((wTp W).take n).length = n := by rw [List.length_take]; omega
      generalize htx : (wTp W).take n = t at ht hl
      have hsz : (sSt s0 (nI n)).1 2 = nI t.length := ht.1
      have ok1 : tOK (sSt s0 (nI n)) := hI0.1
      have t0 : s0.1 0 = 0 := by rw [← hs0]; rfl
      have hb0 : sc isB t 0 ≤ t.length := sc_le (Nat.zero_le _)
      have estart : seti (pst (sSt s0 (nI n)) (sc isB t 0) none) 18 0 = pst (sLw (sSt s0 (nI n)) [] (nI 0)) (sc isB t 0) none := by
        refine Prod.ext ?_ (Prod.ext rfl ?_)
        · funext j
          show (if j = 18 then 0 else if j = 6 then _ else if j = 5 then _ else if j = 4 then _ else (sSt s0 (nI n)).1 j) = (if j = 6 then _ else if j = 5 then _ else if j = 4 then _ else if j = 18 then nI 0 else if j = 8 then nI 0 else (sSt s0 (nI n)).1 j)
          by_cases e18 : j = 18
          · subst e18; rfl
          · rw [if_neg e18, if_neg e18]
            by_cases e8 : j = 8
            · subst e8; rfl
            · rw [if_neg e8]
        · funext j
          show (sSt s0 (nI n)).2.2 j = (if 191 ≤ j ∧ j < 191 + 0 then _ else (sSt s0 (nI n)).2.2 j)
          rw [if_neg (by omega)]
      have key := (rd_units (G := G) (d := d + 3) (h := h) (T0 := T0) ok1 ht hb (by omega) 6 (by omega)).2 (sc isB t 0) [] hb0 (Nat.zero_le _)
      have st := c_starts (G := G) (d := d + 27) (h := h) (T0 := T0) (s := s0) hI0.1 ht hb
      refine x_iconst dX9_law_29 0 rfl ?_
      refine x_iconst dX9_law_30 1 rfl ?_
      refine x_iconst dX9_law_31 1 rfl ?_
      refine xiV3 dX9_law_32 v_X9_171_27 tw_get0 (Nat.le_of_ble_eq_true rfl) (c_badF hI0.1 hb t0 _ 1 (by decide)) ?_
      refine x_if_eq 40 dX9_law_35 rfl (fun _ => ?_) (fun hc9 => absurd (rfl) hc9)
      refine x_aload_n dX9_law_40 rfl ?_
      refine x_iload_n dX9_law_41 rfl ?_
      refine xuV1 dX9_law_42 v_X9_175_27 tw_get0 (Nat.le_of_ble_eq_true rfl) (st) ?_
      refine x_at 45 rfl ?_
      refine x_aload_n dX9_law_45 rfl ?_
      refine x_iconst dX9_law_46 0 rfl ?_
      refine t_pi dX9_law_47 p_X9_203_27 rfl (by decide) hb ?_
      rw [estart]
      have oks : ∀ cs o, cs.length ≤ 160 → tOK (sLw (sSt s0 (nI n)) cs o) := fun cs o hl => sLw_ok ok1 hl
      -- a fault
      have bad : ∀ e cs' o' k', pLaw t = .inl e → cs'.length ≤ 160 → k' ≤ 600 → xRun G m_X9_law (d + 30) 0 0 85 [some (.ref T0), some (.int (nI n))] [] (tw T0 h (pst (sLw (sSt s0 (nI n)) cs' o') k' (some e))) (tQ T0 h (match pLaw t with | .inl e => (0, kd e.1 - 10, wsP (wsT W []) (nI e.2)) | .inr q => (0, 1, wsL (wsP (wsT W []) (-1)) q.1))) := by
        intro e cs' o' k' hr g1 g2
        refine x_aload_n dX9_law_85 rfl ?_
        refine t_gi dX9_law_86 f_X9_108_27 (by decide) rfl (by decide) pst5 ?_
        refine x_if_eq 97 dX9_law_89 rfl (fun hc9 => absurd hc9 (pf_ne e)) (fun _ => ?_)
        refine x_aload_n dX9_law_92 rfl ?_
        refine xiV0 dX9_law_93 v_X9_181_27 tw_get0 (Nat.le_of_ble_eq_true rfl) (c_ends hb) ?_
        refine x_ireturn dX9_law_96 rfl ?_
        rw [hr]
        refine tQ.mk rfl (hI0.rd hW rfl rfl rfl rfl rfl rfl rfl (fun j hj => ?_) (oks cs' o' g1)) t0
        exact sLw_a (o := o') (fun z => rlA j hj ⟨z.1, by omega⟩)
      refine x_aload_n dX9_law_50 rfl ?_
      refine xvV0 dX9_law_51 v_X9_229_27 tw_get0 (Nat.le_of_ble_eq_true rfl) (key) (by omega) (by omega) (fun h1 hF => ?_)
      cases hq : pSum t (pUnit t 6) (sc isB t 0) with
      | inl e =>
        rw [hq] at hF
        obtain ⟨cs', o', k', g1, g2, rfl⟩ := hF
        have kb := c_blanks (G := G) (d := d + 28) (h := h) (T0 := T0) (oks cs' o' g1) (sLw_tx ht) hb (e := some e) k' g2
        have hlk : sc isB t k' ≤ 600 := by
          by_cases z : k' ≤ t.length
          · have := @sc_le isB t k' z; omega
          · rw [sc_n (fun y => absurd y (by omega))]; exact g2
        refine x_aload_n dX9_law_54 rfl ?_
        refine xuV0 dX9_law_55 v_X9_114_27 tw_get0 (Nat.le_of_ble_eq_true rfl) (kb) ?_
        refine x_aload_n dX9_law_58 rfl ?_
        refine t_gi dX9_law_59 f_X9_108_27 (by decide) rfl (by decide) pst5 ?_
        refine x_if_ne 85 dX9_law_62 rfl (fun _ => ?_) (fun hc9 => absurd hc9 (pf_ne e))
        exact bad e cs' o' _ (by unfold pLaw; rw [hq]) g1 hlk
      | inr q =>
        rw [hq] at hF
        have hF2 : h1 = tw T0 h (pst (sLw (sSt s0 (nI n)) ([] ++ q.1) (nI 0)) q.2 none) := hF
        rw [List.nil_append] at hF2
        subst hF2
        have hg := pSum_G (pUnit_G 6) (sc isB t 0) hb0 q.1 q.2 hq
        have lq : q.1.length ≤ 150 := by omega
        have kb := c_blanks (G := G) (d := d + 28) (h := h) (T0 := T0) (oks q.1 (nI 0) (by omega)) (sLw_tx ht) hb (e := none) q.2 (by omega)
        have lb := @sc_le isB t q.2 hg.2.1
        have f2 : (pst (sLw (sSt s0 (nI n)) q.1 (nI 0)) (sc isB t q.2) none).1 2 = nI t.length := hsz
        refine x_aload_n dX9_law_54 rfl ?_
        refine xuV0 dX9_law_55 v_X9_114_27 tw_get0 (Nat.le_of_ble_eq_true rfl) (kb) ?_
        refine x_aload_n dX9_law_58 rfl ?_
        refine t_gi dX9_law_59 f_X9_108_27 (by decide) rfl (by decide) pst5 ?_
        refine x_if_ne 85 dX9_law_62 rfl (fun hc9 => absurd (rfl) hc9) (fun _ => ?_)
        refine x_aload_n dX9_law_65 rfl ?_
        refine t_gi dX9_law_66 f_X9_101_27 (by decide) rfl (by decide) pst4 ?_
        refine x_aload_n dX9_law_69 rfl ?_
        refine x_at 70 rfl ?_
        refine t_gi dX9_law_70 f_X9_98_27 (by decide) rfl (by decide) f2 ?_
        refine x_icmp_ge 85 dX9_law_73 rfl (fun z3 => ?_) (fun z3 => ?_)
        · have c3 : ¬ sc isB t q.2 < t.length := by
            have := (nI_leI (by omega) (by omega)).mp z3
            omega
          have eL : pLaw t = .inr (q.1, sc isB t q.2) := by
            unfold pLaw
            rw [hq]
            show (if _ then _ else _) = _
            rw [if_neg c3]
          generalize hs5 : pst (sLw (sSt s0 (nI n)) q.1 (nI 0)) (sc isB t q.2) none = s5
          have f5 : s5.1 5 = 0 := by rw [← hs5]; rfl
          have g18 : (seti s5 3 (-1)).1 18 = nI q.1.length := by rw [← hs5]; rfl
          have ok5 : tOK s5 := by rw [← hs5]; exact oks q.1 (nI 0) (by omega)
          refine x_aload_n dX9_law_85 rfl ?_
          refine t_gi dX9_law_86 f_X9_108_27 (by decide) rfl (by decide) f5 ?_
          refine x_if_eq 97 dX9_law_89 rfl (fun _ => ?_) (fun hc9 => absurd (rfl) hc9)
          refine x_aload_n dX9_law_97 rfl ?_
          refine x_iconst dX9_law_98 (-1) rfl ?_
          refine t_pi dX9_law_99 p_X9_9_27 rfl (by decide) hb ?_
          refine x_aload_n dX9_law_102 rfl ?_
          refine x_aload_n dX9_law_103 rfl ?_
          refine t_gi dX9_law_104 f_X9_203_27 (by decide) rfl (by decide) g18 ?_
          generalize hs6 : seti (seti s5 3 (-1)) 17 (nI q.1.length) = s6
          have g17 : s6.1 17 = nI q.1.length := by rw [← hs6]; rfl
          refine t_pi dX9_law_107 p_X9_188_27 rfl (by decide) hb ?_
          rw [hs6]
          refine x_aload_n dX9_law_110 rfl ?_
          refine t_ga 190 dX9_law_111 f_X9_43_27 (by decide) rfl (by decide) ?_
          refine x_aload_n dX9_law_114 rfl ?_
          refine t_ga 29 dX9_law_115 f_X9_40_27 (by decide) rfl (by decide) ?_
          refine x_aload_n dX9_law_118 rfl ?_
          refine t_gi dX9_law_119 f_X9_188_27 (by decide) rfl (by decide) g17 ?_
          have ok6 : tOK s6 := by rw [← hs6]; exact ok5
          refine xvS3 dX9_law_122 s_X9_184 (Nat.le_of_ble_eq_true rfl) (lays_law ok6 hb q.1.length (by omega)) (by omega) (by omega) (fun h1 hF => ?_)
          obtain ⟨s7, rfl, e1, e2, ok7, e3, e4⟩ := hF
          refine x_iconst dX9_law_125 1 rfl ?_
          refine x_ireturn dX9_law_126 rfl ?_
          rw [eL]
          have fk : ∀ k, ¬ k = 17 → ¬ k = 3 → s7.1 k = (pst (sLw (sSt s0 (nI n)) q.1 (nI 0)) (sc isB t q.2) none).1 k := fun k h17 h3 => by
            rw [e1, ← hs6, seti_ne h17, seti_ne h3, ← hs5]
          have a6 : s6.2.2 = (sLw (sSt s0 (nI n)) q.1 (nI 0)).2.2 := by rw [← hs6, ← hs5]; rfl
          have hA : ∀ j, tAs j = false → ¬ (29 + 1 ≤ j ∧ j < 29 + 1 + 160) → s7.2.2 j = s0.2.2 j := fun j hj h2 => by
            rw [e3 j (by omega), a6]
            exact sLw_a (fun z => rlA j hj ⟨z.1, by omega⟩)
          have hbase : tIn (seta s7 0 (s7.2.2 0)) (wsL (wsP (wsT W []) (-1)) q.1) := by
            rw [seta_id rfl]
            obtain ⟨q0, q1, q2, q3, q4, q5, q6, q7, q8, q9, q10⟩ := hI0
            have a16 := hW.2.2.2.2.2.2.1.1
            have a3 := hW.2.2.2.2.2.2.2.1.1
            have a66 := hW.2.2.2.2.2.2.2.2.1.1
            refine ⟨ok7, ⟨fk 1 (by decide) (by decide), fun i hi => absurd (show i < 0 from hi) (Nat.not_lt_zero _)⟩, by rw [e1, ← hs6]; rfl, ?_, ⟨by rw [e1]; exact g17, by show q.1.length ≤ 160; omega, fun i hi => ?_, ?_, fun i hi => ?_⟩, (hA 448 rfl (by decide)).trans q5, ⟨(fk 33 (by decide) (by decide)).trans q6.1, fun i hi => (hA _ (tAs_bef i (by have : i < (wPs W).length := hi; omega)) (by omega)).trans (q6.2 i hi)⟩, ⟨(fk 35 (by decide) (by decide)).trans q7.1, fun i hi => by rw [hA _ (tAs_kep i (by have : i < (wIm W).length := hi; omega)) (by omega)]; exact q7.2 i hi⟩, ⟨(fk 32 (by decide) (by decide)).trans q8.1, fun i hi => (hA _ (tAs_lin i (by have : i < (wLn W).length := hi; omega)) (by omega)).trans (q8.2 i hi)⟩, (fk 34 (by decide) (by decide)).trans q9, (hA 2 rfl (by decide)).trans q10⟩
            · rw [hA 4 rfl (by decide), hA 6 rfl (by decide)]
              exact q3
            · have hi2 : i < q.1.length := hi
              rw [e4 i hi2, a6]
              show (if 191 ≤ 190 + 1 + i ∧ 190 + 1 + i < 191 + q.1.length then [nI (cd q.1 (190 + 1 + i - 191)).1, nI (cd q.1 (190 + 1 + i - 191)).2] else _) = _
              rw [if_pos (by omega), show 190 + 1 + i - 191 = i by omega]
              rfl
            · have := hg.2.2.2.1 [] 0 trivial
              rw [List.append_nil] at this
              exact this
            · exact hg.2.2.2.2 _ (getD_mem hi)
          rw [seta_id rfl] at hbase
          exact tQ.mk rfl hbase ((fk 0 (by decide) (by decide)).trans t0)
        · have c3 : sc isB t q.2 < t.length := Nat.lt_of_not_le (fun z => z3 ((nI_leI (by omega) (by omega)).mpr z))
          have eL : pLaw t = .inl (0, sc isB t q.2) := by
            unfold pLaw
            rw [hq]
            show (if _ then _ else _) = _
            rw [if_pos c3]
          refine x_aload_n dX9_law_76 rfl ?_
          refine x_iconst dX9_law_77 1 rfl ?_
          refine x_aload_n dX9_law_78 rfl ?_
          refine t_gi dX9_law_79 f_X9_101_27 (by decide) rfl (by decide) pst4 ?_
          refine xuV2 dX9_law_82 v_X9_121_27 tw_get0 (Nat.le_of_ble_eq_true rfl) (c_wrongP hb (e := none) 0 (sc isB t q.2)) ?_
          exact bad (0, sc isB t q.2) q.1 (nI 0) _ eL (by omega) (by omega)
    · exact no (fun z => z2 z.2)
end TP24
