set_option maxRecDepth 100000
/-! ===== the twin, 25: a book ===== -/
def sLn (s : tS) (ls : Ln) : tS := (s.1, s.2.1, fun j => if 359 ≤ j ∧ j < 359 + ls.length then [nI (ls.getD (j - 359) (0, 0, 0)).1, nI (ls.getD (j - 359) (0, 0, 0)).2.1, nI (ls.getD (j - 359) (0, 0, 0)).2.2] else s.2.2 j)
theorem ln_rn : ∀ i, i < 6 → tlen (358 + 1 + i) = 3 := by decide +kernel
theorem ar_rn : ∀ i, i < 6 → (358 + 1 + i < 475 ∧ ¬ 358 + 1 + i = 0 ∧ tgrid (358 + 1 + i) = 0 ∧ ¬ 358 + 1 + i = 472) := by decide +kernel
theorem sLn_ok {s : tS} {ls : Ln} (hs : tOK s) (hl : ls.length ≤ 6) : tOK (sLn s ls) := by
  intro j
  show (if 359 ≤ j ∧ j < 359 + ls.length then _ else s.2.2 j).length = tlen j
  by_cases h : 359 ≤ j ∧ j < 359 + ls.length
  · rw [if_pos h]
    have := ln_rn (j - 359) (by omega)
    rw [show 358 + 1 + (j - 359) = j by omega] at this
    rw [this]
    rfl
  · rw [if_neg h]; exact hs j
theorem sLn_a {s : tS} {ls : Ln} {j : Nat} (h : ¬ (359 ≤ j ∧ j < 359 + ls.length)) : (sLn s ls).2.2 j = s.2.2 j := if_neg h
theorem sLn_put {s : tS} {ls : Ln} {k a b c : Nat} (r : List Int32) (hr : r = [nI a, nI b, nI c]) : seta (pst (sLn s ls) k none) (358 + 1 + ls.length) r = pst (sLn s (ls ++ [(a, b, c)])) k none := by
  subst hr
  refine Prod.ext rfl (Prod.ext rfl ?_)
  funext j
  show (if j = 358 + 1 + ls.length then _ else if 359 ≤ j ∧ j < 359 + ls.length then _ else s.2.2 j) = (if 359 ≤ j ∧ j < 359 + (ls ++ [(a, b, c)]).length then [nI ((ls ++ [(a, b, c)]).getD (j - 359) (0, 0, 0)).1, nI ((ls ++ [(a, b, c)]).getD (j - 359) (0, 0, 0)).2.1, nI ((ls ++ [(a, b, c)]).getD (j - 359) (0, 0, 0)).2.2] else s.2.2 j)
  rw [List.length_append, getD_snoc]
  by_cases h : j = 358 + 1 + ls.length
  · rw [if_pos h, if_pos (by show _ ∧ _ < 359 + (_ + 1); omega), if_neg (by omega), if_pos (by omega)]
  · rw [if_neg h]
    by_cases h2 : 359 ≤ j ∧ j < 359 + ls.length
    · rw [if_pos h2, if_pos (by show _ ∧ _ < 359 + (_ + 1); omega), if_pos (by omega)]
    · rw [if_neg h2, if_neg (by show ¬ (_ ∧ _ < 359 + (_ + 1)); omega)]
theorem rnA : ∀ j, tAs j = false → ¬ (359 ≤ j ∧ j < 365) := by
  intro j hj h
  have : ∀ i, i < 6 → tAs (359 + i) = true := by decide +kernel
  have := this (j - 359) (by omega)
  rw [show 359 + (j - 359) = j by omega, hj] at this
  cases this
section TB25
variable {G : xG} {d : Nat} {h : xH} {T0 : Nat} {s : tS} {W : Wd}
theorem p_book (hI : tIn s W) (hW : wOK W) (hb : G.2.2.1 ≤ T0) (x : Int32) : xMet G (d + 5) 0 0 m_X9_book [.ref T0, .int x] (tw T0 h s) (tQ T0 h (oBook W x)) := by
  refine xMet.of [some (.ref T0), some (.int x), none, none, none, none, none] pl_X9 rfl (Nat.le_of_ble_eq_true rfl) ?_
  have hI0 := hI.J hW ((tJ.refl hI.1).seti (k := 0) (v := 0) rfl)
  have h600 := hW.1
  have h1 := hI0.2.1.1
  have h8 := hW.2.2.1
  have no : ¬ ((0 ≤ x ∧ x ≤ nI (wTp W).length) ∧ x ≤ 60) → xRun G m_X9_book (d + 5) 0 0 24 [some (.ref T0), some (.int x), none, none, none, none, none] [.ref T0] (tw T0 h (seti s 0 0)) (tQ T0 h (oBook W x)) := by
    intro z
    rw [oBook, if_neg z]
    refine x_iconst dX9_book_24 1 rfl ?_
    refine x_goto 29 dX9_book_25 rfl ?_
    refine x_iconst dX9_book_29 1 rfl ?_
    refine x_iconst dX9_book_30 1 rfl ?_
    refine xiV3 dX9_book_31 v_X9_171_27 tw_get0 (Nat.le_of_ble_eq_true rfl) (c_badT hI0.1 hb rfl _ (by decide) 1 (by decide)) ?_
    refine x_if_eq 39 dX9_book_34 rfl (fun hc9 => absurd hc9 (by decide)) (fun _ => ?_)
    refine x_iconst dX9_book_37 0 rfl ?_
    exact x_ireturn dX9_book_38 rfl (tQ.mk rfl (hI0.ref (by decide)) rfl)
  refine x_aload_n dX9_book_0 rfl ?_
  refine x_iconst dX9_book_1 0 rfl ?_
  refine t_pi dX9_book_2 p_X9_92_27 rfl (by decide) hb ?_
  refine x_aload_n dX9_book_5 rfl ?_
  refine x_iload_n dX9_book_6 rfl ?_
  refine x_iconst dX9_book_7 0 rfl ?_
  refine x_aload_n dX9_book_8 rfl ?_
  refine t_gi dX9_book_9 f_X9_95_27 (by decide) rfl (by decide) h1 ?_
  refine x_at 12 rfl ?_
  refine xiS3 dX9_book_12 s_X9_126 (Nat.le_of_ble_eq_true rfl) (c_in _ _ _) ?_
  refine x_if_eq 24 dX9_book_15 rfl (fun z1 => ?_) (fun z1 => ?_)
  · exact no (fun z => of_decide_eq_false (b2_eq.mp z1) z.1)
  · have c1 := of_decide_eq_true (b2_ne.mp z1)
    refine x_iload_n dX9_book_18 rfl ?_
    refine x_bipush dX9_book_19 60 (by decide) ?_
    refine x_icmp_le 28 dX9_book_21 rfl (fun z2 => ?_) (fun z2 => ?_)
    · rw [oBook, if_pos ⟨c1, z2⟩]
      obtain ⟨n, hn, rfl, en⟩ := inN (wTp W).length (m := nI (wTp W).length) (by rw [nI_toInt (by omega)]) (by omega) c1
      rw [en]
      have n60 : n ≤ 60 := (nI_leI (b := 60) (by omega) (by decide)).mp z2
      generalize hs0 : seti s 0 0 = s0 at hI0
      have ht := tTx_st hI0 hW hn
      have hl : ((wTp W).take n).length = n := by rw [List.length_take]; omega
      generalize htx : (wTp W).take n = t at ht hl
      have hsz : (sSt s0 (nI n)).1 2 = nI t.length := ht.1
      have ok1 : tOK (sSt s0 (nI n)) := hI0.1
      have t0 : s0.1 0 = 0 := by rw [← hs0]; rfl
      have hb0 : sc isB t 0 ≤ t.length := sc_le (Nat.zero_le _)
      have hwn : ∀ ls k e, ls.length ≤ 6 → ((pst (sLn (sSt s0 (nI n)) ls) k e).2.2 4).getD 0 0 = nI (wN W) := fun ls k e h6 => by
        rw [show (pst (sLn (sSt s0 (nI n)) ls) k e).2.2 4 = s0.2.2 4 from sLn_a (by omega)]
        exact hI0.2.2.2.1.1
      have st := c_starts (G := G) (d := d + 2) (h := h) (T0 := T0) (s := s0) hI0.1 ht hb
      have ok : ∀ ls, ls.length ≤ 6 → tOK (sLn (sSt s0 (nI n)) ls) := fun ls hl => sLn_ok ok1 hl
      have tx : ∀ ls : Ln, tTx (sLn (sSt s0 (nI n)) ls) t → True := fun _ _ => trivial
      have htl : ∀ ls : Ln, ls.length ≤ 6 → tTx (sLn (sSt s0 (nI n)) ls) t := fun ls h6 => by
        refine ⟨ht.1, ht.2.1, fun i hi => ?_, ht.2.2.2⟩
        rw [show (sLn (sSt s0 (nI n)) ls).2.2 1 = (sSt s0 (nI n)).2.2 1 from sLn_a (by omega)]
        exact ht.2.2.1 i hi
      generalize hQ : tQ T0 h _ = Q
      -- a fault
      have bad : ∀ e ls k' x2 x3 x4 x5 x6, pBook t (wN W) = .inl e → ls.length ≤ 6 → xRun G m_X9_book (d + 5) 0 0 46 [some (.ref T0), some (.int (nI n)), x2, x3, x4, x5, x6] [] (tw T0 h (pst (sLn (sSt s0 (nI n)) ls) k' (some e))) Q := by
        intro e ls k' x2 x3 x4 x5 x6 hr g1
        refine x_aload_n dX9_book_46 rfl ?_
        refine t_gi dX9_book_47 f_X9_108_27 (by decide) rfl (by decide) pst5 ?_
        refine x_if_ne 178 dX9_book_50 rfl (fun _ => ?_) (fun hc9 => absurd hc9 (pf_ne e))
        refine x_aload_n dX9_book_178 rfl ?_
        refine t_gi dX9_book_179 f_X9_108_27 (by decide) rfl (by decide) pst5 ?_
        refine x_if_eq 190 dX9_book_182 rfl (fun hc9 => absurd hc9 (pf_ne e)) (fun _ => ?_)
        refine x_aload_n dX9_book_185 rfl ?_
        refine xiV0 dX9_book_186 v_X9_181_27 tw_get0 (Nat.le_of_ble_eq_true rfl) (c_ends hb) ?_
        refine x_ireturn dX9_book_189 rfl ?_
        rw [← hQ, hr]
        refine tQ.mk rfl (hI0.rd hW rfl rfl rfl rfl rfl rfl rfl (fun j hj => ?_) (ok ls g1)) t0
        exact sLn_a (fun z => rnA j hj ⟨z.1, by omega⟩)
      have bad131 : ∀ e ls k' x2 x3 x4 x5 x6, pBook t (wN W) = .inl e → ls.length ≤ 6 → k' ≤ 600 → xRun G m_X9_book (d + 5) 0 0 125 [some (.ref T0), some (.int (nI n)), x2, x3, x4, x5, x6] [] (tw T0 h (pst (sLn (sSt s0 (nI n)) ls) k' (some e))) Q := by
        intro e ls k' x2 x3 x4 x5 x6 hr g1 g2
        have kb := c_blanks (G := G) (d := d + 3) (h := h) (T0 := T0) (ok ls g1) (htl ls g1) hb (e := some e) k' g2
        refine x_aload_n dX9_book_125 rfl ?_
        refine x_bipush dX9_book_126 59 (by decide) ?_
        refine xuV1 dX9_book_128 v_X9_167_27 tw_get0 (Nat.le_of_ble_eq_true rfl) (c_signF e _) ?_
        refine x_aload_n dX9_book_131 rfl ?_
        refine t_gi dX9_book_132 f_X9_108_27 (by decide) rfl (by decide) pst5 ?_
        refine x_if_ne 171 dX9_book_135 rfl (fun _ => ?_) (fun hc9 => absurd hc9 (pf_ne e))
        refine x_aload_n dX9_book_171 rfl ?_
        refine xuV0 dX9_book_172 v_X9_114_27 tw_get0 (Nat.le_of_ble_eq_true rfl) (kb) ?_
        refine x_goto 46 dX9_book_175 rfl ?_
        exact bad e ls _ _ _ _ _ _ hr g1
      have bad117 : ∀ e ls k' x2 x3 x4 x5 x6, pBook t (wN W) = .inl e → ls.length ≤ 6 → k' ≤ 600 → xnl x5 = true → xRun G m_X9_book (d + 5) 0 0 117 [some (.ref T0), some (.int (nI n)), x2, x3, x4, x5, x6] [] (tw T0 h (pst (sLn (sSt s0 (nI n)) ls) k' (some e))) Q := by
        intro e ls k' x2 x3 x4 x5 x6 hr g1 g2 n5
        refine x_aload_n dX9_book_117 rfl ?_
        refine x_iconst dX9_book_118 0 rfl ?_
        refine x_iconst dX9_book_119 2 rfl ?_
        refine xiV2 dX9_book_120 v_X9_154_27 tw_get0 (Nat.le_of_ble_eq_true rfl) (c_numberF e _ _) ?_
        refine xsi6 dX9_book_123 (by decide) n5 ?_
        exact bad131 e ls k' _ _ _ _ _ hr g1 g2
      have bad103 : ∀ e ls k' x2 x3 v4 x5 x6, pBook t (wN W) = .inl e → ls.length ≤ 6 → k' ≤ t.length → xRun G m_X9_book (d + 5) 0 0 103 [some (.ref T0), some (.int (nI n)), x2, x3, some (.int v4), x5, x6] [] (tw T0 h (pst (sLn (sSt s0 (nI n)) ls) k' (some e))) Q := by
        intro e ls k' x2 x3 v4 x5 x6 hr g1 g2
        have ko := c_otherThingF (G := G) (d := d + 2) (h := h) (T0 := T0) (ok ls g1) (htl ls g1) hb k' g2 e v4 (nI (wN W))
        have := @sc_le isB t k' g2
        refine x_aload_n dX9_book_103 rfl ?_
        refine x_iload dX9_book_104 rfl ?_
        refine x_aload_n dX9_book_106 rfl ?_
        refine t_ga 4 dX9_book_107 f_X9_23_27 (by decide) rfl (by decide) ?_
        refine x_iconst dX9_book_110 0 rfl ?_
        refine t_ia 0 dX9_book_111 (ok ls g1) (by decide) rfl (by decide) (hwn ls _ _ g1) ?_
        refine xiV2 dX9_book_112 v_X9_164_27 tw_get0 (Nat.le_of_ble_eq_true rfl) (ko) ?_
        refine xsi5 dX9_book_115 (by decide) rfl ?_
        exact bad117 e ls _ _ _ _ _ _ hr g1 (by omega) rfl
      have loop : ∀ (f : Nat) (ls : Ln) (k : Nat) x3 x4 x5 x6, ls.length ≤ 6 → k ≤ t.length → sc isB t k = k → t.length < k + f → bkL t (wN W) f ls k = pBook t (wN W) → xRun G m_X9_book (d + 5) 0 0 46 [some (.ref T0), some (.int (nI n)), some (.int (nI ls.length)), x3, x4, x5, x6] [] (tw T0 h (pst (sLn (sSt s0 (nI n)) ls) k none)) Q := by
        intro f
        induction f with
        | zero => intro ls k _ _ _ _ _ h2 _ h4 _; omega
        | succ f ih =>
          intro ls k x3 x4 x5 x6 g1 g2 g3 g4 eP
          have f2 : (pst (sLn (sSt s0 (nI n)) ls) k none).1 2 = nI t.length := hsz
          unfold bkL at eP
          by_cases hkt : k < t.length
          · rw [if_neg (fun z => z hkt)] at eP
            have w1 := c_number (G := G) (d := d + 2) (h := h) (T0 := T0) (ok ls g1) (htl ls g1) hb k g2 0 (nI (wN W) - 1)
            have l1 := @nK_le t k g2
            refine x_aload_n dX9_book_46 rfl ?_
            refine t_gi dX9_book_47 f_X9_108_27 (by decide) rfl (by decide) pst5 ?_
            refine x_if_ne 178 dX9_book_50 rfl (fun hc9 => absurd (rfl) hc9) (fun _ => ?_)
            refine x_aload_n dX9_book_53 rfl ?_
            refine t_gi dX9_book_54 f_X9_101_27 (by decide) rfl (by decide) pst4 ?_
            refine x_aload_n dX9_book_57 rfl ?_
            refine t_gi dX9_book_58 f_X9_98_27 (by decide) rfl (by decide) f2 ?_
            refine x_icmp_ge 178 dX9_book_61 rfl (fun hc9 => absurd hc9 (nI_ge hkt (by omega))) (fun _ => ?_)
            refine x_at 64 rfl ?_
            refine x_aload_n dX9_book_64 rfl ?_
            refine t_gi dX9_book_65 f_X9_101_27 (by decide) rfl (by decide) pst4 ?_
            refine xsi3 dX9_book_68 (by decide) rfl ?_
            refine x_aload_n dX9_book_69 rfl ?_
            refine x_iconst dX9_book_70 0 rfl ?_
            refine x_aload_n dX9_book_71 rfl ?_
            refine t_ga 4 dX9_book_72 f_X9_23_27 (by decide) rfl (by decide) ?_
            refine x_iconst dX9_book_75 0 rfl ?_
            refine x_at 76 rfl ?_
            refine t_ia 0 dX9_book_76 (ok ls g1) (by decide) rfl (by decide) (hwn ls _ _ g1) ?_
            refine x_iconst dX9_book_77 1 rfl ?_
            refine x_isub dX9_book_78 ?_
            refine xiV2 dX9_book_79 v_X9_154_27 tw_get0 (Nat.le_of_ble_eq_true rfl) (w1) ?_
            refine xsi4 dX9_book_82 (by decide) rfl ?_
            cases h1 : nE t k 0 (nI (wN W) - 1) with
            | some e =>
              rw [h1] at eP
              refine x_aload_n dX9_book_84 rfl ?_
              refine t_gi dX9_book_85 f_X9_108_27 (by decide) rfl (by decide) pst5 ?_
              refine x_if_ne 103 dX9_book_88 rfl (fun _ => ?_) (fun hc9 => absurd hc9 (pf_ne e))
              exact bad103 e ls _ _ _ _ _ _ eP.symm g1 l1
            | none =>
              rw [h1] at eP
              have eP1 : (if ls.length = 6 then _ else _) = pBook t (wN W) := eP
              have a1 := nE_in h1
              rw [if_pos rfl]
              refine x_aload_n dX9_book_84 rfl ?_
              refine t_gi dX9_book_85 f_X9_108_27 (by decide) rfl (by decide) pst5 ?_
              refine x_if_ne 103 dX9_book_88 rfl (fun hc9 => absurd (rfl) hc9) (fun _ => ?_)
              refine x_iload_n dX9_book_91 rfl ?_
              refine x_bipush dX9_book_92 6 (by decide) ?_
              refine x_icmp_ne 103 dX9_book_94 rfl (fun z3 => ?_) (fun z3 => ?_)
              · have c3 : ¬ ls.length = 6 := fun z => z3 (by rw [z]; rfl)
                rw [if_neg c3] at eP1
                have w2 := c_otherThing (G := G) (d := d + 1) (h := h) (T0 := T0) (ok ls g1) (htl ls g1) hb (nK t k) l1 (nI (nV t k)) (nI (wN W))
                have l2 := @nK_le t (nK t k) l1
                refine x_aload_n dX9_book_103 rfl ?_
                refine x_iload dX9_book_104 rfl ?_
                refine x_aload_n dX9_book_106 rfl ?_
                refine t_ga 4 dX9_book_107 f_X9_23_27 (by decide) rfl (by decide) ?_
                refine x_iconst dX9_book_110 0 rfl ?_
                refine t_ia 0 dX9_book_111 (ok ls g1) (by decide) rfl (by decide) (hwn ls _ _ g1) ?_
                refine xiV2 dX9_book_112 v_X9_164_27 tw_get0 (Nat.le_of_ble_eq_true rfl) (w2) ?_
                refine xsi5 dX9_book_115 (by decide) rfl ?_
                cases h2 : oE t (nK t k) (nI (nV t k)) (nI (wN W)) with
                | some e =>
                  rw [h2] at eP1
                  exact bad117 e ls _ _ _ _ _ _ eP1.symm g1 (by omega) rfl
                | none =>
                  rw [h2] at eP1
                  have ha := lt_of_le_pred (n := wN W) (by omega) nV_le a1.1 a1.2.1
                  have a2 := oE_in (by omega) h2 (by omega)
                  have b2'' := nE_in a2.1
                  rw [if_pos a2.1]
                  have w3 := c_number (G := G) (d := d + 2) (h := h) (T0 := T0) (ok ls g1) (htl ls g1) hb (nK t (nK t k)) l2 0 2
                  have l3 := @nK_le t (nK t (nK t k)) l2
                  refine x_aload_n dX9_book_117 rfl ?_
                  refine x_iconst dX9_book_118 0 rfl ?_
                  refine x_iconst dX9_book_119 2 rfl ?_
                  refine xiV2 dX9_book_120 v_X9_154_27 tw_get0 (Nat.le_of_ble_eq_true rfl) (w3) ?_
                  refine xsi6 dX9_book_123 (by decide) rfl ?_
                  cases h3 : nE t (nK t (nK t k)) 0 2 with
                  | some e =>
                    rw [h3] at eP1
                    exact bad131 e ls _ _ _ _ _ _ eP1.symm g1 (by omega)
                  | none =>
                    rw [h3] at eP1
                    have eP2 : (if ch t (sc isB t (nK t (nK t (nK t k)))) 59 = false then _ else _) = pBook t (wN W) := eP1
                    rw [if_pos rfl]
                    have a3 := nE_in h3
                    have sg := c_sign (G := G) (d := d + 2) (h := h) (T0 := T0) (ok ls g1) (htl ls g1) hb (nK t (nK t (nK t k))) l3 59 (by decide) (ci := 59) rfl
                    have l4 := @sc_le isB t (nK t (nK t (nK t k))) l3
                    have g9 := @sc_ge isB t (nK t (nK t (nK t k)))
                    have g10 := @sc_ge isB t k
                    have g11 := @sc_ge isB t (nK t k)
                    have g12 := @sc_ge isB t (nK t (nK t k))
                    generalize hk3 : sc isB t (nK t (nK t (nK t k))) = k3 at *
                    by_cases ch1 : ch t k3 59 = true
                    · rw [if_pos ch1] at sg
                      rw [if_neg (by rw [ch1]; decide)] at eP2
                      have q1 := ch_lt ch1
                      have g6 : ls.length < 6 := by omega
                      have okp : tOK (pst (sLn (sSt s0 (nI n)) ls) (k3 + 1) none) := ok ls g1
                      have lr : ((pst (sLn (sSt s0 (nI n)) ls) (k3 + 1) none).2.2 (358 + 1 + ls.length)).length = 3 := by rw [okp, ln_rn _ g6]
                      generalize hr0 : (pst (sLn (sSt s0 (nI n)) ls) (k3 + 1) none).2.2 (358 + 1 + ls.length) = r0 at lr
                      have er : ((r0.set 0 (nI (nV t k))).set 1 (nI (nV t (nK t k)))).set 2 (nI (nV t (nK t (nK t k)))) = [nI (nV t k), nI (nV t (nK t k)), nI (nV t (nK t (nK t k)))] := by
                        match r0, lr with
                        | [x, y, z], _ => rfl
                      have o2 : tOK (seta (pst (sLn (sSt s0 (nI n)) ls) (k3 + 1) none) (358 + 1 + ls.length) (r0.set 0 (nI (nV t k)))) := seta_ok okp (by rw [List.length_set, lr, ln_rn _ g6])
                      have o3 : tOK (seta (pst (sLn (sSt s0 (nI n)) ls) (k3 + 1) none) (358 + 1 + ls.length) ((r0.set 0 (nI (nV t k))).set 1 (nI (nV t (nK t k))))) := seta_ok okp (by rw [List.length_set, List.length_set, lr, ln_rn _ g6])
                      have g1' : (ls ++ [(nV t k, nV t (nK t k), nV t (nK t (nK t k)))]).length ≤ 6 := by rw [List.length_append]; show _ + 1 ≤ 6; omega
                      have kb := c_blanks (G := G) (d := d + 3) (h := h) (T0 := T0) (ok _ g1') (htl _ g1') hb (e := none) (k3 + 1) (by omega)
                      refine x_aload_n dX9_book_125 rfl ?_
                      refine x_bipush dX9_book_126 59 (by decide) ?_
                      refine xuV1 dX9_book_128 v_X9_167_27 tw_get0 (Nat.le_of_ble_eq_true rfl) (sg) ?_
                      refine x_aload_n dX9_book_131 rfl ?_
                      refine t_gi dX9_book_132 f_X9_108_27 (by decide) rfl (by decide) pst5 ?_
                      refine x_if_ne 171 dX9_book_135 rfl (fun hc9 => absurd (rfl) hc9) (fun _ => ?_)
                      refine x_aload_n dX9_book_138 rfl ?_
                      refine t_ga 358 dX9_book_139 f_X9_49_27 (by decide) rfl (by decide) ?_
                      refine x_at 142 rfl ?_
                      refine x_iload_n dX9_book_142 rfl ?_
                      refine t_aa ls.length dX9_book_143 (by decide) rfl (show _ < 6 from g6) ?_
                      refine x_iconst dX9_book_144 0 rfl ?_
                      refine x_iload dX9_book_145 rfl ?_
                      refine t_is 0 dX9_book_147 okp (ar_rn _ g6) rfl (by rw [ln_rn _ g6]; decide) hb ?_
                      rw [hr0]
                      refine x_aload_n dX9_book_148 rfl ?_
                      refine t_ga 358 dX9_book_149 f_X9_49_27 (by decide) rfl (by decide) ?_
                      refine x_iload_n dX9_book_152 rfl ?_
                      refine t_aa ls.length dX9_book_153 (by decide) rfl (show _ < 6 from g6) ?_
                      refine x_iconst dX9_book_154 1 rfl ?_
                      refine x_iload dX9_book_155 rfl ?_
                      refine t_is 1 dX9_book_157 o2 (ar_rn _ g6) rfl (by rw [ln_rn _ g6]; decide) hb ?_
                      rw [seta_get, seta_seta]
                      refine x_aload_n dX9_book_158 rfl ?_
                      refine t_ga 358 dX9_book_159 f_X9_49_27 (by decide) rfl (by decide) ?_
                      refine x_iload_n dX9_book_162 rfl ?_
                      refine t_aa ls.length dX9_book_163 (by decide) rfl (show _ < 6 from g6) ?_
                      refine x_iconst dX9_book_164 2 rfl ?_
                      refine x_iload dX9_book_165 rfl ?_
                      refine t_is 2 dX9_book_167 o3 (ar_rn _ g6) rfl (by rw [ln_rn _ g6]; decide) hb ?_
                      rw [seta_get, seta_seta, sLn_put _ er]
                      refine xinc2 _ dX9_book_168 (by decide) rfl (nI_1 _) ?_
                      refine x_aload_n dX9_book_171 rfl ?_
                      refine xuV0 dX9_book_172 v_X9_114_27 tw_get0 (Nat.le_of_ble_eq_true rfl) (kb) ?_
                      refine x_goto 46 dX9_book_175 rfl ?_
                      have l5 := @sc_le isB t (k3 + 1) (by omega)
                      have g13 := @sc_ge isB t (k3 + 1)
                      have := ih (ls ++ [(nV t k, nV t (nK t k), nV t (nK t (nK t k)))]) (sc isB t (k3 + 1)) (some (.int (nI k))) (some (.int (nI (nV t k)))) (some (.int (nI (nV t (nK t k))))) (some (.int (nI (nV t (nK t (nK t k)))))) g1' l5 sc_idem (by omega) eP2
                      rw [List.length_append] at this
                      exact this
                    · rw [if_neg ch1] at sg
                      rw [if_pos (ch_f ch1)] at eP2
                      have kb := c_blanks (G := G) (d := d + 3) (h := h) (T0 := T0) (ok ls g1) (htl ls g1) hb (e := some (0, k3)) k3 (by omega)
                      refine x_aload_n dX9_book_125 rfl ?_
                      refine x_bipush dX9_book_126 59 (by decide) ?_
                      refine xuV1 dX9_book_128 v_X9_167_27 tw_get0 (Nat.le_of_ble_eq_true rfl) (sg) ?_
                      refine x_aload_n dX9_book_131 rfl ?_
                      refine t_gi dX9_book_132 f_X9_108_27 (by decide) rfl (by decide) pst5 ?_
                      refine x_if_ne 171 dX9_book_135 rfl (fun _ => ?_) (fun hc9 => absurd hc9 (pf_ne (0, k3)))
                      refine x_aload_n dX9_book_171 rfl ?_
                      refine xuV0 dX9_book_172 v_X9_114_27 tw_get0 (Nat.le_of_ble_eq_true rfl) (kb) ?_
                      refine x_goto 46 dX9_book_175 rfl ?_
                      exact bad _ ls _ _ _ _ _ _ eP2.symm g1
              · have c3 : ls.length = 6 := (nI_eq (by omega) (b := 6) (by decide)).mp z3
                rw [if_pos c3] at eP1
                refine x_aload_n dX9_book_97 rfl ?_
                refine x_iconst dX9_book_98 3 rfl ?_
                refine x_iload_n dX9_book_99 rfl ?_
                refine xuV2 dX9_book_100 v_X9_121_27 tw_get0 (Nat.le_of_ble_eq_true rfl) (c_wrongP hb (e := none) 2 k) ?_
                exact bad103 (2, k) ls _ _ _ _ _ _ eP1.symm g1 l1
          · rw [if_pos hkt] at eP
            have e9 : k = t.length := by omega
            have g6 : ls.length < 2 ^ 31 := by omega
            generalize hs5 : pst (sLn (sSt s0 (nI n)) ls) k none = s5 at f2
            have f4 : s5.1 4 = nI k := by rw [← hs5]; rfl
            have f5 : s5.1 5 = 0 := by rw [← hs5]; rfl
            have ok5 : tOK s5 := by rw [← hs5]; exact ok ls g1
            refine x_aload_n dX9_book_46 rfl ?_
            refine t_gi dX9_book_47 f_X9_108_27 (by decide) rfl (by decide) f5 ?_
            refine x_if_ne 178 dX9_book_50 rfl (fun hc9 => absurd (rfl) hc9) (fun _ => ?_)
            refine x_aload_n dX9_book_53 rfl ?_
            refine t_gi dX9_book_54 f_X9_101_27 (by decide) rfl (by decide) f4 ?_
            refine x_aload_n dX9_book_57 rfl ?_
            refine t_gi dX9_book_58 f_X9_98_27 (by decide) rfl (by decide) f2 ?_
            refine x_icmp_ge 178 dX9_book_61 rfl (fun _ => ?_) (fun hc9 => absurd (by rw [e9]; exact Int32.le_refl _) hc9)
            refine x_at 178 rfl ?_
            refine x_aload_n dX9_book_178 rfl ?_
            refine t_gi dX9_book_179 f_X9_108_27 (by decide) rfl (by decide) f5 ?_
            refine x_if_eq 190 dX9_book_182 rfl (fun _ => ?_) (fun hc9 => absurd (rfl) hc9)
            refine x_aload_n dX9_book_190 rfl ?_
            refine x_iconst dX9_book_191 (-1) rfl ?_
            refine t_pi dX9_book_192 p_X9_9_27 rfl (by decide) hb ?_
            refine x_aload_n dX9_book_195 rfl ?_
            refine x_iload_n dX9_book_196 rfl ?_
            refine t_pi dX9_book_197 p_X9_191_27 rfl (by decide) hb ?_
            generalize hs6 : seti (seti s5 3 (-1)) 32 (nI ls.length) = s6
            have ok6 : tOK s6 := by rw [← hs6]; exact ok5
            refine x_aload_n dX9_book_200 rfl ?_
            refine t_ga 358 dX9_book_201 f_X9_49_27 (by decide) rfl (by decide) ?_
            refine x_aload_n dX9_book_204 rfl ?_
            refine t_ga 351 dX9_book_205 f_X9_46_27 (by decide) rfl (by decide) ?_
            refine x_iload_n dX9_book_208 rfl ?_
            refine xvS3 dX9_book_209 s_X9_184 (Nat.le_of_ble_eq_true rfl) (c_lays ok6 hb 358 351 6 3 ls.length (by decide) (by decide) (by decide) g1 (by decide) (by decide) (fun i hi => ⟨ar_rn i hi, ln_rn i hi⟩) (fun i hi => ⟨ar_lin i hi, ln_lin i hi⟩) (Or.inr (by decide))) (by omega) (by omega) (fun h1 hF => ?_)
            obtain ⟨s7, rfl, e1, e2, ok7, e3, e4⟩ := hF
            refine x_iload_n dX9_book_212 rfl ?_
            refine x_ireturn dX9_book_213 rfl ?_
            rw [← hQ, ← eP]
            have fk : ∀ k, ¬ k = 32 → ¬ k = 3 → ¬ k = 4 → ¬ k = 5 → ¬ k = 6 → s7.1 k = (sSt s0 (nI n)).1 k := fun k h32 h3 h4 h5 h6 => by
              rw [e1, ← hs6, seti_ne h32, seti_ne h3, ← hs5]
              exact pstO h4 h5 h6
            have a6 : s6.2.2 = (sLn (sSt s0 (nI n)) ls).2.2 := by rw [← hs6, ← hs5]; rfl
            have hA : ∀ j, tAs j = false → ¬ (352 ≤ j ∧ j < 358) → s7.2.2 j = s0.2.2 j := fun j hj h2 => by
              rw [e3 j (by omega), a6]
              exact sLn_a (fun z => rnA j hj ⟨z.1, by omega⟩)
            refine tQ.mk rfl ?_ ((fk 0 (by decide) (by decide) (by decide) (by decide) (by decide)).trans t0)
            obtain ⟨q0, q1, q2, q3, q4, q5, q6, q7, q8, q9, q10⟩ := hI0
            have a16 := hW.2.2.2.2.2.2.1.1
            have a3 := hW.2.2.2.2.2.2.2.1.1
            refine ⟨ok7, ⟨fk 1 (by decide) (by decide) (by decide) (by decide) (by decide), fun i hi => absurd (show i < 0 from hi) (Nat.not_lt_zero _)⟩, by rw [e1, ← hs6]; rfl, ?_, ⟨(fk 17 (by decide) (by decide) (by decide) (by decide) (by decide)).trans q4.1, q4.2.1, fun i hi => (hA _ (tAs_law i (by have := q4.2.1; have : i < (wLw W).length := hi; omega)) (by have := q4.2.1; have : i < (wLw W).length := hi; omega)).trans (q4.2.2.1 i hi), q4.2.2.2⟩, (hA 448 rfl (by decide)).trans q5, ⟨(fk 33 (by decide) (by decide) (by decide) (by decide) (by decide)).trans q6.1, fun i hi => (hA _ (tAs_bef i (by have : i < (wPs W).length := hi; omega)) (by omega)).trans (q6.2 i hi)⟩, ⟨(fk 35 (by decide) (by decide) (by decide) (by decide) (by decide)).trans q7.1, fun i hi => by rw [hA _ (tAs_kep i (by have : i < (wIm W).length := hi; omega)) (by omega)]; exact q7.2 i hi⟩, ⟨by rw [e1, ← hs6]; rfl, fun i hi => ?_⟩, (fk 34 (by decide) (by decide) (by decide) (by decide) (by decide)).trans q9, (hA 2 rfl (by decide)).trans q10⟩
            · rw [hA 4 rfl (by decide), hA 6 rfl (by decide)]
              exact q3
            · have hi2 : i < ls.length := hi
              rw [e4 i hi2, a6]
              show (if 359 ≤ 358 + 1 + i ∧ 358 + 1 + i < 359 + ls.length then [nI (ls.getD (358 + 1 + i - 359) (0, 0, 0)).1, nI (ls.getD (358 + 1 + i - 359) (0, 0, 0)).2.1, nI (ls.getD (358 + 1 + i - 359) (0, 0, 0)).2.2] else _) = _
              rw [if_pos (by omega), show 358 + 1 + i - 359 = i by omega]
              rfl
      have e0 : pst (sSt s0 (nI n)) (sc isB t 0) none = pst (sLn (sSt s0 (nI n)) []) (sc isB t 0) none := by
        refine Prod.ext rfl (Prod.ext rfl ?_)
        funext j
        show (sSt s0 (nI n)).2.2 j = (if 359 ≤ j ∧ j < 359 + 0 then _ else (sSt s0 (nI n)).2.2 j)
        rw [if_neg (by omega)]
      refine x_iconst dX9_book_28 0 rfl ?_
      refine x_iconst dX9_book_29 1 rfl ?_
      refine x_iconst dX9_book_30 1 rfl ?_
      refine xiV3 dX9_book_31 v_X9_171_27 tw_get0 (Nat.le_of_ble_eq_true rfl) (c_badF hI0.1 hb t0 _ 1 (by decide)) ?_
      refine x_if_eq 39 dX9_book_34 rfl (fun _ => ?_) (fun hc9 => absurd (rfl) hc9)
      refine x_aload_n dX9_book_39 rfl ?_
      refine x_iload_n dX9_book_40 rfl ?_
      refine xuV1 dX9_book_41 v_X9_175_27 tw_get0 (Nat.le_of_ble_eq_true rfl) (st) ?_
      rw [e0]
      refine x_iconst dX9_book_44 0 rfl ?_
      refine xsi2 dX9_book_45 (by decide) rfl ?_
      exact loop (t.length + 1) [] (sc isB t 0) _ _ _ _ (by decide) hb0 sc_idem (by omega) rfl
    · exact no (fun z => z2 z.2)
end TB25
