set_option maxRecDepth 100000
/-! ===== the twin, 15: spans, the beam, a false one, sellers, level, shares ===== -/
section TH
variable {G : xG} {d : Nat} {h : xH} {T0 : Nat} {s : tS} {W : Wd}
theorem p_span (hI : tIn s W) (hW : wOK W) (hb : G.2.2.1 ≤ T0) (seed many days q x a : Int32) : xMet G (d + 7) 0 0 m_X9_span [.ref T0, .int seed, .int many, .int days, .int q, .int x, .int a] (tw T0 h s) (tQ T0 h (oSpan W seed many days q x a)) := by
  refine xMet.of [some (.ref T0), some (.int seed), some (.int many), some (.int days), some (.int q), some (.int x), some (.int a), none, none, none, none, none] pl_X9 rfl (Nat.le_of_ble_eq_true rfl) ?_
  have hI0 := hI.J hW ((tJ.refl hI.1).seti (k := 0) (v := 0) rfl)
  have hB := hW.2.2.2.2.2.1
  have h8 := hW.2.2.1
  have j449 : tRow 449 := Or.inr rfl
  have no : ¬ ((1 ≤ many ∧ many ≤ 20) ∧ isFr days q ∧ (0 ≤ x ∧ x ≤ 2) ∧ isT W a) → xRun G m_X9_span (d + 7) 0 0 44 [some (.ref T0), some (.int seed), some (.int many), some (.int days), some (.int q), some (.int x), some (.int a), none, none, none, none, none] [.ref T0] (tw T0 h (seti s 0 0)) (tQ T0 h (oSpan W seed many days q x a)) := by
    intro z
    rw [oSpan, if_neg z]
    refine x_iconst dX9_span_44 1 rfl ?_
    refine x_goto 49 dX9_span_45 rfl ?_
    refine x_iconst dX9_span_49 1 rfl ?_
    refine x_iconst dX9_span_50 1 rfl ?_
    refine xiV3 dX9_span_51 v_X9_171_27 tw_get0 (Nat.le_of_ble_eq_true rfl) (c_badT hI0.1 hb rfl _ (by decide) 1 (by decide)) ?_
    refine x_if_eq 59 dX9_span_54 rfl (fun hc9 => absurd hc9 (by decide)) (fun _ => ?_)
    refine x_iconst dX9_span_57 0 rfl ?_
    exact x_ireturn dX9_span_58 rfl (tQ.mk rfl (hI0.ref (by decide)) rfl)
  refine x_aload_n dX9_span_0 rfl ?_
  refine x_iconst dX9_span_1 0 rfl ?_
  refine t_pi dX9_span_2 p_X9_92_27 rfl (by decide) hb ?_
  refine x_aload_n dX9_span_5 rfl ?_
  refine x_iload_n dX9_span_6 rfl ?_
  refine x_iconst dX9_span_7 1 rfl ?_
  refine x_bipush dX9_span_8 20 (by decide) ?_
  refine xiS3 dX9_span_10 s_X9_126 (Nat.le_of_ble_eq_true rfl) (c_in _ _ _) ?_
  refine x_at 13 rfl ?_
  refine x_if_eq 44 dX9_span_13 rfl (fun c => ?_) (fun c => ?_)
  · exact no (fun z => of_decide_eq_false (b2_eq.mp c) z.1)
  · have b1 := of_decide_eq_true (b2_ne.mp c)
    clear c
    refine x_iload_n dX9_span_16 rfl ?_
    refine x_iload dX9_span_17 rfl ?_
    refine xiS2 dX9_span_19 s_X9_411 (Nat.le_of_ble_eq_true rfl) (c_isFair _ _) ?_
    refine x_if_eq 44 dX9_span_22 rfl (fun c => ?_) (fun c => ?_)
    · exact no (fun z => of_decide_eq_false (b2_eq.mp c) z.2.1)
    · have b2' := of_decide_eq_true (b2_ne.mp c)
      clear c
      refine x_iload dX9_span_25 rfl ?_
      refine x_iconst dX9_span_27 0 rfl ?_
      refine x_iconst dX9_span_28 2 rfl ?_
      refine xiS3 dX9_span_29 s_X9_126 (Nat.le_of_ble_eq_true rfl) (c_in _ _ _) ?_
      refine x_if_eq 44 dX9_span_32 rfl (fun c => ?_) (fun c => ?_)
      · exact no (fun z => of_decide_eq_false (b2_eq.mp c) z.2.2.1)
      · have b3 := of_decide_eq_true (b2_ne.mp c)
        clear c
        refine x_aload_n dX9_span_35 rfl ?_
        refine x_iload dX9_span_36 rfl ?_
        refine xiV1 dX9_span_38 v_X9_328_27 tw_get0 (Nat.le_of_ble_eq_true rfl) (c_isThing hI0.1 hI0.2.2.2.1.1 _) ?_
        refine x_if_ne 48 dX9_span_41 rfl (fun c => ?_) (fun c => ?_)
        · have b4 : isT W a := of_decide_eq_true (b2_ne.mp c)
          rw [oSpan, if_pos ⟨b1, b2', b3, b4⟩]
          obtain ⟨m, hm1, hm, rfl, em⟩ := in19 20 (lo := 1) rfl (by decide) (by decide) b1 (by decide)
          obtain ⟨k, hk1, hk, rfl, ek⟩ := in19 96 (lo := 1) rfl (by decide) (by decide) b2'.1 (by decide)
          obtain ⟨r, hr, rfl, er⟩ := inN 16 (by decide) (by decide) b2'.2
          obtain ⟨t, ht, rfl, et⟩ := isT_ix hW b4
          rw [em, ek, er, et]
          refine x_iconst dX9_span_48 0 rfl ?_
          refine x_iconst dX9_span_49 1 rfl ?_
          refine x_iconst dX9_span_50 1 rfl ?_
          refine xiV3 dX9_span_51 v_X9_171_27 tw_get0 (Nat.le_of_ble_eq_true rfl) (c_badF hI0.1 hb rfl _ 1 (by decide)) ?_
          refine x_if_eq 59 dX9_span_54 rfl (fun _ => ?_) (fun hc9 => absurd (rfl) hc9)
          refine x_iconst dX9_span_59 (-1) rfl ?_
          refine xsi7 dX9_span_60 (by decide) rfl ?_
          refine x_iconst dX9_span_62 0 rfl ?_
          refine x_at 63 rfl ?_
          refine xsi8 dX9_span_63 (by decide) rfl ?_
          refine x_iconst dX9_span_65 0 rfl ?_
          refine xsi9 dX9_span_66 (by decide) rfl ?_
          refine x_iconst dX9_span_68 0 rfl ?_
          refine xsi10 dX9_span_69 (by decide) rfl ?_
          suffices hh : ∀ s1 x11, tIn s1 W → s1.1 0 = 0 → xRun G m_X9_span (d + 7) 0 0 71 [some (.ref T0), some (.int seed), some (.int (nI m)), some (.int (nI k)), some (.int (nI r)), some (.int x), some (.int (nI t)), some (.int (spF W seed k r t 0).1), some (.int (spF W seed k r t 0).2.1), some (.int (nI (spF W seed k r t 0).2.2)), some (.int (nI 0)), x11] [] (tw T0 h s1) (tQ T0 h (0, spV (spF W seed k r t m) x, W)) from hh _ _ hI0 rfl
          refine xfor (fun i => ∀ s1 x11, tIn s1 W → s1.1 0 = 0 → xRun G m_X9_span (d + 7) 0 0 71 [some (.ref T0), some (.int seed), some (.int (nI m)), some (.int (nI k)), some (.int (nI r)), some (.int x), some (.int (nI t)), some (.int (spF W seed k r t i).1), some (.int (spF W seed k r t i).2.1), some (.int (nI (spF W seed k r t i).2.2)), some (.int (nI i)), x11] [] (tw T0 h s1) (tQ T0 h (0, spV (spF W seed k r t m) x, W))) m ?_ ?_
          · intro i hi ih s1 x11 hI1 h01
            have hBk : mB (wN W) (300 + k) (wFr W (seed + nI i) k r) := frF_B hB k
            refine x_iload dX9_span_71 rfl ?_
            refine x_iload_n dX9_span_73 rfl ?_
            refine x_icmp_ge 155 dX9_span_74 rfl (fun hc9 => absurd hc9 (nI_ge hi (by omega))) (fun _ => ?_)
            refine x_aload_n dX9_span_77 rfl ?_
            refine x_iload_n dX9_span_78 rfl ?_
            refine x_iload dX9_span_79 rfl ?_
            refine x_iadd dX9_span_81 ?_
            refine x_iload_n dX9_span_82 rfl ?_
            refine x_at 83 rfl ?_
            refine x_iload dX9_span_83 rfl ?_
            refine xvV3 dX9_span_85 v_X9_414_27 tw_get0 (Nat.le_of_ble_eq_true rfl) (c_fairBy hI1 hW hb h01 (seed + nI i) k r hk hr) (by omega) (by omega) (fun h1 hF => ?_)
            obtain ⟨s2, rfl, hI2, h02, hr2⟩ := hF
            have ihs := fun x11 => ih s2 x11 hI2 h02
            rw [show spF W seed k r t (i + 1) = ((if (spF W seed k r t i).1 = -1 then wSk (wFr W (seed + nI i) k r) (wN W) else mn (spF W seed k r t i).1 (wSk (wFr W (seed + nI i) k r) (wN W))), mx (spF W seed k r t i).2.1 (wSk (wFr W (seed + nI i) k r) (wN W)), (spF W seed k r t i).2.2 + (if cOf (wFr W (seed + nI i) k r) t = 0 then 0 else 1)) from rfl] at ihs
            generalize hp : spF W seed k r t i = p at ihs
            generalize hMk : wFr W (seed + nI i) k r = Mk' at hr2 hBk ihs
            have nx2 : ∀ v9 v10 v11, v9 = (if p.1 = -1 then wSk Mk' (wN W) else mn p.1 (wSk Mk' (wN W))) → v10 = mx p.2.1 (wSk Mk' (wN W)) → v11 = (if cOf Mk' t = 0 then 0 else 1) → xRun G m_X9_span (d + 7) 0 0 146 [some (.ref T0), some (.int seed), some (.int (nI m)), some (.int (nI k)), some (.int (nI r)), some (.int x), some (.int (nI t)), some (.int v9), some (.int v10), some (.int (nI p.2.2)), some (.int (nI i)), some (.int (wSk Mk' (wN W)))] [.int (nI v11), .int (nI p.2.2)] (tw T0 h s2) (tQ T0 h (0, spV (spF W seed k r t m) x, W)) := by
              intro v9 v10 v11 e9 e10 e11
              subst e9
              subst e10
              subst e11
              refine x_iadd dX9_span_146 ?_
              rw [nI_add]
              refine xsi9 dX9_span_147 (by decide) rfl ?_
              refine xinc10 _ dX9_span_149 (by decide) rfl (nI_1 i) ?_
              refine x_goto 71 dX9_span_152 rfl ?_
              exact ihs _
            have nx : ∀ v9, v9 = (if p.1 = -1 then wSk Mk' (wN W) else mn p.1 (wSk Mk' (wN W))) → xRun G m_X9_span (d + 7) 0 0 116 [some (.ref T0), some (.int seed), some (.int (nI m)), some (.int (nI k)), some (.int (nI r)), some (.int x), some (.int (nI t)), some (.int p.1), some (.int p.2.1), some (.int (nI p.2.2)), some (.int (nI i)), some (.int (wSk Mk' (wN W)))] [.int v9] (tw T0 h s2) (tQ T0 h (0, spV (spF W seed k r t m) x, W)) := by
              intro v9 e9
              refine xsi7 dX9_span_116 (by decide) rfl ?_
              refine x_iload dX9_span_118 rfl ?_
              refine x_iload dX9_span_120 rfl ?_
              refine xiS2 dX9_span_122 s_X9_238 (Nat.le_of_ble_eq_true rfl) (c_more _ _) ?_
              refine xsi8 dX9_span_125 (by decide) rfl ?_
              refine x_iload dX9_span_127 rfl ?_
              refine x_aload_n dX9_span_129 rfl ?_
              refine t_ga 449 dX9_span_130 f_X9_64_27 (by decide) rfl (by decide) ?_
              refine x_at 133 rfl ?_
              refine x_iload dX9_span_133 rfl ?_
              refine xiS2 dX9_span_135 s_X9_256 (Nat.le_of_ble_eq_true rfl) (c_criesOf hI2.1 j449 hr2 hBk.1 (hBk.sm h8) t (by omega)) ?_
              refine x_if_ne 145 dX9_span_138 rfl (fun c5 => ?_) (fun c5 => ?_)
              · refine x_iconst dX9_span_145 1 rfl ?_
                exact nx2 _ _ 1 e9 rfl (by rw [if_neg c5])
              · refine x_iconst dX9_span_141 0 rfl ?_
                refine x_goto 146 dX9_span_142 rfl ?_
                exact nx2 _ _ 0 e9 rfl (by rw [if_pos c5])
            refine x_aload_n dX9_span_88 rfl ?_
            refine x_aload_n dX9_span_89 rfl ?_
            refine t_ga 449 dX9_span_90 f_X9_64_27 (by decide) rfl (by decide) ?_
            refine xiV1 dX9_span_93 v_X9_318_27 tw_get0 (Nat.le_of_ble_eq_true rfl) (c_weightIn hI2.1 j449 hr2 hBk.1 hI2.2.2.2.1.1 h8) ?_
            refine xsi11 dX9_span_96 (by decide) rfl ?_
            refine x_iload dX9_span_98 rfl ?_
            refine x_iconst dX9_span_100 (-1) rfl ?_
            refine x_icmp_ne 109 dX9_span_101 rfl (fun c5 => ?_) (fun c5 => ?_)
            · refine x_iload dX9_span_109 rfl ?_
              refine x_iload dX9_span_111 rfl ?_
              refine xiS2 dX9_span_113 s_X9_235 (Nat.le_of_ble_eq_true rfl) (c_less _ _) ?_
              exact nx _ (by rw [if_neg c5])
            · refine x_iload dX9_span_104 rfl ?_
              refine x_goto 116 dX9_span_106 rfl ?_
              exact nx _ (by rw [if_pos c5])
          · intro s1 x11 hI1 h01
            generalize spF W seed k r t m = p
            refine x_iload dX9_span_71 rfl ?_
            refine x_iload_n dX9_span_73 rfl ?_
            refine x_icmp_ge 155 dX9_span_74 rfl (fun _ => ?_) (fun hc9 => absurd (Int32.le_refl _) hc9)
            refine x_iload dX9_span_155 rfl ?_
            refine x_if_ne 165 dX9_span_157 rfl (fun c5 => ?_) (fun c5 => ?_)
            · refine x_iload dX9_span_165 rfl ?_
              refine x_iconst dX9_span_167 1 rfl ?_
              refine x_icmp_ne 176 dX9_span_168 rfl (fun c6 => ?_) (fun c6 => ?_)
              · refine x_iload dX9_span_176 rfl ?_
                exact x_ireturn dX9_span_178 rfl (tQ.mk (show _ = spV _ _ by rw [spV, if_neg c5, if_neg c6]) hI1 h01)
              · refine x_iload dX9_span_171 rfl ?_
                refine x_goto 178 dX9_span_173 rfl ?_
                exact x_ireturn dX9_span_178 rfl (tQ.mk (show _ = spV _ _ by rw [spV, if_neg c5, if_pos c6]) hI1 h01)
            · refine x_iload dX9_span_160 rfl ?_
              refine x_goto 178 dX9_span_162 rfl ?_
              exact x_ireturn dX9_span_178 rfl (tQ.mk (show _ = spV _ _ by rw [spV, if_pos c5]) hI1 h01)
        · exact no (fun z => of_decide_eq_false (b2_eq.mp c) z.2.2.2)
theorem ar_lin : ∀ i, i < 6 → (351 + 1 + i < 475 ∧ ¬ 351 + 1 + i = 0 ∧ tgrid (351 + 1 + i) = 0 ∧ ¬ 351 + 1 + i = 472) := by decide +kernel
theorem ln_lin : ∀ i, i < 6 → tlen (351 + 1 + i) = 3 := by decide +kernel
theorem isBm_drop {M : Mk} {l : Ln} {lean play : Int32} {k : Nat} (hk : k < l.length) : isBm M (l.drop k) lean play = (decide (stN (wAt M (l.getD k (0, 0, 0)).1) (wAt M (l.getD k (0, 0, 0)).2.1) lean play = (l.getD k (0, 0, 0)).2.2) && isBm M (l.drop (k + 1)) lean play) := by
  rw [List.drop_eq_getElem_cons hk, List.getD_eq_getElem?_getD, List.getElem?_eq_getElem hk]
  rfl
theorem c_isBeam (hI : tIn s W) (hW : wOK W) (lean play : Int32) : xMet G (d + 1) 0 0 m_X9_isBeam [.ref T0, .int lean, .int play] (tw T0 h s) (xI (.int (b2 (isBm (wM W) (wLn W) lean play))) (tw T0 h s)) := by
  refine xMet.of [some (.ref T0), some (.int lean), some (.int play), none] pl_X9 rfl (Nat.le_of_ble_eq_true rfl) ?_
  have h6 := hW.2.2.2.2.2.2.2.2.1
  have hB := hW.2.2.2.2.2.1
  have h8 := hW.2.2.1
  have j448 : tRow 448 := Or.inl rfl
  have hm := hI.2.2.2.2.2.1
  have h32 := hI.2.2.2.2.2.2.2.2.1.1
  refine x_iconst dX9_isBeam_0 0 rfl ?_
  refine xsi3 dX9_isBeam_1 (by decide) rfl ?_
  suffices hh : ∀ b, b = isBm (wM W) ((wLn W).drop 0) lean play → xRun G m_X9_isBeam (d + 1) 0 0 2 [some (.ref T0), some (.int lean), some (.int play), some (.int (nI 0))] [] (tw T0 h s) (xI (.int (b2 b)) (tw T0 h s)) from hh _ rfl
  refine xfor (fun k => ∀ b, b = isBm (wM W) ((wLn W).drop k) lean play → xRun G m_X9_isBeam (d + 1) 0 0 2 [some (.ref T0), some (.int lean), some (.int play), some (.int (nI k))] [] (tw T0 h s) (xI (.int (b2 b)) (tw T0 h s))) (wLn W).length ?_ ?_
  · intro k hk ih b hbm
    have k6 : k < 6 := by omega
    have hl := hI.2.2.2.2.2.2.2.2.1.2 k hk
    have hq := h6.2 _ (getD_mem (x := (0, 0, 0)) hk)
    rw [isBm_drop hk] at hbm
    generalize (wLn W).getD k (0, 0, 0) = q at hl hq hbm
    have l0 : (s.2.2 (351 + 1 + k)).getD 0 0 = nI q.1 := by rw [hl]; rfl
    have l1 : (s.2.2 (351 + 1 + k)).getD 1 0 = nI q.2.1 := by rw [hl]; rfl
    have l2 : (s.2.2 (351 + 1 + k)).getD 2 0 = nI q.2.2 := by rw [hl]; rfl
    refine x_iload_n dX9_isBeam_2 rfl ?_
    refine x_aload_n dX9_isBeam_3 rfl ?_
    refine t_gi dX9_isBeam_4 f_X9_191_27 (by decide) rfl (by decide) h32 ?_
    refine x_icmp_ge 64 dX9_isBeam_7 rfl (fun hc9 => absurd hc9 (nI_ge hk (by omega))) (fun _ => ?_)
    refine x_aload_n dX9_isBeam_10 rfl ?_
    refine t_ga 448 dX9_isBeam_11 f_X9_61_27 (by decide) rfl (by decide) ?_
    refine x_iconst dX9_isBeam_14 0 rfl ?_
    refine x_aload_n dX9_isBeam_15 rfl ?_
    refine x_at 16 rfl ?_
    refine t_ga 351 dX9_isBeam_16 f_X9_46_27 (by decide) rfl (by decide) ?_
    refine x_iload_n dX9_isBeam_19 rfl ?_
    refine t_aa k dX9_isBeam_20 (by decide) rfl k6 ?_
    refine x_iconst dX9_isBeam_21 0 rfl ?_
    refine t_ia 0 dX9_isBeam_22 hI.1 (ar_lin k k6) rfl (by rw [ln_lin k k6]; decide) l0 ?_
    refine x_iadd dX9_isBeam_23 ?_
    refine t_rj q.1 dX9_isBeam_24 hI.1 j448 hm (ix_w _) (by omega) (mrow_w hB.1 (by omega)) ?_
    refine x_aload_n dX9_isBeam_25 rfl ?_
    refine x_at 26 rfl ?_
    refine t_ga 448 dX9_isBeam_26 f_X9_61_27 (by decide) rfl (by decide) ?_
    refine x_iconst dX9_isBeam_29 0 rfl ?_
    refine x_aload_n dX9_isBeam_30 rfl ?_
    refine t_ga 351 dX9_isBeam_31 f_X9_46_27 (by decide) rfl (by decide) ?_
    refine x_iload_n dX9_isBeam_34 rfl ?_
    refine t_aa k dX9_isBeam_35 (by decide) rfl k6 ?_
    refine x_iconst dX9_isBeam_36 1 rfl ?_
    refine t_ia 1 dX9_isBeam_37 hI.1 (ar_lin k k6) rfl (by rw [ln_lin k k6]; decide) l1 ?_
    refine x_at 38 rfl ?_
    refine x_iadd dX9_isBeam_38 ?_
    refine t_rj q.2.1 dX9_isBeam_39 hI.1 j448 hm (ix_w _) (by omega) (mrow_w hB.1 (by omega)) ?_
    refine x_iload_n dX9_isBeam_40 rfl ?_
    refine x_iload_n dX9_isBeam_41 rfl ?_
    refine xiS4 dX9_isBeam_42 s_X9_267 (Nat.le_of_ble_eq_true rfl) (c_standsBy _ _ _ _) ?_
    refine x_aload_n dX9_isBeam_45 rfl ?_
    refine t_ga 351 dX9_isBeam_46 f_X9_46_27 (by decide) rfl (by decide) ?_
    refine x_iload_n dX9_isBeam_49 rfl ?_
    refine x_at 50 rfl ?_
    refine t_aa k dX9_isBeam_50 (by decide) rfl k6 ?_
    refine x_iconst dX9_isBeam_51 2 rfl ?_
    refine t_ia 2 dX9_isBeam_52 hI.1 (ar_lin k k6) rfl (by rw [ln_lin k k6]; decide) l2 ?_
    refine x_icmp_eq 58 dX9_isBeam_53 rfl (fun c1 => ?_) (fun c1 => ?_)
    · have c2 := (nI3 stN_lt hq.2.2).mp c1
      refine xinc3 _ dX9_isBeam_58 (by decide) rfl (nI_1 k) ?_
      refine x_goto 2 dX9_isBeam_61 rfl ?_
      exact ih b (by rw [hbm, decide_eq_true c2, Bool.true_and])
    · have c2 : ¬ stN (wAt (wM W) q.1) (wAt (wM W) q.2.1) lean play = q.2.2 := fun z => c1 (by rw [← z])
      refine x_iconst dX9_isBeam_56 0 rfl ?_
      exact x_zreturn dX9_isBeam_57 rfl rfl (xr0 (by rw [hbm, decide_eq_false c2, Bool.false_and]))
  · intro b hbm
    refine x_iload_n dX9_isBeam_2 rfl ?_
    refine x_aload_n dX9_isBeam_3 rfl ?_
    refine t_gi dX9_isBeam_4 f_X9_191_27 (by decide) rfl (by decide) h32 ?_
    refine x_icmp_ge 64 dX9_isBeam_7 rfl (fun _ => ?_) (fun hc9 => absurd (Int32.le_refl _) hc9)
    refine x_iconst dX9_isBeam_64 1 rfl ?_
    exact x_zreturn dX9_isBeam_65 rfl rfl (xr1 (by rw [hbm, List.drop_length]; rfl))
theorem dm10 {k : Nat} (hk : k < 1000) : nI k / 10 = nI (k / 10) ∧ nI k - nI k / 10 * 10 = nI (k % 10) := ⟨pk_div (d := 10) (by omega) (by decide) (by decide), pk_rem (d := 10) (by omega) (by decide) (by decide)⟩
theorem p_fits (hI : tIn s W) (hW : wOK W) (hb : G.2.2.1 ≤ T0) (x : Int32) : xMet G (d + 2) 0 0 m_X9_fits [.ref T0, .int x] (tw T0 h s) (tQ T0 h (oFits W x)) := by
  refine xMet.of [some (.ref T0), some (.int x), none, none, none] pl_X9 rfl (Nat.le_of_ble_eq_true rfl) ?_
  have hI0 := hI.J hW ((tJ.refl hI.1).seti (k := 0) (v := 0) rfl)
  refine x_aload_n dX9_fits_0 rfl ?_
  refine x_iconst dX9_fits_1 0 rfl ?_
  refine t_pi dX9_fits_2 p_X9_92_27 rfl (by decide) hb ?_
  refine x_aload_n dX9_fits_5 rfl ?_
  refine x_iload_n dX9_fits_6 rfl ?_
  refine x_iconst dX9_fits_7 0 rfl ?_
  refine x_iconst dX9_fits_8 1 rfl ?_
  refine xiS3 dX9_fits_9 s_X9_126 (Nat.le_of_ble_eq_true rfl) (c_in _ _ _) ?_
  refine x_at 12 rfl ?_
  refine x_if_ne 19 dX9_fits_12 rfl (fun c1 => ?_) (fun c1 => ?_)
  · have c2 := of_decide_eq_true (b2_ne.mp c1)
    rw [oFits, if_pos c2]
    refine x_iconst dX9_fits_19 0 rfl ?_
    refine x_iconst dX9_fits_20 1 rfl ?_
    refine x_iconst dX9_fits_21 1 rfl ?_
    refine xiV3 dX9_fits_22 v_X9_171_27 tw_get0 (Nat.le_of_ble_eq_true rfl) (c_badF hI0.1 hb rfl _ 1 (by decide)) ?_
    refine x_if_eq 30 dX9_fits_25 rfl (fun _ => ?_) (fun hc9 => absurd (rfl) hc9)
    refine x_iconst dX9_fits_30 0 rfl ?_
    refine xsi2 dX9_fits_31 (by decide) rfl ?_
    refine x_iconst dX9_fits_32 (-1) rfl ?_
    refine x_at 33 rfl ?_
    refine xsi3 dX9_fits_33 (by decide) rfl ?_
    refine x_iconst dX9_fits_34 0 rfl ?_
    refine xsi4 dX9_fits_35 (by decide) rfl ?_
    refine xfor (fun k => xRun G m_X9_fits (d + 2) 0 0 37 [some (.ref T0), some (.int x), some (.int (nI (ftF (wM W) (wLn W) k).1)), some (.int (oN (ftF (wM W) (wLn W) k).2)), some (.int (nI k))] [] (tw T0 h (seti s 0 0)) (tQ T0 h (0, if x = 0 then nI (ftF (wM W) (wLn W) 190).1 else oN (ftF (wM W) (wLn W) 190).2, W))) 190 ?_ ?_
    · intro k hk ih
      have hle := ftF_le (M := wM W) (l := wLn W) k
      obtain ⟨e1, e2⟩ := dm10 (k := k) (by omega)
      refine x_iload dX9_fits_37 rfl ?_
      refine x_sipush dX9_fits_39 190 (by decide) ?_
      refine x_icmp_ge 85 dX9_fits_42 rfl (fun hc9 => absurd hc9 (nI_ge hk (by decide))) (fun _ => ?_)
      refine x_aload_n dX9_fits_45 rfl ?_
      refine x_iload dX9_fits_46 rfl ?_
      refine x_bipush dX9_fits_48 10 (by decide) ?_
      refine x_idiv dX9_fits_50 (by decide) ?_
      rw [e1]
      refine x_iload dX9_fits_51 rfl ?_
      refine x_bipush dX9_fits_53 10 (by decide) ?_
      refine x_irem dX9_fits_55 (by decide) ?_
      rw [e2]
      have nx : ∀ p, ftF (wM W) (wLn W) (k + 1) = p → xRun G m_X9_fits (d + 2) 0 0 79 [some (.ref T0), some (.int x), some (.int (nI p.1)), some (.int (oN p.2)), some (.int (nI k))] [] (tw T0 h (seti s 0 0)) (tQ T0 h (0, if x = 0 then nI (ftF (wM W) (wLn W) 190).1 else oN (ftF (wM W) (wLn W) 190).2, W)) := by
        intro p hp
        rw [hp] at ih
        refine xinc4 _ dX9_fits_79 (by decide) rfl (nI_1 k) ?_
        refine x_goto 37 dX9_fits_82 rfl ?_
        exact ih
      refine xiV2 dX9_fits_56 v_X9_388_27 tw_get0 (Nat.le_of_ble_eq_true rfl) (c_isBeam hI0 hW _ _) ?_
      refine x_if_ne 65 dX9_fits_59 rfl (fun c3 => ?_) (fun c3 => ?_)
      · have c4 : bmK (wM W) (wLn W) k = true := b2_ne.mp c3
        have hq : ftF (wM W) (wLn W) (k + 1) = ((ftF (wM W) (wLn W) k).1 + 1, if (ftF (wM W) (wLn W) k).1 = 0 then some k else (ftF (wM W) (wLn W) k).2) := by
          show (if _ then _ else _) = _
          rw [if_pos c4]
        refine x_iload_n dX9_fits_65 rfl ?_
        refine x_if_ne 74 dX9_fits_66 rfl (fun c5 => ?_) (fun c5 => ?_)
        · have c6 : ¬ (ftF (wM W) (wLn W) k).1 = 0 := fun q => c5 (by rw [q]; rfl)
          rw [if_neg c6] at hq
          refine x_iload_n dX9_fits_74 rfl ?_
          refine xsi3 dX9_fits_75 (by decide) rfl ?_
          refine xinc2 _ dX9_fits_76 (by decide) rfl (nI_1 _) ?_
          exact nx _ hq
        · have c6 : (ftF (wM W) (wLn W) k).1 = 0 := (nI_eq (by omega) (b := 0) (by decide)).mp c5
          rw [if_pos c6] at hq
          refine x_iload dX9_fits_69 rfl ?_
          refine x_goto 75 dX9_fits_71 rfl ?_
          refine xsi3 dX9_fits_75 (by decide) rfl ?_
          refine xinc2 _ dX9_fits_76 (by decide) rfl (nI_1 _) ?_
          exact nx _ hq
      · have c4 : ¬ bmK (wM W) (wLn W) k = true := by
          have := b2_eq.mp c3
          exact fun z => by rw [show isBm (wM W) (wLn W) (nI (k / 10)) (nI (k % 10)) = true from z] at this; cases this
        refine x_goto 79 dX9_fits_62 rfl ?_
        exact nx _ (by show (if _ then _ else _) = _; rw [if_neg c4])
    · refine x_iload dX9_fits_37 rfl ?_
      refine x_sipush dX9_fits_39 190 (by decide) ?_
      refine x_icmp_ge 85 dX9_fits_42 rfl (fun _ => ?_) (fun hc9 => absurd (Int32.le_refl _) hc9)
      refine x_iload_n dX9_fits_85 rfl ?_
      refine x_if_ne 93 dX9_fits_86 rfl (fun c3 => ?_) (fun c3 => ?_)
      · refine x_iload_n dX9_fits_93 rfl ?_
        exact x_ireturn dX9_fits_94 rfl (tQ.mk (show _ = (if x = 0 then _ else _) by rw [if_neg c3]) hI0 rfl)
      · refine x_iload_n dX9_fits_89 rfl ?_
        refine x_goto 94 dX9_fits_90 rfl ?_
        exact x_ireturn dX9_fits_94 rfl (tQ.mk (show _ = (if x = 0 then _ else _) by rw [if_pos c3]) hI0 rfl)
  · have c2 := of_decide_eq_false (b2_eq.mp c1)
    rw [oFits, if_neg c2]
    refine x_iconst dX9_fits_15 1 rfl ?_
    refine x_goto 20 dX9_fits_16 rfl ?_
    refine x_iconst dX9_fits_20 1 rfl ?_
    refine x_iconst dX9_fits_21 1 rfl ?_
    refine xiV3 dX9_fits_22 v_X9_171_27 tw_get0 (Nat.le_of_ble_eq_true rfl) (c_badT hI0.1 hb rfl _ (by decide) 1 (by decide)) ?_
    refine x_if_eq 30 dX9_fits_25 rfl (fun hc9 => absurd hc9 (by decide)) (fun _ => ?_)
    refine x_iconst dX9_fits_28 0 rfl ?_
    exact x_ireturn dX9_fits_29 rfl (tQ.mk rfl (hI0.ref (by decide)) rfl)
theorem c_worstOf (hI : tIn s W) (hW : wOK W) (hb : G.2.2.1 ≤ T0) (a b : Nat) (ha : a < wN W) (hb9 : b < wN W) : xMet G (d + 2) 0 0 m_X9_worstOf [.ref T0, .int (nI a), .int (nI b)] (tw T0 h s) (xP (fun v h' => v = .int (nI (wst (wM W) (wLn W) a b)) ∧ ∃ s', h' = tw T0 h s' ∧ tIn s' W ∧ s'.1 0 = s.1 0)) := by
  refine xMet.of [some (.ref T0), some (.int (nI a)), some (.int (nI b)), none] pl_X9 rfl (Nat.le_of_ble_eq_true rfl) ?_
  have hB := hW.2.2.2.2.2.1
  have h8 := hW.2.2.1
  have j448 : tRow 448 := Or.inl rfl
  have l474 : ∀ l : List Int32, l.length = 3 → tIn (seta s 474 l) W := fun l hl => hI.J hW ((tJ.refl hI.1).seta rfl hl)
  generalize hQ : (xP (fun v h' => v = .int (nI (wst (wM W) (wLn W) a b)) ∧ ∃ s', h' = tw T0 h s' ∧ tIn s' W ∧ s'.1 0 = s.1 0)) = Q
  have part2 : ∀ x3, xRun G m_X9_worstOf (d + 2) 0 0 20 [some (.ref T0), some (.int (nI a)), some (.int (nI b)), x3] [] (tw T0 h (seta s 474 [0, 0, 0])) Q := by
    intro x3
    refine x_iconst dX9_worstOf_20 0 rfl ?_
    refine xsi3 dX9_worstOf_21 (by decide) rfl ?_
    refine xfor (fun k => xRun G m_X9_worstOf (d + 2) 0 0 22 [some (.ref T0), some (.int (nI a)), some (.int (nI b)), some (.int (nI k))] [] (tw T0 h (seta s 474 [nI (wcF (wM W) (wLn W) a b k).1, nI (wcF (wM W) (wLn W) a b k).2.1, nI (wcF (wM W) (wLn W) a b k).2.2])) Q) 190 ?_ ?_
    · intro k hk ih
      obtain ⟨e1, e2⟩ := dm10 (k := k) (by omega)
      generalize hp : wcF (wM W) (wLn W) a b k = p
      have hI1 : tIn (seta s 474 [nI p.1, nI p.2.1, nI p.2.2]) W := l474 _ rfl
      have nx : ∀ l, l = [nI (wcF (wM W) (wLn W) a b (k + 1)).1, nI (wcF (wM W) (wLn W) a b (k + 1)).2.1, nI (wcF (wM W) (wLn W) a b (k + 1)).2.2] → xRun G m_X9_worstOf (d + 2) 0 0 80 [some (.ref T0), some (.int (nI a)), some (.int (nI b)), some (.int (nI k))] [] (tw T0 h (seta s 474 l)) Q := by
        intro l hl
        subst hl
        refine xinc3 _ dX9_worstOf_80 (by decide) rfl (nI_1 k) ?_
        refine x_goto 22 dX9_worstOf_83 rfl ?_
        exact ih
      refine x_iload_n dX9_worstOf_22 rfl ?_
      refine x_sipush dX9_worstOf_23 190 (by decide) ?_
      refine x_icmp_ge 86 dX9_worstOf_26 rfl (fun hc9 => absurd hc9 (nI_ge hk (by decide))) (fun _ => ?_)
      refine x_aload_n dX9_worstOf_29 rfl ?_
      refine x_iload_n dX9_worstOf_30 rfl ?_
      refine x_bipush dX9_worstOf_31 10 (by decide) ?_
      refine x_idiv dX9_worstOf_33 (by decide) ?_
      rw [e1]
      refine x_iload_n dX9_worstOf_34 rfl ?_
      refine x_bipush dX9_worstOf_35 10 (by decide) ?_
      refine x_irem dX9_worstOf_37 (by decide) ?_
      rw [e2]
      refine xiV2 dX9_worstOf_38 v_X9_388_27 tw_get0 (Nat.le_of_ble_eq_true rfl) (c_isBeam hI1 hW _ _) ?_
      refine x_if_eq 80 dX9_worstOf_41 rfl (fun c1 => ?_) (fun c1 => ?_)
      · have c2 : ¬ bmK (wM W) (wLn W) k = true := by
          have := b2_eq.mp c1
          exact fun z => by rw [show isBm (wM W) (wLn W) (nI (k / 10)) (nI (k % 10)) = true from z] at this; cases this
        refine nx _ ?_
        rw [show wcF (wM W) (wLn W) a b (k + 1) = wcF (wM W) (wLn W) a b k from if_neg c2, hp]
      · have c2 : bmK (wM W) (wLn W) k = true := b2_ne.mp c1
        have hst : stN (wAt (wM W) a) (wAt (wM W) b) (nI (k / 10)) (nI (k % 10)) < 3 := stN_lt
        have ew : wcF (wM W) (wLn W) a b (k + 1) = bmp (stN (wAt (wM W) a) (wAt (wM W) b) (nI (k / 10)) (nI (k % 10))) p := by rw [← hp]; exact if_pos c2
        rw [ew] at nx
        refine x_aload_n dX9_worstOf_44 rfl ?_
        refine t_ga 474 dX9_worstOf_45 f_X9_83_27 (by decide) rfl (by decide) ?_
        refine x_aload_n dX9_worstOf_48 rfl ?_
        refine t_ga 448 dX9_worstOf_49 f_X9_61_27 (by decide) rfl (by decide) ?_
        refine x_iconst dX9_worstOf_52 0 rfl ?_
        refine x_iload_n dX9_worstOf_53 rfl ?_
        refine x_iadd dX9_worstOf_54 ?_
        refine t_rj a dX9_worstOf_55 hI1.1 j448 hI1.2.2.2.2.2.1 (ix_w _) (by omega) (mrow_w hB.1 (by omega)) ?_
        refine x_at 56 rfl ?_
        refine x_aload_n dX9_worstOf_56 rfl ?_
        refine t_ga 448 dX9_worstOf_57 f_X9_61_27 (by decide) rfl (by decide) ?_
        refine x_iconst dX9_worstOf_60 0 rfl ?_
        refine x_iload_n dX9_worstOf_61 rfl ?_
        refine x_iadd dX9_worstOf_62 ?_
        refine t_rj b dX9_worstOf_63 hI1.1 j448 hI1.2.2.2.2.2.1 (ix_w _) (by omega) (mrow_w hB.1 (by omega)) ?_
        refine x_iload_n dX9_worstOf_64 rfl ?_
        refine x_bipush dX9_worstOf_65 10 (by decide) ?_
        refine x_idiv dX9_worstOf_67 (by decide) ?_
        rw [e1]
        refine x_iload_n dX9_worstOf_68 rfl ?_
        refine x_bipush dX9_worstOf_69 10 (by decide) ?_
        refine x_irem dX9_worstOf_71 (by decide) ?_
        rw [e2]
        refine xiS4 dX9_worstOf_72 s_X9_267 (Nat.le_of_ble_eq_true rfl) (c_standsBy _ _ _ _) ?_
        refine x_dup2 dX9_worstOf_75 rfl rfl ?_
        generalize hr : stN (wAt (wM W) a) (wAt (wM W) b) (nI (k / 10)) (nI (k % 10)) = r at hst nx
        have hr3 : r = 0 ∨ r = 1 ∨ r = 2 := by omega
        rcases hr3 with rfl | rfl | rfl
        · refine t_ia 0 dX9_worstOf_76 hI1.1 (by decide) rfl (by decide) (gt seta_get rfl) ?_
          refine x_iconst dX9_worstOf_77 1 rfl ?_
          refine x_iadd dX9_worstOf_78 ?_
          refine t_is 0 dX9_worstOf_79 hI1.1 (by decide) rfl (by decide) hb ?_
          rw [seta_get, seta_seta]
          exact nx _ (by show [_ + 1, _, _] = _; rw [show [nI p.1, nI p.2.1, nI p.2.2].getD 0 0 = nI p.1 from rfl, nI_1]; rfl)
        · refine t_ia 1 dX9_worstOf_76 hI1.1 (by decide) rfl (by decide) (gt seta_get rfl) ?_
          refine x_iconst dX9_worstOf_77 1 rfl ?_
          refine x_iadd dX9_worstOf_78 ?_
          refine t_is 1 dX9_worstOf_79 hI1.1 (by decide) rfl (by decide) hb ?_
          rw [seta_get, seta_seta]
          exact nx _ (by show [_, _ + 1, _] = _; rw [show [nI p.1, nI p.2.1, nI p.2.2].getD 1 0 = nI p.2.1 from rfl, nI_1]; rfl)
        · refine t_ia 2 dX9_worstOf_76 hI1.1 (by decide) rfl (by decide) (gt seta_get rfl) ?_
          refine x_iconst dX9_worstOf_77 1 rfl ?_
          refine x_iadd dX9_worstOf_78 ?_
          refine t_is 2 dX9_worstOf_79 hI1.1 (by decide) rfl (by decide) hb ?_
          rw [seta_get, seta_seta]
          exact nx _ (by show [_, _, _ + 1] = _; rw [show [nI p.1, nI p.2.1, nI p.2.2].getD 2 0 = nI p.2.2 from rfl, nI_1]; rfl)
    · have hle := wcF_le (M := wM W) (l := wLn W) (a := a) (b := b) 190
      have mxn : ∀ u v : Nat, u < 1000 → v < 1000 → mx (nI u) (nI v) = nI (max u v) := by
        intro u v hu hv
        unfold mx
        by_cases e : v < u
        · rw [if_pos ((nI_ltI (by omega) (by omega)).mpr e), Nat.max_eq_left (by omega)]
        · rw [if_neg (fun z => e ((nI_ltI (by omega) (by omega)).mp z)), Nat.max_eq_right (by omega)]
      have hI1 : tIn (seta s 474 [nI (wcF (wM W) (wLn W) a b 190).1, nI (wcF (wM W) (wLn W) a b 190).2.1, nI (wcF (wM W) (wLn W) a b 190).2.2]) W := l474 _ rfl
      refine x_iload_n dX9_worstOf_22 rfl ?_
      refine x_sipush dX9_worstOf_23 190 (by decide) ?_
      refine x_icmp_ge 86 dX9_worstOf_26 rfl (fun _ => ?_) (fun hc9 => absurd (Int32.le_refl _) hc9)
      refine x_aload_n dX9_worstOf_86 rfl ?_
      refine t_ga 474 dX9_worstOf_87 f_X9_83_27 (by decide) rfl (by decide) ?_
      refine x_iconst dX9_worstOf_90 0 rfl ?_
      refine t_ia 0 dX9_worstOf_91 hI1.1 (by decide) rfl (by decide) (gt seta_get (v := nI (wcF (wM W) (wLn W) a b 190).1) rfl) ?_
      refine x_aload_n dX9_worstOf_92 rfl ?_
      refine x_at 93 rfl ?_
      refine t_ga 474 dX9_worstOf_93 f_X9_83_27 (by decide) rfl (by decide) ?_
      refine x_iconst dX9_worstOf_96 1 rfl ?_
      refine t_ia 1 dX9_worstOf_97 hI1.1 (by decide) rfl (by decide) (gt seta_get (v := nI (wcF (wM W) (wLn W) a b 190).2.1) rfl) ?_
      refine x_aload_n dX9_worstOf_98 rfl ?_
      refine t_ga 474 dX9_worstOf_99 f_X9_83_27 (by decide) rfl (by decide) ?_
      refine x_iconst dX9_worstOf_102 2 rfl ?_
      refine t_ia 2 dX9_worstOf_103 hI1.1 (by decide) rfl (by decide) (gt seta_get (v := nI (wcF (wM W) (wLn W) a b 190).2.2) rfl) ?_
      refine xiS2 dX9_worstOf_104 s_X9_238 (Nat.le_of_ble_eq_true rfl) (c_more _ _) ?_
      refine x_at 107 rfl ?_
      refine xiS2 dX9_worstOf_107 s_X9_238 (Nat.le_of_ble_eq_true rfl) (c_more _ _) ?_
      refine x_ireturn dX9_worstOf_110 rfl ?_
      rw [← hQ]
      refine ⟨_, rfl, ?_, _, rfl, hI1, rfl⟩
      rw [mxn _ _ (by omega) (by omega), mxn _ _ (by omega) (by omega)]
      rfl
  have l3 : (s.2.2 474).length = 3 := hI.1 474
  refine x_iconst dX9_worstOf_0 0 rfl ?_
  refine xsi3 dX9_worstOf_1 (by decide) rfl ?_
  refine x_iload_n dX9_worstOf_2 rfl ?_
  refine x_iconst dX9_worstOf_3 3 rfl ?_
  refine x_icmp_ge 20 dX9_worstOf_4 rfl (fun hc9 => absurd hc9 (by decide)) (fun _ => ?_)
  refine x_aload_n dX9_worstOf_7 rfl ?_
  refine t_ga 474 dX9_worstOf_8 f_X9_83_27 (by decide) rfl (by decide) ?_
  refine x_iload_n dX9_worstOf_11 rfl ?_
  refine x_at 12 rfl ?_
  refine x_iconst dX9_worstOf_12 0 rfl ?_
  refine t_is 0 dX9_worstOf_13 hI.1 (by decide) rfl (by decide) hb ?_
  refine xinc3 _ dX9_worstOf_14 (by decide) rfl rfl ?_
  refine x_goto 2 dX9_worstOf_17 rfl ?_
  refine x_iload_n dX9_worstOf_2 rfl ?_
  refine x_iconst dX9_worstOf_3 3 rfl ?_
  refine x_icmp_ge 20 dX9_worstOf_4 rfl (fun hc9 => absurd hc9 (by decide)) (fun _ => ?_)
  refine x_aload_n dX9_worstOf_7 rfl ?_
  refine t_ga 474 dX9_worstOf_8 f_X9_83_27 (by decide) rfl (by decide) ?_
  refine x_iload_n dX9_worstOf_11 rfl ?_
  refine x_iconst dX9_worstOf_12 0 rfl ?_
  refine t_is 1 dX9_worstOf_13 (l474 _ (by rw [List.length_set]; exact l3)).1 (by decide) rfl (by decide) hb ?_
  rw [seta_get, seta_seta]
  refine xinc3 _ dX9_worstOf_14 (by decide) rfl rfl ?_
  refine x_goto 2 dX9_worstOf_17 rfl ?_
  refine x_iload_n dX9_worstOf_2 rfl ?_
  refine x_iconst dX9_worstOf_3 3 rfl ?_
  refine x_icmp_ge 20 dX9_worstOf_4 rfl (fun hc9 => absurd hc9 (by decide)) (fun _ => ?_)
  refine x_aload_n dX9_worstOf_7 rfl ?_
  refine t_ga 474 dX9_worstOf_8 f_X9_83_27 (by decide) rfl (by decide) ?_
  refine x_iload_n dX9_worstOf_11 rfl ?_
  refine x_iconst dX9_worstOf_12 0 rfl ?_
  refine t_is 2 dX9_worstOf_13 (l474 _ (by rw [List.length_set, List.length_set]; exact l3)).1 (by decide) rfl (by decide) hb ?_
  rw [seta_get, seta_seta]
  refine xinc3 _ dX9_worstOf_14 (by decide) rfl rfl ?_
  refine x_goto 2 dX9_worstOf_17 rfl ?_
  have e0 : (((s.2.2 474).set 0 0).set 1 0).set 2 0 = [0, 0, 0] := by
    match s.2.2 474, l3 with
    | [b1, b2, b3], _ => rfl
  rw [e0]
  refine x_iload_n dX9_worstOf_2 rfl ?_
  refine x_iconst dX9_worstOf_3 3 rfl ?_
  refine x_icmp_ge 20 dX9_worstOf_4 rfl (fun _ => ?_) (fun hc9 => absurd (by decide) hc9)
  exact part2 _
theorem lkI_b {M : Mk} {l : Ln} {a : Nat} : ∀ (k : Nat) (p : Option (Nat × Nat)), (∀ q, p = some q → q.1 < 1000 ∧ q.2 ≤ 190) → a + k < 50 → ∀ q, lkI M l a p k = some q → q.1 < 1000 ∧ q.2 ≤ 190
  | 0, _, h, _, q, e => h q e
  | k + 1, p, h, hk, q, e => by
    have ih := lkI_b (M := M) (l := l) (a := a) k p h (by omega)
    have w := wst_le (M := M) (l := l) (a := a) (b := a + 1 + k)
    unfold lkI lkJ at e
    split at e
    · cases e; exact ⟨by show 10 * a + (a + 1 + k) < 1000; omega, w⟩
    · next z hz =>
      split at e
      · cases e; exact ih _ hz
      · cases e; exact ⟨by show 10 * a + (a + 1 + k) < 1000; omega, w⟩
theorem lkO_b {M : Mk} {l : Ln} {n : Nat} (hn : n ≤ 8) : ∀ a, a ≤ n → ∀ q, lkO M l n a = some q → q.1 < 1000 ∧ q.2 ≤ 190
  | 0, _, q, e => nomatch e
  | a + 1, h, q, e => lkI_b (n - (a + 1)) _ (lkO_b hn a (by omega)) (by omega) q e
theorem p_look (hI : tIn s W) (hW : wOK W) (hb : G.2.2.1 ≤ T0) (x : Int32) : xMet G (d + 3) 0 0 m_X9_look [.ref T0, .int x] (tw T0 h s) (tQ T0 h (oLook W x)) := by
  refine xMet.of [some (.ref T0), some (.int x), none, none, none, none, none] pl_X9 rfl (Nat.le_of_ble_eq_true rfl) ?_
  have hI0 := hI.J hW ((tJ.refl hI.1).seti (k := 0) (v := 0) rfl)
  have hn := hI0.2.2.2.1.1
  have h8 := hW.2.2.1
  refine x_aload_n dX9_look_0 rfl ?_
  refine x_iconst dX9_look_1 0 rfl ?_
  refine t_pi dX9_look_2 p_X9_92_27 rfl (by decide) hb ?_
  refine x_aload_n dX9_look_5 rfl ?_
  refine x_iload_n dX9_look_6 rfl ?_
  refine x_iconst dX9_look_7 0 rfl ?_
  refine x_iconst dX9_look_8 1 rfl ?_
  refine xiS3 dX9_look_9 s_X9_126 (Nat.le_of_ble_eq_true rfl) (c_in _ _ _) ?_
  refine x_at 12 rfl ?_
  refine x_if_ne 19 dX9_look_12 rfl (fun c1 => ?_) (fun c1 => ?_)
  · have c2 := of_decide_eq_true (b2_ne.mp c1)
    rw [oLook, if_pos c2]
    refine x_iconst dX9_look_19 0 rfl ?_
    refine x_iconst dX9_look_20 1 rfl ?_
    refine x_iconst dX9_look_21 1 rfl ?_
    refine xiV3 dX9_look_22 v_X9_171_27 tw_get0 (Nat.le_of_ble_eq_true rfl) (c_badF hI0.1 hb rfl _ 1 (by decide)) ?_
    refine x_if_eq 30 dX9_look_25 rfl (fun _ => ?_) (fun hc9 => absurd (rfl) hc9)
    refine x_iconst dX9_look_30 (-1) rfl ?_
    refine xsi2 dX9_look_31 (by decide) rfl ?_
    refine x_iconst dX9_look_32 (-1) rfl ?_
    refine x_at 33 rfl ?_
    refine xsi3 dX9_look_33 (by decide) rfl ?_
    refine x_iconst dX9_look_34 0 rfl ?_
    refine xsi4 dX9_look_35 (by decide) rfl ?_
    generalize hQ : tQ T0 h _ = Q
    suffices hh : ∀ s1 x5 x6, tIn s1 W → s1.1 0 = 0 → xRun G m_X9_look (d + 3) 0 0 37 [some (.ref T0), some (.int x), some (.int (oN1 (lkO (wM W) (wLn W) (wN W) 0))), some (.int (oN2 (lkO (wM W) (wLn W) (wN W) 0))), some (.int (nI 0)), x5, x6] [] (tw T0 h s1) Q from hh _ _ _ hI0 rfl
    refine xfor (fun a => ∀ s1 x5 x6, tIn s1 W → s1.1 0 = 0 → xRun G m_X9_look (d + 3) 0 0 37 [some (.ref T0), some (.int x), some (.int (oN1 (lkO (wM W) (wLn W) (wN W) a))), some (.int (oN2 (lkO (wM W) (wLn W) (wN W) a))), some (.int (nI a)), x5, x6] [] (tw T0 h s1) Q) (wN W) ?_ ?_
    · intro a ha ih s1 x5 x6 hI1 h01
      refine x_iload dX9_look_37 rfl ?_
      refine x_aload_n dX9_look_39 rfl ?_
      refine t_ga 4 dX9_look_40 f_X9_23_27 (by decide) rfl (by decide) ?_
      refine x_iconst dX9_look_43 0 rfl ?_
      refine t_ia 0 dX9_look_44 hI1.1 (by decide) rfl (by decide) hI1.2.2.2.1.1 ?_
      refine x_icmp_ge 113 dX9_look_45 rfl (fun hc9 => absurd hc9 (nI_ge ha (by omega))) (fun _ => ?_)
      refine x_iload dX9_look_48 rfl ?_
      refine x_iconst dX9_look_50 1 rfl ?_
      refine x_at 51 rfl ?_
      refine x_iadd dX9_look_51 ?_
      rw [nI_1]
      refine xsi5 dX9_look_52 (by decide) rfl ?_
      have hO := lkO_b (M := wM W) (l := wLn W) h8 a (by omega)
      generalize hp0 : lkO (wM W) (wLn W) (wN W) a = p0 at hO
      suffices hh : ∀ s1 x6, tIn s1 W → s1.1 0 = 0 → xRun G m_X9_look (d + 3) 0 0 54 [some (.ref T0), some (.int x), some (.int (oN1 (lkI (wM W) (wLn W) a p0 0))), some (.int (oN2 (lkI (wM W) (wLn W) a p0 0))), some (.int (nI a)), some (.int (nI (a + 1 + 0))), x6] [] (tw T0 h s1) Q from hh _ _ hI1 h01
      clear hI1 h01
      refine xfor (fun k => ∀ s1 x6, tIn s1 W → s1.1 0 = 0 → xRun G m_X9_look (d + 3) 0 0 54 [some (.ref T0), some (.int x), some (.int (oN1 (lkI (wM W) (wLn W) a p0 k))), some (.int (oN2 (lkI (wM W) (wLn W) a p0 k))), some (.int (nI a)), some (.int (nI (a + 1 + k))), x6] [] (tw T0 h s1) Q) (wN W - (a + 1)) ?_ ?_
      · intro k hk ih2 s1 x6 hI1 h01
        have hb1 : a + 1 + k < wN W := by omega
        have hIb := lkI_b (M := wM W) (l := wLn W) (a := a) k p0 hO (by omega)
        have hws := wst_le (M := wM W) (l := wLn W) (a := a) (b := a + 1 + k)
        refine x_iload dX9_look_54 rfl ?_
        refine x_aload_n dX9_look_56 rfl ?_
        refine t_ga 4 dX9_look_57 f_X9_23_27 (by decide) rfl (by decide) ?_
        refine x_iconst dX9_look_60 0 rfl ?_
        refine t_ia 0 dX9_look_61 hI1.1 (by decide) rfl (by decide) hI1.2.2.2.1.1 ?_
        refine x_icmp_ge 107 dX9_look_62 rfl (fun hc9 => absurd hc9 (nI_ge hb1 (by omega))) (fun _ => ?_)
        refine x_aload_n dX9_look_65 rfl ?_
        refine x_iload dX9_look_66 rfl ?_
        refine x_at 68 rfl ?_
        refine x_iload dX9_look_68 rfl ?_
        refine xpV2 dX9_look_70 v_X9_391_27 tw_get0 (Nat.le_of_ble_eq_true rfl) (c_worstOf hI1 hW hb a (a + 1 + k) ha hb1) (by omega) (by omega) (fun v h1 hF => ?_)
        obtain ⟨hv, s2, rfl, hI2, h02⟩ := hF
        subst hv
        rw [h01] at h02
        generalize hpk : lkI (wM W) (wLn W) a p0 k = pk at hIb
        have nx : ∀ q, lkI (wM W) (wLn W) a p0 (k + 1) = q → xRun G m_X9_look (d + 3) 0 0 101 [some (.ref T0), some (.int x), some (.int (oN1 q)), some (.int (oN2 q)), some (.int (nI a)), some (.int (nI (a + 1 + k))), some (.int (nI (wst (wM W) (wLn W) a (a + 1 + k))))] [] (tw T0 h s2) Q := by
          intro q hq
          rw [hq] at ih2
          refine xinc5 _ dX9_look_101 (by decide) rfl (nI_1 _) ?_
          refine x_goto 54 dX9_look_104 rfl ?_
          exact ih2 _ _ hI2 h02
        have upd : lkI (wM W) (wLn W) a p0 (k + 1) = some (10 * a + (a + 1 + k), wst (wM W) (wLn W) a (a + 1 + k)) → xRun G m_X9_look (d + 3) 0 0 89 [some (.ref T0), some (.int x), some (.int (oN1 pk)), some (.int (oN2 pk)), some (.int (nI a)), some (.int (nI (a + 1 + k))), some (.int (nI (wst (wM W) (wLn W) a (a + 1 + k))))] [] (tw T0 h s2) Q := by
          intro hq
          refine x_bipush dX9_look_89 10 (by decide) ?_
          refine x_iload dX9_look_91 rfl ?_
          refine x_imul dX9_look_93 ?_
          refine x_iload dX9_look_94 rfl ?_
          refine x_iadd dX9_look_96 ?_
          rw [show (10 : Int32) * nI a + nI (a + 1 + k) = nI (10 * a + (a + 1 + k)) by rw [show (10 : Int32) = nI 10 from rfl, pk_mul, nI_add]]
          refine xsi2 dX9_look_97 (by decide) rfl ?_
          refine x_iload dX9_look_98 rfl ?_
          refine xsi3 dX9_look_100 (by decide) rfl ?_
          exact nx _ hq
        cases pk with
        | none =>
          refine xsi6 dX9_look_73 (by decide) rfl ?_
          refine x_iload_n dX9_look_75 rfl ?_
          refine x_iconst dX9_look_76 (-1) rfl ?_
          refine x_icmp_eq 89 dX9_look_77 rfl (fun _ => ?_) (fun hc9 => absurd (rfl) hc9)
          exact upd (by show lkJ _ _ _ _ _ = _; rw [hpk]; rfl)
        | some q =>
          have hq9 := hIb q rfl
          refine xsi6 dX9_look_73 (by decide) rfl ?_
          refine x_iload_n dX9_look_75 rfl ?_
          refine x_iconst dX9_look_76 (-1) rfl ?_
          refine x_icmp_eq 89 dX9_look_77 rfl (fun hc9 => absurd hc9 (oN_ne (b := q.1) (by omega))) (fun _ => ?_)
          refine x_iload dX9_look_80 rfl ?_
          refine x_iload_n dX9_look_82 rfl ?_
          refine x_icmp_lt 89 dX9_look_83 rfl (fun c3 => ?_) (fun c3 => ?_)
          · have c4 : ¬ q.2 ≤ wst (wM W) (wLn W) a (a + 1 + k) := by
              have := (nI_ltI (by omega) (by omega)).mp c3
              omega
            exact upd (by show lkJ _ _ _ _ _ = _; rw [hpk]; exact if_neg c4)
          · have c4 : q.2 ≤ wst (wM W) (wLn W) a (a + 1 + k) := Nat.le_of_not_lt (fun z => c3 ((nI_ltI (by omega) (by omega)).mpr z))
            refine x_goto 101 dX9_look_86 rfl ?_
            exact nx _ (by show lkJ _ _ _ _ _ = _; rw [hpk]; exact if_pos c4)
      · intro s1 x6 hI1 h01
        rw [show a + 1 + (wN W - (a + 1)) = wN W by omega]
        refine x_iload dX9_look_54 rfl ?_
        refine x_aload_n dX9_look_56 rfl ?_
        refine t_ga 4 dX9_look_57 f_X9_23_27 (by decide) rfl (by decide) ?_
        refine x_iconst dX9_look_60 0 rfl ?_
        refine t_ia 0 dX9_look_61 hI1.1 (by decide) rfl (by decide) hI1.2.2.2.1.1 ?_
        refine x_icmp_ge 107 dX9_look_62 rfl (fun _ => ?_) (fun hc9 => absurd (Int32.le_refl _) hc9)
        refine xinc4 _ dX9_look_107 (by decide) rfl (nI_1 a) ?_
        refine x_goto 37 dX9_look_110 rfl ?_
        have := ih s1 (some (.int (nI (wN W)))) x6 hI1 h01
        rw [show lkO (wM W) (wLn W) (wN W) (a + 1) = lkI (wM W) (wLn W) a (lkO (wM W) (wLn W) (wN W) a) (wN W - (a + 1)) from rfl, hp0] at this
        exact this
    · intro s1 x5 x6 hI1 h01
      rw [← hQ]
      refine x_iload dX9_look_37 rfl ?_
      refine x_aload_n dX9_look_39 rfl ?_
      refine t_ga 4 dX9_look_40 f_X9_23_27 (by decide) rfl (by decide) ?_
      refine x_iconst dX9_look_43 0 rfl ?_
      refine t_ia 0 dX9_look_44 hI1.1 (by decide) rfl (by decide) hI1.2.2.2.1.1 ?_
      refine x_icmp_ge 113 dX9_look_45 rfl (fun _ => ?_) (fun hc9 => absurd (Int32.le_refl _) hc9)
      refine x_iload_n dX9_look_113 rfl ?_
      refine x_if_ne 121 dX9_look_114 rfl (fun c3 => ?_) (fun c3 => ?_)
      · refine x_iload_n dX9_look_121 rfl ?_
        exact x_ireturn dX9_look_122 rfl (tQ.mk (show _ = (if x = 0 then _ else _) by rw [if_neg c3]) hI1 h01)
      · refine x_iload_n dX9_look_117 rfl ?_
        refine x_goto 122 dX9_look_118 rfl ?_
        exact x_ireturn dX9_look_122 rfl (tQ.mk (show _ = (if x = 0 then _ else _) by rw [if_pos c3]) hI1 h01)
  · have c2 := of_decide_eq_false (b2_eq.mp c1)
    rw [oLook, if_neg c2]
    refine x_iconst dX9_look_15 1 rfl ?_
    refine x_goto 20 dX9_look_16 rfl ?_
    refine x_iconst dX9_look_20 1 rfl ?_
    refine x_iconst dX9_look_21 1 rfl ?_
    refine xiV3 dX9_look_22 v_X9_171_27 tw_get0 (Nat.le_of_ble_eq_true rfl) (c_badT hI0.1 hb rfl _ (by decide) 1 (by decide)) ?_
    refine x_if_eq 30 dX9_look_25 rfl (fun hc9 => absurd hc9 (by decide)) (fun _ => ?_)
    refine x_iconst dX9_look_28 0 rfl ?_
    exact x_ireturn dX9_look_29 rfl (tQ.mk rfl (hI0.ref (by decide)) rfl)
end TH
