set_option maxRecDepth 100000
/-! ===== the twin, 17: level by chance, shares, sets ===== -/
theorem lsh4 : ∀ n, n < 13 → (1 : Int64) <<< ((4 * nI n).toInt64 &&& 63) = lN (16 ^ n) := by decide +kernel
theorem q16 {q : Nat} (h : q ≤ 16) : q * (16 - q) ≤ 64 := by
  have : q = 0 ∨ q = 1 ∨ q = 2 ∨ q = 3 ∨ q = 4 ∨ q = 5 ∨ q = 6 ∨ q = 7 ∨ q = 8 ∨ q = 9 ∨ q = 10 ∨ q = 11 ∨ q = 12 ∨ q = 13 ∨ q = 14 ∨ q = 15 ∨ q = 16 := by omega
  rcases this with rfl | rfl | rfl | rfl | rfl | rfl | rfl | rfl | rfl | rfl | rfl | rfl | rfl | rfl | rfl | rfl | rfl <;> decide
section TE
variable {G : xG} {d : Nat} {h : xH} {T0 : Nat} {s : tS} {W : Wd}
theorem p_even (hI : tIn s W) (hW : wOK W) (hb : G.2.2.1 ≤ T0) (n q x : Int32) : xMet G (d + 2) 0 0 m_X9_even [.ref T0, .int n, .int q, .int x] (tw T0 h s) (tQL T0 h (oEven W n q x)) := by
  refine xMet.of [some (.ref T0), some (.int n), some (.int q), some (.int x), none, none, none, none] pl_X9 rfl (Nat.le_of_ble_eq_true rfl) ?_
  have hI0 := hI.J hW ((tJ.refl hI.1).seti (k := 0) (v := 0) rfl)
  have no : ¬ ((0 ≤ n ∧ n ≤ 12) ∧ (0 ≤ q ∧ q ≤ 16) ∧ 0 ≤ x ∧ x ≤ 1) → xRun G m_X9_even (d + 2) 0 0 35 [some (.ref T0), some (.int n), some (.int q), some (.int x), none, none, none, none] [.ref T0] (tw T0 h (seti s 0 0)) (tQL T0 h (oEven W n q x)) := by
    intro z
    rw [oEven, if_neg z]
    refine x_iconst dX9_even_35 1 rfl ?_
    refine x_goto 40 dX9_even_36 rfl ?_
    refine x_iconst dX9_even_40 1 rfl ?_
    refine x_iconst dX9_even_41 1 rfl ?_
    refine xiV3 dX9_even_42 v_X9_171_27 tw_get0 (Nat.le_of_ble_eq_true rfl) (c_badT hI0.1 hb rfl _ (by decide) 1 (by decide)) ?_
    refine x_if_eq 50 dX9_even_45 rfl (fun hc9 => absurd hc9 (by decide)) (fun _ => ?_)
    refine x_lconst dX9_even_48 0 rfl ?_
    exact x_lreturn dX9_even_49 rfl (tQL.mk rfl (hI0.ref (by decide)) rfl)
  refine x_aload_n dX9_even_0 rfl ?_
  refine x_iconst dX9_even_1 0 rfl ?_
  refine t_pi dX9_even_2 p_X9_92_27 rfl (by decide) hb ?_
  refine x_aload_n dX9_even_5 rfl ?_
  refine x_iload_n dX9_even_6 rfl ?_
  refine x_iconst dX9_even_7 0 rfl ?_
  refine x_bipush dX9_even_8 12 (by decide) ?_
  refine xiS3 dX9_even_10 s_X9_126 (Nat.le_of_ble_eq_true rfl) (c_in _ _ _) ?_
  refine x_at 13 rfl ?_
  refine x_if_eq 35 dX9_even_13 rfl (fun c => ?_) (fun c => ?_)
  · exact no (fun z => of_decide_eq_false (b2_eq.mp c) z.1)
  · have b1 := of_decide_eq_true (b2_ne.mp c)
    clear c
    refine x_iload_n dX9_even_16 rfl ?_
    refine x_iconst dX9_even_17 0 rfl ?_
    refine x_bipush dX9_even_18 16 (by decide) ?_
    refine xiS3 dX9_even_20 s_X9_126 (Nat.le_of_ble_eq_true rfl) (c_in _ _ _) ?_
    refine x_if_eq 35 dX9_even_23 rfl (fun c => ?_) (fun c => ?_)
    · exact no (fun z => of_decide_eq_false (b2_eq.mp c) z.2.1)
    · have b2' := of_decide_eq_true (b2_ne.mp c)
      clear c
      refine x_iload_n dX9_even_26 rfl ?_
      refine x_iconst dX9_even_27 0 rfl ?_
      refine x_iconst dX9_even_28 1 rfl ?_
      refine xiS3 dX9_even_29 s_X9_126 (Nat.le_of_ble_eq_true rfl) (c_in _ _ _) ?_
      refine x_if_ne 39 dX9_even_32 rfl (fun c => ?_) (fun c => ?_)
      · have b3 := of_decide_eq_true (b2_ne.mp c)
        rw [oEven, if_pos ⟨b1, b2', b3⟩]
        obtain ⟨m, hm, rfl, em⟩ := inN 12 (by decide) (by decide) b1
        obtain ⟨r, hr, rfl, er⟩ := inN 16 (by decide) (by decide) b2'
        rw [em, er]
        generalize hu0 : (if m % 2 = 0 then 1 else 0 : Nat) = u0
        have hu2 : u0 < 2 := by rw [← hu0]; split <;> decide
        have hh7 : m / 2 < 7 := by omega
        have part : ∀ v, v = lN u0 → xRun G m_X9_even (d + 2) 0 0 61 [some (.ref T0), some (.int (nI m)), some (.int (nI r)), some (.int x), none, none, none, none] [.long v] (tw T0 h (seti s 0 0)) (tQL T0 h (0, lN (redN (evU m r, 16 ^ m) x), W)) := by
          intro v hv
          subst hv
          refine xsl4 dX9_even_61 (by decide) rfl ?_
          refine x_iload_n dX9_even_63 rfl ?_
          refine x_iconst dX9_even_64 2 rfl ?_
          refine x_idiv dX9_even_65 (by decide) ?_
          rw [show nI m / 2 = nI (m / 2) from pk_div (d := 2) (by omega) (by decide) (by decide)]
          refine xsi6 dX9_even_66 (by decide) rfl ?_
          refine x_iconst dX9_even_68 1 rfl ?_
          refine xsi7 dX9_even_69 (by decide) rfl ?_
          suffices hh : ∀ k, k ≤ m / 2 → evC u0 (m / 2) k = evC u0 (m / 2) k → xRun G m_X9_even (d + 2) 0 0 71 [some (.ref T0), some (.int (nI m)), some (.int (nI r)), some (.int x), some (.long (lN (evC u0 (m / 2) k))), none, some (.int (nI (m / 2))), some (.int (nI (k + 1)))] [] (tw T0 h (seti s 0 0)) (tQL T0 h (0, lN (redN (evU m r, 16 ^ m) x), W)) from hh 0 (Nat.zero_le _) rfl
          have fin2 : ∀ x7, xRun G m_X9_even (d + 2) 0 0 99 [some (.ref T0), some (.int (nI m)), some (.int (nI r)), some (.int x), some (.long (lN (evC u0 (m / 2) (m / 2)))), none, some (.int (nI (m / 2))), x7] [] (tw T0 h (seti s 0 0)) (tQL T0 h (0, lN (redN (evU m r, 16 ^ m) x), W)) := by
            intro x7
            have hc := evC_b u0 hu2 (m / 2) hh7 (m / 2) (by omega)
            generalize hC : evC u0 (m / 2) (m / 2) = C at hc
            have hq := q16 hr
            refine x_iconst dX9_even_99 0 rfl ?_
            refine xsi7 dX9_even_100 (by decide) rfl ?_
            refine xfor (fun k => xRun G m_X9_even (d + 2) 0 0 102 [some (.ref T0), some (.int (nI m)), some (.int (nI r)), some (.int x), some (.long (lN (evP C (r * (16 - r)) k))), none, some (.int (nI (m / 2))), some (.int (nI k))] [] (tw T0 h (seti s 0 0)) (tQL T0 h (0, lN (redN (evU m r, 16 ^ m) x), W))) (m / 2) ?_ ?_
            · intro k hk ih
              refine x_iload dX9_even_102 rfl ?_
              refine x_iload dX9_even_104 rfl ?_
              refine x_icmp_ge 127 dX9_even_106 rfl (fun hc9 => absurd hc9 (nI_ge hk (by omega))) (fun _ => ?_)
              refine x_lload dX9_even_109 rfl ?_
              refine x_iload_n dX9_even_111 rfl ?_
              refine x_bipush dX9_even_112 16 (by decide) ?_
              refine x_iload_n dX9_even_114 rfl ?_
              refine x_isub dX9_even_115 ?_
              refine x_imul dX9_even_116 ?_
              rw [show nI r * (16 - nI r) = nI (r * (16 - r)) by rw [show (16 : Int32) = nI 16 from rfl, pk_sub hr, pk_mul]]
              refine x_i2l dX9_even_117 ?_
              rw [nI_l (by omega)]
              refine x_lmul dX9_even_118 ?_
              rw [lN_mul]
              refine xsl4 dX9_even_119 (by decide) rfl ?_
              refine xinc7 _ dX9_even_121 (by decide) rfl (nI_1 k) ?_
              refine x_goto 102 dX9_even_124 rfl ?_
              exact ih
            · have hE : evP C (r * (16 - r)) (m / 2) = evU m r := by rw [← hC, ← hu0]; rfl
              have b9 : evU m r ≤ 1000 * 64 ^ 6 := by
                rw [← hE]
                refine Nat.le_trans (evP_b hq _) (Nat.mul_le_mul (by omega) (Nat.pow_le_pow_right (by decide) (by omega)))
              have b10 : 16 ^ m ≤ 16 ^ 12 := Nat.pow_le_pow_right (by decide) hm
              have b11 : 0 < 16 ^ m := Nat.pow_pos (by decide)
              have hr9 := ptL_N (part := x) (u := evU m r) (l := 16 ^ m) (by omega) (by omega) b11
              rw [hE]
              refine x_iload dX9_even_102 rfl ?_
              refine x_iload dX9_even_104 rfl ?_
              refine x_icmp_ge 127 dX9_even_106 rfl (fun _ => ?_) (fun hc9 => absurd (Int32.le_refl _) hc9)
              refine x_lload dX9_even_127 rfl ?_
              refine x_lconst dX9_even_129 1 rfl ?_
              refine x_iconst dX9_even_130 4 rfl ?_
              refine x_iload_n dX9_even_131 rfl ?_
              refine x_imul dX9_even_132 ?_
              refine x_lshl dX9_even_133 ?_
              rw [lsh4 m (by omega)]
              refine x_iload_n dX9_even_134 rfl ?_
              refine xiS3 dX9_even_135 s_X9_362 (Nat.le_of_ble_eq_true rfl) (c_partOf _ _ _ _ hr9.1 hr9.2.1) ?_
              exact x_lreturn dX9_even_138 rfl (tQL.mk hr9.2.2 hI0 rfl)
          intro k0 hk0 _
          suffices hh : ∀ j k, k + j = m / 2 → xRun G m_X9_even (d + 2) 0 0 71 [some (.ref T0), some (.int (nI m)), some (.int (nI r)), some (.int x), some (.long (lN (evC u0 (m / 2) k))), none, some (.int (nI (m / 2))), some (.int (nI (k + 1)))] [] (tw T0 h (seti s 0 0)) (tQL T0 h (0, lN (redN (evU m r, 16 ^ m) x), W)) from hh (m / 2 - k0) k0 (by omega)
          intro j
          induction j with
          | zero =>
            intro k hk
            have e : k = m / 2 := by omega
            rw [e]
            refine x_iload dX9_even_71 rfl ?_
            refine x_iload dX9_even_73 rfl ?_
            refine x_icmp_gt 99 dX9_even_75 rfl (fun _ => ?_) (fun hc9 => absurd (nI_lt (by omega) (by omega)) hc9)
            exact fin2 _
          | succ j ihj =>
            intro k hk
            have hc := evC_b u0 hu2 (m / 2) hh7 k (by omega)
            refine x_iload dX9_even_71 rfl ?_
            refine x_iload dX9_even_73 rfl ?_
            refine x_icmp_gt 99 dX9_even_75 rfl (fun hc9 => absurd hc9 (nI_nlt (by omega) (by omega))) (fun _ => ?_)
            refine x_lload dX9_even_78 rfl ?_
            refine x_iload dX9_even_80 rfl ?_
            refine x_iload dX9_even_82 rfl ?_
            refine x_iadd dX9_even_84 ?_
            rw [nI_add]
            refine x_i2l dX9_even_85 ?_
            rw [nI_l (by omega)]
            refine x_lmul dX9_even_86 ?_
            rw [lN_mul]
            refine x_iload dX9_even_87 rfl ?_
            refine x_i2l dX9_even_89 ?_
            rw [nI_l (by omega)]
            have hz : ¬ lN (k + 1) = 0 := fun z => absurd ((pk_lEQ (b := 0) (by omega) (by decide)).mp z) (by omega)
            refine x_ldiv dX9_even_90 hz ?_
            have hmul : evC u0 (m / 2) k * (m / 2 + (k + 1)) ≤ 1000 * 20 := Nat.mul_le_mul (by omega) (by omega)
            rw [pk_lDiv (by omega) (by omega) (by omega)]
            refine xsl4 dX9_even_91 (by decide) rfl ?_
            refine xinc7 _ dX9_even_93 (by decide) rfl (nI_1 _) ?_
            refine x_goto 71 dX9_even_96 rfl ?_
            exact ihj (k + 1) (by omega)
        have e2 : nI m - nI m / 2 * 2 = nI (m % 2) := pk_rem (d := 2) (by omega) (by decide) (by decide)
        refine x_iconst dX9_even_39 0 rfl ?_
        refine x_iconst dX9_even_40 1 rfl ?_
        refine x_iconst dX9_even_41 1 rfl ?_
        refine xiV3 dX9_even_42 v_X9_171_27 tw_get0 (Nat.le_of_ble_eq_true rfl) (c_badF hI0.1 hb rfl _ 1 (by decide)) ?_
        refine x_if_eq 50 dX9_even_45 rfl (fun _ => ?_) (fun hc9 => absurd (rfl) hc9)
        refine x_iload_n dX9_even_50 rfl ?_
        refine x_iconst dX9_even_51 2 rfl ?_
        refine x_irem dX9_even_52 (by decide) ?_
        rw [e2]
        refine x_if_ne 60 dX9_even_53 rfl (fun c1 => ?_) (fun c1 => ?_)
        · have c2 : ¬ m % 2 = 0 := fun z => c1 (by rw [z]; rfl)
          refine x_lconst dX9_even_60 0 rfl ?_
          exact part _ (by rw [← hu0, if_neg c2]; rfl)
        · have c2 : m % 2 = 0 := (nI_eq (by omega) (b := 0) (by decide)).mp c1
          refine x_lconst dX9_even_56 1 rfl ?_
          refine x_goto 61 dX9_even_57 rfl ?_
          exact part _ (by rw [← hu0, if_pos c2]; rfl)
      · exact no (fun z => of_decide_eq_false (b2_eq.mp c) z.2.2)
theorem e2n : ∀ n, n ≤ 8 → (1 : Int32) <<< (nI n &&& 31) - 1 = nI (2 ^ n - 1) := by decide +kernel
theorem c_everyThing (hs : tOK s) {n : Nat} (hn : (s.2.2 4).getD 0 0 = nI n) (h8 : n ≤ 8) : xMet G d 0 0 m_X9_everyThing [.ref T0] (tw T0 h s) (xI (.int (nI (2 ^ n - 1))) (tw T0 h s)) := by
  refine xMet.of [some (.ref T0)] pl_X9 rfl (Nat.le_of_ble_eq_true rfl) ?_
  refine x_iconst dX9_everyThing_0 1 rfl ?_
  refine x_aload_n dX9_everyThing_1 rfl ?_
  refine t_ga 4 dX9_everyThing_2 f_X9_23_27 (by decide) rfl (by decide) ?_
  refine x_iconst dX9_everyThing_5 0 rfl ?_
  refine t_ia 0 dX9_everyThing_6 hs (by decide) rfl (by decide) hn ?_
  refine x_ishl dX9_everyThing_7 ?_
  refine x_iconst dX9_everyThing_8 1 rfl ?_
  refine x_isub dX9_everyThing_9 ?_
  exact x_ireturn dX9_everyThing_10 rfl (xrv (e2n n h8))
theorem c_isSet (hI : tIn s W) (hW : wOK W) (x : Int32) : xMet G (d + 2) 0 0 m_X9_isSet [.ref T0, .int x] (tw T0 h s) (xI (.int (b2 (decide (isS W x)))) (tw T0 h s)) := by
  refine xMet.of [some (.ref T0), some (.int x)] pl_X9 rfl (Nat.le_of_ble_eq_true rfl) ?_
  refine x_iload_n dX9_isSet_0 rfl ?_
  refine x_iconst dX9_isSet_1 0 rfl ?_
  refine x_aload_n dX9_isSet_2 rfl ?_
  refine xiV0 dX9_isSet_3 v_X9_376_27 tw_get0 (Nat.le_of_ble_eq_true rfl) (c_everyThing hI.1 hI.2.2.2.1.1 hW.2.2.1) ?_
  refine xiS3 dX9_isSet_6 s_X9_126 (Nat.le_of_ble_eq_true rfl) (c_in _ _ _) ?_
  exact x_zreturn dX9_isSet_9 rfl (by cases decide (0 ≤ x ∧ x ≤ nI (2 ^ wN W - 1)) <;> rfl) ⟨rfl, rfl⟩
theorem c_givenBy (hI : tIn s W) (hW : wOK W) (th bound : Int32) : xMet G (d + 1) 0 0 m_X9_givenBy [.ref T0, .int th, .int bound] (tw T0 h s) (xI (.int (gvk (wM W) th bound (wN W))) (tw T0 h s)) := by
  refine xMet.of [some (.ref T0), some (.int th), some (.int bound), none, none] pl_X9 rfl (Nat.le_of_ble_eq_true rfl) ?_
  have hB := hW.2.2.2.2.2.1
  have h8 := hW.2.2.1
  have j448 : tRow 448 := Or.inl rfl
  refine x_iconst dX9_givenBy_0 0 rfl ?_
  refine xsi3 dX9_givenBy_1 (by decide) rfl ?_
  refine x_iconst dX9_givenBy_2 0 rfl ?_
  refine xsi4 dX9_givenBy_3 (by decide) rfl ?_
  refine xfor (fun a => xRun G m_X9_givenBy (d + 1) 0 0 5 [some (.ref T0), some (.int th), some (.int bound), some (.int (gvk (wM W) th bound a)), some (.int (nI a))] [] (tw T0 h s) (xI (.int (gvk (wM W) th bound (wN W))) (tw T0 h s))) (wN W) ?_ ?_
  · intro a ha ih
    have nx : ∀ v, v = (if bt th (nI a) = true then mn bound (wAt (wM W) a) else 0) → xRun G m_X9_givenBy (d + 1) 0 0 43 [some (.ref T0), some (.int th), some (.int bound), some (.int (gvk (wM W) th bound a)), some (.int (nI a))] [.int v, .int (gvk (wM W) th bound a)] (tw T0 h s) (xI (.int (gvk (wM W) th bound (wN W))) (tw T0 h s)) := by
      intro v hv
      subst hv
      refine x_iadd dX9_givenBy_43 ?_
      refine xsi3 dX9_givenBy_44 (by decide) rfl ?_
      refine xinc4 _ dX9_givenBy_45 (by decide) rfl (nI_1 a) ?_
      refine x_goto 5 dX9_givenBy_48 rfl ?_
      exact ih
    refine x_iload dX9_givenBy_5 rfl ?_
    refine x_aload_n dX9_givenBy_7 rfl ?_
    refine t_ga 4 dX9_givenBy_8 f_X9_23_27 (by decide) rfl (by decide) ?_
    refine x_iconst dX9_givenBy_11 0 rfl ?_
    refine t_ia 0 dX9_givenBy_12 hI.1 (by decide) rfl (by decide) hI.2.2.2.1.1 ?_
    refine x_icmp_ge 51 dX9_givenBy_13 rfl (fun hc9 => absurd hc9 (nI_ge ha (by omega))) (fun _ => ?_)
    refine x_iload_n dX9_givenBy_16 rfl ?_
    refine x_iload_n dX9_givenBy_17 rfl ?_
    refine x_at 18 rfl ?_
    refine x_iload dX9_givenBy_18 rfl ?_
    refine xiS2 dX9_givenBy_20 s_X9_345 (Nat.le_of_ble_eq_true rfl) (c_has _ _) ?_
    refine x_if_eq 42 dX9_givenBy_23 rfl (fun c1 => ?_) (fun c1 => ?_)
    · have c2 := b2_eq.mp c1
      refine x_iconst dX9_givenBy_42 0 rfl ?_
      exact nx _ (by rw [c2]; rfl)
    · have c2 := b2_ne.mp c1
      refine x_iload_n dX9_givenBy_26 rfl ?_
      refine x_aload_n dX9_givenBy_27 rfl ?_
      refine t_ga 448 dX9_givenBy_28 f_X9_61_27 (by decide) rfl (by decide) ?_
      refine x_iconst dX9_givenBy_31 0 rfl ?_
      refine x_iload dX9_givenBy_32 rfl ?_
      refine x_iadd dX9_givenBy_34 ?_
      refine t_rj a dX9_givenBy_35 hI.1 j448 hI.2.2.2.2.2.1 (ix_w _) (by omega) (mrow_w hB.1 (by omega)) ?_
      refine xiS2 dX9_givenBy_36 s_X9_235 (Nat.le_of_ble_eq_true rfl) (c_less _ _) ?_
      refine x_at 39 rfl ?_
      refine x_goto 43 dX9_givenBy_39 rfl ?_
      exact nx _ (by rw [if_pos c2])
  · refine x_iload dX9_givenBy_5 rfl ?_
    refine x_aload_n dX9_givenBy_7 rfl ?_
    refine t_ga 4 dX9_givenBy_8 f_X9_23_27 (by decide) rfl (by decide) ?_
    refine x_iconst dX9_givenBy_11 0 rfl ?_
    refine t_ia 0 dX9_givenBy_12 hI.1 (by decide) rfl (by decide) hI.2.2.2.1.1 ?_
    refine x_icmp_ge 51 dX9_givenBy_13 rfl (fun _ => ?_) (fun hc9 => absurd (Int32.le_refl _) hc9)
    refine x_iload_n dX9_givenBy_51 rfl ?_
    exact x_ireturn dX9_givenBy_52 rfl ⟨rfl, rfl⟩
theorem p_share (hI : tIn s W) (hW : wOK W) (hb : G.2.2.1 ≤ T0) (a th x : Int32) : xMet G (d + 3) 0 0 m_X9_share [.ref T0, .int a, .int th, .int x] (tw T0 h s) (tQ T0 h (oShare W a th x)) := by
  refine xMet.of [some (.ref T0), some (.int a), some (.int th), some (.int x), none] pl_X9 rfl (Nat.le_of_ble_eq_true rfl) ?_
  have hI0 := hI.J hW ((tJ.refl hI.1).seti (k := 0) (v := 0) rfl)
  have hm := hI0.2.2.2.2.2.1
  have hB := hW.2.2.2.2.2.1
  have hn := hI0.2.2.2.1.1
  have h8 := hW.2.2.1
  have j448 : tRow 448 := Or.inl rfl
  refine x_aload_n dX9_share_0 rfl ?_
  refine x_iconst dX9_share_1 0 rfl ?_
  refine t_pi dX9_share_2 p_X9_92_27 rfl (by decide) hb ?_
  refine x_aload_n dX9_share_5 rfl ?_
  refine x_aload_n dX9_share_6 rfl ?_
  refine x_iload_n dX9_share_7 rfl ?_
  refine xiV1 dX9_share_8 v_X9_328_27 tw_get0 (Nat.le_of_ble_eq_true rfl) (c_isThing hI0.1 hn _) ?_
  refine x_if_ne 18 dX9_share_11 rfl (fun c1 => ?_) (fun c1 => ?_)
  · have c2 : isT W a := of_decide_eq_true (b2_ne.mp c1)
    have no2 : ¬ (isS W th ∧ 0 ≤ x ∧ x ≤ 999) → xRun G m_X9_share (d + 3) 0 0 47 [some (.ref T0), some (.int a), some (.int th), some (.int x), none] [.ref T0] (tw T0 h (seti s 0 0)) (tQ T0 h (oShare W a th x)) := by
      intro z
      rw [oShare, if_neg (fun q => q c2), if_neg z]
      refine x_iconst dX9_share_47 1 rfl ?_
      refine x_goto 52 dX9_share_48 rfl ?_
      refine x_iconst dX9_share_52 2 rfl ?_
      refine x_iconst dX9_share_53 1 rfl ?_
      refine xiV3 dX9_share_54 v_X9_171_27 tw_get0 (Nat.le_of_ble_eq_true rfl) (c_badT hI0.1 hb rfl _ (by decide) 1 (by decide)) ?_
      refine x_if_eq 62 dX9_share_57 rfl (fun hc9 => absurd hc9 (by decide)) (fun _ => ?_)
      refine x_iconst dX9_share_60 0 rfl ?_
      exact x_ireturn dX9_share_61 rfl (tQ.mk rfl (hI0.ref (by decide)) rfl)
    refine x_iconst dX9_share_18 0 rfl ?_
    refine x_iconst dX9_share_19 1 rfl ?_
    refine x_iconst dX9_share_20 0 rfl ?_
    refine xiV3 dX9_share_21 v_X9_171_27 tw_get0 (Nat.le_of_ble_eq_true rfl) (c_badF hI0.1 hb rfl _ 0 (by decide)) ?_
    refine x_if_ne 60 dX9_share_24 rfl (fun hc9 => absurd (by decide) hc9) (fun _ => ?_)
    refine x_aload_n dX9_share_27 rfl ?_
    refine x_aload_n dX9_share_28 rfl ?_
    refine x_iload_n dX9_share_29 rfl ?_
    refine x_at 30 rfl ?_
    refine xiV1 dX9_share_30 v_X9_379_27 tw_get0 (Nat.le_of_ble_eq_true rfl) (c_isSet hI0 hW _) ?_
    refine x_if_eq 47 dX9_share_33 rfl (fun c3 => ?_) (fun c3 => ?_)
    · exact no2 (fun z => of_decide_eq_false (b2_eq.mp c3) z.1)
    · have c4 := of_decide_eq_true (b2_ne.mp c3)
      refine x_iload_n dX9_share_36 rfl ?_
      refine x_iconst dX9_share_37 0 rfl ?_
      refine x_sipush dX9_share_38 999 (by decide) ?_
      refine xiS3 dX9_share_41 s_X9_126 (Nat.le_of_ble_eq_true rfl) (c_in _ _ _) ?_
      refine x_if_ne 51 dX9_share_44 rfl (fun c5 => ?_) (fun c5 => ?_)
      · have c6 := of_decide_eq_true (b2_ne.mp c5)
        rw [oShare, if_neg (fun q => q c2), if_pos ⟨c4, c6⟩]
        obtain ⟨t, ht, rfl, et⟩ := isT_ix hW c2
        rw [et]
        refine x_iconst dX9_share_51 0 rfl ?_
        refine x_iconst dX9_share_52 2 rfl ?_
        refine x_iconst dX9_share_53 1 rfl ?_
        refine xiV3 dX9_share_54 v_X9_171_27 tw_get0 (Nat.le_of_ble_eq_true rfl) (c_badF hI0.1 hb rfl _ 1 (by decide)) ?_
        refine x_if_eq 62 dX9_share_57 rfl (fun _ => ?_) (fun hc9 => absurd (rfl) hc9)
        refine x_iconst dX9_share_62 0 rfl ?_
        refine xsi4 dX9_share_63 (by decide) rfl ?_
        generalize hR : shF (wM W) (wN W) th x 60 0 = R
        have fin : xRun G m_X9_share (d + 3) 0 0 91 [some (.ref T0), some (.int (nI t)), some (.int th), some (.int x), some (.int (nI R))] [] (tw T0 h (seti s 0 0)) (tQ T0 h (0, if bt th (nI t) = true then mn (nI R) (wAt (wM W) t) else 0, W)) := by
          refine x_iload_n dX9_share_91 rfl ?_
          refine x_iload_n dX9_share_92 rfl ?_
          refine xiS2 dX9_share_93 s_X9_345 (Nat.le_of_ble_eq_true rfl) (c_has _ _) ?_
          refine x_if_eq 115 dX9_share_96 rfl (fun c7 => ?_) (fun c7 => ?_)
          · have c8 := b2_eq.mp c7
            refine x_iconst dX9_share_115 0 rfl ?_
            exact x_ireturn dX9_share_116 rfl (tQ.mk (show _ = (if bt th (nI t) = true then _ else _) by rw [c8]; rfl) hI0 rfl)
          · have c8 := b2_ne.mp c7
            refine x_iload dX9_share_99 rfl ?_
            refine x_aload_n dX9_share_101 rfl ?_
            refine t_ga 448 dX9_share_102 f_X9_61_27 (by decide) rfl (by decide) ?_
            refine x_iconst dX9_share_105 0 rfl ?_
            refine x_iload_n dX9_share_106 rfl ?_
            refine x_iadd dX9_share_107 ?_
            refine t_rj t dX9_share_108 hI0.1 j448 hm (ix_w _) (by omega) (mrow_w hB.1 (by omega)) ?_
            refine xiS2 dX9_share_109 s_X9_235 (Nat.le_of_ble_eq_true rfl) (c_less _ _) ?_
            refine x_at 112 rfl ?_
            refine x_goto 116 dX9_share_112 rfl ?_
            exact x_ireturn dX9_share_116 rfl (tQ.mk (show _ = (if bt th (nI t) = true then _ else _) by rw [if_pos c8]) hI0 rfl)
        have loop : ∀ k b, b + k = 60 → shF (wM W) (wN W) th x k b = R → xRun G m_X9_share (d + 3) 0 0 65 [some (.ref T0), some (.int (nI t)), some (.int th), some (.int x), some (.int (nI b))] [] (tw T0 h (seti s 0 0)) (tQ T0 h (0, if bt th (nI t) = true then mn (nI R) (wAt (wM W) t) else 0, W)) := by
          intro k
          induction k with
          | zero =>
            intro b hb60 e
            have e2 : b = 60 := by omega
            have e3 : R = b := e.symm
            subst e3
            rw [e2] at fin ⊢
            refine x_iload dX9_share_65 rfl ?_
            refine x_bipush dX9_share_67 60 (by decide) ?_
            refine x_icmp_ge 91 dX9_share_69 rfl (fun _ => ?_) (fun hc9 => absurd (Int32.le_refl _) hc9)
            exact fin
          | succ k ih =>
            intro b hb60 e
            refine x_iload dX9_share_65 rfl ?_
            refine x_bipush dX9_share_67 60 (by decide) ?_
            refine x_icmp_ge 91 dX9_share_69 rfl (fun hc9 => absurd hc9 (nI_ge (b := 60) (by omega) (by decide))) (fun _ => ?_)
            refine x_aload_n dX9_share_72 rfl ?_
            refine x_iload_n dX9_share_73 rfl ?_
            refine x_iload dX9_share_74 rfl ?_
            refine x_iconst dX9_share_76 1 rfl ?_
            refine x_iadd dX9_share_77 ?_
            rw [nI_1]
            refine xiV2 dX9_share_78 v_X9_401_27 tw_get0 (Nat.le_of_ble_eq_true rfl) (c_givenBy hI0 hW _ _) ?_
            refine x_iload_n dX9_share_81 rfl ?_
            refine x_icmp_gt 91 dX9_share_82 rfl (fun c7 => ?_) (fun c7 => ?_)
            · rw [shF, if_neg (Int32.not_le.mpr c7)] at e
              rw [e]
              exact fin
            · rw [shF, if_pos (Int32.not_lt.mp c7)] at e
              refine xinc4 _ dX9_share_85 (by decide) rfl (nI_1 b) ?_
              refine x_goto 65 dX9_share_88 rfl ?_
              exact ih (b + 1) (by omega) e
        exact loop 60 0 rfl hR
      · exact no2 (fun z => of_decide_eq_false (b2_eq.mp c5) z.2)
  · have c2 : ¬ isT W a := of_decide_eq_false (b2_eq.mp c1)
    rw [oShare, if_pos c2]
    refine x_iconst dX9_share_14 1 rfl ?_
    refine x_goto 19 dX9_share_15 rfl ?_
    refine x_iconst dX9_share_19 1 rfl ?_
    refine x_iconst dX9_share_20 0 rfl ?_
    refine xiV3 dX9_share_21 v_X9_171_27 tw_get0 (Nat.le_of_ble_eq_true rfl) (c_badT hI0.1 hb rfl _ (by decide) 0 (by decide)) ?_
    refine x_if_ne 60 dX9_share_24 rfl (fun _ => ?_) (fun hc9 => absurd hc9 (by decide))
    refine x_iconst dX9_share_60 0 rfl ?_
    exact x_ireturn dX9_share_61 rfl (tQ.mk rfl (hI0.ref (by decide)) rfl)
end TE
