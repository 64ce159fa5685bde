set_option maxRecDepth 100000
/-! ===== the twin, 9: more answers ===== -/
section TP9
variable {G : xG} {d : Nat} {h : xH} {T0 : Nat} {s : tS} {W : Wd}
theorem p_cry (hI : tIn s W) (hW : wOK W) (hb : G.2.2.1 ≤ T0) (c x : Int32) : xMet G (d + 2) 0 0 m_X9_cry [.ref T0, .int c, .int x] (tw T0 h s) (tQ T0 h (oCry W c x)) := by
  refine xMet.of [some (.ref T0), some (.int c), some (.int x)] pl_X9 rfl (Nat.le_of_ble_eq_true rfl) ?_
  have hI0 := hI.J hW ((tJ.refl hI.1).seti (k := 0) (v := 0) rfl)
  have hm := hI0.2.2.2.2.2.1
  have hB := hW.2.2.2.2.2.1
  have j448 : tRow 448 := Or.inl rfl
  have h10 := hB.1.2.2
  refine x_aload_n dX9_cry_0 rfl ?_
  refine x_iconst dX9_cry_1 0 rfl ?_
  refine t_pi dX9_cry_2 p_X9_92_27 rfl (by decide) hb ?_
  refine x_aload_n dX9_cry_5 rfl ?_
  refine x_iload_n dX9_cry_6 rfl ?_
  refine x_iconst dX9_cry_7 0 rfl ?_
  refine x_aload_n dX9_cry_8 rfl ?_
  refine t_ga 448 dX9_cry_9 f_X9_61_27 (by decide) rfl (by decide) ?_
  refine x_at 12 rfl ?_
  refine x_bipush dX9_cry_12 56 (by decide) ?_
  refine t_rj 56 dX9_cry_14 hI0.1 j448 hm rfl (by decide) (mrow_n hB.1) ?_
  refine x_iconst dX9_cry_15 1 rfl ?_
  refine x_isub dX9_cry_16 ?_
  refine xiS3 dX9_cry_17 s_X9_126 (Nat.le_of_ble_eq_true rfl) (c_in _ _ _) ?_
  refine x_if_ne 27 dX9_cry_20 rfl (fun c1 => ?_) (fun c1 => ?_)
  · have c2 := of_decide_eq_true (b2_ne.mp c1)
    rw [oCry, if_neg (fun q => q c2)]
    obtain ⟨t, ht, rfl, et⟩ : ∃ k, k < (wM W).2.2.1.length ∧ c = nI k ∧ iN c = k := by
      cases hn : (wM W).2.2.1.length with
      | zero =>
        rw [hn] at c2
        exact absurd (Int32.le_trans c2.1 c2.2) (by decide)
      | succ m =>
        rw [hn, nI_pred] at c2
        obtain ⟨k, hk, e1, e2⟩ := inN m (m := nI m) (by rw [nI_toInt (by omega)]) (by omega) c2
        exact ⟨k, by omega, e1, e2⟩
    rw [et]
    refine x_iconst dX9_cry_27 0 rfl ?_
    refine x_iconst dX9_cry_28 1 rfl ?_
    refine x_iconst dX9_cry_29 0 rfl ?_
    refine xiV3 dX9_cry_30 v_X9_171_27 tw_get0 (Nat.le_of_ble_eq_true rfl) (c_badF hI0.1 hb rfl _ 0 (by decide)) ?_
    refine x_if_ne 59 dX9_cry_33 rfl (fun hc9 => absurd (by decide) hc9) (fun _ => ?_)
    refine x_aload_n dX9_cry_36 rfl ?_
    refine x_iload_n dX9_cry_37 rfl ?_
    refine x_iconst dX9_cry_38 0 rfl ?_
    refine x_at 39 rfl ?_
    refine x_iconst dX9_cry_39 3 rfl ?_
    refine xiS3 dX9_cry_40 s_X9_126 (Nat.le_of_ble_eq_true rfl) (c_in _ _ _) ?_
    refine x_if_ne 50 dX9_cry_43 rfl (fun c3 => ?_) (fun c3 => ?_)
    · have c4 := of_decide_eq_true (b2_ne.mp c3)
      rw [if_pos c4]
      obtain ⟨k, hk, rfl, e⟩ := inN 3 (by decide) (by decide) c4
      rw [e]
      refine x_iconst dX9_cry_50 0 rfl ?_
      refine x_iconst dX9_cry_51 2 rfl ?_
      refine x_iconst dX9_cry_52 1 rfl ?_
      refine xiV3 dX9_cry_53 v_X9_171_27 tw_get0 (Nat.le_of_ble_eq_true rfl) (c_badF hI0.1 hb rfl _ 1 (by decide)) ?_
      refine x_if_eq 61 dX9_cry_56 rfl (fun _ => ?_) (fun hc9 => absurd (rfl) hc9)
      refine x_aload_n dX9_cry_61 rfl ?_
      refine t_ga 448 dX9_cry_62 f_X9_61_27 (by decide) rfl (by decide) ?_
      refine x_bipush dX9_cry_65 16 (by decide) ?_
      refine x_at 67 rfl ?_
      refine x_iconst dX9_cry_67 4 rfl ?_
      refine x_iload_n dX9_cry_68 rfl ?_
      refine x_imul dX9_cry_69 ?_
      refine x_iadd dX9_cry_70 ?_
      refine x_iload_n dX9_cry_71 rfl ?_
      refine x_iadd dX9_cry_72 ?_
      have hq : k = 0 ∨ k = 1 ∨ k = 2 ∨ k = 3 := by omega
      rcases hq with rfl | rfl | rfl | rfl
      · refine t_rj (16 + 4 * t) dX9_cry_73 hI0.1 j448 hm (ix_ck _ 0) (by omega) (mr_a hB.1 ht) ?_
        exact x_ireturn dX9_cry_74 rfl (tQ.mk rfl hI0 rfl)
      · refine t_rj (16 + 4 * t + 1) dX9_cry_73 hI0.1 j448 hm (ix_ck _ 1) (by omega) (mr_n hB.1 ht) ?_
        exact x_ireturn dX9_cry_74 rfl (tQ.mk rfl hI0 rfl)
      · refine t_rj (16 + 4 * t + 2) dX9_cry_73 hI0.1 j448 hm (ix_ck _ 2) (by omega) (mr_b hB.1 ht) ?_
        exact x_ireturn dX9_cry_74 rfl (tQ.mk rfl hI0 rfl)
      · refine t_rj (16 + 4 * t + 3) dX9_cry_73 hI0.1 j448 hm (ix_ck _ 3) (by omega) (mr_m hB.1 ht) ?_
        exact x_ireturn dX9_cry_74 rfl (tQ.mk rfl hI0 rfl)
    · have c4 := of_decide_eq_false (b2_eq.mp c3)
      rw [if_neg c4]
      refine x_iconst dX9_cry_46 1 rfl ?_
      refine x_goto 51 dX9_cry_47 rfl ?_
      refine x_iconst dX9_cry_51 2 rfl ?_
      refine x_iconst dX9_cry_52 1 rfl ?_
      refine xiV3 dX9_cry_53 v_X9_171_27 tw_get0 (Nat.le_of_ble_eq_true rfl) (c_badT hI0.1 hb rfl _ (by decide) 1 (by decide)) ?_
      refine x_if_eq 61 dX9_cry_56 rfl (fun hc9 => absurd hc9 (by decide)) (fun _ => ?_)
      refine x_iconst dX9_cry_59 0 rfl ?_
      exact x_ireturn dX9_cry_60 rfl (tQ.mk rfl (hI0.ref (by decide)) rfl)
  · have c2 := of_decide_eq_false (b2_eq.mp c1)
    rw [oCry, if_pos c2]
    refine x_iconst dX9_cry_23 1 rfl ?_
    refine x_goto 28 dX9_cry_24 rfl ?_
    refine x_iconst dX9_cry_28 1 rfl ?_
    refine x_iconst dX9_cry_29 0 rfl ?_
    refine xiV3 dX9_cry_30 v_X9_171_27 tw_get0 (Nat.le_of_ble_eq_true rfl) (c_badT hI0.1 hb rfl _ (by decide) 0 (by decide)) ?_
    refine x_if_ne 59 dX9_cry_33 rfl (fun _ => ?_) (fun hc9 => absurd hc9 (by decide))
    refine x_iconst dX9_cry_59 0 rfl ?_
    exact x_ireturn dX9_cry_60 rfl (tQ.mk rfl (hI0.ref (by decide)) rfl)
theorem in19 {x : Int32} {lo : Nat} (hi : Nat) {m l : Int32} (hl : l = nI lo) (hm : m.toInt = hi) (hh : hi < 2 ^ 31) (h : l ≤ x ∧ x ≤ m) (h0 : lo ≤ hi) : ∃ k, lo ≤ k ∧ k ≤ hi ∧ x = nI k ∧ iN x = k := by
  subst hl
  have h1 : 0 ≤ x := Int32.le_trans (nI_le (a := 0) (Nat.zero_le _) (by omega)) h.1
  obtain ⟨k, hk, e1, e2⟩ := inN hi hm hh ⟨h1, h.2⟩
  refine ⟨k, ?_, hk, e1, e2⟩
  have := h.1
  rw [e1] at this
  exact (nI_leI (by omega) (by omega)).mp this
theorem p_stands (hI : tIn s W) (hW : wOK W) (hb : G.2.2.1 ≤ T0) (a n b m : Int32) : xMet G (d + 2) 0 0 m_X9_stands [.ref T0, .int a, .int n, .int b, .int m] (tw T0 h s) (tQ T0 h (oStands W a n b m)) := by
  refine xMet.of [some (.ref T0), some (.int a), some (.int n), some (.int b), some (.int m)] pl_X9 rfl (Nat.le_of_ble_eq_true rfl) ?_
  have hI0 := hI.J hW ((tJ.refl hI.1).seti (k := 0) (v := 0) rfl)
  have hm := hI0.2.2.2.2.2.1
  have hB := hW.2.2.2.2.2.1
  have hn := hI0.2.2.2.1.1
  have h8 := hW.2.2.1
  have j448 : tRow 448 := Or.inl rfl
  have no : ¬ (isT W a ∧ isT W b) → xRun G m_X9_stands (d + 2) 0 0 22 [some (.ref T0), some (.int a), some (.int n), some (.int b), some (.int m)] [.ref T0] (tw T0 h (seti s 0 0)) (tQ T0 h (oStands W a n b m)) := by
    intro q
    rw [oStands, if_pos q]
    refine x_iconst dX9_stands_22 1 rfl ?_
    refine x_goto 27 dX9_stands_23 rfl ?_
    refine x_iconst dX9_stands_27 1 rfl ?_
    refine x_iconst dX9_stands_28 0 rfl ?_
    refine xiV3 dX9_stands_29 v_X9_171_27 tw_get0 (Nat.le_of_ble_eq_true rfl) (c_badT hI0.1 hb rfl _ (by decide) 0 (by decide)) ?_
    refine x_if_ne 70 dX9_stands_32 rfl (fun _ => ?_) (fun hc9 => absurd hc9 (by decide))
    refine x_iconst dX9_stands_70 0 rfl ?_
    exact x_ireturn dX9_stands_71 rfl (tQ.mk rfl (hI0.ref (by decide)) rfl)
  have no2 : (isT W a ∧ isT W b) → ¬ ((1 ≤ n ∧ n ≤ 9) ∧ 1 ≤ m ∧ m ≤ 9) → xRun G m_X9_stands (d + 2) 0 0 57 [some (.ref T0), some (.int a), some (.int n), some (.int b), some (.int m)] [.ref T0] (tw T0 h (seti s 0 0)) (tQ T0 h (oStands W a n b m)) := by
    intro q q2
    rw [oStands, if_neg (fun r => r q), if_neg q2]
    refine x_iconst dX9_stands_57 1 rfl ?_
    refine x_goto 62 dX9_stands_58 rfl ?_
    refine x_iconst dX9_stands_62 2 rfl ?_
    refine x_iconst dX9_stands_63 1 rfl ?_
    refine xiV3 dX9_stands_64 v_X9_171_27 tw_get0 (Nat.le_of_ble_eq_true rfl) (c_badT hI0.1 hb rfl _ (by decide) 1 (by decide)) ?_
    refine x_if_eq 72 dX9_stands_67 rfl (fun hc9 => absurd hc9 (by decide)) (fun _ => ?_)
    refine x_iconst dX9_stands_70 0 rfl ?_
    exact x_ireturn dX9_stands_71 rfl (tQ.mk rfl (hI0.ref (by decide)) rfl)
  refine x_aload_n dX9_stands_0 rfl ?_
  refine x_iconst dX9_stands_1 0 rfl ?_
  refine t_pi dX9_stands_2 p_X9_92_27 rfl (by decide) hb ?_
  refine x_aload_n dX9_stands_5 rfl ?_
  refine x_aload_n dX9_stands_6 rfl ?_
  refine x_iload_n dX9_stands_7 rfl ?_
  refine xiV1 dX9_stands_8 v_X9_328_27 tw_get0 (Nat.le_of_ble_eq_true rfl) (c_isThing hI0.1 hn _) ?_
  refine x_if_eq 22 dX9_stands_11 rfl (fun c1 => ?_) (fun c1 => ?_)
  · have c2 : ¬ isT W a := of_decide_eq_false (b2_eq.mp c1)
    exact no (fun q => c2 q.1)
  · have c2 : isT W a := of_decide_eq_true (b2_ne.mp c1)
    refine x_aload_n dX9_stands_14 rfl ?_
    refine x_iload_n dX9_stands_15 rfl ?_
    refine xiV1 dX9_stands_16 v_X9_328_27 tw_get0 (Nat.le_of_ble_eq_true rfl) (c_isThing hI0.1 hn _) ?_
    refine x_if_ne 26 dX9_stands_19 rfl (fun c3 => ?_) (fun c3 => ?_)
    · have c4 : isT W b := of_decide_eq_true (b2_ne.mp c3)
      refine x_iconst dX9_stands_26 0 rfl ?_
      refine x_iconst dX9_stands_27 1 rfl ?_
      refine x_iconst dX9_stands_28 0 rfl ?_
      refine xiV3 dX9_stands_29 v_X9_171_27 tw_get0 (Nat.le_of_ble_eq_true rfl) (c_badF hI0.1 hb rfl _ 0 (by decide)) ?_
      refine x_if_ne 70 dX9_stands_32 rfl (fun hc9 => absurd (by decide) hc9) (fun _ => ?_)
      refine x_aload_n dX9_stands_35 rfl ?_
      refine x_iload_n dX9_stands_36 rfl ?_
      refine x_iconst dX9_stands_37 1 rfl ?_
      refine x_at 38 rfl ?_
      refine x_bipush dX9_stands_38 9 (by decide) ?_
      refine xiS3 dX9_stands_40 s_X9_126 (Nat.le_of_ble_eq_true rfl) (c_in _ _ _) ?_
      refine x_if_eq 57 dX9_stands_43 rfl (fun c5 => ?_) (fun c5 => ?_)
      · have c6 := of_decide_eq_false (b2_eq.mp c5)
        exact no2 ⟨c2, c4⟩ (fun q => c6 q.1)
      · have c6 := of_decide_eq_true (b2_ne.mp c5)
        refine x_iload dX9_stands_46 rfl ?_
        refine x_iconst dX9_stands_48 1 rfl ?_
        refine x_bipush dX9_stands_49 9 (by decide) ?_
        refine xiS3 dX9_stands_51 s_X9_126 (Nat.le_of_ble_eq_true rfl) (c_in _ _ _) ?_
        refine x_if_ne 61 dX9_stands_54 rfl (fun c7 => ?_) (fun c7 => ?_)
        · have c8 := of_decide_eq_true (b2_ne.mp c7)
          rw [oStands, if_neg (fun r => r ⟨c2, c4⟩), if_pos ⟨c6, c8⟩]
          obtain ⟨t, ht, rfl, et⟩ := isT_ix hW c2
          obtain ⟨u, hu, rfl, eu⟩ := isT_ix hW c4
          obtain ⟨k, hk1, hk2, rfl, ek⟩ := in19 9 (lo := 1) rfl (by decide) (by decide) c6 (by decide)
          obtain ⟨l, hl1, hl2, rfl, el⟩ := in19 9 (lo := 1) rfl (by decide) (by decide) c8 (by decide)
          rw [et, eu, ek, el]
          refine x_iconst dX9_stands_61 0 rfl ?_
          refine x_iconst dX9_stands_62 2 rfl ?_
          refine x_iconst dX9_stands_63 1 rfl ?_
          refine xiV3 dX9_stands_64 v_X9_171_27 tw_get0 (Nat.le_of_ble_eq_true rfl) (c_badF hI0.1 hb rfl _ 1 (by decide)) ?_
          refine x_if_eq 72 dX9_stands_67 rfl (fun _ => ?_) (fun hc9 => absurd (rfl) hc9)
          refine x_aload_n dX9_stands_72 rfl ?_
          refine x_aload_n dX9_stands_73 rfl ?_
          refine t_ga 448 dX9_stands_74 f_X9_61_27 (by decide) rfl (by decide) ?_
          refine x_at 77 rfl ?_
          refine x_iload_n dX9_stands_77 rfl ?_
          refine x_iload_n dX9_stands_78 rfl ?_
          refine x_iload_n dX9_stands_79 rfl ?_
          refine x_iload dX9_stands_80 rfl ?_
          refine xiV5 dX9_stands_82 v_X9_271_27 tw_get0 (Nat.le_of_ble_eq_true rfl) (c_standsIn hI0.1 j448 hm hB.1 hI0.2.2.2.1.2.1 t k u l (by omega) (by omega)) ?_
          exact x_ireturn dX9_stands_85 rfl (tQ.mk rfl hI0 rfl)
        · have c8 := of_decide_eq_false (b2_eq.mp c7)
          exact no2 ⟨c2, c4⟩ (fun q => c8 q.2)
    · have c4 : ¬ isT W b := of_decide_eq_false (b2_eq.mp c3)
      exact no (fun q => c4 q.2)
theorem p_would (hI : tIn s W) (hW : wOK W) (hb : G.2.2.1 ≤ T0) (a1 a2 a3 a4 a5 a6 a7 : Int32) : xMet G (d + 4) 0 0 m_X9_would [.ref T0, .int a1, .int a2, .int a3, .int a4, .int a5, .int a6, .int a7] (tw T0 h s) (tQ T0 h (oWould W a1 a2 a3 a4 a5 a6 a7)) := by
  refine xMet.of [some (.ref T0), some (.int a1), some (.int a2), some (.int a3), some (.int a4), some (.int a5), some (.int a6), some (.int a7)] pl_X9 rfl (Nat.le_of_ble_eq_true rfl) ?_
  have hI0 := hI.J hW ((tJ.refl hI.1).seti (k := 0) (v := 0) rfl)
  have no : ¬ ((1 ≤ a1 ∧ a1 ≤ 60) ∧ (0 ≤ a2 ∧ a2 ≤ 999) ∧ (0 ≤ a3 ∧ a3 ≤ 10) ∧ (0 ≤ a4 ∧ a4 ≤ 7) ∧ (0 ≤ a5 ∧ a5 ≤ 300) ∧ (0 ≤ a6 ∧ a6 ≤ 18) ∧ 0 ≤ a7 ∧ a7 ≤ 9) → xRun G m_X9_would (d + 4) 0 0 82 [some (.ref T0), some (.int a1), some (.int a2), some (.int a3), some (.int a4), some (.int a5), some (.int a6), some (.int a7)] [.ref T0] (tw T0 h (seti s 0 0)) (tQ T0 h (oWould W a1 a2 a3 a4 a5 a6 a7)) := by
    intro q
    rw [oWould, if_neg q]
    refine x_iconst dX9_would_82 1 rfl ?_
    refine x_goto 87 dX9_would_83 rfl ?_
    refine x_iconst dX9_would_87 1 rfl ?_
    refine x_iconst dX9_would_88 1 rfl ?_
    refine xiV3 dX9_would_89 v_X9_171_27 tw_get0 (Nat.le_of_ble_eq_true rfl) (c_badT hI0.1 hb rfl _ (by decide) 1 (by decide)) ?_
    refine x_if_eq 97 dX9_would_92 rfl (fun hc9 => absurd hc9 (by decide)) (fun _ => ?_)
    refine x_iconst dX9_would_95 0 rfl ?_
    exact x_ireturn dX9_would_96 rfl (tQ.mk rfl (hI0.ref (by decide)) rfl)
  refine x_aload_n dX9_would_0 rfl ?_
  refine x_iconst dX9_would_1 0 rfl ?_
  refine t_pi dX9_would_2 p_X9_92_27 rfl (by decide) hb ?_
  refine x_aload_n dX9_would_5 rfl ?_
  refine x_iload_n dX9_would_6 rfl ?_
  refine x_iconst dX9_would_7 1 rfl ?_
  refine x_bipush dX9_would_8 60 (by decide) ?_
  refine xiS3 dX9_would_10 s_X9_126 (Nat.le_of_ble_eq_true rfl) (c_in _ _ _) ?_
  refine x_at 13 rfl ?_
  refine x_if_eq 82 dX9_would_13 rfl (fun c => ?_) (fun c => ?_)
  · exact no (fun q => of_decide_eq_false (b2_eq.mp c) q.1)
  · have b1 := of_decide_eq_true (b2_ne.mp c)
    clear c
    refine x_iload_n dX9_would_16 rfl ?_
    refine x_iconst dX9_would_17 0 rfl ?_
    refine x_sipush dX9_would_18 999 (by decide) ?_
    refine xiS3 dX9_would_21 s_X9_126 (Nat.le_of_ble_eq_true rfl) (c_in _ _ _) ?_
    refine x_if_eq 82 dX9_would_24 rfl (fun c => ?_) (fun c => ?_)
    · exact no (fun q => of_decide_eq_false (b2_eq.mp c) q.2.1)
    · have b2' := of_decide_eq_true (b2_ne.mp c)
      clear c
      refine x_iload_n dX9_would_27 rfl ?_
      refine x_iconst dX9_would_28 0 rfl ?_
      refine x_bipush dX9_would_29 10 (by decide) ?_
      refine xiS3 dX9_would_31 s_X9_126 (Nat.le_of_ble_eq_true rfl) (c_in _ _ _) ?_
      refine x_if_eq 82 dX9_would_34 rfl (fun c => ?_) (fun c => ?_)
      · exact no (fun q => of_decide_eq_false (b2_eq.mp c) q.2.2.1)
      · have b3 := of_decide_eq_true (b2_ne.mp c)
        clear c
        refine x_iload dX9_would_37 rfl ?_
        refine x_iconst dX9_would_39 0 rfl ?_
        refine x_bipush dX9_would_40 7 (by decide) ?_
        refine xiS3 dX9_would_42 s_X9_126 (Nat.le_of_ble_eq_true rfl) (c_in _ _ _) ?_
        refine x_if_eq 82 dX9_would_45 rfl (fun c => ?_) (fun c => ?_)
        · exact no (fun q => of_decide_eq_false (b2_eq.mp c) q.2.2.2.1)
        · have b4 := of_decide_eq_true (b2_ne.mp c)
          clear c
          refine x_iload dX9_would_48 rfl ?_
          refine x_iconst dX9_would_50 0 rfl ?_
          refine x_sipush dX9_would_51 300 (by decide) ?_
          refine xiS3 dX9_would_54 s_X9_126 (Nat.le_of_ble_eq_true rfl) (c_in _ _ _) ?_
          refine x_if_eq 82 dX9_would_57 rfl (fun c => ?_) (fun c => ?_)
          · exact no (fun q => of_decide_eq_false (b2_eq.mp c) q.2.2.2.2.1)
          · have b5 := of_decide_eq_true (b2_ne.mp c)
            clear c
            refine x_iload dX9_would_60 rfl ?_
            refine x_iconst dX9_would_62 0 rfl ?_
            refine x_bipush dX9_would_63 18 (by decide) ?_
            refine xiS3 dX9_would_65 s_X9_126 (Nat.le_of_ble_eq_true rfl) (c_in _ _ _) ?_
            refine x_if_eq 82 dX9_would_68 rfl (fun c => ?_) (fun c => ?_)
            · exact no (fun q => of_decide_eq_false (b2_eq.mp c) q.2.2.2.2.2.1)
            · have b6 := of_decide_eq_true (b2_ne.mp c)
              clear c
              refine x_iload dX9_would_71 rfl ?_
              refine x_iconst dX9_would_73 0 rfl ?_
              refine x_bipush dX9_would_74 9 (by decide) ?_
              refine xiS3 dX9_would_76 s_X9_126 (Nat.le_of_ble_eq_true rfl) (c_in _ _ _) ?_
              refine x_if_ne 86 dX9_would_79 rfl (fun c => ?_) (fun c => ?_)
              · have b7 := of_decide_eq_true (b2_ne.mp c)
                rw [oWould, if_pos ⟨b1, b2', b3, b4, b5, b6, b7⟩]
                refine x_iconst dX9_would_86 0 rfl ?_
                refine x_iconst dX9_would_87 1 rfl ?_
                refine x_iconst dX9_would_88 1 rfl ?_
                refine xiV3 dX9_would_89 v_X9_171_27 tw_get0 (Nat.le_of_ble_eq_true rfl) (c_badF hI0.1 hb rfl _ 1 (by decide)) ?_
                refine x_if_eq 97 dX9_would_92 rfl (fun _ => ?_) (fun hc9 => absurd (rfl) hc9)
                refine x_aload_n dX9_would_97 rfl ?_
                refine x_iload_n dX9_would_98 rfl ?_
                refine x_iload_n dX9_would_99 rfl ?_
                refine x_at 100 rfl ?_
                refine x_iload_n dX9_would_100 rfl ?_
                refine x_iload dX9_would_101 rfl ?_
                refine x_iload dX9_would_103 rfl ?_
                refine x_iload dX9_would_105 rfl ?_
                refine x_iload dX9_would_107 rfl ?_
                refine xpV7 dX9_would_109 v_X9_263_27 tw_get0 (Nat.le_of_ble_eq_true rfl) (c_wearBy hI0.1 hb hI0.2.2.2.2.1 _ _ _ _ _ _ _) (by omega) (by omega) (fun v h1 hF => ?_)
                obtain ⟨hv, s2, rfl, hE⟩ := hF
                subst hv
                exact x_ireturn dX9_would_112 rfl (tQ.mk rfl (hI0.J hW (tJ.of hE (by decide))) (by rw [hE.1]; rfl))
              · exact no (fun q => of_decide_eq_false (b2_eq.mp c) q.2.2.2.2.2.2)
theorem p_heaviest (hI : tIn s W) (hW : wOK W) (hb : G.2.2.1 ≤ T0) (x : Int32) : xMet G (d + 2) 0 0 m_X9_heaviest [.ref T0, .int x] (tw T0 h s) (tQ T0 h (oHeaviest W x)) := by
  refine xMet.of [some (.ref T0), some (.int x), none] pl_X9 rfl (Nat.le_of_ble_eq_true rfl) ?_
  have hI0 := hI.J hW ((tJ.refl hI.1).seti (k := 0) (v := 0) rfl)
  have hm := hI0.2.2.2.2.2.1
  have hB := hW.2.2.2.2.2.1
  have hn := hI0.2.2.2.1.1
  have h8 := hW.2.2.1
  have j448 : tRow 448 := Or.inl rfl
  refine x_aload_n dX9_heaviest_0 rfl ?_
  refine x_iconst dX9_heaviest_1 0 rfl ?_
  refine t_pi dX9_heaviest_2 p_X9_92_27 rfl (by decide) hb ?_
  refine x_aload_n dX9_heaviest_5 rfl ?_
  refine x_iload_n dX9_heaviest_6 rfl ?_
  refine x_iconst dX9_heaviest_7 0 rfl ?_
  refine x_iconst dX9_heaviest_8 1 rfl ?_
  refine xiS3 dX9_heaviest_9 s_X9_126 (Nat.le_of_ble_eq_true rfl) (c_in _ _ _) ?_
  refine x_at 12 rfl ?_
  refine x_if_ne 19 dX9_heaviest_12 rfl (fun c1 => ?_) (fun c1 => ?_)
  · have c2 := of_decide_eq_true (b2_ne.mp c1)
    rw [oHeaviest, if_pos c2]
    refine x_iconst dX9_heaviest_19 0 rfl ?_
    refine x_iconst dX9_heaviest_20 1 rfl ?_
    refine x_iconst dX9_heaviest_21 1 rfl ?_
    refine xiV3 dX9_heaviest_22 v_X9_171_27 tw_get0 (Nat.le_of_ble_eq_true rfl) (c_badF hI0.1 hb rfl _ 1 (by decide)) ?_
    refine x_if_eq 30 dX9_heaviest_25 rfl (fun _ => ?_) (fun hc9 => absurd (rfl) hc9)
    refine x_aload_n dX9_heaviest_30 rfl ?_
    refine x_aload_n dX9_heaviest_31 rfl ?_
    refine t_ga 448 dX9_heaviest_32 f_X9_61_27 (by decide) rfl (by decide) ?_
    refine x_at 35 rfl ?_
    refine xiV1 dX9_heaviest_35 v_X9_331_27 tw_get0 (Nat.le_of_ble_eq_true rfl) (c_heaviestIn hI0.1 j448 hm hB.1 hn h8) ?_
    refine xsi2 dX9_heaviest_38 (by decide) rfl ?_
    cases hk : hvk (wM W) (wN W) with
    | none =>
      refine x_iload_n dX9_heaviest_39 rfl ?_
      refine x_if_eq 48 dX9_heaviest_40 rfl (fun c3 => ?_) (fun c3 => ?_)
      · refine x_iload_n dX9_heaviest_48 rfl ?_
        refine x_goto 60 dX9_heaviest_49 rfl ?_
        exact x_ireturn dX9_heaviest_60 rfl (tQ.mk rfl hI0 rfl)
      · refine x_iload_n dX9_heaviest_43 rfl ?_
        refine x_iconst dX9_heaviest_44 (-1) rfl ?_
        refine x_icmp_ne 52 dX9_heaviest_45 rfl (fun hc9 => absurd (rfl) hc9) (fun _ => ?_)
        refine x_iload_n dX9_heaviest_48 rfl ?_
        refine x_goto 60 dX9_heaviest_49 rfl ?_
        exact x_ireturn dX9_heaviest_60 rfl (tQ.mk rfl hI0 rfl)
    | some b =>
      have hb9 := hvk_lt _ _ hk
      refine x_iload_n dX9_heaviest_39 rfl ?_
      refine x_if_eq 48 dX9_heaviest_40 rfl (fun c3 => ?_) (fun c3 => ?_)
      · refine x_iload_n dX9_heaviest_48 rfl ?_
        refine x_goto 60 dX9_heaviest_49 rfl ?_
        exact x_ireturn dX9_heaviest_60 rfl (tQ.mk (show nI b = (if x = 0 then _ else _) by rw [if_pos c3]) hI0 rfl)
      · refine x_iload_n dX9_heaviest_43 rfl ?_
        refine x_iconst dX9_heaviest_44 (-1) rfl ?_
        refine x_icmp_ne 52 dX9_heaviest_45 rfl (fun _ => ?_) (fun hc9 => absurd hc9 (oN_ne (by omega)))
        refine x_aload_n dX9_heaviest_52 rfl ?_
        refine t_ga 448 dX9_heaviest_53 f_X9_61_27 (by decide) rfl (by decide) ?_
        refine x_iconst dX9_heaviest_56 0 rfl ?_
        refine x_iload_n dX9_heaviest_57 rfl ?_
        refine x_iadd dX9_heaviest_58 ?_
        refine x_at 59 rfl ?_
        refine t_rj b dX9_heaviest_59 hI0.1 j448 hm (ix_w _) (by omega) (mrow_w hB.1 (by omega)) ?_
        exact x_ireturn dX9_heaviest_60 rfl (tQ.mk (show _ = (if x = 0 then _ else _) by rw [if_neg c3]) hI0 rfl)
  · have c2 := of_decide_eq_false (b2_eq.mp c1)
    rw [oHeaviest, if_neg c2]
    refine x_iconst dX9_heaviest_15 1 rfl ?_
    refine x_goto 20 dX9_heaviest_16 rfl ?_
    refine x_iconst dX9_heaviest_20 1 rfl ?_
    refine x_iconst dX9_heaviest_21 1 rfl ?_
    refine xiV3 dX9_heaviest_22 v_X9_171_27 tw_get0 (Nat.le_of_ble_eq_true rfl) (c_badT hI0.1 hb rfl _ (by decide) 1 (by decide)) ?_
    refine x_if_eq 30 dX9_heaviest_25 rfl (fun hc9 => absurd hc9 (by decide)) (fun _ => ?_)
    refine x_iconst dX9_heaviest_28 0 rfl ?_
    exact x_ireturn dX9_heaviest_29 rfl (tQ.mk rfl (hI0.ref (by decide)) rfl)
theorem alI_lt {M : Mk} {n a : Nat} {p : Nat × Option Nat} : ∀ k, (alI M n a p k).1 ≤ p.1 + k
  | 0 => Nat.le_refl _
  | k + 1 => by
    have := alI_lt (M := M) (n := n) (a := a) (p := p) k
    unfold alI alJ
    split
    · show _ + 1 ≤ _; omega
    · omega
theorem alO_lt {M : Mk} {n : Nat} : ∀ a, (alO M n a).1 ≤ a * n
  | 0 => Nat.zero_le _
  | a + 1 => by
    have h1 := alO_lt (M := M) (n := n) a
    have h2 := alI_lt (M := M) (n := n) (a := a) (p := alO M n a) (n - (a + 1))
    show (alI M n a (alO M n a) (n - (a + 1))).1 ≤ _
    rw [Nat.succ_mul]
    omega
theorem p_alike (hI : tIn s W) (hW : wOK W) (hb : G.2.2.1 ≤ T0) (x : Int32) : xMet G (d + 2) 0 0 m_X9_alike [.ref T0, .int x] (tw T0 h s) (tQ T0 h (oAlike W x)) := by
  refine xMet.of [some (.ref T0), some (.int x), none, none, none, none] pl_X9 rfl (Nat.le_of_ble_eq_true rfl) ?_
  have hI0 := hI.J hW ((tJ.refl hI.1).seti (k := 0) (v := 0) rfl)
  have hm := hI0.2.2.2.2.2.1
  have hB := hW.2.2.2.2.2.1
  have hn := hI0.2.2.2.1.1
  have h8 := hW.2.2.1
  have j448 : tRow 448 := Or.inl rfl
  refine x_aload_n dX9_alike_0 rfl ?_
  refine x_iconst dX9_alike_1 0 rfl ?_
  refine t_pi dX9_alike_2 p_X9_92_27 rfl (by decide) hb ?_
  refine x_aload_n dX9_alike_5 rfl ?_
  refine x_iload_n dX9_alike_6 rfl ?_
  refine x_iconst dX9_alike_7 0 rfl ?_
  refine x_iconst dX9_alike_8 1 rfl ?_
  refine xiS3 dX9_alike_9 s_X9_126 (Nat.le_of_ble_eq_true rfl) (c_in _ _ _) ?_
  refine x_at 12 rfl ?_
  refine x_if_ne 19 dX9_alike_12 rfl (fun c1 => ?_) (fun c1 => ?_)
  · have c2 := of_decide_eq_true (b2_ne.mp c1)
    rw [oAlike, if_pos c2]
    refine x_iconst dX9_alike_19 0 rfl ?_
    refine x_iconst dX9_alike_20 1 rfl ?_
    refine x_iconst dX9_alike_21 1 rfl ?_
    refine xiV3 dX9_alike_22 v_X9_171_27 tw_get0 (Nat.le_of_ble_eq_true rfl) (c_badF hI0.1 hb rfl _ 1 (by decide)) ?_
    refine x_if_eq 30 dX9_alike_25 rfl (fun _ => ?_) (fun hc9 => absurd (rfl) hc9)
    refine x_iconst dX9_alike_30 0 rfl ?_
    refine xsi2 dX9_alike_31 (by decide) rfl ?_
    refine x_iconst dX9_alike_32 (-1) rfl ?_
    refine x_at 33 rfl ?_
    refine xsi3 dX9_alike_33 (by decide) rfl ?_
    refine x_iconst dX9_alike_34 0 rfl ?_
    refine xsi4 dX9_alike_35 (by decide) rfl ?_
    generalize hQ : tQ T0 h _ = Q
    suffices hh : ∀ x5, xRun G m_X9_alike (d + 2) 0 0 37 [some (.ref T0), some (.int x), some (.int (nI (alO (wM W) (wN W) 0).1)), some (.int (oN (alO (wM W) (wN W) 0).2)), some (.int (nI 0)), x5] [] (tw T0 h (seti s 0 0)) Q from hh _
    refine xfor (fun a => ∀ x5, xRun G m_X9_alike (d + 2) 0 0 37 [some (.ref T0), some (.int x), some (.int (nI (alO (wM W) (wN W) a).1)), some (.int (oN (alO (wM W) (wN W) a).2)), some (.int (nI a)), x5] [] (tw T0 h (seti s 0 0)) Q) (wN W) ?_ ?_
    · intro a ha ih x5
      refine x_iload dX9_alike_37 rfl ?_
      refine x_aload_n dX9_alike_39 rfl ?_
      refine t_ga 4 dX9_alike_40 f_X9_23_27 (by decide) rfl (by decide) ?_
      refine x_iconst dX9_alike_43 0 rfl ?_
      refine t_ia 0 dX9_alike_44 hI0.1 (by decide) rfl (by decide) hn ?_
      refine x_icmp_ge 121 dX9_alike_45 rfl (fun hc9 => absurd hc9 (nI_ge ha (by omega))) (fun _ => ?_)
      refine x_iload dX9_alike_48 rfl ?_
      refine x_iconst dX9_alike_50 1 rfl ?_
      refine x_at 51 rfl ?_
      refine x_iadd dX9_alike_51 ?_
      rw [nI_1]
      refine xsi5 dX9_alike_52 (by decide) rfl ?_
      have hO := alO_lt (M := wM W) (n := wN W) a
      have hO2 : a * wN W ≤ 64 := Nat.le_trans (Nat.mul_le_mul (Nat.le_of_lt ha) (Nat.le_refl _)) (Nat.le_trans (Nat.mul_le_mul h8 h8) (by decide))
      generalize hp0 : alO (wM W) (wN W) a = p0 at hO
      refine xfor (fun k => xRun G m_X9_alike (d + 2) 0 0 54 [some (.ref T0), some (.int x), some (.int (nI (alI (wM W) (wN W) a p0 k).1)), some (.int (oN (alI (wM W) (wN W) a p0 k).2)), some (.int (nI a)), some (.int (nI (a + 1 + k)))] [] (tw T0 h (seti s 0 0)) Q) (wN W - (a + 1)) ?_ ?_
      · intro k hk ih2
        have hb1 : a + 1 + k < wN W := by omega
        have hI1 := alI_lt (M := wM W) (n := wN W) (a := a) (p := p0) k
        have step : ∀ q, alI (wM W) (wN W) a p0 (k + 1) = q → (xRun G m_X9_alike (d + 2) 0 0 109 [some (.ref T0), some (.int x), some (.int (nI q.1)), some (.int (oN q.2)), some (.int (nI a)), some (.int (nI (a + 1 + k)))] [] (tw T0 h (seti s 0 0)) Q) := by
          intro q hq
          rw [hq] at ih2
          refine xinc5 _ dX9_alike_109 (by decide) rfl (nI_1 _) ?_
          refine x_goto 54 dX9_alike_112 rfl ?_
          exact ih2
        have wA : (wM W).1.getD a 0 ≤ 60 := hB.2.1 a
        have wB : (wM W).1.getD (a + 1 + k) 0 ≤ 60 := hB.2.1 _
        refine x_iload dX9_alike_54 rfl ?_
        refine x_aload_n dX9_alike_56 rfl ?_
        refine t_ga 4 dX9_alike_57 f_X9_23_27 (by decide) rfl (by decide) ?_
        refine x_iconst dX9_alike_60 0 rfl ?_
        refine t_ia 0 dX9_alike_61 hI0.1 (by decide) rfl (by decide) hn ?_
        refine x_icmp_ge 115 dX9_alike_62 rfl (fun hc9 => absurd hc9 (nI_ge hb1 (by omega))) (fun _ => ?_)
        refine x_aload_n dX9_alike_65 rfl ?_
        refine t_ga 448 dX9_alike_66 f_X9_61_27 (by decide) rfl (by decide) ?_
        refine x_at 69 rfl ?_
        refine x_iconst dX9_alike_69 0 rfl ?_
        refine x_iload dX9_alike_70 rfl ?_
        refine x_iadd dX9_alike_72 ?_
        refine t_rj a dX9_alike_73 hI0.1 j448 hm (ix_w _) (by omega) (mrow_w hB.1 (by omega)) ?_
        refine x_aload_n dX9_alike_74 rfl ?_
        refine t_ga 448 dX9_alike_75 f_X9_61_27 (by decide) rfl (by decide) ?_
        refine x_iconst dX9_alike_78 0 rfl ?_
        refine x_iload dX9_alike_79 rfl ?_
        refine x_at 81 rfl ?_
        refine x_iadd dX9_alike_81 ?_
        refine t_rj (a + 1 + k) dX9_alike_82 hI0.1 j448 hm (ix_w _) (by omega) (mrow_w hB.1 (by omega)) ?_
        refine x_icmp_eq 89 dX9_alike_83 rfl (fun c3 => ?_) (fun c3 => ?_)
        · have c4 := (nI_eq (by omega) (by omega)).mp c3
          have hq : alI (wM W) (wN W) a p0 (k + 1) = ((alI (wM W) (wN W) a p0 k).1 + 1, if (alI (wM W) (wN W) a p0 k).1 = 0 then some (10 * a + (a + 1 + k)) else (alI (wM W) (wN W) a p0 k).2) := by
            show alJ _ _ _ _ = _
            rw [alJ, if_pos c4]
          refine x_iload_n dX9_alike_89 rfl ?_
          refine x_if_ne 104 dX9_alike_90 rfl (fun c5 => ?_) (fun c5 => ?_)
          · have c6 : ¬ (alI (wM W) (wN W) a p0 k).1 = 0 := fun q => c5 (by rw [q]; rfl)
            rw [if_neg c6] at hq
            refine x_iload_n dX9_alike_104 rfl ?_
            refine xsi3 dX9_alike_105 (by decide) rfl ?_
            refine xinc2 _ dX9_alike_106 (by decide) rfl (nI_1 _) ?_
            exact step _ hq
          · have c6 : (alI (wM W) (wN W) a p0 k).1 = 0 := (nI_eq (by omega) (b := 0) (by decide)).mp c5
            rw [if_pos c6] at hq
            refine x_bipush dX9_alike_93 10 (by decide) ?_
            refine x_iload dX9_alike_95 rfl ?_
            refine x_imul dX9_alike_97 ?_
            refine x_iload dX9_alike_98 rfl ?_
            refine x_iadd dX9_alike_100 ?_
            refine x_goto 105 dX9_alike_101 rfl ?_
            rw [show (10 : Int32) * nI a + nI (a + 1 + k) = oN (some (10 * a + (a + 1 + k))) by rw [show (10 : Int32) = nI 10 from rfl, pk_mul, nI_add]; rfl]
            refine xsi3 dX9_alike_105 (by decide) rfl ?_
            refine xinc2 _ dX9_alike_106 (by decide) rfl (nI_1 _) ?_
            exact step _ hq
        · have c4 : ¬ (wM W).1.getD a 0 = (wM W).1.getD (a + 1 + k) 0 := fun q => c3 (by rw [q])
          refine x_goto 109 dX9_alike_86 rfl ?_
          exact step _ (by show alJ _ _ _ _ = _; rw [alJ, if_neg c4])
      · rw [show a + 1 + (wN W - (a + 1)) = wN W by omega]
        refine x_iload dX9_alike_54 rfl ?_
        refine x_aload_n dX9_alike_56 rfl ?_
        refine t_ga 4 dX9_alike_57 f_X9_23_27 (by decide) rfl (by decide) ?_
        refine x_iconst dX9_alike_60 0 rfl ?_
        refine t_ia 0 dX9_alike_61 hI0.1 (by decide) rfl (by decide) hn ?_
        refine x_icmp_ge 115 dX9_alike_62 rfl (fun _ => ?_) (fun hc9 => absurd (Int32.le_refl _) hc9)
        refine xinc4 _ dX9_alike_115 (by decide) rfl (nI_1 a) ?_
        refine x_goto 37 dX9_alike_118 rfl ?_
        have := ih (some (.int (nI (wN W))))
        rw [show alO (wM W) (wN W) (a + 1) = alI (wM W) (wN W) a (alO (wM W) (wN W) a) (wN W - (a + 1)) from rfl, hp0] at this
        exact this
    · intro x5
      rw [← hQ]
      refine x_iload dX9_alike_37 rfl ?_
      refine x_aload_n dX9_alike_39 rfl ?_
      refine t_ga 4 dX9_alike_40 f_X9_23_27 (by decide) rfl (by decide) ?_
      refine x_iconst dX9_alike_43 0 rfl ?_
      refine t_ia 0 dX9_alike_44 hI0.1 (by decide) rfl (by decide) hn ?_
      refine x_icmp_ge 121 dX9_alike_45 rfl (fun _ => ?_) (fun hc9 => absurd (Int32.le_refl _) hc9)
      refine x_iload_n dX9_alike_121 rfl ?_
      refine x_if_ne 129 dX9_alike_122 rfl (fun c3 => ?_) (fun c3 => ?_)
      · refine x_iload_n dX9_alike_129 rfl ?_
        exact x_ireturn dX9_alike_130 rfl (tQ.mk (show _ = (if x = 0 then _ else _) by rw [if_neg c3]) hI0 rfl)
      · refine x_iload_n dX9_alike_125 rfl ?_
        refine x_goto 130 dX9_alike_126 rfl ?_
        exact x_ireturn dX9_alike_130 rfl (tQ.mk (show _ = (if x = 0 then _ else _) by rw [if_pos c3]) hI0 rfl)
  · have c2 := of_decide_eq_false (b2_eq.mp c1)
    rw [oAlike, if_neg c2]
    refine x_iconst dX9_alike_15 1 rfl ?_
    refine x_goto 20 dX9_alike_16 rfl ?_
    refine x_iconst dX9_alike_20 1 rfl ?_
    refine x_iconst dX9_alike_21 1 rfl ?_
    refine xiV3 dX9_alike_22 v_X9_171_27 tw_get0 (Nat.le_of_ble_eq_true rfl) (c_badT hI0.1 hb rfl _ (by decide) 1 (by decide)) ?_
    refine x_if_eq 30 dX9_alike_25 rfl (fun hc9 => absurd hc9 (by decide)) (fun _ => ?_)
    refine x_iconst dX9_alike_28 0 rfl ?_
    exact x_ireturn dX9_alike_29 rfl (tQ.mk rfl (hI0.ref (by decide)) rfl)
theorem agF_le {M : Mk} {a b : Nat} : ∀ k n, agF M a b k n ≤ n + k ∧ n ≤ agF M a b k n
  | 0, n => ⟨Nat.le_refl _, Nat.le_refl _⟩
  | k + 1, n => by
    have := agF_le (M := M) (a := a) (b := b) k (n + 1)
    unfold agF
    split <;> omega
theorem p_against (hI : tIn s W) (hW : wOK W) (hb : G.2.2.1 ≤ T0) (a b : Int32) : xMet G (d + 2) 0 0 m_X9_against [.ref T0, .int a, .int b] (tw T0 h s) (tQ T0 h (oAgainst W a b)) := by
  refine xMet.of [some (.ref T0), some (.int a), some (.int b), none] pl_X9 rfl (Nat.le_of_ble_eq_true rfl) ?_
  have hI0 := hI.J hW ((tJ.refl hI.1).seti (k := 0) (v := 0) rfl)
  have hm := hI0.2.2.2.2.2.1
  have hB := hW.2.2.2.2.2.1
  have hn := hI0.2.2.2.1.1
  have h8 := hW.2.2.1
  have j448 : tRow 448 := Or.inl rfl
  have no : ¬ (isT W a ∧ isT W b) → xRun G m_X9_against (d + 2) 0 0 22 [some (.ref T0), some (.int a), some (.int b), none] [.ref T0] (tw T0 h (seti s 0 0)) (tQ T0 h (oAgainst W a b)) := by
    intro q
    rw [oAgainst, if_pos q]
    refine x_iconst dX9_against_22 1 rfl ?_
    refine x_goto 27 dX9_against_23 rfl ?_
    refine x_iconst dX9_against_27 1 rfl ?_
    refine x_iconst dX9_against_28 0 rfl ?_
    refine xiV3 dX9_against_29 v_X9_171_27 tw_get0 (Nat.le_of_ble_eq_true rfl) (c_badT hI0.1 hb rfl _ (by decide) 0 (by decide)) ?_
    refine x_if_eq 37 dX9_against_32 rfl (fun hc9 => absurd hc9 (by decide)) (fun _ => ?_)
    refine x_iconst dX9_against_35 0 rfl ?_
    exact x_ireturn dX9_against_36 rfl (tQ.mk rfl (hI0.ref (by decide)) rfl)
  refine x_aload_n dX9_against_0 rfl ?_
  refine x_iconst dX9_against_1 0 rfl ?_
  refine t_pi dX9_against_2 p_X9_92_27 rfl (by decide) hb ?_
  refine x_aload_n dX9_against_5 rfl ?_
  refine x_aload_n dX9_against_6 rfl ?_
  refine x_iload_n dX9_against_7 rfl ?_
  refine xiV1 dX9_against_8 v_X9_328_27 tw_get0 (Nat.le_of_ble_eq_true rfl) (c_isThing hI0.1 hn _) ?_
  refine x_if_eq 22 dX9_against_11 rfl (fun c1 => ?_) (fun c1 => ?_)
  · have c2 : ¬ isT W a := of_decide_eq_false (b2_eq.mp c1)
    exact no (fun q => c2 q.1)
  · have c2 : isT W a := of_decide_eq_true (b2_ne.mp c1)
    refine x_aload_n dX9_against_14 rfl ?_
    refine x_iload_n dX9_against_15 rfl ?_
    refine xiV1 dX9_against_16 v_X9_328_27 tw_get0 (Nat.le_of_ble_eq_true rfl) (c_isThing hI0.1 hn _) ?_
    refine x_if_ne 26 dX9_against_19 rfl (fun c3 => ?_) (fun c3 => ?_)
    · have c4 : isT W b := of_decide_eq_true (b2_ne.mp c3)
      rw [oAgainst, if_neg (fun r => r ⟨c2, c4⟩)]
      obtain ⟨t, ht, rfl, et⟩ := isT_ix hW c2
      obtain ⟨u, hu, rfl, eu⟩ := isT_ix hW c4
      rw [et, eu]
      refine x_iconst dX9_against_26 0 rfl ?_
      refine x_iconst dX9_against_27 1 rfl ?_
      refine x_iconst dX9_against_28 0 rfl ?_
      refine xiV3 dX9_against_29 v_X9_171_27 tw_get0 (Nat.le_of_ble_eq_true rfl) (c_badF hI0.1 hb rfl _ 0 (by decide)) ?_
      refine x_if_eq 37 dX9_against_32 rfl (fun _ => ?_) (fun hc9 => absurd (rfl) hc9)
      refine x_iconst dX9_against_37 1 rfl ?_
      refine xsi3 dX9_against_38 (by decide) rfl ?_
      generalize hr : agF (wM W) t u 9 1 = r
      have r10 : r ≤ 10 := by have := (agF_le (M := wM W) (a := t) (b := u) 9 1).1; omega
      have fin : xRun G m_X9_against (d + 2) 0 0 72 [some (.ref T0), some (.int (nI t)), some (.int (nI u)), some (.int (nI r))] [] (tw T0 h (seti s 0 0)) (tQ T0 h (0, (if r = 10 then -1 else nI r), W)) := by
        refine x_iload_n dX9_against_72 rfl ?_
        refine x_bipush dX9_against_73 10 (by decide) ?_
        refine x_icmp_ne 82 dX9_against_75 rfl (fun c5 => ?_) (fun c5 => ?_)
        · refine x_iload_n dX9_against_82 rfl ?_
          exact x_ireturn dX9_against_83 rfl (tQ.mk (show _ = (if r = 10 then _ else _) by rw [if_neg (fun q => c5 (by rw [q]; rfl))]) hI0 rfl)
        · refine x_iconst dX9_against_78 (-1) rfl ?_
          refine x_goto 83 dX9_against_79 rfl ?_
          exact x_ireturn dX9_against_83 rfl (tQ.mk (show _ = (if r = 10 then _ else _) by rw [if_pos ((nI_eq (by omega) (b := 10) (by decide)).mp c5)]) hI0 rfl)
      have loop : ∀ k n, n + k = 10 → agF (wM W) t u k n = r → xRun G m_X9_against (d + 2) 0 0 39 [some (.ref T0), some (.int (nI t)), some (.int (nI u)), some (.int (nI n))] [] (tw T0 h (seti s 0 0)) (tQ T0 h (0, (if r = 10 then -1 else nI r), W)) := by
        intro k
        induction k with
        | zero =>
          intro n hn10 hr9
          have e : n = 10 := by omega
          subst e
          have e2 : r = 10 := hr9.symm
          subst e2
          refine x_iload_n dX9_against_39 rfl ?_
          refine x_bipush dX9_against_40 10 (by decide) ?_
          refine x_icmp_ge 72 dX9_against_42 rfl (fun _ => ?_) (fun hc9 => absurd (Int32.le_refl _) hc9)
          exact fin
        | succ k ih =>
          intro n hn10 hr9
          refine x_iload_n dX9_against_39 rfl ?_
          refine x_bipush dX9_against_40 10 (by decide) ?_
          refine x_icmp_ge 72 dX9_against_42 rfl (fun hc9 => absurd hc9 (nI_ge (b := 10) (by omega) (by decide))) (fun _ => ?_)
          refine x_aload_n dX9_against_45 rfl ?_
          refine t_ga 448 dX9_against_46 f_X9_61_27 (by decide) rfl (by decide) ?_
          refine x_iconst dX9_against_49 0 rfl ?_
          refine x_iload_n dX9_against_50 rfl ?_
          refine x_iadd dX9_against_51 ?_
          refine x_at 52 rfl ?_
          refine t_rj t dX9_against_52 hI0.1 j448 hm (ix_w _) (by omega) (mrow_w hB.1 (by omega)) ?_
          refine x_iload_n dX9_against_53 rfl ?_
          refine x_imul dX9_against_54 ?_
          refine x_aload_n dX9_against_55 rfl ?_
          refine t_ga 448 dX9_against_56 f_X9_61_27 (by decide) rfl (by decide) ?_
          refine x_iconst dX9_against_59 0 rfl ?_
          refine x_iload_n dX9_against_60 rfl ?_
          refine x_iadd dX9_against_61 ?_
          refine x_at 62 rfl ?_
          refine t_rj u dX9_against_62 hI0.1 j448 hm (ix_w _) (by omega) (mrow_w hB.1 (by omega)) ?_
          refine x_icmp_ge 72 dX9_against_63 rfl (fun c5 => ?_) (fun c5 => ?_)
          · have e : n = r := by
              rw [agF, if_neg (by rw [Int32.mul_comm]; exact Int32.not_lt.mpr c5)] at hr9
              exact hr9
            rw [e]
            exact fin
          · rw [agF, if_pos (by rw [Int32.mul_comm]; exact nle c5)] at hr9
            refine xinc3 _ dX9_against_66 (by decide) rfl (nI_1 n) ?_
            refine x_goto 39 dX9_against_69 rfl ?_
            exact ih (n + 1) (by omega) hr9
      exact loop 9 1 rfl hr
    · have c4 : ¬ isT W b := of_decide_eq_false (b2_eq.mp c3)
      exact no (fun q => c4 q.2)
/-- a row copied -/
theorem c_copies (hs : tOK s) (hb : G.2.2.1 ≤ T0) (i j : Nat) (hi : i < 475 ∧ ¬ i = 0 ∧ tgrid i = 0 ∧ ¬ i = 472) (hj : j < 475 ∧ ¬ j = 0 ∧ tgrid j = 0 ∧ ¬ j = 472) (li : tlen i = 60) (lj : tlen j = 60) (hij : ¬ i = j) : xMet G d 0 0 m_X9_copies [.ref (T0 + i), .ref (T0 + j)] (tw T0 h s) (xU (tw T0 h (seta s j (s.2.2 i)))) := by
  refine xMet.of [some (.ref (T0 + i)), some (.ref (T0 + j)), none] pl_X9 rfl (Nat.le_of_ble_eq_true rfl) ?_
  refine x_iconst dX9_copies_0 0 rfl ?_
  refine xsi2 dX9_copies_1 (by decide) rfl ?_
  suffices hh : ∀ r : List Int32, r.length = 60 → (∀ k, k < 0 → r.getD k 0 = (s.2.2 i).getD k 0) → xRun G m_X9_copies d 0 0 2 [some (.ref (T0 + i)), some (.ref (T0 + j)), some (.int (nI 0))] [] (tw T0 h (seta s j r)) (xU (tw T0 h (seta s j (s.2.2 i)))) by
    have := hh (s.2.2 j) (by rw [hs j, lj]) (fun k hk => absurd hk (Nat.not_lt_zero _))
    rw [seta_id rfl] at this
    exact this
  refine xfor (fun c => ∀ r : List Int32, r.length = 60 → (∀ k, k < c → r.getD k 0 = (s.2.2 i).getD k 0) → xRun G m_X9_copies d 0 0 2 [some (.ref (T0 + i)), some (.ref (T0 + j)), some (.int (nI c))] [] (tw T0 h (seta s j r)) (xU (tw T0 h (seta s j (s.2.2 i))))) 60 ?_ ?_
  · intro c hc ih r hl hr
    have o : tOK (seta s j r) := seta_ok hs (by rw [hl, lj])
    refine x_iload_n dX9_copies_2 rfl ?_
    refine x_bipush dX9_copies_3 60 (by decide) ?_
    refine x_icmp_ge 20 dX9_copies_5 rfl (fun hc9 => absurd hc9 (nI_ge hc (by decide))) (fun _ => ?_)
    refine x_aload_n dX9_copies_8 rfl ?_
    refine x_iload_n dX9_copies_9 rfl ?_
    refine x_aload_n dX9_copies_10 rfl ?_
    refine x_iload_n dX9_copies_11 rfl ?_
    refine t_ia c dX9_copies_12 o hi rfl (by rw [li]; exact hc) (gt (seta_ne hij) rfl) ?_
    refine t_is c dX9_copies_13 o hj rfl (by rw [lj]; exact hc) hb ?_
    rw [seta_get, seta_seta]
    refine xinc2 _ dX9_copies_14 (by decide) rfl (nI_1 c) ?_
    refine x_goto 2 dX9_copies_17 rfl ?_
    refine ih _ (by rw [List.length_set]; exact hl) (fun k hk => ?_)
    rw [getD_set (by omega)]
    by_cases e : k = c
    · rw [if_pos e, e]
    · rw [if_neg e]; exact hr k (by omega)
  · intro r hl hr
    refine x_iload_n dX9_copies_2 rfl ?_
    refine x_bipush dX9_copies_3 60 (by decide) ?_
    refine x_icmp_ge 20 dX9_copies_5 rfl (fun _ => ?_) (fun hc9 => absurd (Int32.le_refl _) hc9)
    refine x_return dX9_copies_20 rfl ⟨rfl, ?_⟩
    rw [getD_ext (a := r) (b := s.2.2 i) (by rw [hl, hs i, li]) (fun k hk => hr k (by omega))]
theorem ar_bef : ∀ i, i < 16 → (451 + 1 + i < 475 ∧ ¬ 451 + 1 + i = 0 ∧ tgrid (451 + 1 + i) = 0 ∧ ¬ 451 + 1 + i = 472) := by decide +kernel
theorem ln_bef : ∀ i, i < 16 → tlen (451 + 1 + i) = 60 := by decide +kernel
theorem getD_take {α : Type} {l : List α} {n i : Nat} {x : α} (h : i < n) : (l.take n).getD i x = l.getD i x := by
  rw [List.getD_eq_getElem?_getD, List.getD_eq_getElem?_getD, List.getElem?_take, if_pos h]
theorem getD_any {α : Type} {l : List α} {i : Nat} {x y : α} (h : i < l.length) : l.getD i x = l.getD i y := by
  rw [List.getD_eq_getElem?_getD, List.getD_eq_getElem?_getD, List.getElem?_eq_getElem h]
  rfl
theorem p_undo (hI : tIn s W) (hW : wOK W) (hb : G.2.2.1 ≤ T0) : xMet G (d + 2) 0 0 m_X9_undo [.ref T0] (tw T0 h s) (tQ T0 h (oUndo W)) := by
  refine xMet.of [some (.ref T0)] pl_X9 rfl (Nat.le_of_ble_eq_true rfl) ?_
  have hI0 := hI.J hW ((tJ.refl hI.1).seti (k := 0) (v := 0) rfl)
  have h33 := hI0.2.2.2.2.2.2.1.1
  have h16 := hW.2.2.2.2.2.2.1.1
  refine x_aload_n dX9_undo_0 rfl ?_
  refine x_iconst dX9_undo_1 0 rfl ?_
  refine t_pi dX9_undo_2 p_X9_92_27 rfl (by decide) hb ?_
  refine x_aload_n dX9_undo_5 rfl ?_
  refine t_gi dX9_undo_6 f_X9_194_27 (by decide) rfl (by decide) h33 ?_
  refine x_if_ne 14 dX9_undo_9 rfl (fun c1 => ?_) (fun c1 => ?_)
  · have c2 : ¬ (wPs W).length = 0 := fun q => c1 (by rw [q]; rfl)
    rw [oUndo, if_neg c2]
    have ep : nI (wPs W).length - 1 = nI ((wPs W).length - 1) := pk_sub (b := 1) (by omega)
    refine x_aload_n dX9_undo_14 rfl ?_
    refine x_dup dX9_undo_15 rfl ?_
    refine t_gi dX9_undo_16 f_X9_194_27 (by decide) rfl (by decide) h33 ?_
    refine x_iconst dX9_undo_19 1 rfl ?_
    refine x_isub dX9_undo_20 ?_
    rw [ep]
    refine t_pi dX9_undo_21 p_X9_194_27 rfl (by decide) hb ?_
    generalize hs1 : seti (seti s 0 0) 33 (nI ((wPs W).length - 1)) = s1
    have e33 : s1.1 33 = nI ((wPs W).length - 1) := by rw [← hs1]; rfl
    have ok1 : tOK s1 := by rw [← hs1]; exact hI.1
    have ar1 : s1.2.2 = s.2.2 := by rw [← hs1]; rfl
    refine x_aload_n dX9_undo_24 rfl ?_
    refine t_ga 451 dX9_undo_25 f_X9_70_27 (by decide) rfl (by decide) ?_
    refine x_aload_n dX9_undo_28 rfl ?_
    refine t_gi dX9_undo_29 f_X9_194_27 (by decide) rfl (by decide) e33 ?_
    refine t_aa ((wPs W).length - 1) dX9_undo_32 (by decide) rfl (show _ < 16 by omega) ?_
    refine x_aload_n dX9_undo_33 rfl ?_
    refine t_ga 448 dX9_undo_34 f_X9_61_27 (by decide) rfl (by decide) ?_
    refine xuS2 dX9_undo_37 s_X9_314 (Nat.le_of_ble_eq_true rfl) (c_copies ok1 hb _ 448 (ar_bef _ (by omega)) (by decide) (ln_bef _ (by omega)) rfl (by omega)) ?_
    generalize hs2 : seta s1 448 (s1.2.2 (451 + 1 + ((wPs W).length - 1))) = s2
    have f33 : (seti s2 34 0).1 33 = nI ((wPs W).length - 1) := by rw [← hs2]; exact e33
    refine x_aload_n dX9_undo_40 rfl ?_
    refine x_iconst dX9_undo_41 0 rfl ?_
    refine t_pi dX9_undo_42 p_X9_197_27 rfl (by decide) hb ?_
    refine x_aload_n dX9_undo_45 rfl ?_
    refine t_gi dX9_undo_46 f_X9_194_27 (by decide) rfl (by decide) f33 ?_
    refine x_ireturn dX9_undo_49 rfl (tQ.mk rfl ?_ (by rw [← hs2, ← hs1]; rfl))
    obtain ⟨h0, h1, h2, h3, h4, h5, h6, h7, h8, h9, h10⟩ := hI
    have hA : ∀ j, ¬ j = 448 → (seti s2 34 0).2.2 j = s.2.2 j := fun j hj => by
      rw [← hs2]
      show (seta s1 448 _).2.2 j = _
      rw [seta_ne hj, ar1]
    have hM : (seti s2 34 0).2.2 448 = mrow ((wPs W).getD ((wPs W).length - 1) (wM W)) := by
      rw [← hs2]
      show (seta s1 448 _).2.2 448 = _
      rw [seta_get, ar1]
      exact h6.2 _ (by omega)
    have hFd : ∀ k, ¬ k = 33 → ¬ k = 34 → ¬ k = 0 → (seti s2 34 0).1 k = s.1 k := fun k h33 h34 h00 => by
      rw [← hs2, ← hs1]
      show (if k = 34 then _ else if k = 33 then _ else if k = 0 then _ else s.1 k) = _
      rw [if_neg h34, if_neg h33, if_neg h00]
    have okf : tOK (seti s2 34 0) := by
      rw [← hs2]
      exact seta_ok ok1 (by rw [ok1, ln_bef _ (by omega)]; rfl)
    refine ⟨okf, ⟨(hFd 1 (by decide) (by decide) (by decide)).trans h1.1, fun i hi => by rw [hA 1 (by decide)]; exact h1.2 i hi⟩, (hFd 3 (by decide) (by decide) (by decide)).trans h2, ?_, ⟨(hFd 17 (by decide) (by decide) (by decide)).trans h4.1, h4.2.1, fun i hi => (hA _ (by have := h4.2.1; have hi9 : i < (wLw W).length := hi; omega)).trans (h4.2.2.1 i hi), h4.2.2.2⟩, hM, ⟨?_, ?_⟩, ⟨(hFd 35 (by decide) (by decide) (by decide)).trans h7.1, fun i hi => ?_⟩, ⟨(hFd 32 (by decide) (by decide) (by decide)).trans h8.1, fun i hi => (hA _ (by have := hW.2.2.2.2.2.2.2.2.1.1; have hi9 : i < (wLn W).length := hi; omega)).trans (h8.2 i hi)⟩, rfl, (hA 2 (by decide)).trans h10⟩
    · rw [hA 4 (by decide), hA 6 (by decide)]
      exact h3
    · rw [f33]
      show _ = nI ((wPs W).take ((wPs W).length - 1)).length
      rw [List.length_take]
      congr 1
      omega
    · intro i hi
      have hi2 : i < (wPs W).length - 1 := by
        have : i < ((wPs W).take ((wPs W).length - 1)).length := hi
        rw [List.length_take] at this
        omega
      rw [hA _ (by omega)]
      show _ = mrow (((wPs W).take ((wPs W).length - 1)).getD i _)
      rw [getD_take hi2, getD_any (y := wM W) (by omega)]
      exact h6.2 i (by omega)
    · rw [hA _ (by have := hW.2.2.2.2.2.2.2.1.1; have : i < (wIm W).length := hi; omega)]
      have := h7.2 i hi
      have hi3 : i < (wIm W).length := hi
      show ((s.2.2 (468 + 1 + i)).getD 0 0 = nI ((wIm W).getD i (_, [])).2.length ∧ (∀ k, k < 60 → (s.2.2 (468 + 1 + i)).getD (1 + k) 0 = (mrow ((wIm W).getD i (_, [])).1).getD k 0) ∧ ∀ w, w < ((wIm W).getD i (_, [])).2.length → ∀ k, k < 60 → (s.2.2 (468 + 1 + i)).getD (61 + 60 * w + k) 0 = (mrow (((wIm W).getD i (_, [])).2.getD w _)).getD k 0)
      rw [getD_any (y := (wM W, [])) hi3]
      refine ⟨this.1, this.2.1, fun w hw k hk => ?_⟩
      rw [this.2.2 w hw k hk, getD_any hw]
  · have c2 : (wPs W).length = 0 := (nI_eq (by omega) (b := 0) (by decide)).mp c1
    rw [oUndo, if_pos c2]
    refine x_iconst dX9_undo_12 (-1) rfl ?_
    exact x_ireturn dX9_undo_13 rfl (tQ.mk rfl hI0 rfl)
end TP9
