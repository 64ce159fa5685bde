set_option maxRecDepth 100000
/-! ===== the twin, 16: a false one, sellers, level, shares, amounts ===== -/
section TK
variable {G : xG} {d : Nat} {h : xH} {T0 : Nat} {s : tS} {W : Wd}
theorem p_falsely (hI : tIn s W) (hW : wOK W) (hb : G.2.2.1 ≤ T0) (x : Int32) : xMet G (d + 2) 0 0 m_X9_falsely [.ref T0, .int x] (tw T0 h s) (tQ T0 h (oFalsely W x)) := by
  refine xMet.of [some (.ref T0), some (.int x), none, none] pl_X9 rfl (Nat.le_of_ble_eq_true rfl) ?_
  have hI0 := hI.J hW ((tJ.refl hI.1).seti (k := 0) (v := 0) rfl)
  refine x_aload_n dX9_falsely_0 rfl ?_
  refine x_iconst dX9_falsely_1 0 rfl ?_
  refine t_pi dX9_falsely_2 p_X9_92_27 rfl (by decide) hb ?_
  refine x_aload_n dX9_falsely_5 rfl ?_
  refine x_iload_n dX9_falsely_6 rfl ?_
  refine x_iconst dX9_falsely_7 1 rfl ?_
  refine x_sipush dX9_falsely_8 9999 (by decide) ?_
  refine xiS3 dX9_falsely_11 s_X9_126 (Nat.le_of_ble_eq_true rfl) (c_in _ _ _) ?_
  refine x_at 14 rfl ?_
  refine x_if_ne 21 dX9_falsely_14 rfl (fun c1 => ?_) (fun c1 => ?_)
  · have c2 := of_decide_eq_true (b2_ne.mp c1)
    rw [oFalsely, if_pos c2]
    obtain ⟨k, hk1, hk, rfl, ek⟩ := in19 9999 (lo := 1) rfl (by decide) (by decide) c2 (by decide)
    rw [ek]
    refine x_iconst dX9_falsely_21 0 rfl ?_
    refine x_iconst dX9_falsely_22 1 rfl ?_
    refine x_iconst dX9_falsely_23 1 rfl ?_
    refine xiV3 dX9_falsely_24 v_X9_171_27 tw_get0 (Nat.le_of_ble_eq_true rfl) (c_badF hI0.1 hb rfl _ 1 (by decide)) ?_
    refine x_if_eq 32 dX9_falsely_27 rfl (fun _ => ?_) (fun hc9 => absurd (rfl) hc9)
    refine x_iconst dX9_falsely_32 2 rfl ?_
    refine xsi2 dX9_falsely_33 (by decide) rfl ?_
    refine x_bipush dX9_falsely_34 9 (by decide) ?_
    refine x_at 36 rfl ?_
    refine xsi3 dX9_falsely_36 (by decide) rfl ?_
    have fin : ∀ w x3, w = flN k 9 2 9 → xRun G m_X9_falsely (d + 2) 0 0 56 [some (.ref T0), some (.int (nI k)), some (.int (nI w)), x3] [] (tw T0 h (seti s 0 0)) (tQ T0 h (0, if k < 3 then -1 else nI (flN k 9 2 9), W)) := by
      intro w x3 hw
      refine x_iload_n dX9_falsely_56 rfl ?_
      refine x_iconst dX9_falsely_57 3 rfl ?_
      refine x_icmp_ge 65 dX9_falsely_58 rfl (fun c3 => ?_) (fun c3 => ?_)
      · have c4 : ¬ k < 3 := by
          have := (nI_leI (a := 3) (by decide) (by omega)).mp c3
          omega
        refine x_iload_n dX9_falsely_65 rfl ?_
        exact x_ireturn dX9_falsely_66 rfl (tQ.mk (show _ = (if k < 3 then _ else _) by rw [if_neg c4, hw]) hI0 rfl)
      · have c4 : k < 3 := Nat.lt_of_not_le (fun z => c3 ((nI_leI (a := 3) (by decide) (by omega)).mpr z))
        refine x_iconst dX9_falsely_61 (-1) rfl ?_
        refine x_goto 66 dX9_falsely_62 rfl ?_
        exact x_ireturn dX9_falsely_66 rfl (tQ.mk (show _ = (if k < 3 then _ else _) by rw [if_pos c4]) hI0 rfl)
    have loop : ∀ f w p, p * 3 ^ f = 9 * 3 ^ 9 → 9 ≤ p → p ≤ 200000 → flN k f w p = flN k 9 2 9 → xRun G m_X9_falsely (d + 2) 0 0 37 [some (.ref T0), some (.int (nI k)), some (.int (nI w)), some (.int (nI p))] [] (tw T0 h (seti s 0 0)) (tQ T0 h (0, if k < 3 then -1 else nI (flN k 9 2 9), W)) := by
      intro f
      induction f with
      | zero =>
        intro w p hp h9 h2 e
        have hp2 : p = 177147 := by omega
        subst hp2
        refine x_iload_n dX9_falsely_37 rfl ?_
        refine x_iconst dX9_falsely_38 3 rfl ?_
        refine x_isub dX9_falsely_39 ?_
        refine x_iconst dX9_falsely_40 2 rfl ?_
        refine x_idiv dX9_falsely_41 (by decide) ?_
        refine x_iload_n dX9_falsely_42 rfl ?_
        rw [show (nI 177147 - 3) / 2 = nI 88572 from by decide]
        refine x_icmp_ge 56 dX9_falsely_43 rfl (fun _ => ?_) (fun hc => absurd (nI_le (by omega) (by decide)) hc)
        exact fin _ _ e
      | succ f ih =>
        intro w p hp h9 h2 e
        unfold flN at e
        have e1 : (nI p - 3) / 2 = nI ((p - 3) / 2) := by
          rw [show (3 : Int32) = nI 3 from rfl, pk_sub (by omega)]
          exact pk_div (d := 2) (by omega) (by decide) (by decide)
        refine x_iload_n dX9_falsely_37 rfl ?_
        refine x_iconst dX9_falsely_38 3 rfl ?_
        refine x_isub dX9_falsely_39 ?_
        refine x_iconst dX9_falsely_40 2 rfl ?_
        refine x_idiv dX9_falsely_41 (by decide) ?_
        rw [e1]
        refine x_iload_n dX9_falsely_42 rfl ?_
        refine x_icmp_ge 56 dX9_falsely_43 rfl (fun c3 => ?_) (fun c3 => ?_)
        · have c4 : ¬ (p - 3) / 2 < k := by
            have := (nI_leI (by omega) (by omega)).mp c3
            omega
          rw [if_neg c4] at e
          exact fin _ _ e
        · have c4 : (p - 3) / 2 < k := Nat.lt_of_not_le (fun z => c3 ((nI_leI (by omega) (by omega)).mpr z))
          rw [if_pos c4] at e
          refine xinc2 _ dX9_falsely_46 (by decide) rfl (nI_1 w) ?_
          refine x_iload_n dX9_falsely_49 rfl ?_
          refine x_iconst dX9_falsely_50 3 rfl ?_
          refine x_imul dX9_falsely_51 ?_
          rw [show nI p * 3 = nI (p * 3) from pk_mul p 3]
          refine xsi3 dX9_falsely_52 (by decide) rfl ?_
          refine x_goto 37 dX9_falsely_53 rfl ?_
          refine ih (w + 1) (p * 3) ?_ (by omega) (by omega) ?_
          · rw [← hp, Nat.pow_succ, Nat.mul_assoc, Nat.mul_comm 3]
          · rw [e]; rfl
    exact loop 9 2 9 rfl (by decide) (by decide) rfl
  · have c2 := of_decide_eq_false (b2_eq.mp c1)
    rw [oFalsely, if_neg c2]
    refine x_iconst dX9_falsely_17 1 rfl ?_
    refine x_goto 22 dX9_falsely_18 rfl ?_
    refine x_iconst dX9_falsely_22 1 rfl ?_
    refine x_iconst dX9_falsely_23 1 rfl ?_
    refine xiV3 dX9_falsely_24 v_X9_171_27 tw_get0 (Nat.le_of_ble_eq_true rfl) (c_badT hI0.1 hb rfl _ (by decide) 1 (by decide)) ?_
    refine x_if_eq 32 dX9_falsely_27 rfl (fun hc9 => absurd hc9 (by decide)) (fun _ => ?_)
    refine x_iconst dX9_falsely_30 0 rfl ?_
    exact x_ireturn dX9_falsely_31 rfl (tQ.mk rfl (hI0.ref (by decide)) rfl)
theorem c_hasBy (a b : Nat) (ha : a < 2) (hb : b < 2) (v w : Int32) : xMet G d 0 0 m_X9_hasBy [.int (nI a), .int (nI b), .int v, .int w] h (xI (.int (hbI a b v w)) h) := by
  refine xMet.of [some (.int (nI a)), some (.int (nI b)), some (.int v), some (.int w)] pl_X9 rfl (Nat.le_of_ble_eq_true rfl) ?_
  have ha2 : a = 0 ∨ a = 1 := by omega
  have hb2 : b = 0 ∨ b = 1 := by omega
  rcases ha2 with rfl | rfl <;> rcases hb2 with rfl | rfl
  · refine x_iload_n dX9_hasBy_0 rfl ?_
    refine x_if_ne 16 dX9_hasBy_1 rfl (fun hc9 => absurd (rfl) hc9) (fun _ => ?_)
    refine x_iload_n dX9_hasBy_4 rfl ?_
    refine x_if_ne 12 dX9_hasBy_5 rfl (fun hc9 => absurd (rfl) hc9) (fun _ => ?_)
    refine x_iload_n dX9_hasBy_8 rfl ?_
    refine x_goto 25 dX9_hasBy_9 rfl ?_
    exact x_ireturn dX9_hasBy_25 rfl ⟨rfl, rfl⟩
  · refine x_iload_n dX9_hasBy_0 rfl ?_
    refine x_if_ne 16 dX9_hasBy_1 rfl (fun hc9 => absurd (rfl) hc9) (fun _ => ?_)
    refine x_iload_n dX9_hasBy_4 rfl ?_
    refine x_if_ne 12 dX9_hasBy_5 rfl (fun _ => ?_) (fun hc9 => absurd hc9 (by decide))
    refine x_iconst dX9_hasBy_12 0 rfl ?_
    refine x_goto 25 dX9_hasBy_13 rfl ?_
    exact x_ireturn dX9_hasBy_25 rfl ⟨rfl, rfl⟩
  · refine x_iload_n dX9_hasBy_0 rfl ?_
    refine x_if_ne 16 dX9_hasBy_1 rfl (fun _ => ?_) (fun hc9 => absurd hc9 (by decide))
    refine x_iload_n dX9_hasBy_16 rfl ?_
    refine x_if_ne 24 dX9_hasBy_17 rfl (fun hc9 => absurd (rfl) hc9) (fun _ => ?_)
    refine x_iload_n dX9_hasBy_20 rfl ?_
    refine x_goto 25 dX9_hasBy_21 rfl ?_
    exact x_ireturn dX9_hasBy_25 rfl ⟨rfl, rfl⟩
  · refine x_iload_n dX9_hasBy_0 rfl ?_
    refine x_if_ne 16 dX9_hasBy_1 rfl (fun _ => ?_) (fun hc9 => absurd hc9 (by decide))
    refine x_iload_n dX9_hasBy_16 rfl ?_
    refine x_if_ne 24 dX9_hasBy_17 rfl (fun _ => ?_) (fun hc9 => absurd hc9 (by decide))
    refine x_iconst dX9_hasBy_24 (-1) rfl ?_
    exact x_ireturn dX9_hasBy_25 rfl ⟨rfl, rfl⟩
theorem c_isBest (a b : Nat) (ha : a < 2) (hb : b < 2) (v w : Int32) : xMet G (d + 1) 0 0 m_X9_isBest [.int (nI a), .int (nI b), .int v, .int w] h (xI (.int (b2 (isBs a b v w))) h) := by
  refine xMet.of [some (.int (nI a)), some (.int (nI b)), some (.int v), some (.int w)] pl_X9 rfl (Nat.le_of_ble_eq_true rfl) ?_
  refine x_iload_n dX9_isBest_0 rfl ?_
  refine x_iload_n dX9_isBest_1 rfl ?_
  refine x_iload_n dX9_isBest_2 rfl ?_
  refine x_iload_n dX9_isBest_3 rfl ?_
  refine xiS4 dX9_isBest_4 s_X9_394 (Nat.le_of_ble_eq_true rfl) (c_hasBy a b ha hb v w) ?_
  refine x_iconst dX9_isBest_7 1 rfl ?_
  refine x_iload_n dX9_isBest_8 rfl ?_
  refine x_isub dX9_isBest_9 ?_
  rw [show (1 : Int32) - nI a = nI (1 - a) from pk_sub (a := 1) (by omega)]
  refine x_iload_n dX9_isBest_10 rfl ?_
  refine x_iload_n dX9_isBest_11 rfl ?_
  refine x_iload_n dX9_isBest_12 rfl ?_
  refine xiS4 dX9_isBest_13 s_X9_394 (Nat.le_of_ble_eq_true rfl) (c_hasBy (1 - a) b (by omega) hb v w) ?_
  refine x_icmp_lt 23 dX9_isBest_16 rfl (fun c1 => ?_) (fun c1 => ?_)
  · refine x_iconst dX9_isBest_23 0 rfl ?_
    exact x_zreturn dX9_isBest_24 rfl rfl (xr0 (decide_eq_false (Int32.not_le.mpr c1)))
  · refine x_iconst dX9_isBest_19 1 rfl ?_
    refine x_goto 24 dX9_isBest_20 rfl ?_
    exact x_zreturn dX9_isBest_24 rfl rfl (xr1 (decide_eq_true (nlt c1)))
theorem p_sellers (hI : tIn s W) (hW : wOK W) (hb : G.2.2.1 ≤ T0) (v w x : Int32) : xMet G (d + 2) 0 0 m_X9_sellers [.ref T0, .int v, .int w, .int x] (tw T0 h s) (tQ T0 h (oSellers W v w x)) := by
  refine xMet.of [some (.ref T0), some (.int v), some (.int w), some (.int x), none, none, none, none, none] pl_X9 rfl (Nat.le_of_ble_eq_true rfl) ?_
  have hI0 := hI.J hW ((tJ.refl hI.1).seti (k := 0) (v := 0) rfl)
  have no : ¬ ((0 ≤ v ∧ v ≤ 99) ∧ (0 ≤ w ∧ w ≤ 99) ∧ 0 ≤ x ∧ x ≤ 2) → xRun G m_X9_sellers (d + 2) 0 0 35 [some (.ref T0), some (.int v), some (.int w), some (.int x), none, none, none, none, none] [.ref T0] (tw T0 h (seti s 0 0)) (tQ T0 h (oSellers W v w x)) := by
    intro z
    rw [oSellers, if_neg z]
    refine x_iconst dX9_sellers_35 1 rfl ?_
    refine x_goto 40 dX9_sellers_36 rfl ?_
    refine x_iconst dX9_sellers_40 1 rfl ?_
    refine x_iconst dX9_sellers_41 1 rfl ?_
    refine xiV3 dX9_sellers_42 v_X9_171_27 tw_get0 (Nat.le_of_ble_eq_true rfl) (c_badT hI0.1 hb rfl _ (by decide) 1 (by decide)) ?_
    refine x_if_eq 50 dX9_sellers_45 rfl (fun hc9 => absurd hc9 (by decide)) (fun _ => ?_)
    refine x_iconst dX9_sellers_48 0 rfl ?_
    exact x_ireturn dX9_sellers_49 rfl (tQ.mk rfl (hI0.ref (by decide)) rfl)
  refine x_aload_n dX9_sellers_0 rfl ?_
  refine x_iconst dX9_sellers_1 0 rfl ?_
  refine t_pi dX9_sellers_2 p_X9_92_27 rfl (by decide) hb ?_
  refine x_aload_n dX9_sellers_5 rfl ?_
  refine x_iload_n dX9_sellers_6 rfl ?_
  refine x_iconst dX9_sellers_7 0 rfl ?_
  refine x_bipush dX9_sellers_8 99 (by decide) ?_
  refine xiS3 dX9_sellers_10 s_X9_126 (Nat.le_of_ble_eq_true rfl) (c_in _ _ _) ?_
  refine x_at 13 rfl ?_
  refine x_if_eq 35 dX9_sellers_13 rfl (fun c => ?_) (fun c => ?_)
  · exact no (fun z => of_decide_eq_false (b2_eq.mp c) z.1)
  · have b1 := of_decide_eq_true (b2_ne.mp c)
    clear c
    refine x_iload_n dX9_sellers_16 rfl ?_
    refine x_iconst dX9_sellers_17 0 rfl ?_
    refine x_bipush dX9_sellers_18 99 (by decide) ?_
    refine xiS3 dX9_sellers_20 s_X9_126 (Nat.le_of_ble_eq_true rfl) (c_in _ _ _) ?_
    refine x_if_eq 35 dX9_sellers_23 rfl (fun c => ?_) (fun c => ?_)
    · exact no (fun z => of_decide_eq_false (b2_eq.mp c) z.2.1)
    · have b2' := of_decide_eq_true (b2_ne.mp c)
      clear c
      refine x_iload_n dX9_sellers_26 rfl ?_
      refine x_iconst dX9_sellers_27 0 rfl ?_
      refine x_iconst dX9_sellers_28 2 rfl ?_
      refine xiS3 dX9_sellers_29 s_X9_126 (Nat.le_of_ble_eq_true rfl) (c_in _ _ _) ?_
      refine x_if_ne 39 dX9_sellers_32 rfl (fun c => ?_) (fun c => ?_)
      · have b3 := of_decide_eq_true (b2_ne.mp c)
        rw [oSellers, if_pos ⟨b1, b2', b3⟩]
        generalize hQ : tQ T0 h _ = Q
        have step : ∀ (p : Sl) (a b : Nat), a < 2 → b < 2 → p.1 < 10 → xRun G m_X9_sellers (d + 2) 0 0 158 [some (.ref T0), some (.int v), some (.int w), some (.int x), some (.int (nI (slS v w p a b).1)), some (.int (slS v w p a b).2.1), some (.int (slS v w p a b).2.2), some (.int (nI a)), some (.int (nI b))] [] (tw T0 h (seti s 0 0)) Q → xRun G m_X9_sellers (d + 2) 0 0 71 [some (.ref T0), some (.int v), some (.int w), some (.int x), some (.int (nI p.1)), some (.int p.2.1), some (.int p.2.2), some (.int (nI a)), some (.int (nI b))] [] (tw T0 h (seti s 0 0)) Q := by
          intro p a b ha hb9 hp kk
          refine x_iload dX9_sellers_71 rfl ?_
          refine x_iconst dX9_sellers_73 2 rfl ?_
          refine x_icmp_ge 164 dX9_sellers_74 rfl (fun hc9 => absurd hc9 (nI_ge hb9 (by decide))) (fun _ => ?_)
          refine x_iload dX9_sellers_77 rfl ?_
          refine x_iload dX9_sellers_79 rfl ?_
          refine x_iload_n dX9_sellers_81 rfl ?_
          refine x_iload_n dX9_sellers_82 rfl ?_
          refine xiS4 dX9_sellers_83 s_X9_397 (Nat.le_of_ble_eq_true rfl) (c_isBest a b ha hb9 v w) ?_
          refine x_at 86 rfl ?_
          refine x_if_eq 158 dX9_sellers_86 rfl (fun c1 => ?_) (fun c1 => ?_)
          · have c2 := b2_eq.mp c1
            have e : slS v w p a b = p := if_neg (fun z => by rw [z.1] at c2; cases c2)
            rw [e] at kk
            exact kk
          · have c2 := b2_ne.mp c1
            refine x_iload dX9_sellers_89 rfl ?_
            refine x_iload dX9_sellers_91 rfl ?_
            refine x_iload_n dX9_sellers_93 rfl ?_
            refine x_iload_n dX9_sellers_94 rfl ?_
            refine xiS4 dX9_sellers_95 s_X9_397 (Nat.le_of_ble_eq_true rfl) (c_isBest b a hb9 ha v w) ?_
            refine x_if_ne 104 dX9_sellers_98 rfl (fun c3 => ?_) (fun c3 => ?_)
            · have c4 := b2_ne.mp c3
              have e : slS v w p a b = (p.1 + 1, (if p.1 = 0 then nI (10 * a + b) else p.2.1), if p.1 = 0 then hbI a b v w + hbI b a v w else p.2.2) := if_pos ⟨c2, c4⟩
              rw [e] at kk
              refine x_iload dX9_sellers_104 rfl ?_
              refine x_if_ne 131 dX9_sellers_106 rfl (fun c5 => ?_) (fun c5 => ?_)
              · have c6 : ¬ p.1 = 0 := fun z => c5 (by rw [z]; rfl)
                rw [if_neg c6, if_neg c6] at kk
                refine x_iload dX9_sellers_131 rfl ?_
                refine xsi6 dX9_sellers_133 (by decide) rfl ?_
                refine x_iload dX9_sellers_135 rfl ?_
                refine x_if_ne 151 dX9_sellers_137 rfl (fun _ => ?_) (fun hc9 => absurd hc9 (c5))
                refine x_iload dX9_sellers_151 rfl ?_
                refine xsi5 dX9_sellers_153 (by decide) rfl ?_
                refine xinc4 _ dX9_sellers_155 (by decide) rfl (nI_1 _) ?_
                exact kk
              · have c6 : p.1 = 0 := (nI_eq (by omega) (b := 0) (by decide)).mp c5
                rw [if_pos c6, if_pos c6] at kk
                refine x_iload dX9_sellers_109 rfl ?_
                refine x_iload dX9_sellers_111 rfl ?_
                refine x_iload_n dX9_sellers_113 rfl ?_
                refine x_iload_n dX9_sellers_114 rfl ?_
                refine xiS4 dX9_sellers_115 s_X9_394 (Nat.le_of_ble_eq_true rfl) (c_hasBy a b ha hb9 v w) ?_
                refine x_iload dX9_sellers_118 rfl ?_
                refine x_iload dX9_sellers_120 rfl ?_
                refine x_iload_n dX9_sellers_122 rfl ?_
                refine x_at 123 rfl ?_
                refine x_iload_n dX9_sellers_123 rfl ?_
                refine xiS4 dX9_sellers_124 s_X9_394 (Nat.le_of_ble_eq_true rfl) (c_hasBy b a hb9 ha v w) ?_
                refine x_iadd dX9_sellers_127 ?_
                refine x_goto 133 dX9_sellers_128 rfl ?_
                refine xsi6 dX9_sellers_133 (by decide) rfl ?_
                refine x_iload dX9_sellers_135 rfl ?_
                refine x_if_ne 151 dX9_sellers_137 rfl (fun hc9 => absurd (c5) hc9) (fun _ => ?_)
                refine x_bipush dX9_sellers_140 10 (by decide) ?_
                refine x_at 142 rfl ?_
                refine x_iload dX9_sellers_142 rfl ?_
                refine x_imul dX9_sellers_144 ?_
                refine x_iload dX9_sellers_145 rfl ?_
                refine x_iadd dX9_sellers_147 ?_
                rw [show (10 : Int32) * nI a + nI b = nI (10 * a + b) by rw [show (10 : Int32) = nI 10 from rfl, pk_mul, nI_add]]
                refine x_goto 153 dX9_sellers_148 rfl ?_
                refine xsi5 dX9_sellers_153 (by decide) rfl ?_
                refine xinc4 _ dX9_sellers_155 (by decide) rfl (nI_1 _) ?_
                exact kk
            · have c4 := b2_eq.mp c3
              have e : slS v w p a b = p := if_neg (fun z => by rw [z.2] at c4; cases c4)
              rw [e] at kk
              refine x_goto 158 dX9_sellers_101 rfl ?_
              exact kk
        have sle : ∀ (p : Sl) (a b : Nat), (slS v w p a b).1 ≤ p.1 + 1 := by
          intro p a b
          unfold slS
          split
          · exact Nat.le_refl _
          · omega
        have i1 := sle (0, -1, 0) 0 0
        have i2 := sle (slS v w (0, -1, 0) 0 0) 0 1
        have i3 := sle (slS v w (slS v w (0, -1, 0) 0 0) 0 1) 1 0
        refine x_iconst dX9_sellers_39 0 rfl ?_
        refine x_iconst dX9_sellers_40 1 rfl ?_
        refine x_iconst dX9_sellers_41 1 rfl ?_
        refine xiV3 dX9_sellers_42 v_X9_171_27 tw_get0 (Nat.le_of_ble_eq_true rfl) (c_badF hI0.1 hb rfl _ 1 (by decide)) ?_
        refine x_if_eq 50 dX9_sellers_45 rfl (fun _ => ?_) (fun hc9 => absurd (rfl) hc9)
        refine x_iconst dX9_sellers_50 0 rfl ?_
        refine xsi4 dX9_sellers_51 (by decide) rfl ?_
        refine x_iconst dX9_sellers_53 (-1) rfl ?_
        refine x_at 54 rfl ?_
        refine xsi5 dX9_sellers_54 (by decide) rfl ?_
        refine x_iconst dX9_sellers_56 0 rfl ?_
        refine xsi6 dX9_sellers_57 (by decide) rfl ?_
        refine x_iconst dX9_sellers_59 0 rfl ?_
        refine xsi7 dX9_sellers_60 (by decide) rfl ?_
        refine x_iload dX9_sellers_62 rfl ?_
        refine x_iconst dX9_sellers_64 2 rfl ?_
        refine x_icmp_ge 170 dX9_sellers_65 rfl (fun hc9 => absurd hc9 (by decide)) (fun _ => ?_)
        refine x_at 68 rfl ?_
        refine x_iconst dX9_sellers_68 0 rfl ?_
        refine xsi8 dX9_sellers_69 (by decide) rfl ?_
        refine step (0, -1, 0) 0 0 (by decide) (by decide) (by decide) ?_
        refine xinc8 _ dX9_sellers_158 (by decide) rfl rfl ?_
        refine x_goto 71 dX9_sellers_161 rfl ?_
        refine step _ 0 1 (by decide) (by decide) (by show _ < _; omega) ?_
        refine xinc8 _ dX9_sellers_158 (by decide) rfl rfl ?_
        refine x_goto 71 dX9_sellers_161 rfl ?_
        refine x_iload dX9_sellers_71 rfl ?_
        refine x_iconst dX9_sellers_73 2 rfl ?_
        refine x_icmp_ge 164 dX9_sellers_74 rfl (fun _ => ?_) (fun hc => absurd (by decide) hc)
        refine xinc7 _ dX9_sellers_164 (by decide) rfl rfl ?_
        refine x_goto 62 dX9_sellers_167 rfl ?_
        refine x_iload dX9_sellers_62 rfl ?_
        refine x_iconst dX9_sellers_64 2 rfl ?_
        refine x_icmp_ge 170 dX9_sellers_65 rfl (fun hc9 => absurd hc9 (by decide)) (fun _ => ?_)
        refine x_iconst dX9_sellers_68 0 rfl ?_
        refine xsi8 dX9_sellers_69 (by decide) rfl ?_
        refine step _ 1 0 (by decide) (by decide) (by show _ < _; omega) ?_
        refine xinc8 _ dX9_sellers_158 (by decide) rfl rfl ?_
        refine x_goto 71 dX9_sellers_161 rfl ?_
        refine step _ 1 1 (by decide) (by decide) (by show _ < _; omega) ?_
        refine xinc8 _ dX9_sellers_158 (by decide) rfl rfl ?_
        refine x_goto 71 dX9_sellers_161 rfl ?_
        refine x_iload dX9_sellers_71 rfl ?_
        refine x_iconst dX9_sellers_73 2 rfl ?_
        refine x_icmp_ge 164 dX9_sellers_74 rfl (fun _ => ?_) (fun hc => absurd (by decide) hc)
        refine xinc7 _ dX9_sellers_164 (by decide) rfl rfl ?_
        refine x_goto 62 dX9_sellers_167 rfl ?_
        rw [← hQ]
        refine x_iload dX9_sellers_62 rfl ?_
        refine x_iconst dX9_sellers_64 2 rfl ?_
        refine x_icmp_ge 170 dX9_sellers_65 rfl (fun _ => ?_) (fun hc9 => absurd (by decide) hc9)
        refine x_iload_n dX9_sellers_170 rfl ?_
        refine x_if_ne 179 dX9_sellers_171 rfl (fun c5 => ?_) (fun c5 => ?_)
        · refine x_iload_n dX9_sellers_179 rfl ?_
          refine x_iconst dX9_sellers_180 1 rfl ?_
          refine x_icmp_ne 189 dX9_sellers_181 rfl (fun c6 => ?_) (fun c6 => ?_)
          · refine x_iload dX9_sellers_189 rfl ?_
            exact x_ireturn dX9_sellers_191 rfl (tQ.mk (show _ = (if x = 0 then _ else if x = 1 then _ else _) by rw [if_neg c5, if_neg c6]; rfl) hI0 rfl)
          · refine x_iload dX9_sellers_184 rfl ?_
            refine x_goto 191 dX9_sellers_186 rfl ?_
            exact x_ireturn dX9_sellers_191 rfl (tQ.mk (show _ = (if x = 0 then _ else if x = 1 then _ else _) by rw [if_neg c5, if_pos c6]; rfl) hI0 rfl)
        · refine x_iload dX9_sellers_174 rfl ?_
          refine x_goto 191 dX9_sellers_176 rfl ?_
          exact x_ireturn dX9_sellers_191 rfl (tQ.mk (show _ = (if x = 0 then _ else if x = 1 then _ else _) by rw [if_pos c5]; rfl) hI0 rfl)
      · exact no (fun z => of_decide_eq_false (b2_eq.mp c) z.2.2)
end TK
