set_option maxRecDepth 100000
/-! ===== the twin, 13: worth, fattest, fat, mend, above ===== -/
def tQL (T0 : Nat) (h : xH) (o : oL) : xQ := xP (fun v h' => v = .long o.2.1 ∧ ∃ s', h' = tw T0 h s' ∧ tIn s' o.2.2 ∧ s'.1 0 = nI o.1)
theorem tQL.mk {T0 : Nat} {h : xH} {o : oL} {v : Int64} {s' : tS} (hv : v = o.2.1) (hI : tIn s' o.2.2) (h0 : s'.1 0 = nI o.1) : tQL T0 h o (.returned (some (.long v))) (tw T0 h s') := ⟨_, rfl, by rw [hv], s', rfl, hI, h0⟩
theorem tJ.best {s : tS} {b : Int64 × Int64} (h : tOK s) : tJ s (sBest s b) := ((tJ.refl h).setl).setl
theorem tJ.rg {s : tS} {r : Rg} (h : tOK s) : tJ s (sRg s r) := ((tJ.best h).seta rfl fz_len).seti rfl
section TV
variable {G : xG} {d : Nat} {h : xH} {T0 : Nat} {s : tS} {W : Wd}
theorem wt_l {M : Mk} (hc : cB M) (a b : Nat) : bst M (0, 1) (pth (fun _ => true) M b 8 a [a]) = (lN (wtN M a b).1, lN (wtN M a b).2) ∧ (wtN M a b).1 ≤ 43046721 ∧ (wtN M a b).2 ≤ 43046721 ∧ 0 < (wtN M a b).2 :=
  ⟨bst_N hc _ (0, 1) (fun p hp => pth_ok 8 a [a] p hp) (by decide) (by decide), bstN_b hc _ (0, 1) (fun p hp => pth_ok 8 a [a] p hp) (by decide) (by decide) (by decide)⟩
theorem p_worth (hI : tIn s W) (hW : wOK W) (hb : G.2.2.1 ≤ T0) (a b x : Int32) : xMet G (d + 12) 0 0 m_X9_worth [.ref T0, .int a, .int b, .int x] (tw T0 h s) (tQL T0 h (oWorth W a b x)) := by
  refine xMet.of [some (.ref T0), some (.int a), some (.int b), some (.int x)] pl_X9 rfl (Nat.le_of_ble_eq_true rfl) ?_
  have hI0 := hI.J hW ((tJ.refl hI.1).seti (k := 0) (v := 0) rfl)
  have hm := hI0.2.2.2.2.2.1
  have hB := hW.2.2.2.2.2.1
  have hn := hI0.2.2.2.1.1
  have h8 := hW.2.2.1
  have no : ¬ (isT W a ∧ isT W b) → xRun G m_X9_worth (d + 12) 0 0 22 [some (.ref T0), some (.int a), some (.int b), some (.int x)] [.ref T0] (tw T0 h (seti s 0 0)) (tQL T0 h (oWorth W a b x)) := by
    intro q
    rw [oWorth, if_pos q]
    refine x_iconst dX9_worth_22 1 rfl ?_
    refine x_goto 27 dX9_worth_23 rfl ?_
    refine x_iconst dX9_worth_27 1 rfl ?_
    refine x_iconst dX9_worth_28 0 rfl ?_
    refine xiV3 dX9_worth_29 v_X9_171_27 tw_get0 (Nat.le_of_ble_eq_true rfl) (c_badT hI0.1 hb rfl _ (by decide) 0 (by decide)) ?_
    refine x_if_ne 63 dX9_worth_32 rfl (fun _ => ?_) (fun hc9 => absurd hc9 (by decide))
    refine x_lconst dX9_worth_63 0 rfl ?_
    exact x_lreturn dX9_worth_64 rfl (tQL.mk rfl (hI0.ref (by decide)) rfl)
  have no2 : (isT W a ∧ isT W b) → (a = b ∨ ¬ (0 ≤ x ∧ x ≤ 1)) → xRun G m_X9_worth (d + 12) 0 0 50 [some (.ref T0), some (.int a), some (.int b), some (.int x)] [.ref T0] (tw T0 h (seti s 0 0)) (tQL T0 h (oWorth W a b x)) := by
    intro q q2
    rw [oWorth, if_neg (fun r => r q), if_pos q2]
    refine x_iconst dX9_worth_50 1 rfl ?_
    refine x_goto 55 dX9_worth_51 rfl ?_
    refine x_iconst dX9_worth_55 2 rfl ?_
    refine x_iconst dX9_worth_56 1 rfl ?_
    refine xiV3 dX9_worth_57 v_X9_171_27 tw_get0 (Nat.le_of_ble_eq_true rfl) (c_badT hI0.1 hb rfl _ (by decide) 1 (by decide)) ?_
    refine x_if_eq 65 dX9_worth_60 rfl (fun hc9 => absurd hc9 (by decide)) (fun _ => ?_)
    refine x_lconst dX9_worth_63 0 rfl ?_
    exact x_lreturn dX9_worth_64 rfl (tQL.mk rfl (hI0.ref (by decide)) rfl)
  refine x_aload_n dX9_worth_0 rfl ?_
  refine x_iconst dX9_worth_1 0 rfl ?_
  refine t_pi dX9_worth_2 p_X9_92_27 rfl (by decide) hb ?_
  refine x_aload_n dX9_worth_5 rfl ?_
  refine x_aload_n dX9_worth_6 rfl ?_
  refine x_iload_n dX9_worth_7 rfl ?_
  refine xiV1 dX9_worth_8 v_X9_328_27 tw_get0 (Nat.le_of_ble_eq_true rfl) (c_isThing hI0.1 hn _) ?_
  refine x_if_eq 22 dX9_worth_11 rfl (fun c1 => ?_) (fun c1 => ?_)
  · have c2 : ¬ isT W a := of_decide_eq_false (b2_eq.mp c1)
    exact no (fun q => c2 q.1)
  · have c2 : isT W a := of_decide_eq_true (b2_ne.mp c1)
    refine x_aload_n dX9_worth_14 rfl ?_
    refine x_iload_n dX9_worth_15 rfl ?_
    refine xiV1 dX9_worth_16 v_X9_328_27 tw_get0 (Nat.le_of_ble_eq_true rfl) (c_isThing hI0.1 hn _) ?_
    refine x_if_ne 26 dX9_worth_19 rfl (fun c3 => ?_) (fun c3 => ?_)
    · have c4 : isT W b := of_decide_eq_true (b2_ne.mp c3)
      refine x_iconst dX9_worth_26 0 rfl ?_
      refine x_iconst dX9_worth_27 1 rfl ?_
      refine x_iconst dX9_worth_28 0 rfl ?_
      refine xiV3 dX9_worth_29 v_X9_171_27 tw_get0 (Nat.le_of_ble_eq_true rfl) (c_badF hI0.1 hb rfl _ 0 (by decide)) ?_
      refine x_if_ne 63 dX9_worth_32 rfl (fun hc9 => absurd (by decide) hc9) (fun _ => ?_)
      refine x_aload_n dX9_worth_35 rfl ?_
      refine x_iload_n dX9_worth_36 rfl ?_
      refine x_iload_n dX9_worth_37 rfl ?_
      refine x_at 38 rfl ?_
      refine x_icmp_eq 50 dX9_worth_38 rfl (fun c5 => ?_) (fun c5 => ?_)
      · exact no2 ⟨c2, c4⟩ (Or.inl c5)
      · refine x_iload_n dX9_worth_41 rfl ?_
        refine x_iconst dX9_worth_42 0 rfl ?_
        refine x_iconst dX9_worth_43 1 rfl ?_
        refine xiS3 dX9_worth_44 s_X9_126 (Nat.le_of_ble_eq_true rfl) (c_in _ _ _) ?_
        refine x_if_ne 54 dX9_worth_47 rfl (fun c7 => ?_) (fun c7 => ?_)
        · have c8 := of_decide_eq_true (b2_ne.mp c7)
          rw [oWorth, if_neg (fun r => r ⟨c2, c4⟩), if_neg (fun q => q.elim c5 (fun z => z c8))]
          obtain ⟨t, ht, rfl, et⟩ := isT_ix hW c2
          obtain ⟨u, hu, rfl, eu⟩ := isT_ix hW c4
          rw [et, eu]
          have htu : ¬ t = u := fun q => c5 (by rw [q])
          obtain ⟨eb, b1, b2', b3⟩ := wt_l hB.cB t u
          have hr := ptL_N (part := x) (u := (wtN (wM W) t u).1) (l := (wtN (wM W) t u).2) (by omega) (by omega) b3
          have key := c_worths (G := G) (d := d) (h := h) hI0.1 hb hm hB.1 (hB.sm h8) t u (by omega) (by omega) htu
          rw [eb] at key
          refine x_iconst dX9_worth_54 0 rfl ?_
          refine x_iconst dX9_worth_55 2 rfl ?_
          refine x_iconst dX9_worth_56 1 rfl ?_
          refine xiV3 dX9_worth_57 v_X9_171_27 tw_get0 (Nat.le_of_ble_eq_true rfl) (c_badF hI0.1 hb rfl _ 1 (by decide)) ?_
          refine x_if_eq 65 dX9_worth_60 rfl (fun _ => ?_) (fun hc9 => absurd (rfl) hc9)
          refine x_aload_n dX9_worth_65 rfl ?_
          refine x_iload_n dX9_worth_66 rfl ?_
          refine x_iload_n dX9_worth_67 rfl ?_
          refine x_at 68 rfl ?_
          refine xuV2 dX9_worth_68 v_X9_359_27 tw_get0 (Nat.le_of_ble_eq_true rfl) (key) ?_
          refine x_aload_n dX9_worth_71 rfl ?_
          refine t_gl dX9_worth_72 f_X9_338_27 (by decide) rfl (by decide) rfl ?_
          refine x_aload_n dX9_worth_75 rfl ?_
          refine t_gl dX9_worth_76 f_X9_334_27 (by decide) rfl (by decide) rfl ?_
          refine x_iload_n dX9_worth_79 rfl ?_
          refine xiS3 dX9_worth_80 s_X9_362 (Nat.le_of_ble_eq_true rfl) (c_partOf ((wtN (wM W) t u).1 + 1) (lN (wtN (wM W) t u).1) (lN (wtN (wM W) t u).2) _ hr.1 hr.2.1) ?_
          exact x_lreturn dX9_worth_83 rfl (tQL.mk hr.2.2 (hI0.J hW (tJ.best hI0.1)) rfl)
        · have c8 := of_decide_eq_false (b2_eq.mp c7)
          exact no2 ⟨c2, c4⟩ (Or.inr c8)
    · have c4 : ¬ isT W b := of_decide_eq_false (b2_eq.mp c3)
      exact no (fun q => c4 q.2)
theorem rgA_l {M : Mk} (hc : cB M) (n : Nat) : (rgA M n).1 = (lN (bstN M (0, 1) (allR M n)).1, lN (bstN M (0, 1) (allR M n)).2) ∧ ((bstN M (0, 1) (allR M n)).1 ≤ 43046721 ∧ (bstN M (0, 1) (allR M n)).2 ≤ 43046721 ∧ 0 < (bstN M (0, 1) (allR M n)).2) ∧ (rgA M n).2.2 = fewN M (allR M n) ∧ ∀ x, x ∈ (rgA M n).2.1 ↔ ∃ p ∈ allR M n, isFt M p = true ∧ pS p = x := by
  have h1 := rgF_few hc (allR M n) ((0, 1), [], none) allR_ok
  refine ⟨?_, bstN_b hc _ (0, 1) allR_ok (by decide) (by decide) (by decide), ?_, ?_⟩
  · rw [rgA_all, rgF_best]
    exact bst_N hc _ (0, 1) allR_ok (by decide) (by decide)
  · rw [rgA_all, h1.1]
    rfl
  · intro x
    rw [rgA_all, h1.2 x]
    exact ⟨fun q => q.elim (fun z => nomatch z) id, Or.inr⟩
theorem p_fattest (hI : tIn s W) (hW : wOK W) (hb : G.2.2.1 ≤ T0) (x : Int32) : xMet G (d + 13) 0 0 m_X9_fattest [.ref T0, .int x] (tw T0 h s) (tQL T0 h (oFattest W x)) := by
  refine xMet.of [some (.ref T0), some (.int x)] pl_X9 rfl (Nat.le_of_ble_eq_true rfl) ?_
  have hI0 := hI.J hW ((tJ.refl hI.1).seti (k := 0) (v := 0) rfl)
  have hm := hI0.2.2.2.2.2.1
  have hB := hW.2.2.2.2.2.1
  have hn := hI0.2.2.2.1.1
  have h8 := hW.2.2.1
  refine x_aload_n dX9_fattest_0 rfl ?_
  refine x_iconst dX9_fattest_1 0 rfl ?_
  refine t_pi dX9_fattest_2 p_X9_92_27 rfl (by decide) hb ?_
  refine x_aload_n dX9_fattest_5 rfl ?_
  refine x_iload_n dX9_fattest_6 rfl ?_
  refine x_iconst dX9_fattest_7 0 rfl ?_
  refine x_iconst dX9_fattest_8 1 rfl ?_
  refine xiS3 dX9_fattest_9 s_X9_126 (Nat.le_of_ble_eq_true rfl) (c_in _ _ _) ?_
  refine x_at 12 rfl ?_
  refine x_if_ne 19 dX9_fattest_12 rfl (fun c1 => ?_) (fun c1 => ?_)
  · have c2 := of_decide_eq_true (b2_ne.mp c1)
    rw [oFattest, if_pos c2]
    obtain ⟨e1, b1, -, -⟩ := rgA_l hB.cB (wN W)
    have hr := ptL_N (part := x) (u := (bstN (wM W) (0, 1) (allR (wM W) (wN W))).1) (l := (bstN (wM W) (0, 1) (allR (wM W) (wN W))).2) (by omega) (by omega) b1.2.2
    have f39 : (sRg (seti s 0 0) (rgA (wM W) (wN W))).2.1 39 = lN (bstN (wM W) (0, 1) (allR (wM W) (wN W))).1 := congrArg Prod.fst e1
    have f40 : (sRg (seti s 0 0) (rgA (wM W) (wN W))).2.1 40 = lN (bstN (wM W) (0, 1) (allR (wM W) (wN W))).2 := congrArg Prod.snd e1
    refine x_iconst dX9_fattest_19 0 rfl ?_
    refine x_iconst dX9_fattest_20 1 rfl ?_
    refine x_iconst dX9_fattest_21 1 rfl ?_
    refine xiV3 dX9_fattest_22 v_X9_171_27 tw_get0 (Nat.le_of_ble_eq_true rfl) (c_badF hI0.1 hb rfl _ 1 (by decide)) ?_
    refine x_if_eq 30 dX9_fattest_25 rfl (fun _ => ?_) (fun hc9 => absurd (rfl) hc9)
    refine x_aload_n dX9_fattest_30 rfl ?_
    refine xuV0 dX9_fattest_31 v_X9_366_27 tw_get0 (Nat.le_of_ble_eq_true rfl) (c_allRings hI0.1 hb hm hB.1 (hB.sm h8) hn h8) ?_
    refine x_aload_n dX9_fattest_34 rfl ?_
    refine t_gl dX9_fattest_35 f_X9_338_27 (by decide) rfl (by decide) f39 ?_
    refine x_aload_n dX9_fattest_38 rfl ?_
    refine t_gl dX9_fattest_39 f_X9_334_27 (by decide) rfl (by decide) f40 ?_
    refine x_iload_n dX9_fattest_42 rfl ?_
    refine xiS3 dX9_fattest_43 s_X9_362 (Nat.le_of_ble_eq_true rfl) (c_partOf _ _ _ _ hr.1 hr.2.1) ?_
    exact x_lreturn dX9_fattest_46 rfl (tQL.mk hr.2.2 (hI0.J hW (tJ.rg hI0.1)) rfl)
  · have c2 := of_decide_eq_false (b2_eq.mp c1)
    rw [oFattest, if_neg c2]
    refine x_iconst dX9_fattest_15 1 rfl ?_
    refine x_goto 20 dX9_fattest_16 rfl ?_
    refine x_iconst dX9_fattest_20 1 rfl ?_
    refine x_iconst dX9_fattest_21 1 rfl ?_
    refine xiV3 dX9_fattest_22 v_X9_171_27 tw_get0 (Nat.le_of_ble_eq_true rfl) (c_badT hI0.1 hb rfl _ (by decide) 1 (by decide)) ?_
    refine x_if_eq 30 dX9_fattest_25 rfl (fun hc9 => absurd hc9 (by decide)) (fun _ => ?_)
    refine x_lconst dX9_fattest_28 0 rfl ?_
    exact x_lreturn dX9_fattest_29 rfl (tQL.mk rfl (hI0.ref (by decide)) rfl)
theorem p_fat (hI : tIn s W) (hW : wOK W) (hb : G.2.2.1 ≤ T0) : xMet G (d + 13) 0 0 m_X9_fat [.ref T0] (tw T0 h s) (tQ T0 h (oFat W)) := by
  refine xMet.of [some (.ref T0)] pl_X9 rfl (Nat.le_of_ble_eq_true rfl) ?_
  have hI0 := hI.J hW ((tJ.refl hI.1).seti (k := 0) (v := 0) rfl)
  have hB := hW.2.2.2.2.2.1
  have h8 := hW.2.2.1
  obtain ⟨-, -, e3, -⟩ := rgA_l hB.cB (wN W)
  have f42 : (sRg (seti s 0 0) (rgA (wM W) (wN W))).1 42 = oN (fewN (wM W) (allR (wM W) (wN W))) := congrArg oN e3
  refine x_aload_n dX9_fat_0 rfl ?_
  refine x_iconst dX9_fat_1 0 rfl ?_
  refine t_pi dX9_fat_2 p_X9_92_27 rfl (by decide) hb ?_
  refine x_aload_n dX9_fat_5 rfl ?_
  refine xuV0 dX9_fat_6 v_X9_366_27 tw_get0 (Nat.le_of_ble_eq_true rfl) (c_allRings hI0.1 hb hI0.2.2.2.2.2.1 hB.1 (hB.sm h8) hI0.2.2.2.1.1 h8) ?_
  refine x_aload_n dX9_fat_9 rfl ?_
  refine t_gi dX9_fat_10 f_X9_356_27 (by decide) rfl (by decide) f42 ?_
  exact x_ireturn dX9_fat_13 rfl (tQ.mk rfl (hI0.J hW (tJ.rg hI0.1)) rfl)
theorem nI_and (a b : Nat) : nI a &&& nI b = nI (a &&& b) := by
  apply Int32.toBitVec_inj.mp
  show BitVec.ofNat 32 a &&& BitVec.ofNat 32 b = BitVec.ofNat 32 (a &&& b)
  rw [BitVec.ofNat_and]
theorem sh2 : ∀ m, m ≤ 10 → sh1 m = nI (2 ^ m) := by decide +kernel
theorem fz_mem {fats : List Nat} {n : Nat} (h : n < 1024) : (fz fats).getD n 0 = b2 (decide (n ∈ fats)) := fz_get h
theorem c_isMended (hs : tOK s) {M : Mk} (hm : s.2.2 448 = mrow M) (hM : mOK M) {fats : List Nat} (hz : s.2.2 472 = fz fats) (g : Nat) (hg : g < 1024) : xMet G d 0 0 m_X9_isMended [.ref T0, .int (nI g)] (tw T0 h s) (xI (.int (b2 (decide (∀ x ∈ fats, 1 ≤ x → x < 2 ^ M.2.2.1.length → ¬ x &&& g = 0)))) (tw T0 h s)) := by
  refine xMet.of [some (.ref T0), some (.int (nI g)), none] pl_X9 rfl (Nat.le_of_ble_eq_true rfl) ?_
  have h10 := hM.2.2
  have j448 : tRow 448 := Or.inl rfl
  have p10 : 2 ^ M.2.2.1.length ≤ 1024 := Nat.pow_le_pow_right (by decide) h10
  have p0 : 1 ≤ 2 ^ M.2.2.1.length := Nat.one_le_two_pow
  refine x_iconst dX9_isMended_0 1 rfl ?_
  refine xsi2 dX9_isMended_1 (by decide) rfl ?_
  suffices hh : (∀ x ∈ fats, 1 ≤ x → x < 1 → ¬ x &&& g = 0) → xRun G m_X9_isMended d 0 0 2 [some (.ref T0), some (.int (nI g)), some (.int (nI 1))] [] (tw T0 h s) (xI (.int (b2 (decide (∀ x ∈ fats, 1 ≤ x → x < 2 ^ M.2.2.1.length → ¬ x &&& g = 0)))) (tw T0 h s)) from hh (fun x _ h1 h2 => absurd h2 (by omega))
  refine xfor2 (fun c => (∀ x ∈ fats, 1 ≤ x → x < c → ¬ x &&& g = 0) → xRun G m_X9_isMended d 0 0 2 [some (.ref T0), some (.int (nI g)), some (.int (nI c))] [] (tw T0 h s) (xI (.int (b2 (decide (∀ x ∈ fats, 1 ≤ x → x < 2 ^ M.2.2.1.length → ¬ x &&& g = 0)))) (tw T0 h s))) 1 (2 ^ M.2.2.1.length) p0 ?_ ?_
  · intro c h1 hc ih hx
    refine x_iload_n dX9_isMended_2 rfl ?_
    refine x_iconst dX9_isMended_3 1 rfl ?_
    refine x_aload_n dX9_isMended_4 rfl ?_
    refine t_ga 448 dX9_isMended_5 f_X9_61_27 (by decide) rfl (by decide) ?_
    refine x_bipush dX9_isMended_8 56 (by decide) ?_
    refine t_rj 56 dX9_isMended_10 hs j448 hm rfl (by decide) (mrow_n hM) ?_
    refine x_ishl dX9_isMended_11 ?_
    rw [show (1 : Int32) <<< (nI M.2.2.1.length &&& 31) = nI (2 ^ M.2.2.1.length) from sh2 _ h10]
    have nx : ¬ (c ∈ fats ∧ c &&& g = 0) → xRun G m_X9_isMended d 0 0 32 [some (.ref T0), some (.int (nI g)), some (.int (nI c))] [] (tw T0 h s) (xI (.int (b2 (decide (∀ x ∈ fats, 1 ≤ x → x < 2 ^ M.2.2.1.length → ¬ x &&& g = 0)))) (tw T0 h s)) := by
      intro hq
      refine xinc2 _ dX9_isMended_32 (by decide) rfl (nI_1 c) ?_
      refine x_goto 2 dX9_isMended_35 rfl ?_
      refine ih (fun x h4 h2 h3 => ?_)
      by_cases e : x = c
      · subst e; exact fun q => hq ⟨h4, q⟩
      · exact hx x h4 h2 (by omega)
    refine x_icmp_ge 38 dX9_isMended_12 rfl (fun hc9 => absurd hc9 (nI_ge hc (by omega))) (fun _ => ?_)
    refine x_aload_n dX9_isMended_15 rfl ?_
    refine t_ga 472 dX9_isMended_16 f_X9_76_27 (by decide) rfl (by decide) ?_
    refine x_iload_n dX9_isMended_19 rfl ?_
    refine t_za c dX9_isMended_20 hs rfl (by omega) (gt hz (fz_get (by omega))) ?_
    refine x_if_eq 32 dX9_isMended_21 rfl (fun c1 => ?_) (fun c1 => ?_)
    · exact nx (fun q => of_decide_eq_false (b2_eq.mp c1) q.1)
    · have c2 := of_decide_eq_true (b2_ne.mp c1)
      have hand : c &&& g < 1024 := Nat.lt_of_le_of_lt Nat.and_le_left (by omega)
      refine x_iload_n dX9_isMended_24 rfl ?_
      refine x_iload_n dX9_isMended_25 rfl ?_
      refine x_iand dX9_isMended_26 ?_
      rw [nI_and]
      refine x_if_ne 32 dX9_isMended_27 rfl (fun c3 => ?_) (fun c3 => ?_)
      · exact nx (fun q => c3 (by rw [q.2]; rfl))
      · have c4 : c &&& g = 0 := (nI_eq (by omega) (b := 0) (by decide)).mp c3
        refine x_iconst dX9_isMended_30 0 rfl ?_
        exact x_zreturn dX9_isMended_31 rfl rfl (xr0 (decide_eq_false (fun q => q c c2 h1 hc c4)))
  · intro hx
    refine x_iload_n dX9_isMended_2 rfl ?_
    refine x_iconst dX9_isMended_3 1 rfl ?_
    refine x_aload_n dX9_isMended_4 rfl ?_
    refine t_ga 448 dX9_isMended_5 f_X9_61_27 (by decide) rfl (by decide) ?_
    refine x_bipush dX9_isMended_8 56 (by decide) ?_
    refine t_rj 56 dX9_isMended_10 hs j448 hm rfl (by decide) (mrow_n hM) ?_
    refine x_ishl dX9_isMended_11 ?_
    rw [show (1 : Int32) <<< (nI M.2.2.1.length &&& 31) = nI (2 ^ M.2.2.1.length) from sh2 _ h10]
    refine x_icmp_ge 38 dX9_isMended_12 rfl (fun _ => ?_) (fun hc9 => absurd (Int32.le_refl _) hc9)
    refine x_iconst dX9_isMended_38 1 rfl ?_
    exact x_zreturn dX9_isMended_39 rfl rfl (xr1 (decide_eq_true hx))
theorem pS_pos {p : List Nat} (h : ¬ p = []) : 1 ≤ pS p := by
  unfold pS
  have mono : ∀ (l : List Nat) (s : Nat), s ≤ l.foldl (fun s c => s ||| (1 <<< c)) s := by
    intro l
    induction l with
    | nil => intro s; exact Nat.le_refl _
    | cons c l ih => intro s; exact Nat.le_trans Nat.left_le_or (ih _)
  cases p with
  | nil => exact absurd rfl h
  | cons c p =>
    refine Nat.le_trans ?_ (mono p _)
    show 1 ≤ 0 ||| 1 <<< c
    rw [Nat.zero_or, Nat.one_shiftLeft]
    exact Nat.one_le_two_pow
theorem pS_lt2 {m : Nat} {p : List Nat} (h : ∀ c ∈ p, c < m) : pS p < 2 ^ m := by
  unfold pS
  suffices hh : ∀ s, s < 2 ^ m → p.foldl (fun s c => s ||| (1 <<< c)) s < 2 ^ m from hh 0 Nat.one_le_two_pow
  induction p with
  | nil => intro s hs; exact hs
  | cons c p ih =>
    intro s hs
    refine ih (fun x hx => h x (List.mem_cons_of_mem _ hx)) _ ?_
    refine Nat.or_lt_two_pow hs ?_
    rw [Nat.one_shiftLeft]
    exact Nat.pow_lt_pow_right (by decide) (h c List.mem_cons_self)
theorem pth_ne {ok : Nat → Bool} {M : Mk} {fin f at' : Nat} {seen p : List Nat} (h : p ∈ pth ok M fin f at' seen) : ¬ p = [] := by
  cases f with
  | zero => cases h
  | succ f =>
    unfold pth at h
    obtain ⟨c, hc, hp⟩ := List.mem_flatMap.mp h
    unfold pthC at hp
    split at hp
    · cases hp
    · split at hp
      · rw [List.mem_singleton.mp hp]; simp
      · split at hp
        · cases hp
        · obtain ⟨q, hq, rfl⟩ := List.mem_map.mp hp
          simp
theorem isMd_eq {M : Mk} (hc : cB M) (n g : Nat) : decide (∀ x ∈ (rgA M n).2.1, 1 ≤ x → x < 2 ^ M.2.2.1.length → ¬ x &&& g = 0) = isMd M n g := by
  obtain ⟨-, -, -, e4⟩ := rgA_l hc n
  unfold isMd
  refine decide_eq_decide.mpr ⟨fun q p hp hf => ?_, fun q x h3 h1 h2 => ?_⟩
  · refine q (pS p) ((e4 _).mpr ⟨p, hp, hf, rfl⟩) ?_ (pS_lt2 (allR_ok p hp).2)
    obtain ⟨t, _, h⟩ := List.mem_flatMap.mp hp
    exact pS_pos (pth_ne h)
  · obtain ⟨p, hp, hf, rfl⟩ := (e4 x).mp h3
    exact q p hp hf
theorem mdT_lt {ok : Nat → Bool} : ∀ (g b : Nat), b < 1024 → g ≤ 1024 → mdT ok g b < 1024
  | 0, b, h, _ => h
  | g + 1, b, h, h2 => by
    unfold mdT
    refine mdT_lt g _ ?_ (by omega)
    split <;> omega
theorem p_mend (hI : tIn s W) (hW : wOK W) (hb : G.2.2.1 ≤ T0) : xMet G (d + 13) 0 0 m_X9_mend [.ref T0] (tw T0 h s) (tQ T0 h (oMend W)) := by
  refine xMet.of [some (.ref T0), none, none] pl_X9 rfl (Nat.le_of_ble_eq_true rfl) ?_
  have hI0 := hI.J hW ((tJ.refl hI.1).seti (k := 0) (v := 0) rfl)
  have hB := hW.2.2.2.2.2.1
  have h8 := hW.2.2.1
  have h10 := hB.1.2.2
  have j448 : tRow 448 := Or.inl rfl
  have p10 : 2 ^ (wM W).2.2.1.length ≤ 1024 := Nat.pow_le_pow_right (by decide) h10
  have p0 : 1 ≤ 2 ^ (wM W).2.2.1.length := Nat.one_le_two_pow
  generalize hs1 : sRg (seti s 0 0) (rgA (wM W) (wN W)) = s1
  have hI1 : tIn s1 W := by rw [← hs1]; exact hI0.J hW (tJ.rg hI0.1)
  have t0 : s1.1 0 = 0 := by rw [← hs1]; rfl
  have hz : s1.2.2 472 = fz (rgA (wM W) (wN W)).2.1 := by rw [← hs1]; exact seta_get
  have key := c_allRings (G := G) (d := d) (h := h) hI0.1 hb hI0.2.2.2.2.2.1 hB.1 (hB.sm h8) hI0.2.2.2.1.1 h8
  rw [hs1] at key
  refine x_aload_n dX9_mend_0 rfl ?_
  refine x_iconst dX9_mend_1 0 rfl ?_
  refine t_pi dX9_mend_2 p_X9_92_27 rfl (by decide) hb ?_
  refine x_aload_n dX9_mend_5 rfl ?_
  refine xuV0 dX9_mend_6 v_X9_366_27 tw_get0 (Nat.le_of_ble_eq_true rfl) (key) ?_
  refine x_iconst dX9_mend_9 1 rfl ?_
  refine x_aload_n dX9_mend_10 rfl ?_
  refine t_ga 448 dX9_mend_11 f_X9_61_27 (by decide) rfl (by decide) ?_
  refine x_at 14 rfl ?_
  refine x_bipush dX9_mend_14 56 (by decide) ?_
  refine t_rj 56 dX9_mend_16 hI1.1 j448 hI1.2.2.2.2.2.1 rfl (by decide) (mrow_n hB.1) ?_
  refine x_ishl dX9_mend_17 ?_
  rw [show (1 : Int32) <<< (nI (wM W).2.2.1.length &&& 31) = nI (2 ^ (wM W).2.2.1.length) from sh2 _ h10]
  refine x_iconst dX9_mend_18 1 rfl ?_
  refine x_isub dX9_mend_19 ?_
  rw [show nI (2 ^ (wM W).2.2.1.length) - 1 = nI (2 ^ (wM W).2.2.1.length - 1) from pk_sub (b := 1) p0]
  refine xsi1 dX9_mend_20 (by decide) rfl ?_
  refine x_iload_n dX9_mend_21 rfl ?_
  refine xsi2 dX9_mend_22 (by decide) rfl ?_
  have loop : ∀ (g b : Nat) (hg : g ≤ 1024) (hb9 : b < 1024) (v : Int32), v = nI g - 1 → mdT (isMd (wM W) (wN W)) g b = mdT (isMd (wM W) (wN W)) (2 ^ (wM W).2.2.1.length) (2 ^ (wM W).2.2.1.length - 1) → xRun G m_X9_mend (d + 13) 0 0 23 [some (.ref T0), some (.int (nI b)), some (.int v)] [] (tw T0 h s1) (tQ T0 h (oMend W)) := by
    intro g
    induction g with
    | zero =>
      intro b hg hb9 v hv e
      subst hv
      refine x_iload_n dX9_mend_23 rfl ?_
      refine x_if_lt 58 dX9_mend_24 rfl (fun _ => ?_) (fun hc9 => absurd (by decide) hc9)
      refine x_iload_n dX9_mend_58 rfl ?_
      refine x_ireturn dX9_mend_59 rfl (tQ.mk ?_ hI1 t0)
      rw [oMend, ← e]
      rfl
    | succ g ih =>
      intro b hg hb9 v hv e
      rw [nI_pred] at hv
      subst hv
      rw [show mdT (isMd (wM W) (wN W)) (g + 1) b = mdT (isMd (wM W) (wN W)) g (if pc g ≤ pc b ∧ isMd (wM W) (wN W) g = true then g else b) from rfl] at e
      have nx : ∀ b', b' = (if pc g ≤ pc b ∧ isMd (wM W) (wN W) g = true then g else b) → xRun G m_X9_mend (d + 13) 0 0 51 [some (.ref T0), some (.int (nI b)), some (.int (nI g))] [.int (nI b')] (tw T0 h s1) (tQ T0 h (oMend W)) := by
        intro b' hb'
        rw [← hb'] at e
        have lb : b' < 1024 := by rw [hb']; split <;> omega
        refine xsi1 dX9_mend_51 (by decide) rfl ?_
        refine xinc2 _ dX9_mend_52 (by decide) rfl (show nI g + (-1) = nI g - 1 from (Int32.sub_eq_add_neg (nI g) 1).symm) ?_
        refine x_goto 23 dX9_mend_55 rfl ?_
        exact ih b' (by omega) lb _ rfl e
      have key2 := c_isMended (G := G) (d := d + 12) (h := h) (T0 := T0) hI1.1 hI1.2.2.2.2.2.1 hB.1 hz g (by omega)
      rw [isMd_eq hB.cB] at key2
      have o1 := on_pc g (by omega)
      have o2 := on_pc b (by omega)
      have l1 := pc_le10 g
      have l2 := pc_le10 b
      refine x_iload_n dX9_mend_23 rfl ?_
      refine x_if_lt 58 dX9_mend_24 rfl (fun hc9 => absurd hc9 (nI_pos (by omega))) (fun _ => ?_)
      refine x_iload_n dX9_mend_27 rfl ?_
      refine xiS1 dX9_mend_28 s_X9_260 (Nat.le_of_ble_eq_true rfl) (c_ones _) ?_
      refine x_iload_n dX9_mend_31 rfl ?_
      refine xiS1 dX9_mend_32 s_X9_260 (Nat.le_of_ble_eq_true rfl) (c_ones _) ?_
      rw [o1, o2]
      refine x_icmp_gt 50 dX9_mend_35 rfl (fun c1 => ?_) (fun c1 => ?_)
      · have c2 : ¬ pc g ≤ pc b := by
          have := (nI_ltI (by omega) (by omega)).mp c1
          omega
        refine x_iload_n dX9_mend_50 rfl ?_
        exact nx b (by rw [if_neg (fun q => c2 q.1)])
      · have c2 : pc g ≤ pc b := Nat.le_of_not_lt (fun q => c1 ((nI_ltI (by omega) (by omega)).mpr q))
        refine x_aload_n dX9_mend_38 rfl ?_
        refine x_iload_n dX9_mend_39 rfl ?_
        refine xiV1 dX9_mend_40 v_X9_369_27 tw_get0 (Nat.le_of_ble_eq_true rfl) (key2) ?_
        refine x_if_eq 50 dX9_mend_43 rfl (fun c3 => ?_) (fun c3 => ?_)
        · have c4 := b2_eq.mp c3
          refine x_iload_n dX9_mend_50 rfl ?_
          exact nx b (by rw [if_neg (fun q => by rw [q.2] at c4; cases c4)])
        · have c4 := b2_ne.mp c3
          refine x_iload_n dX9_mend_46 rfl ?_
          refine x_goto 51 dX9_mend_47 rfl ?_
          exact nx g (by rw [if_pos ⟨c2, c4⟩])
  exact loop (2 ^ (wM W).2.2.1.length) (2 ^ (wM W).2.2.1.length - 1) p10 (by omega) _ (pk_sub (b := 1) p0).symm rfl
theorem p_above (hI : tIn s W) (hW : wOK W) (hb : G.2.2.1 ≤ T0) (a : Int32) : xMet G (d + 12) 0 0 m_X9_above [.ref T0, .int a] (tw T0 h s) (tQ T0 h (oAbove W a)) := by
  refine xMet.of [some (.ref T0), some (.int a), none, none] pl_X9 rfl (Nat.le_of_ble_eq_true rfl) ?_
  have hI0 := hI.J hW ((tJ.refl hI.1).seti (k := 0) (v := 0) rfl)
  have hm := hI0.2.2.2.2.2.1
  have hB := hW.2.2.2.2.2.1
  have hn := hI0.2.2.2.1.1
  have h8 := hW.2.2.1
  refine x_aload_n dX9_above_0 rfl ?_
  refine x_iconst dX9_above_1 0 rfl ?_
  refine t_pi dX9_above_2 p_X9_92_27 rfl (by decide) hb ?_
  refine x_aload_n dX9_above_5 rfl ?_
  refine x_aload_n dX9_above_6 rfl ?_
  refine x_iload_n dX9_above_7 rfl ?_
  refine xiV1 dX9_above_8 v_X9_328_27 tw_get0 (Nat.le_of_ble_eq_true rfl) (c_isThing hI0.1 hn _) ?_
  refine x_if_ne 18 dX9_above_11 rfl (fun c1 => ?_) (fun c1 => ?_)
  · have c2 : isT W a := of_decide_eq_true (b2_ne.mp c1)
    rw [oAbove, if_neg (fun q => q c2)]
    obtain ⟨t, ht, rfl, et⟩ := isT_ix hW c2
    rw [et]
    refine x_iconst dX9_above_18 0 rfl ?_
    refine x_iconst dX9_above_19 1 rfl ?_
    refine x_iconst dX9_above_20 0 rfl ?_
    refine xiV3 dX9_above_21 v_X9_171_27 tw_get0 (Nat.le_of_ble_eq_true rfl) (c_badF hI0.1 hb rfl _ 0 (by decide)) ?_
    refine x_if_eq 29 dX9_above_24 rfl (fun _ => ?_) (fun hc9 => absurd (by decide) hc9)
    refine x_iconst dX9_above_29 0 rfl ?_
    refine xsi2 dX9_above_30 (by decide) rfl ?_
    refine x_iconst dX9_above_31 0 rfl ?_
    refine x_at 32 rfl ?_
    refine xsi3 dX9_above_32 (by decide) rfl ?_
    suffices hh : ∀ s1, tIn s1 W → s1.1 0 = 0 → xRun G m_X9_above (d + 12) 0 0 33 [some (.ref T0), some (.int (nI t)), some (.int (abk (wM W) t 0)), some (.int (nI 0))] [] (tw T0 h s1) (tQ T0 h (0, abk (wM W) t (wN W), W)) from hh _ hI0 rfl
    refine xfor (fun b => ∀ s1, tIn s1 W → s1.1 0 = 0 → xRun G m_X9_above (d + 12) 0 0 33 [some (.ref T0), some (.int (nI t)), some (.int (abk (wM W) t b)), some (.int (nI b))] [] (tw T0 h s1) (tQ T0 h (0, abk (wM W) t (wN W), W))) (wN W) ?_ ?_
    · intro b hb9 ih s1 hI1 h01
      have hn1 := hI1.2.2.2.1.1
      refine x_iload_n dX9_above_33 rfl ?_
      refine x_aload_n dX9_above_34 rfl ?_
      refine t_ga 4 dX9_above_35 f_X9_23_27 (by decide) rfl (by decide) ?_
      refine x_iconst dX9_above_38 0 rfl ?_
      refine t_ia 0 dX9_above_39 hI1.1 (by decide) rfl (by decide) hn1 ?_
      refine x_icmp_ge 85 dX9_above_40 rfl (fun hc9 => absurd hc9 (nI_ge hb9 (by omega))) (fun _ => ?_)
      refine x_iload_n dX9_above_43 rfl ?_
      refine x_iload_n dX9_above_44 rfl ?_
      refine x_at 45 rfl ?_
      refine x_icmp_ne 51 dX9_above_45 rfl (fun c3 => ?_) (fun c3 => ?_)
      · have c4 : ¬ t = b := fun q => c3 (by rw [q])
        obtain ⟨eb, b1, b2', b3⟩ := wt_l hB.cB b t
        have key := c_worths (G := G) (d := d) (h := h) hI1.1 hb hI1.2.2.2.2.2.1 hB.1 (hB.sm h8) b t (by omega) (by omega) (Ne.symm c4)
        rw [eb] at key
        have nx : ∀ v, v = (if (wtN (wM W) b t).2 ≤ (wtN (wM W) b t).1 then sh1 b else 0) → xRun G m_X9_above (d + 12) 0 0 77 [some (.ref T0), some (.int (nI t)), some (.int (abk (wM W) t b)), some (.int (nI b))] [.int v, .int (abk (wM W) t b)] (tw T0 h (sBest s1 (lN (wtN (wM W) b t).1, lN (wtN (wM W) b t).2))) (tQ T0 h (0, abk (wM W) t (wN W), W)) := by
          intro v hv
          subst hv
          refine x_ior dX9_above_77 ?_
          refine xsi2 dX9_above_78 (by decide) rfl ?_
          refine xinc3 _ dX9_above_79 (by decide) rfl (nI_1 b) ?_
          refine x_goto 33 dX9_above_82 rfl ?_
          have := ih _ (hI1.J hW (tJ.best (b := (lN (wtN (wM W) b t).1, lN (wtN (wM W) b t).2)) hI1.1)) h01
          rw [abk, if_neg c4] at this
          exact this
        refine x_aload_n dX9_above_51 rfl ?_
        refine x_iload_n dX9_above_52 rfl ?_
        refine x_iload_n dX9_above_53 rfl ?_
        refine xuV2 dX9_above_54 v_X9_359_27 tw_get0 (Nat.le_of_ble_eq_true rfl) (key) ?_
        refine x_iload_n dX9_above_57 rfl ?_
        refine x_aload_n dX9_above_58 rfl ?_
        refine t_gl dX9_above_59 f_X9_338_27 (by decide) rfl (by decide) rfl ?_
        refine x_aload_n dX9_above_62 rfl ?_
        refine x_at 63 rfl ?_
        refine t_gl dX9_above_63 f_X9_334_27 (by decide) rfl (by decide) rfl ?_
        refine x_lcmp dX9_above_66 ?_
        refine x_if_lt 76 dX9_above_67 rfl (fun c5 => ?_) (fun c5 => ?_)
        · have c6 : ¬ (wtN (wM W) b t).2 ≤ (wtN (wM W) b t).1 := by
            have := (pk_lLT (by omega) (by omega)).mp ((lg_cmp_lt _ _).mp c5)
            omega
          refine x_iconst dX9_above_76 0 rfl ?_
          exact nx _ (by rw [if_neg c6])
        · have c6 : (wtN (wM W) b t).2 ≤ (wtN (wM W) b t).1 := Nat.le_of_not_lt (fun q => c5 ((lg_cmp_lt _ _).mpr ((pk_lLT (by omega) (by omega)).mpr q)))
          refine x_iconst dX9_above_70 1 rfl ?_
          refine x_iload_n dX9_above_71 rfl ?_
          refine x_ishl dX9_above_72 ?_
          refine x_goto 77 dX9_above_73 rfl ?_
          exact nx _ (by rw [if_pos c6]; rfl)
      · have c4 : t = b := (nI_eq (by omega) (by omega)).mp c3
        refine x_goto 79 dX9_above_48 rfl ?_
        refine xinc3 _ dX9_above_79 (by decide) rfl (nI_1 b) ?_
        refine x_goto 33 dX9_above_82 rfl ?_
        have := ih s1 hI1 h01
        rw [abk, if_pos c4] at this
        exact this
    · intro s1 hI1 h01
      have hn1 := hI1.2.2.2.1.1
      refine x_iload_n dX9_above_33 rfl ?_
      refine x_aload_n dX9_above_34 rfl ?_
      refine t_ga 4 dX9_above_35 f_X9_23_27 (by decide) rfl (by decide) ?_
      refine x_iconst dX9_above_38 0 rfl ?_
      refine t_ia 0 dX9_above_39 hI1.1 (by decide) rfl (by decide) hn1 ?_
      refine x_icmp_ge 85 dX9_above_40 rfl (fun _ => ?_) (fun hc9 => absurd (Int32.le_refl _) hc9)
      refine x_iload_n dX9_above_85 rfl ?_
      exact x_ireturn dX9_above_86 rfl (tQ.mk rfl hI1 h01)
  · have c2 : ¬ isT W a := of_decide_eq_false (b2_eq.mp c1)
    rw [oAbove, if_pos c2]
    refine x_iconst dX9_above_14 1 rfl ?_
    refine x_goto 19 dX9_above_15 rfl ?_
    refine x_iconst dX9_above_19 1 rfl ?_
    refine x_iconst dX9_above_20 0 rfl ?_
    refine xiV3 dX9_above_21 v_X9_171_27 tw_get0 (Nat.le_of_ble_eq_true rfl) (c_badT hI0.1 hb rfl _ (by decide) 0 (by decide)) ?_
    refine x_if_eq 29 dX9_above_24 rfl (fun hc9 => absurd hc9 (by decide)) (fun _ => ?_)
    refine x_iconst dX9_above_27 0 rfl ?_
    exact x_ireturn dX9_above_28 rfl (tQ.mk rfl (hI0.ref (by decide)) rfl)
end TV
