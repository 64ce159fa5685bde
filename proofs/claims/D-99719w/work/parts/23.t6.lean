set_option maxRecDepth 100000
/-! ===== the twin, 6: a market's row is written ===== -/
theorem getD_set {l : List Int32} {n i : Nat} {x : Int32} (hn : n < l.length) : (l.set n x).getD i 0 = if i = n then x else l.getD i 0 := by
  rw [List.getD_eq_getElem?_getD, List.getD_eq_getElem?_getD, List.getElem?_set]
  by_cases e : n = i
  · rw [if_pos e, if_pos e.symm, if_pos (by omega)]
    rfl
  · rw [if_neg e, if_neg (fun q => e q.symm)]
theorem getD_ext {a b : List Int32} (hl : a.length = b.length) (h : ∀ i, i < a.length → a.getD i 0 = b.getD i 0) : a = b := by
  apply List.ext_getElem hl
  intro i h1 h2
  have := h i h1
  rw [List.getD_eq_getElem?_getD, List.getD_eq_getElem?_getD, List.getElem?_eq_getElem h1, List.getElem?_eq_getElem h2] at this
  exact this
/-- what stands in a row of cries -/
def cv (cs : List Cr) (i : Nat) : Int32 := if i / 4 < cs.length then (cr4 (cs.getD (i / 4) (0, 0, 0, 0))).getD (i % 4) 0 else 0
theorem crow_get {cs : List Cr} {i : Nat} (h : i < 40) : (crow cs).getD i 0 = cv cs i := by
  unfold cv crow
  by_cases h1 : i / 4 < cs.length
  · have := fm_get cs (i / 4) (i % 4) (by omega) h1
    rw [show 4 * (i / 4) + i % 4 = i by omega] at this
    rw [if_pos h1, List.getD_eq_getElem?_getD, List.getElem?_append_left (by rw [fm_len]; omega), this, ← List.getD_eq_getElem?_getD]
  · rw [if_neg h1, List.getD_eq_getElem?_getD, List.getElem?_append_right (by rw [fm_len]; omega), fm_len, List.getElem?_replicate, if_pos (by omega)]
    rfl
/-- what stands in a row -/
def mv (M : Mk) (i : Nat) : Int32 := if i < 8 then wAt M i else if i < 16 then M.2.1.getD (i - 8) 0 else if i < 56 then cv M.2.2.1 (i - 16) else [nI M.2.2.1.length, nI M.2.2.2.1, M.2.2.2.2.1, nI M.2.2.2.2.2].getD (i - 56) 0
theorem mrow_get {M : Mk} (h : mOK M) {i : Nat} (hi : i < 60) : (mrow M).getD i 0 = mv M i := by
  unfold mv
  by_cases h8 : i < 8
  · rw [if_pos h8, mrow_w h h8]
  · rw [if_neg h8]
    by_cases h16 : i < 16
    · rw [if_pos h16, ← mrow_o h (t := i - 8) (by omega), show 8 + (i - 8) = i by omega]
    · rw [if_neg h16]
      by_cases h56 : i < 56
      · rw [if_pos h56, ← crow_get (by omega), List.getD_eq_getElem?_getD, List.getD_eq_getElem?_getD]
        have := mrow_r? h (j := i - 16)
        rw [show 16 + (i - 16) = i by omega] at this
        rw [this, List.getElem?_append_left (by rw [crow_len h.2.2]; omega)]
      · rw [if_neg h56, List.getD_eq_getElem?_getD, List.getD_eq_getElem?_getD]
        have := mrow_e? h (i := i - 56)
        rw [show 56 + (i - 56) = i by omega] at this
        rw [this]
theorem mrow_ext {M : Mk} (h : mOK M) {r : List Int32} (hl : r.length = 60) (hr : ∀ i, i < 60 → r.getD i 0 = mv M i) : r = mrow M :=
  getD_ext (by rw [hl, mrow_len h]) (fun i hi => by rw [hr i (by omega), mrow_get h (by omega)])
/-- a cry gone -/
theorem cv_erase {cs : List Cr} {c i : Nat} (hc : c < cs.length) : cv (cs.eraseIdx c) i = if i < 4 * c then cv cs i else if i < 4 * (cs.length - 1) then cv cs (i + 4) else 0 := by
  have hl : (cs.eraseIdx c).length = cs.length - 1 := by rw [List.length_eraseIdx, if_pos hc]
  unfold cv
  rw [hl]
  by_cases h1 : i < 4 * c
  · rw [if_pos h1, if_pos (by omega), if_pos (by omega), List.getD_eq_getElem?_getD, List.getD_eq_getElem?_getD, List.getElem?_eraseIdx, if_pos (by omega)]
    rw [List.getD_eq_getElem?_getD, List.getD_eq_getElem?_getD]
  · rw [if_neg h1]
    by_cases h2 : i < 4 * (cs.length - 1)
    · rw [if_pos h2, if_pos (by omega), if_pos (by omega), show (i + 4) / 4 = i / 4 + 1 by omega, show (i + 4) % 4 = i % 4 by omega]
      congr 2
      rw [List.getD_eq_getElem?_getD, List.getD_eq_getElem?_getD, List.getElem?_eraseIdx, if_neg (by omega)]
    · rw [if_neg h2, if_neg (by omega)]
/-- the steps of a market: none where it can't be done -/
def mWeigh (play : Int32) (M : Mk) (a n b m : Nat) : Option Mk :=
  if a = b ∨ M.2.2.1.length = 10 ∨ (stM play M a n b m = 1 ∧ isCk M (a, n, b, m) M.2.2.1.length = true) ∨ (stM play M a n b m = 2 ∧ isCk M (b, m, a, n) M.2.2.1.length = true) then none
  else some (mC (mG (mO M ((M.2.1.set a (M.2.1.getD a 0 + 1)).set b ((M.2.1.set a (M.2.1.getD a 0 + 1)).getD b 0 + 1))) (M.2.2.2.2.1 + 1)) (M.2.2.1 ++ (if stM play M a n b m = 1 then [(a, n, b, m)] else if stM play M a n b m = 2 then [(b, m, a, n)] else [])))
def mTip (M : Mk) (c : Nat) : Option Mk := if M.2.2.1.length ≤ c then none else some (mC M (M.2.2.1.eraseIdx c))
def mFeed (M : Mk) (a n : Nat) : Option Mk := if M.1.getD a 0 = 60 then none else some (mW M (M.1.set a (min 60 (M.1.getD a 0 + n))))
def mTurn (M : Mk) : Option Mk := if M.2.2.2.1 = 9 then none else some (mL M (18 - M.2.2.2.1))
theorem stN_lt {l r lean play : Int32} : stN l r lean play < 3 := by
  unfold stN
  split
  · decide
  · split <;> decide
theorem nI3 {n k : Nat} (hn : n < 3) (hk : k < 3) : nI n = nI k ↔ n = k := nI_eq (by omega) (by omega)
section TR
variable {G : xG} {d : Nat} {h : xH} {T0 : Nat} {s : tS} {M : Mk} {j : Nat}
theorem c_cries (hs : tOK s) (hj : tRow j) (hm : s.2.2 j = mrow M) (hM : mOK M) (h9 : M.2.2.1.length < 10) (hb : G.2.2.1 ≤ T0) (x : Cr) : xMet G d 0 0 m_X9_cries [.ref (T0 + j), .int (nI x.1), .int (nI x.2.1), .int (nI x.2.2.1), .int (nI x.2.2.2)] (tw T0 h s) (xU (tw T0 h (seta s j (mrow (mC M (M.2.2.1 ++ [x])))))) := by
  refine xMet.of [some (.ref (T0 + j)), some (.int (nI x.1)), some (.int (nI x.2.1)), some (.int (nI x.2.2.1)), some (.int (nI x.2.2.2)), none] pl_X9 rfl (Nat.le_of_ble_eq_true rfl) ?_
  have hl : (s.2.2 j).length = 60 := by rw [hs j, hj.len]
  refine x_bipush dX9_cries_0 16 (by decide) ?_
  refine x_iconst dX9_cries_2 4 rfl ?_
  refine x_aload_n dX9_cries_3 rfl ?_
  refine x_bipush dX9_cries_4 56 (by decide) ?_
  refine t_rj 56 dX9_cries_6 hs hj hm rfl (by decide) (mrow_n hM) ?_
  refine x_imul dX9_cries_7 ?_
  refine x_iadd dX9_cries_8 ?_
  rw [ix_c]
  refine xsi5 dX9_cries_9 (by decide) rfl ?_
  refine x_aload_n dX9_cries_11 rfl ?_
  refine x_iload dX9_cries_12 rfl ?_
  refine x_iload_n dX9_cries_14 rfl ?_
  refine t_rs (16 + 4 * M.2.2.1.length) _ dX9_cries_15 hs hj rfl (by omega) hb rfl ?_
  refine x_aload_n dX9_cries_16 rfl ?_
  refine x_iload dX9_cries_17 rfl ?_
  refine x_iconst dX9_cries_19 1 rfl ?_
  refine x_at 20 rfl ?_
  refine x_iadd dX9_cries_20 ?_
  refine x_iload_n dX9_cries_21 rfl ?_
  refine t_rs (16 + 4 * M.2.2.1.length + 1) _ dX9_cries_22 (seta_ok hs (by rw [List.length_set, hs])) hj (nI_add _ 1) (by omega) hb rfl ?_
  rw [seta_get, seta_seta]
  refine x_aload_n dX9_cries_23 rfl ?_
  refine x_iload dX9_cries_24 rfl ?_
  refine x_iconst dX9_cries_26 2 rfl ?_
  refine x_iadd dX9_cries_27 ?_
  refine x_iload_n dX9_cries_28 rfl ?_
  refine x_at 29 rfl ?_
  refine t_rs (16 + 4 * M.2.2.1.length + 2) _ dX9_cries_29 (seta_ok hs (by rw [List.length_set, List.length_set, hs])) hj (nI_add _ 2) (by omega) hb rfl ?_
  rw [seta_get, seta_seta]
  refine x_aload_n dX9_cries_30 rfl ?_
  refine x_iload dX9_cries_31 rfl ?_
  refine x_iconst dX9_cries_33 3 rfl ?_
  refine x_iadd dX9_cries_34 ?_
  refine x_iload dX9_cries_35 rfl ?_
  refine t_rs (16 + 4 * M.2.2.1.length + 3) _ dX9_cries_37 (seta_ok hs (by rw [List.length_set, List.length_set, List.length_set, hs])) hj (nI_add _ 3) (by omega) hb rfl ?_
  rw [seta_get, seta_seta]
  refine x_aload_n dX9_cries_38 rfl ?_
  refine x_at 39 rfl ?_
  refine x_bipush dX9_cries_39 56 (by decide) ?_
  refine x_dup2 dX9_cries_41 rfl rfl ?_
  refine t_ia 56 dX9_cries_42 (seta_ok hs (by simp only [List.length_set]; exact hs j)) hj.arr rfl (by rw [hj.len]; decide) (v := nI M.2.2.1.length) ?_ ?_
  · rw [seta_get, getD_set (by simp only [List.length_set]; omega), if_neg (by omega), getD_set (by simp only [List.length_set]; omega), if_neg (by omega), getD_set (by simp only [List.length_set]; omega), if_neg (by omega), getD_set (by omega), if_neg (by omega), hm, mrow_n hM]
  refine x_iconst dX9_cries_43 1 rfl ?_
  refine x_iadd dX9_cries_44 ?_
  refine t_rs 56 _ dX9_cries_45 (seta_ok hs (by simp only [List.length_set]; exact hs j)) hj rfl (by omega) hb rfl ?_
  rw [seta_get, seta_seta, hm, nI_1, mrow_snoc hM h9]
  exact x_return dX9_cries_46 rfl ⟨rfl, rfl⟩
theorem c_feeds (hs : tOK s) (hj : tRow j) (hm : s.2.2 j = mrow M) (hM : mOK M) (hb : G.2.2.1 ≤ T0) (a n : Nat) (ha : a < 8) (hw : M.1.getD a 0 ≤ 60) (hn : n ≤ 60) : xMet G (d + 1) 0 0 m_X9_feeds [.ref (T0 + j), .int (nI a), .int (nI n)] (tw T0 h s) (xI (.int (b2 (mFeed M a n).isSome)) (tw T0 h (seta s j (mrow ((mFeed M a n).getD M))))) := by
  refine xMet.of [some (.ref (T0 + j)), some (.int (nI a)), some (.int (nI n))] pl_X9 rfl (Nat.le_of_ble_eq_true rfl) ?_
  refine x_aload_n dX9_feeds_0 rfl ?_
  refine x_iconst dX9_feeds_1 0 rfl ?_
  refine x_iload_n dX9_feeds_2 rfl ?_
  refine x_iadd dX9_feeds_3 ?_
  refine t_rj a dX9_feeds_4 hs hj hm (ix_w _) (by omega) (mrow_w hM ha) ?_
  refine x_bipush dX9_feeds_5 60 (by decide) ?_
  refine x_icmp_ne 12 dX9_feeds_7 rfl (fun c1 => ?_) (fun c1 => ?_)
  · have c2 : ¬ M.1.getD a 0 = 60 := fun q => c1 (by rw [q]; rfl)
    rw [mFeed, if_neg c2]
    have e : mn 60 (nI (M.1.getD a 0) + nI n) = nI (min 60 (M.1.getD a 0 + n)) := by
      rw [nI_add, mn]
      by_cases h1 : 60 < M.1.getD a 0 + n
      · rw [if_pos (show (60 : Int32) < _ from (nI_ltI (a := 60) (by decide) (by omega)).mpr h1), Nat.min_eq_left (by omega)]
        rfl
      · rw [if_neg (show ¬ (60 : Int32) < _ from fun q => h1 ((nI_ltI (a := 60) (by decide) (by omega)).mp q)), Nat.min_eq_right (by omega)]
    refine x_aload_n dX9_feeds_12 rfl ?_
    refine x_iconst dX9_feeds_13 0 rfl ?_
    refine x_iload_n dX9_feeds_14 rfl ?_
    refine x_iadd dX9_feeds_15 ?_
    refine x_bipush dX9_feeds_16 60 (by decide) ?_
    refine x_aload_n dX9_feeds_18 rfl ?_
    refine x_iconst dX9_feeds_19 0 rfl ?_
    refine x_iload_n dX9_feeds_20 rfl ?_
    refine x_at 21 rfl ?_
    refine x_iadd dX9_feeds_21 ?_
    refine t_rj a dX9_feeds_22 hs hj hm (ix_w _) (by omega) (mrow_w hM ha) ?_
    refine x_iload_n dX9_feeds_23 rfl ?_
    refine x_iadd dX9_feeds_24 ?_
    refine xiS2 dX9_feeds_25 s_X9_235 (Nat.le_of_ble_eq_true rfl) (c_less _ _) ?_
    rw [e]
    refine t_rs a _ dX9_feeds_28 hs hj (ix_w _) (by omega) hb (by rw [hm, mrow_setw hM ha]) ?_
    refine x_iconst dX9_feeds_29 1 rfl ?_
    exact x_zreturn dX9_feeds_30 rfl rfl ⟨rfl, rfl⟩
  · have c2 : M.1.getD a 0 = 60 := (nI_eq (by omega) (b := 60) (by decide)).mp c1
    rw [mFeed, if_pos c2]
    refine x_iconst dX9_feeds_10 0 rfl ?_
    exact x_zreturn dX9_feeds_11 rfl rfl ⟨rfl, by rw [seta_id]; exact hm⟩
theorem c_tips (hs : tOK s) (hj : tRow j) (hm : s.2.2 j = mrow M) (hM : mOK M) (hb : G.2.2.1 ≤ T0) (c : Nat) (hc : c < 100) : xMet G d 0 0 m_X9_tips [.ref (T0 + j), .int (nI c)] (tw T0 h s) (xI (.int (b2 (mTip M c).isSome)) (tw T0 h (seta s j (mrow ((mTip M c).getD M))))) := by
  refine xMet.of [some (.ref (T0 + j)), some (.int (nI c)), none] pl_X9 rfl (Nat.le_of_ble_eq_true rfl) ?_
  have h10 := hM.2.2
  refine x_iload_n dX9_tips_0 rfl ?_
  refine x_aload_n dX9_tips_1 rfl ?_
  refine x_bipush dX9_tips_2 56 (by decide) ?_
  refine t_rj 56 dX9_tips_4 hs hj hm rfl (by decide) (mrow_n hM) ?_
  refine x_icmp_lt 10 dX9_tips_5 rfl (fun c1 => ?_) (fun c1 => ?_)
  · have hc : c < M.2.2.1.length := (nI_ltI (by omega) (by omega)).mp c1
    rw [mTip, if_neg (by omega)]
    have hN : nI M.2.2.1.length - 1 = nI (M.2.2.1.length - 1) := pk_sub (b := 1) (by omega)
    have hl60 : ∀ r : List Int32, r.length = 60 → tOK (seta s j r) := fun r hr => seta_ok hs (by rw [hr, hj.len])
    have hM2 : mOK (mC M (M.2.2.1.eraseIdx c)) := ⟨hM.1, hM.2.1, by show (M.2.2.1.eraseIdx c).length ≤ 10; rw [List.length_eraseIdx]; split <;> omega⟩
    refine x_aload_n dX9_tips_10 rfl ?_
    refine x_bipush dX9_tips_11 56 (by decide) ?_
    refine x_dup2 dX9_tips_13 rfl rfl ?_
    refine t_rj 56 dX9_tips_14 hs hj hm rfl (by decide) (mrow_n hM) ?_
    refine x_iconst dX9_tips_15 1 rfl ?_
    refine x_isub dX9_tips_16 ?_
    rw [hN]
    refine t_rs 56 _ dX9_tips_17 hs hj rfl (by decide) hb rfl ?_
    refine x_iconst dX9_tips_18 4 rfl ?_
    refine x_iload_n dX9_tips_19 rfl ?_
    refine x_imul dX9_tips_20 ?_
    rw [show (4 : Int32) * nI c = nI (4 * c) from pk_mul 4 c]
    refine xsi2 dX9_tips_21 (by decide) rfl ?_
    have fin : ∀ r : List Int32, r.length = 60 → (∀ i, i < 60 → r.getD i 0 = if i = 56 then nI (M.2.2.1.length - 1) else if 16 + 4 * c ≤ i ∧ i < 16 + 4 * (M.2.2.1.length - 1) then mv M (i + 4) else mv M i) → ∀ x2, xRun G m_X9_tips d 0 0 52 [some (.ref (T0 + j)), some (.int (nI c)), x2] [] (tw T0 h (seta s j r)) (xI (.int (b2 (some (mC M (M.2.2.1.eraseIdx c))).isSome)) (tw T0 h (seta s j (mrow ((some (mC M (M.2.2.1.eraseIdx c))).getD M))))) := by
      intro r0 hl0 hr0 x2
      refine x_iconst dX9_tips_52 0 rfl ?_
      refine xsi2 dX9_tips_53 (by decide) rfl ?_
      suffices hh : ∀ r : List Int32, r.length = 60 → (∀ i, i < 60 → r.getD i 0 = if 16 + 4 * (M.2.2.1.length - 1) ≤ i ∧ i < 16 + 4 * (M.2.2.1.length - 1) + 0 then 0 else r0.getD i 0) → xRun G m_X9_tips d 0 0 54 [some (.ref (T0 + j)), some (.int (nI c)), some (.int (nI 0))] [] (tw T0 h (seta s j r)) (xI (.int (b2 (some (mC M (M.2.2.1.eraseIdx c))).isSome)) (tw T0 h (seta s j (mrow ((some (mC M (M.2.2.1.eraseIdx c))).getD M))))) from hh r0 hl0 (fun i _ => by rw [if_neg (by omega)])
      refine xfor (fun k => ∀ r : List Int32, r.length = 60 → (∀ i, i < 60 → r.getD i 0 = if 16 + 4 * (M.2.2.1.length - 1) ≤ i ∧ i < 16 + 4 * (M.2.2.1.length - 1) + k then 0 else r0.getD i 0) → xRun G m_X9_tips d 0 0 54 [some (.ref (T0 + j)), some (.int (nI c)), some (.int (nI k))] [] (tw T0 h (seta s j r)) (xI (.int (b2 (some (mC M (M.2.2.1.eraseIdx c))).isSome)) (tw T0 h (seta s j (mrow ((some (mC M (M.2.2.1.eraseIdx c))).getD M)))))) 4 ?_ ?_
      · intro k hk ih r hl hr
        refine x_iload_n dX9_tips_54 rfl ?_
        refine x_iconst dX9_tips_55 4 rfl ?_
        refine x_icmp_ge 79 dX9_tips_56 rfl (fun hc9 => absurd hc9 (nI_ge hk (by decide))) (fun _ => ?_)
        refine x_aload_n dX9_tips_59 rfl ?_
        refine x_bipush dX9_tips_60 16 (by decide) ?_
        refine x_iconst dX9_tips_62 4 rfl ?_
        refine x_aload_n dX9_tips_63 rfl ?_
        refine x_bipush dX9_tips_64 56 (by decide) ?_
        refine x_at 66 rfl ?_
        refine t_ia 56 dX9_tips_66 (hl60 r hl) hj.arr rfl (by rw [hj.len]; decide) (v := nI (M.2.2.1.length - 1)) (by rw [seta_get, hr 56 (by decide), if_neg (by omega), hr0 56 (by decide), if_pos rfl]) ?_
        refine x_imul dX9_tips_67 ?_
        refine x_iadd dX9_tips_68 ?_
        refine x_iload_n dX9_tips_69 rfl ?_
        refine x_iadd dX9_tips_70 ?_
        refine x_iconst dX9_tips_71 0 rfl ?_
        refine t_rs (16 + 4 * (M.2.2.1.length - 1) + k) _ dX9_tips_72 (hl60 r hl) hj (ix_ck _ _) (by omega) hb rfl ?_
        rw [seta_get, seta_seta]
        refine xinc2 _ dX9_tips_73 (by decide) rfl (nI_1 k) ?_
        refine x_goto 54 dX9_tips_76 rfl ?_
        refine ih _ (by rw [List.length_set]; exact hl) (fun i hi => ?_)
        rw [getD_set (by omega), hr i hi]
        by_cases e : i = 16 + 4 * (M.2.2.1.length - 1) + k
        · rw [if_pos e, if_pos (by omega)]
        · rw [if_neg e]
          by_cases e2 : 16 + 4 * (M.2.2.1.length - 1) ≤ i ∧ i < 16 + 4 * (M.2.2.1.length - 1) + k
          · rw [if_pos e2, if_pos (by omega)]
          · rw [if_neg e2, if_neg (by omega)]
      · intro r hl hr
        refine x_iload_n dX9_tips_54 rfl ?_
        refine x_iconst dX9_tips_55 4 rfl ?_
        refine x_icmp_ge 79 dX9_tips_56 rfl (fun _ => ?_) (fun hc9 => absurd (Int32.le_refl _) hc9)
        refine x_iconst dX9_tips_79 1 rfl ?_
        refine x_zreturn dX9_tips_80 rfl rfl ⟨rfl, ?_⟩
        rw [mrow_ext hM2 hl]
        · rfl
        · intro i hi
          have hel : (M.2.2.1.eraseIdx c).length = M.2.2.1.length - 1 := by rw [List.length_eraseIdx, if_pos hc]
          rw [hr i hi, hr0 i hi]
          unfold mv
          by_cases h8 : i < 8
          · rw [if_neg (by omega), if_neg (by omega), if_neg (by omega), if_pos h8, if_pos h8]; rfl
          · by_cases h16 : i < 16
            · rw [if_neg (by omega), if_neg (by omega), if_neg (by omega), if_neg h8, if_pos h16, if_neg h8, if_pos h16]; rfl
            · rw [if_neg h8, if_neg h16, if_neg h8, if_neg h16]
              by_cases h56 : i < 56
              · rw [if_pos h56, if_pos h56]
                show _ = cv (M.2.2.1.eraseIdx c) (i - 16)
                rw [cv_erase hc]
                by_cases e2 : 16 + 4 * (M.2.2.1.length - 1) ≤ i ∧ i < 16 + 4 * (M.2.2.1.length - 1) + 4
                · rw [if_pos e2, if_neg (by omega), if_neg (by omega)]
                · rw [if_neg e2, if_neg (by omega)]
                  by_cases e3 : 16 + 4 * c ≤ i ∧ i < 16 + 4 * (M.2.2.1.length - 1)
                  · rw [if_pos e3, if_neg (by omega), if_neg (by omega), if_pos (by omega), if_neg (by omega), if_pos (by omega)]
                    congr 1
                    omega
                  · rw [if_neg e3]
                    by_cases e4 : i - 16 < 4 * c
                    · rw [if_pos e4]
                    · rw [if_neg e4, if_neg (by omega)]
                      unfold cv
                      rw [if_neg (by omega)]
              · rw [if_neg h56, if_neg h56, if_neg (by omega)]
                by_cases e : i = 56
                · subst e
                  rw [if_pos rfl]
                  show _ = nI (M.2.2.1.eraseIdx c).length
                  rw [hel]
                · rw [if_neg e, if_neg (by omega)]
                  obtain ⟨k, hk⟩ : ∃ k, i - 56 = k + 1 := ⟨i - 57, by omega⟩
                  rw [hk]
                  rfl
    suffices hh : ∀ r : List Int32, r.length = 60 → (∀ i, i < 60 → r.getD i 0 = if i = 56 then nI (M.2.2.1.length - 1) else if 16 + 4 * c ≤ i ∧ i < 16 + (4 * c) then mv M (i + 4) else mv M i) → xRun G m_X9_tips d 0 0 22 [some (.ref (T0 + j)), some (.int (nI c)), some (.int (nI (4 * c)))] [] (tw T0 h (seta s j r)) (xI (.int (b2 (some (mC M (M.2.2.1.eraseIdx c))).isSome)) (tw T0 h (seta s j (mrow ((some (mC M (M.2.2.1.eraseIdx c))).getD M))))) by
      refine hh _ (by rw [List.length_set, hs, hj.len]) (fun i hi => ?_)
      rw [getD_set (by rw [hs, hj.len]; decide)]
      by_cases e : i = 56
      · rw [if_pos e, if_pos e]
      · rw [if_neg e, if_neg e, if_neg (by omega), hm, mrow_get hM hi]
    refine xfor2 (fun k => ∀ r : List Int32, r.length = 60 → (∀ i, i < 60 → r.getD i 0 = if i = 56 then nI (M.2.2.1.length - 1) else if 16 + 4 * c ≤ i ∧ i < 16 + k then mv M (i + 4) else mv M i) → xRun G m_X9_tips d 0 0 22 [some (.ref (T0 + j)), some (.int (nI c)), some (.int (nI k))] [] (tw T0 h (seta s j r)) (xI (.int (b2 (some (mC M (M.2.2.1.eraseIdx c))).isSome)) (tw T0 h (seta s j (mrow ((some (mC M (M.2.2.1.eraseIdx c))).getD M)))))) (4 * c) (4 * (M.2.2.1.length - 1)) (by omega) ?_ ?_
    · intro k hk1 hk ih r hl hr
      have v56 : r.getD 56 0 = nI (M.2.2.1.length - 1) := by rw [hr 56 (by decide), if_pos rfl]
      refine x_iload_n dX9_tips_22 rfl ?_
      refine x_iconst dX9_tips_23 4 rfl ?_
      refine x_aload_n dX9_tips_24 rfl ?_
      refine x_bipush dX9_tips_25 56 (by decide) ?_
      refine t_ia 56 dX9_tips_27 (hl60 r hl) hj.arr rfl (by rw [hj.len]; decide) (v := nI (M.2.2.1.length - 1)) (by rw [seta_get]; exact v56) ?_
      rw [show (4 : Int32) = nI 4 from rfl]
      refine x_imul dX9_tips_28 ?_
      rw [pk_mul]
      refine x_icmp_ge 52 dX9_tips_29 rfl (fun hc9 => absurd hc9 (nI_ge hk (by omega))) (fun _ => ?_)
      refine x_aload_n dX9_tips_32 rfl ?_
      refine x_at 33 rfl ?_
      refine x_bipush dX9_tips_33 16 (by decide) ?_
      refine x_iload_n dX9_tips_35 rfl ?_
      refine x_iadd dX9_tips_36 ?_
      refine x_aload_n dX9_tips_37 rfl ?_
      refine x_bipush dX9_tips_38 16 (by decide) ?_
      refine x_iload_n dX9_tips_40 rfl ?_
      refine x_iadd dX9_tips_41 ?_
      refine x_iconst dX9_tips_42 4 rfl ?_
      refine x_at 43 rfl ?_
      refine x_iadd dX9_tips_43 ?_
      refine t_ia (16 + k + 4) dX9_tips_44 (hl60 r hl) hj.arr (by rw [show (16 : Int32) = nI 16 from rfl, show (4 : Int32) = nI 4 from rfl, nI_add, nI_add]) (by rw [hj.len]; omega) (v := mv M (16 + k + 4)) (by rw [seta_get, hr _ (by omega), if_neg (by omega), if_neg (by omega)]) ?_
      refine t_rs (16 + k) _ dX9_tips_45 (hl60 r hl) hj (nI_add 16 _) (by omega) hb rfl ?_
      rw [seta_get, seta_seta]
      refine xinc2 _ dX9_tips_46 (by decide) rfl (nI_1 k) ?_
      refine x_goto 22 dX9_tips_49 rfl ?_
      refine ih _ (by rw [List.length_set]; exact hl) (fun i hi => ?_)
      rw [getD_set (by omega), hr i hi]
      by_cases e : i = 16 + k
      · rw [if_pos e, if_neg (by omega), if_pos (by omega), e]
      · rw [if_neg e]
        by_cases e2 : i = 56
        · rw [if_pos e2, if_pos e2]
        · rw [if_neg e2, if_neg e2]
          by_cases e3 : 16 + 4 * c ≤ i ∧ i < 16 + k
          · rw [if_pos e3, if_pos (by omega)]
          · rw [if_neg e3, if_neg (by omega)]
    · intro r hl hr
      have v56 : r.getD 56 0 = nI (M.2.2.1.length - 1) := by rw [hr 56 (by decide), if_pos rfl]
      refine x_iload_n dX9_tips_22 rfl ?_
      refine x_iconst dX9_tips_23 4 rfl ?_
      refine x_aload_n dX9_tips_24 rfl ?_
      refine x_bipush dX9_tips_25 56 (by decide) ?_
      refine t_ia 56 dX9_tips_27 (hl60 r hl) hj.arr rfl (by rw [hj.len]; decide) (v := nI (M.2.2.1.length - 1)) (by rw [seta_get]; exact v56) ?_
      rw [show (4 : Int32) = nI 4 from rfl]
      refine x_imul dX9_tips_28 ?_
      rw [pk_mul]
      refine x_icmp_ge 52 dX9_tips_29 rfl (fun _ => ?_) (fun hc9 => absurd (Int32.le_refl _) hc9)
      exact fin r hl hr _
  · have c2 : M.2.2.1.length ≤ c := Nat.le_of_not_lt (fun q => c1 ((nI_ltI (by omega) (by omega)).mpr q))
    rw [mTip, if_pos c2]
    refine x_iconst dX9_tips_8 0 rfl ?_
    exact x_zreturn dX9_tips_9 rfl rfl ⟨rfl, by rw [seta_id]; exact hm⟩
theorem c_weighs (hs : tOK s) (hj : tRow j) (hm : s.2.2 j = mrow M) (hM : mOK M) (hS : mSm M) (hb : G.2.2.1 ≤ T0) {play : Int32} (hp : (s.2.2 4).getD 3 0 = play) (a n b m : Nat) (ha : a < 8) (hbb : b < 8) (hn : n < 100) (hmm : m < 100) : xMet G (d + 2) 0 0 m_X9_weighs [.ref T0, .ref (T0 + j), .int (nI a), .int (nI n), .int (nI b), .int (nI m)] (tw T0 h s) (xI (.int (b2 (mWeigh play M a n b m).isSome)) (tw T0 h (seta s j (mrow ((mWeigh play M a n b m).getD M))))) := by
  refine xMet.of [some (.ref T0), some (.ref (T0 + j)), some (.int (nI a)), some (.int (nI n)), some (.int (nI b)), some (.int (nI m)), none] pl_X9 rfl (Nat.le_of_ble_eq_true rfl) ?_
  have h10 := hM.2.2
  have hst : stM play M a n b m < 3 := stN_lt
  have no : (a = b ∨ M.2.2.1.length = 10 ∨ (stM play M a n b m = 1 ∧ isCk M (a, n, b, m) M.2.2.1.length = true) ∨ (stM play M a n b m = 2 ∧ isCk M (b, m, a, n) M.2.2.1.length = true)) → xRun G m_X9_weighs (d + 2) 0 0 66 [some (.ref T0), some (.ref (T0 + j)), some (.int (nI a)), some (.int (nI n)), some (.int (nI b)), some (.int (nI m)), some (.int (nI (stM play M a n b m)))] [] (tw T0 h s) (xI (.int (b2 (mWeigh play M a n b m).isSome)) (tw T0 h (seta s j (mrow ((mWeigh play M a n b m).getD M))))) := by
    intro hq
    rw [mWeigh, if_pos hq]
    refine x_iconst dX9_weighs_66 0 rfl ?_
    exact x_zreturn dX9_weighs_67 rfl rfl ⟨rfl, by rw [seta_id]; exact hm⟩
  have yes : ¬ (a = b ∨ M.2.2.1.length = 10 ∨ (stM play M a n b m = 1 ∧ isCk M (a, n, b, m) M.2.2.1.length = true) ∨ (stM play M a n b m = 2 ∧ isCk M (b, m, a, n) M.2.2.1.length = true)) → xRun G m_X9_weighs (d + 2) 0 0 68 [some (.ref T0), some (.ref (T0 + j)), some (.int (nI a)), some (.int (nI n)), some (.int (nI b)), some (.int (nI m)), some (.int (nI (stM play M a n b m)))] [] (tw T0 h s) (xI (.int (b2 (mWeigh play M a n b m).isSome)) (tw T0 h (seta s j (mrow ((mWeigh play M a n b m).getD M))))) := by
    intro hq
    have h9 : M.2.2.1.length < 10 := by
      have : ¬ M.2.2.1.length = 10 := fun q => hq (Or.inr (Or.inl q))
      omega
    rw [mWeigh, if_neg hq]
    generalize hM1 : mO M (M.2.1.set a (M.2.1.getD a 0 + 1)) = M1
    generalize hM2 : mO M1 (M1.2.1.set b (M1.2.1.getD b 0 + 1)) = M2
    generalize hM3 : mG M2 (M2.2.2.2.2.1 + 1) = M3
    have o1 : mOK M1 := by rw [← hM1]; exact ⟨hM.1, by show (M.2.1.set a _).length = 8; rw [List.length_set]; exact hM.2.1, h10⟩
    have o2 : mOK M2 := by rw [← hM2]; exact ⟨o1.1, by show (M1.2.1.set b _).length = 8; rw [List.length_set]; exact o1.2.1, o1.2.2⟩
    have o3 : mOK M3 := by rw [← hM3]; exact ⟨o2.1, o2.2.1, o2.2.2⟩
    have l3 : M3.2.2.1 = M.2.2.1 := by rw [← hM3, ← hM2, ← hM1]; rfl
    have e : mC (mG (mO M ((M.2.1.set a (M.2.1.getD a 0 + 1)).set b ((M.2.1.set a (M.2.1.getD a 0 + 1)).getD b 0 + 1))) (M.2.2.2.2.1 + 1)) (M.2.2.1 ++ (if stM play M a n b m = 1 then [(a, n, b, m)] else if stM play M a n b m = 2 then [(b, m, a, n)] else [])) = mC M3 (M3.2.2.1 ++ (if stM play M a n b m = 1 then [(a, n, b, m)] else if stM play M a n b m = 2 then [(b, m, a, n)] else [])) := by rw [← hM3, ← hM2, ← hM1]; rfl
    rw [e]
    have k1 : ∀ M' : Mk, mOK M' → tOK (seta s j (mrow M')) := fun M' hM' => seta_ok hs (by rw [mrow_len hM', hj.len])
    refine x_aload_n dX9_weighs_68 rfl ?_
    refine x_bipush dX9_weighs_69 8 (by decide) ?_
    refine x_iload_n dX9_weighs_71 rfl ?_
    refine x_iadd dX9_weighs_72 ?_
    refine x_dup2 dX9_weighs_73 rfl rfl ?_
    refine t_rj (8 + a) dX9_weighs_74 hs hj hm (ix_o _) (by omega) (mrow_o hM ha) ?_
    refine x_iconst dX9_weighs_75 1 rfl ?_
    refine x_iadd dX9_weighs_76 ?_
    refine t_rs (8 + a) (mrow M1) dX9_weighs_77 hs hj (ix_o _) (by omega) hb (by rw [hm, mrow_seto hM ha, hM1]) ?_
    refine x_aload_n dX9_weighs_78 rfl ?_
    refine x_bipush dX9_weighs_79 8 (by decide) ?_
    refine x_iload dX9_weighs_81 rfl ?_
    refine x_iadd dX9_weighs_83 ?_
    refine x_dup2 dX9_weighs_84 rfl rfl ?_
    refine t_rj (M := M1) (8 + b) dX9_weighs_85 (k1 _ o1) hj seta_get (ix_o _) (by omega) (mrow_o o1 hbb) ?_
    refine x_iconst dX9_weighs_86 1 rfl ?_
    refine x_iadd dX9_weighs_87 ?_
    refine t_rs (8 + b) (mrow M2) dX9_weighs_88 (k1 _ o1) hj (ix_o _) (by omega) hb (by rw [seta_get, mrow_seto o1 hbb, hM2]) ?_
    rw [seta_seta]
    refine x_aload_n dX9_weighs_89 rfl ?_
    refine x_bipush dX9_weighs_90 58 (by decide) ?_
    refine x_dup2 dX9_weighs_92 rfl rfl ?_
    refine t_rj (M := M2) 58 dX9_weighs_93 (k1 _ o2) hj seta_get rfl (by omega) (mrow_g o2) ?_
    refine x_iconst dX9_weighs_94 1 rfl ?_
    refine x_iadd dX9_weighs_95 ?_
    refine t_rs 58 (mrow M3) dX9_weighs_96 (k1 _ o2) hj rfl (by omega) hb (by rw [seta_get, mrow_setg o2, hM3]) ?_
    rw [seta_seta]
    have c3 : M3.2.2.1.length < 10 := by rw [l3]; exact h9
    refine x_iload dX9_weighs_97 rfl ?_
    refine x_iconst dX9_weighs_99 1 rfl ?_
    refine x_icmp_ne 113 dX9_weighs_100 rfl (fun c1 => ?_) (fun c1 => ?_)
    · have e1 : ¬ stM play M a n b m = 1 := fun q => c1 (by rw [q]; rfl)
      rw [if_neg e1]
      refine x_iload dX9_weighs_113 rfl ?_
      refine x_iconst dX9_weighs_115 2 rfl ?_
      refine x_icmp_ne 129 dX9_weighs_116 rfl (fun c2 => ?_) (fun c2 => ?_)
      · have e2 : ¬ stM play M a n b m = 2 := fun q => c2 (by rw [q]; rfl)
        rw [if_neg e2]
        refine x_iconst dX9_weighs_129 1 rfl ?_
        exact x_zreturn dX9_weighs_130 rfl rfl ⟨rfl, by rw [List.append_nil]; rfl⟩
      · have e2 : stM play M a n b m = 2 := (nI3 hst (by decide)).mp c2
        rw [if_pos e2]
        refine x_aload_n dX9_weighs_119 rfl ?_
        refine x_iload dX9_weighs_120 rfl ?_
        refine x_iload dX9_weighs_122 rfl ?_
        refine x_iload_n dX9_weighs_124 rfl ?_
        refine x_iload_n dX9_weighs_125 rfl ?_
        refine xuS5 dX9_weighs_126 s_X9_279 (Nat.le_of_ble_eq_true rfl) (c_cries (M := M3) (k1 _ o3) hj seta_get o3 c3 hb (b, m, a, n)) ?_
        refine x_iconst dX9_weighs_129 1 rfl ?_
        exact x_zreturn dX9_weighs_130 rfl rfl ⟨rfl, by rw [seta_seta]; rfl⟩
    · have e1 : stM play M a n b m = 1 := (nI3 hst (by decide)).mp c1
      rw [if_pos e1]
      refine x_aload_n dX9_weighs_103 rfl ?_
      refine x_iload_n dX9_weighs_104 rfl ?_
      refine x_iload_n dX9_weighs_105 rfl ?_
      refine x_iload dX9_weighs_106 rfl ?_
      refine x_iload dX9_weighs_108 rfl ?_
      refine xuS5 dX9_weighs_110 s_X9_279 (Nat.le_of_ble_eq_true rfl) (c_cries (M := M3) (k1 _ o3) hj seta_get o3 c3 hb (a, n, b, m)) ?_
      refine x_iload dX9_weighs_113 rfl ?_
      refine x_iconst dX9_weighs_115 2 rfl ?_
      refine x_at 116 rfl ?_
      refine x_icmp_ne 129 dX9_weighs_116 rfl (fun _ => ?_) (fun hc9 => absurd hc9 ((by rw [e1]; decide)))
      refine x_iconst dX9_weighs_129 1 rfl ?_
      exact x_zreturn dX9_weighs_130 rfl rfl ⟨rfl, by rw [seta_seta]; rfl⟩
  have later : ¬ (stM play M a n b m = 1 ∧ isCk M (a, n, b, m) M.2.2.1.length = true) → ¬ a = b → ¬ M.2.2.1.length = 10 → xRun G m_X9_weighs (d + 2) 0 0 47 [some (.ref T0), some (.ref (T0 + j)), some (.int (nI a)), some (.int (nI n)), some (.int (nI b)), some (.int (nI m)), some (.int (nI (stM play M a n b m)))] [] (tw T0 h s) (xI (.int (b2 (mWeigh play M a n b m).isSome)) (tw T0 h (seta s j (mrow ((mWeigh play M a n b m).getD M))))) := by
    intro q1 q2 q3
    refine x_iload dX9_weighs_47 rfl ?_
    refine x_iconst dX9_weighs_49 2 rfl ?_
    refine x_icmp_ne 68 dX9_weighs_50 rfl (fun c1 => ?_) (fun c1 => ?_)
    · refine yes (fun q => ?_)
      rcases q with q | q | q | q
      · exact q2 q
      · exact q3 q
      · exact q1 q
      · exact c1 (by rw [q.1]; rfl)
    · have e2 : stM play M a n b m = 2 := (nI3 hst (by decide)).mp c1
      refine x_aload_n dX9_weighs_53 rfl ?_
      refine x_iload dX9_weighs_54 rfl ?_
      refine x_iload dX9_weighs_56 rfl ?_
      refine x_iload_n dX9_weighs_58 rfl ?_
      refine x_iload_n dX9_weighs_59 rfl ?_
      refine xiS5 dX9_weighs_60 s_X9_275 (Nat.le_of_ble_eq_true rfl) (c_isCry hs hj hm hM hS (b, m, a, n) (show b < 100 by omega) hmm (show a < 100 by omega) hn) ?_
      refine x_if_eq 68 dX9_weighs_63 rfl (fun c2 => ?_) (fun c2 => ?_)
      · refine yes (fun q => ?_)
        rcases q with q | q | q | q
        · exact q2 q
        · exact q3 q
        · exact q1 q
        · rw [q.2] at c2; exact absurd c2 (by decide)
      · exact no (Or.inr (Or.inr (Or.inr ⟨e2, b2_ne.mp c2⟩)))
  refine x_aload_n dX9_weighs_0 rfl ?_
  refine x_aload_n dX9_weighs_1 rfl ?_
  refine x_iload_n dX9_weighs_2 rfl ?_
  refine x_iload_n dX9_weighs_3 rfl ?_
  refine x_iload dX9_weighs_4 rfl ?_
  refine x_iload dX9_weighs_6 rfl ?_
  refine xiV5 dX9_weighs_8 v_X9_271_27 tw_get0 (Nat.le_of_ble_eq_true rfl) (c_standsIn hs hj hm hM hp a n b m ha hbb) ?_
  refine xsi6 dX9_weighs_11 (by decide) rfl ?_
  refine x_at 13 rfl ?_
  refine x_iload_n dX9_weighs_13 rfl ?_
  refine x_iload dX9_weighs_14 rfl ?_
  refine x_icmp_eq 66 dX9_weighs_16 rfl (fun c1 => ?_) (fun c1 => ?_)
  · exact no (Or.inl ((nI_eq (by omega) (by omega)).mp c1))
  · have q2 : ¬ a = b := fun q => c1 (by rw [q])
    refine x_aload_n dX9_weighs_19 rfl ?_
    refine x_bipush dX9_weighs_20 56 (by decide) ?_
    refine t_rj 56 dX9_weighs_22 hs hj hm rfl (by decide) (mrow_n hM) ?_
    refine x_bipush dX9_weighs_23 10 (by decide) ?_
    refine x_icmp_eq 66 dX9_weighs_25 rfl (fun c2 => ?_) (fun c2 => ?_)
    · exact no (Or.inr (Or.inl ((nI_eq (by omega) (b := 10) (by decide)).mp c2)))
    · have q3 : ¬ M.2.2.1.length = 10 := fun q => c2 (by rw [q]; rfl)
      refine x_iload dX9_weighs_28 rfl ?_
      refine x_iconst dX9_weighs_30 1 rfl ?_
      refine x_icmp_ne 47 dX9_weighs_31 rfl (fun c3 => ?_) (fun c3 => ?_)
      · exact later (fun q => c3 (by rw [q.1]; rfl)) q2 q3
      · have e1 : stM play M a n b m = 1 := (nI3 hst (by decide)).mp c3
        refine x_aload_n dX9_weighs_34 rfl ?_
        refine x_iload_n dX9_weighs_35 rfl ?_
        refine x_iload_n dX9_weighs_36 rfl ?_
        refine x_iload dX9_weighs_37 rfl ?_
        refine x_iload dX9_weighs_39 rfl ?_
        refine xiS5 dX9_weighs_41 s_X9_275 (Nat.le_of_ble_eq_true rfl) (c_isCry hs hj hm hM hS (a, n, b, m) (show a < 100 by omega) hn (show b < 100 by omega) hmm) ?_
        refine x_if_ne 66 dX9_weighs_44 rfl (fun c4 => ?_) (fun c4 => ?_)
        · exact no (Or.inr (Or.inr (Or.inl ⟨e1, b2_ne.mp c4⟩)))
        · exact later (fun q => by rw [q.2] at c4; exact absurd c4 (by decide)) q2 q3
end TR
