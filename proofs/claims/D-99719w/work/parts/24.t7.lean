set_option maxRecDepth 100000
/-! ===== the twin, 7: a law's value, a day's end, a step ===== -/
theorem gt {l l' : List Int32} {n : Nat} {v : Int32} (e : l = l') (h : l'.getD n 0 = v) : l.getD n 0 = v := e ▸ h
/-- the same but for some arrays -/
def tE (A : List Nat) (s s' : tS) : Prop := s'.1 = s.1 ∧ s'.2.1 = s.2.1 ∧ (∀ j, ¬ j ∈ A → s'.2.2 j = s.2.2 j) ∧ tOK s'
theorem tE.refl {A : List Nat} {s : tS} (hs : tOK s) : tE A s s := ⟨rfl, rfl, fun _ _ => rfl, hs⟩
theorem tE.trans {A : List Nat} {s s1 s2 : tS} (h1 : tE A s s1) (h2 : tE A s1 s2) : tE A s s2 := ⟨h2.1.trans h1.1, h2.2.1.trans h1.2.1, fun j hj => (h2.2.2.1 j hj).trans (h1.2.2.1 j hj), h2.2.2.2⟩
theorem tE.mono {A B : List Nat} {s s' : tS} (h : tE A s s') (hA : ∀ j, j ∈ A → j ∈ B) : tE B s s' := ⟨h.1, h.2.1, fun j hj => h.2.2.1 j (fun q => hj (hA j q)), h.2.2.2⟩
theorem tE.seta {A : List Nat} {s s' : tS} {k : Nat} {xs : List Int32} (h : tE A s s') (hk : k ∈ A) (hl : xs.length = tlen k) : tE A s (seta s' k xs) :=
  ⟨h.1, h.2.1, fun j hj => (seta_ne (fun q : j = k => hj (q ▸ hk))).trans (h.2.2.1 j hj), seta_ok h.2.2.2 hl⟩
theorem div_m1 (u : Int32) : u / (-1) = -u := by
  apply Int32.toInt_inj.mp
  rw [Int32.toInt_div, show (-1 : Int32).toInt = -1 from by decide, Int32.toInt_neg, Int.tdiv_neg, Int.tdiv_one]
theorem rem_m1 (u : Int32) : u - u / (-1) * (-1) = 0 := by
  rw [div_m1]
  apply Int32.toBitVec_inj.mp
  show u.toBitVec - (-u.toBitVec) * (-1#32) = 0#32
  rw [BitVec.neg_mul, BitVec.mul_neg, BitVec.mul_one, BitVec.neg_neg, BitVec.sub_self]
/-- two numbers become one -/
def byI (how : Nat) (u v : Int32) : Int32 := if how = 2 then u + v else if how = 3 then u - v else if how = 4 then u * v else if how = 5 then (if v = 0 then 0 else u / v) else if how = 6 then (if v = 0 then 0 else u - u / v * v) else if how = 7 then mn u v else mx u v
/-- a code's stack, the top first -/
def ev1 (F : List Int32) (c : Nat × Nat) (S : List Int32) : List Int32 := if c.1 = 0 then nI c.2 :: S else if c.1 = 1 then F.getD c.2 0 :: S else match S with
  | v :: u :: r => byI c.1 u v :: r
  | S => S
def evL (F : List Int32) : List (Nat × Nat) → List Int32 → List Int32
  | [], S => S
  | c :: cs, S => evL F cs (ev1 F c S)
/-- codes find enough on the stack -/
def wfL : List (Nat × Nat) → Nat → Prop
  | [], _ => True
  | c :: cs, n => if c.1 < 2 then wfL cs (n + 1) else 2 ≤ n ∧ wfL cs (n - 1)
/-- a law's value: without codes, by how often it was weighed -/
def lawV (cds : List (Nat × Nat)) (F : List Int32) : Int32 := if cds = [] then F.getD 1 0 / 4 else (evL F cds []).reverse.getD 0 0
abbrev cd (cds : List (Nat × Nat)) (i : Nat) : Nat × Nat := cds.getD i (0, 0)
def wrI (cds : List (Nat × Nat)) (F : List Int32) : Int32 := mn 20 (mx 0 (lawV cds F))
def wrN (cds : List (Nat × Nat)) (F : List Int32) : Nat := (wrI cds F).toInt.toNat
theorem mn_mx20 (x : Int32) : ∃ k : Nat, k ≤ 20 ∧ mn 20 (mx 0 x) = nI k := by
  have h0 : ¬ mn 20 (mx 0 x) < 0 := by
    unfold mn mx
    by_cases h1 : x < 0
    · rw [if_pos h1]; decide
    · rw [if_neg h1]
      by_cases h2 : 20 < x
      · rw [if_pos h2]; decide
      · rw [if_neg h2]; exact h1
  have h1 : mn 20 (mx 0 x) ≤ 20 := by
    generalize mx 0 x = v
    unfold mn
    by_cases h2 : 20 < v
    · rw [if_pos h2]; exact Int32.le_refl _
    · rw [if_neg h2]; exact Int32.not_lt.mp h2
  exact nI_of2 (by decide) h0 h1
theorem wrN_eq {cds : List (Nat × Nat)} {F : List Int32} : wrI cds F = nI (wrN cds F) := by
  obtain ⟨k, hk, e⟩ := mn_mx20 (lawV cds F)
  have e2 : wrI cds F = nI k := e
  unfold wrN
  rw [e2, nI_toInt (by omega)]
  rfl
theorem wrN_le {cds : List (Nat × Nat)} {F : List Int32} : wrN cds F ≤ 20 := by
  obtain ⟨k, hk, e⟩ := mn_mx20 (lawV cds F)
  have e2 : wrI cds F = nI k := e
  unfold wrN
  rw [e2, nI_toInt (by omega)]
  exact hk
/-- the law stands in the twin -/
def tLw (s : tS) (cds : List (Nat × Nat)) : Prop := s.1 17 = nI cds.length ∧ cds.length ≤ 160 ∧ (∀ i, i < cds.length → s.2.2 (29 + 1 + i) = [nI (cd cds i).1, nI (cd cds i).2]) ∧ wfL cds 0 ∧ ∀ i, i < cds.length → (cd cds i).1 ≤ 8 ∧ ((cd cds i).1 = 1 → (cd cds i).2 < 7)
theorem tLw.tE {A : List Nat} {s s' : tS} {cds : List (Nat × Nat)} (h : tLw s cds) (hE : tE A s s') (hA : ∀ i, i < 160 → ¬ 29 + 1 + i ∈ A) : tLw s' cds :=
  ⟨by rw [hE.1]; exact h.1, h.2.1, fun i hi => (hE.2.2.1 _ (hA i (by have := h.2.1; omega))).trans (h.2.2.1 i hi), h.2.2.2⟩
theorem ar_law : ∀ i, i < 160 → (29 + 1 + i < 475 ∧ ¬ 29 + 1 + i = 0 ∧ tgrid (29 + 1 + i) = 0 ∧ ¬ 29 + 1 + i = 472) := by decide +kernel
theorem ln_law : ∀ i, i < 160 → tlen (29 + 1 + i) = 2 := by decide +kernel
section TL
variable {G : xG} {d : Nat} {h : xH} {T0 : Nat} {s : tS}
theorem c_by (how : Nat) (h2 : 2 ≤ how) (h8 : how ≤ 8) (u v : Int32) : xMet G (d + 1) 0 0 m_X9_by [.int (nI how), .int u, .int v] h (xI (.int (byI how u v)) h) := by
  refine xMet.of [some (.int (nI how)), some (.int u), some (.int v)] pl_X9 rfl (Nat.le_of_ble_eq_true rfl) ?_
  have hq : how = 2 ∨ how = 3 ∨ how = 4 ∨ how = 5 ∨ how = 6 ∨ how = 7 ∨ how = 8 := by omega
  refine x_iload_n dX9_by_0 rfl ?_
  rcases hq with rfl | rfl | rfl | rfl | rfl | rfl | rfl
  · refine x_tableIn 40 dX9_by_1 (by decide) (by decide) rfl (by decide) ?_
    refine x_iload_n dX9_by_40 rfl ?_
    refine x_iload_n dX9_by_41 rfl ?_
    refine x_iadd dX9_by_42 ?_
    exact x_ireturn dX9_by_43 rfl ⟨rfl, rfl⟩
  · refine x_tableIn 44 dX9_by_1 (by decide) (by decide) rfl (by decide) ?_
    refine x_iload_n dX9_by_44 rfl ?_
    refine x_iload_n dX9_by_45 rfl ?_
    refine x_isub dX9_by_46 ?_
    exact x_ireturn dX9_by_47 rfl ⟨rfl, rfl⟩
  · refine x_tableIn 48 dX9_by_1 (by decide) (by decide) rfl (by decide) ?_
    refine x_iload_n dX9_by_48 rfl ?_
    refine x_iload_n dX9_by_49 rfl ?_
    refine x_imul dX9_by_50 ?_
    exact x_ireturn dX9_by_51 rfl ⟨rfl, rfl⟩
  · refine x_tableIn 52 dX9_by_1 (by decide) (by decide) rfl (by decide) ?_
    show xRun _ _ _ _ _ _ _ _ _ (xI (.int (if v = 0 then 0 else u / v)) h)
    refine x_iload_n dX9_by_52 rfl ?_
    refine x_if_ne 60 dX9_by_53 rfl (fun c1 => ?_) (fun c1 => ?_)
    · rw [if_neg c1]
      refine x_iload_n dX9_by_60 rfl ?_
      refine x_iconst dX9_by_61 (-1) rfl ?_
      refine x_icmp_ne 70 dX9_by_62 rfl (fun c2 => ?_) (fun c2 => ?_)
      · refine x_iload_n dX9_by_70 rfl ?_
        refine x_iload_n dX9_by_71 rfl ?_
        refine x_idiv dX9_by_72 (c1) ?_
        exact x_ireturn dX9_by_73 rfl ⟨rfl, rfl⟩
      · refine x_iload_n dX9_by_65 rfl ?_
        refine x_ineg dX9_by_66 ?_
        refine x_goto 73 dX9_by_67 rfl ?_
        exact x_ireturn dX9_by_73 rfl (xrv (by rw [c2, div_m1]))
    · rw [if_pos c1]
      refine x_iconst dX9_by_56 0 rfl ?_
      refine x_goto 73 dX9_by_57 rfl ?_
      exact x_ireturn dX9_by_73 rfl ⟨rfl, rfl⟩
  · refine x_tableIn 74 dX9_by_1 (by decide) (by decide) rfl (by decide) ?_
    show xRun _ _ _ _ _ _ _ _ _ (xI (.int (if v = 0 then 0 else u - u / v * v)) h)
    refine x_iload_n dX9_by_74 rfl ?_
    refine x_if_eq 83 dX9_by_75 rfl (fun c1 => ?_) (fun c1 => ?_)
    · rw [if_pos c1]
      refine x_iconst dX9_by_83 0 rfl ?_
      refine x_goto 90 dX9_by_84 rfl ?_
      exact x_ireturn dX9_by_90 rfl ⟨rfl, rfl⟩
    · rw [if_neg c1]
      refine x_iload_n dX9_by_78 rfl ?_
      refine x_iconst dX9_by_79 (-1) rfl ?_
      refine x_icmp_ne 87 dX9_by_80 rfl (fun c2 => ?_) (fun c2 => ?_)
      · refine x_iload_n dX9_by_87 rfl ?_
        refine x_iload_n dX9_by_88 rfl ?_
        refine x_irem dX9_by_89 (c1) ?_
        exact x_ireturn dX9_by_90 rfl ⟨rfl, rfl⟩
      · refine x_iconst dX9_by_83 0 rfl ?_
        refine x_goto 90 dX9_by_84 rfl ?_
        exact x_ireturn dX9_by_90 rfl (xrv (by rw [c2, rem_m1]))
  · refine x_tableIn 91 dX9_by_1 (by decide) (by decide) rfl (by decide) ?_
    refine x_iload_n dX9_by_91 rfl ?_
    refine x_iload_n dX9_by_92 rfl ?_
    refine xiS2 dX9_by_93 s_X9_235 (Nat.le_of_ble_eq_true rfl) (c_less _ _) ?_
    exact x_ireturn dX9_by_96 rfl ⟨rfl, rfl⟩
  · refine x_tableOut 97 dX9_by_1 (by decide) (by decide) ?_
    refine x_iload_n dX9_by_97 rfl ?_
    refine x_iload_n dX9_by_98 rfl ?_
    refine xiS2 dX9_by_99 s_X9_238 (Nat.le_of_ble_eq_true rfl) (c_more _ _) ?_
    exact x_ireturn dX9_by_102 rfl ⟨rfl, rfl⟩
theorem cds_drop {cds : List (Nat × Nat)} {i : Nat} (hi : i < cds.length) : cds.drop i = cd cds i :: cds.drop (i + 1) := by
  rw [List.drop_eq_getElem_cons hi]
  congr 1
  show _ = cds.getD i (0, 0)
  rw [List.getD_eq_getElem?_getD, List.getElem?_eq_getElem hi]
  rfl
theorem st_push {S junk : List Int32} {x : Int32} (h : S.length < (S.reverse ++ junk).length) : (S.reverse ++ junk).set S.length x = (x :: S).reverse ++ junk.tail := by
  cases junk with
  | nil => simp at h
  | cons q junk =>
    rw [List.set_append, if_neg (by rw [List.length_reverse]; omega), List.length_reverse, Nat.sub_self, List.reverse_cons, List.append_assoc]
    rfl
theorem st_op {r junk : List Int32} {u v x : Int32} : ((v :: u :: r).reverse ++ junk).set r.length x = (x :: r).reverse ++ (v :: junk) := by
  rw [List.reverse_cons, List.reverse_cons, List.reverse_cons, List.append_assoc, List.append_assoc, List.append_assoc, List.set_append, if_neg (by rw [List.length_reverse]; omega), List.length_reverse, Nat.sub_self]
  rfl
theorem st_u {r junk : List Int32} {u v : Int32} : ((v :: u :: r).reverse ++ junk).getD r.length 0 = u := by
  rw [List.reverse_cons, List.reverse_cons, List.append_assoc, List.append_assoc, List.getD_eq_getElem?_getD, List.getElem?_append_right (by rw [List.length_reverse]; omega), List.length_reverse, Nat.sub_self]
  rfl
theorem st_v {r junk : List Int32} {u v : Int32} : ((v :: u :: r).reverse ++ junk).getD (r.length + 1) 0 = v := by
  rw [List.reverse_cons, List.reverse_cons, List.append_assoc, List.append_assoc, List.getD_eq_getElem?_getD, List.getElem?_append_right (by rw [List.length_reverse]; omega), List.length_reverse, Nat.add_sub_cancel_left]
  rfl
theorem st_0 {S junk : List Int32} (h : 0 < S.length) : (S.reverse ++ junk).getD 0 0 = S.reverse.getD 0 0 := by
  rw [List.getD_eq_getElem?_getD, List.getElem?_append_left (by rw [List.length_reverse]; exact h), List.getD_eq_getElem?_getD]
theorem c_byLaw (hs : tOK s) (hb : G.2.2.1 ≤ T0) {cds : List (Nat × Nat)} (hL : tLw s cds) {F : List Int32} (hF : s.2.2 366 = F) : xMet G (d + 2) 0 0 m_X9_byLaw [.ref T0] (tw T0 h s) (xP (fun v h' => v = .int (nI (wrN cds F)) ∧ ∃ s', h' = tw T0 h s' ∧ tE [365] s s')) := by
  refine xMet.of [some (.ref T0), none, none] pl_X9 rfl (Nat.le_of_ble_eq_true rfl) ?_
  have hl160 := hL.2.1
  refine x_iconst dX9_byLaw_0 0 rfl ?_
  refine xsi1 dX9_byLaw_1 (by decide) rfl ?_
  refine x_aload_n dX9_byLaw_2 rfl ?_
  refine t_ga 365 dX9_byLaw_3 f_X9_52_27 (by decide) rfl (by decide) ?_
  refine x_iconst dX9_byLaw_6 0 rfl ?_
  refine x_aload_n dX9_byLaw_7 rfl ?_
  refine t_ga 366 dX9_byLaw_8 f_X9_55_27 (by decide) rfl (by decide) ?_
  refine x_iconst dX9_byLaw_11 1 rfl ?_
  refine x_at 12 rfl ?_
  refine t_ia 1 dX9_byLaw_12 hs (by decide) rfl (by decide) rfl ?_
  refine x_iconst dX9_byLaw_13 4 rfl ?_
  refine x_idiv dX9_byLaw_14 (by decide) ?_
  refine t_is 0 dX9_byLaw_15 hs (by decide) rfl (by decide) hb ?_
  refine x_iconst dX9_byLaw_16 0 rfl ?_
  refine xsi2 dX9_byLaw_17 (by decide) rfl ?_
  suffices hh : ∀ S arr junk, arr = S.reverse ++ junk → arr.length = 160 → S.length ≤ 0 → wfL (cds.drop 0) S.length → evL F (cds.drop 0) S = evL F cds [] → (0 = 0 ∧ arr.getD 0 0 = F.getD 1 0 / 4 ∨ 0 < S.length) → xRun G m_X9_byLaw (d + 2) 0 0 18 [some (.ref T0), some (.int (nI S.length)), some (.int (nI 0))] [] (tw T0 h (seta s 365 arr)) (xP (fun v h' => v = .int (nI (wrN cds F)) ∧ ∃ s', h' = tw T0 h s' ∧ tE [365] s s')) by
    refine hh [] _ _ rfl (by rw [List.length_set]; exact hs 365) (Nat.le_refl _) hL.2.2.2.1 rfl (Or.inl ⟨rfl, ?_⟩)
    rw [getD_set (by rw [hs 365]; decide), if_pos rfl, hF]
  refine xfor (fun i => ∀ S arr junk, arr = S.reverse ++ junk → arr.length = 160 → S.length ≤ i → wfL (cds.drop i) S.length → evL F (cds.drop i) S = evL F cds [] → (i = 0 ∧ arr.getD 0 0 = F.getD 1 0 / 4 ∨ 0 < S.length) → xRun G m_X9_byLaw (d + 2) 0 0 18 [some (.ref T0), some (.int (nI S.length)), some (.int (nI i))] [] (tw T0 h (seta s 365 arr)) (xP (fun v h' => v = .int (nI (wrN cds F)) ∧ ∃ s', h' = tw T0 h s' ∧ tE [365] s s'))) cds.length ?_ ?_
  · intro i hi ih S arr junk harr hlen hSi hwf hev _
    have hi2 : i < 160 := by omega
    have hs2 : tOK (seta s 365 arr) := seta_ok hs hlen
    have hrow : (seta s 365 arr).2.2 (29 + 1 + i) = [nI (cd cds i).1, nI (cd cds i).2] := by rw [seta_ne (by omega)]; exact hL.2.2.1 i hi
    have r0 : ((seta s 365 arr).2.2 (29 + 1 + i)).getD 0 0 = nI (cd cds i).1 := by rw [hrow]; rfl
    have r1 : ((seta s 365 arr).2.2 (29 + 1 + i)).getD 1 0 = nI (cd cds i).2 := by rw [hrow]; rfl
    have hk8 := hL.2.2.2.2 i hi
    rw [cds_drop hi] at hwf hev
    refine x_iload_n dX9_byLaw_18 rfl ?_
    refine x_aload_n dX9_byLaw_19 rfl ?_
    refine t_gi dX9_byLaw_20 f_X9_188_27 (by decide) rfl (by decide) hL.1 ?_
    refine x_icmp_ge 127 dX9_byLaw_23 rfl (fun hc9 => absurd hc9 (nI_ge hi (by omega))) (fun _ => ?_)
    refine x_aload_n dX9_byLaw_26 rfl ?_
    refine t_ga 29 dX9_byLaw_27 f_X9_40_27 (by decide) rfl (by decide) ?_
    refine x_iload_n dX9_byLaw_30 rfl ?_
    refine t_aa i dX9_byLaw_31 (by decide) rfl hi2 ?_
    refine x_at 32 rfl ?_
    refine x_iconst dX9_byLaw_32 0 rfl ?_
    refine t_ia 0 dX9_byLaw_33 hs2 (ar_law i hi2) rfl (by rw [ln_law i hi2]; decide) r0 ?_
    refine x_iconst dX9_byLaw_34 2 rfl ?_
    refine x_icmp_ge 85 dX9_byLaw_35 rfl (fun c1 => ?_) (fun c1 => ?_)
    · have c2 : 2 ≤ (cd cds i).1 := (nI_leI (a := 2) (by decide) (by omega)).mp c1
      have hwf2 : 2 ≤ S.length ∧ wfL (cds.drop (i + 1)) (S.length - 1) := by
        unfold wfL at hwf
        rw [if_neg (by omega)] at hwf
        exact hwf
      match S, hwf2, harr, hSi, hev with
      | v :: u :: r, hwf2, harr, hSi, hev =>
        subst harr
        have hrl : r.length + 2 ≤ i := hSi
        have e1 : evL F (cds.drop (i + 1)) (byI (cd cds i).1 u v :: r) = evL F cds [] := by
          rw [← hev]
          show _ = evL F _ (ev1 F _ _)
          unfold ev1
          rw [if_neg (by omega), if_neg (by omega)]
        have ix1 : nI (r.length + 1) - 1 = nI r.length := nI_pred _
        refine xinc1 _ dX9_byLaw_85 (by decide) rfl (show nI (r.length + 2) + (-1) = nI (r.length + 1) from pk_m1 _) ?_
        refine x_aload_n dX9_byLaw_88 rfl ?_
        refine t_ga 365 dX9_byLaw_89 f_X9_52_27 (by decide) rfl (by decide) ?_
        refine x_iload_n dX9_byLaw_92 rfl ?_
        refine x_iconst dX9_byLaw_93 1 rfl ?_
        refine x_isub dX9_byLaw_94 ?_
        refine x_aload_n dX9_byLaw_95 rfl ?_
        refine t_ga 29 dX9_byLaw_96 f_X9_40_27 (by decide) rfl (by decide) ?_
        refine x_at 99 rfl ?_
        refine x_iload_n dX9_byLaw_99 rfl ?_
        refine t_aa i dX9_byLaw_100 (by decide) rfl hi2 ?_
        refine x_iconst dX9_byLaw_101 0 rfl ?_
        refine t_ia 0 dX9_byLaw_102 hs2 (ar_law i hi2) rfl (by rw [ln_law i hi2]; decide) r0 ?_
        refine x_aload_n dX9_byLaw_103 rfl ?_
        refine t_ga 365 dX9_byLaw_104 f_X9_52_27 (by decide) rfl (by decide) ?_
        refine x_iload_n dX9_byLaw_107 rfl ?_
        refine x_iconst dX9_byLaw_108 1 rfl ?_
        refine x_at 109 rfl ?_
        refine x_isub dX9_byLaw_109 ?_
        rw [ix1]
        refine t_ia r.length dX9_byLaw_110 hs2 (by decide) rfl (show _ < 160 by omega) (gt seta_get st_u) ?_
        refine x_aload_n dX9_byLaw_111 rfl ?_
        refine t_ga 365 dX9_byLaw_112 f_X9_52_27 (by decide) rfl (by decide) ?_
        refine x_iload_n dX9_byLaw_115 rfl ?_
        refine t_ia (r.length + 1) dX9_byLaw_116 hs2 (by decide) rfl (show _ < 160 by omega) (gt seta_get st_v) ?_
        refine xiS3 dX9_byLaw_117 s_X9_241 (Nat.le_of_ble_eq_true rfl) (c_by _ c2 hk8.1 _ _) ?_
        refine t_is r.length dX9_byLaw_120 hs2 (by decide) rfl (show _ < 160 by omega) hb ?_
        rw [seta_get, seta_seta, st_op]
        refine xinc2 _ dX9_byLaw_121 (by decide) rfl (nI_1 i) ?_
        refine x_goto 18 dX9_byLaw_124 rfl ?_
        exact ih (byI (cd cds i).1 u v :: r) _ (v :: junk) rfl (by rw [← hlen]; simp only [List.length_append, List.length_reverse, List.length_cons]; omega) (show r.length + 1 ≤ i + 1 by omega) hwf2.2 e1 (Or.inr (Nat.succ_pos _))
    · have c2 : (cd cds i).1 < 2 := Nat.lt_of_not_le (fun q => c1 ((nI_leI (a := 2) (by decide) (by omega)).mpr q))
      subst harr
      have hwf2 : wfL (cds.drop (i + 1)) (S.length + 1) := by
        unfold wfL at hwf
        rw [if_pos c2] at hwf
        exact hwf
      have fin : ∀ x, evL F (cds.drop (i + 1)) (x :: S) = evL F cds [] → xRun G m_X9_byLaw (d + 2) 0 0 78 [some (.ref T0), some (.int (nI S.length)), some (.int (nI i))] [.int x, .int (nI S.length), .ref (T0 + 365)] (tw T0 h (seta s 365 (S.reverse ++ junk))) (xP (fun v h' => v = .int (nI (wrN cds F)) ∧ ∃ s', h' = tw T0 h s' ∧ tE [365] s s')) := by
        intro x e1
        refine t_is S.length dX9_byLaw_78 hs2 (by decide) rfl (show _ < 160 by omega) hb ?_
        rw [seta_get, seta_seta, st_push (by rw [hlen]; omega)]
        refine xinc1 _ dX9_byLaw_79 (by decide) rfl (nI_1 _) ?_
        refine x_goto 121 dX9_byLaw_82 rfl ?_
        refine xinc2 _ dX9_byLaw_121 (by decide) rfl (nI_1 _) ?_
        refine x_goto 18 dX9_byLaw_124 rfl ?_
        refine ih (x :: S) _ junk.tail rfl ?_ (show S.length + 1 ≤ i + 1 by omega) hwf2 e1 (Or.inr (Nat.succ_pos _))
        rw [← st_push (by rw [hlen]; omega), List.length_set]
        exact hlen
      refine x_aload_n dX9_byLaw_38 rfl ?_
      refine t_ga 365 dX9_byLaw_39 f_X9_52_27 (by decide) rfl (by decide) ?_
      refine x_iload_n dX9_byLaw_42 rfl ?_
      refine x_aload_n dX9_byLaw_43 rfl ?_
      refine t_ga 29 dX9_byLaw_44 f_X9_40_27 (by decide) rfl (by decide) ?_
      refine x_iload_n dX9_byLaw_47 rfl ?_
      refine t_aa i dX9_byLaw_48 (by decide) rfl hi2 ?_
      refine x_iconst dX9_byLaw_49 0 rfl ?_
      refine x_at 50 rfl ?_
      refine t_ia 0 dX9_byLaw_50 hs2 (ar_law i hi2) rfl (by rw [ln_law i hi2]; decide) r0 ?_
      refine x_if_ne 65 dX9_byLaw_51 rfl (fun c3 => ?_) (fun c3 => ?_)
      · have c4 : (cd cds i).1 = 1 := by
          have : ¬ (cd cds i).1 = 0 := fun q => c3 (by rw [q]; rfl)
          omega
        have c5 := hk8.2 c4
        refine x_aload_n dX9_byLaw_65 rfl ?_
        refine t_ga 366 dX9_byLaw_66 f_X9_55_27 (by decide) rfl (by decide) ?_
        refine x_aload_n dX9_byLaw_69 rfl ?_
        refine t_ga 29 dX9_byLaw_70 f_X9_40_27 (by decide) rfl (by decide) ?_
        refine x_iload_n dX9_byLaw_73 rfl ?_
        refine t_aa i dX9_byLaw_74 (by decide) rfl hi2 ?_
        refine x_iconst dX9_byLaw_75 1 rfl ?_
        refine t_ia 1 dX9_byLaw_76 hs2 (ar_law i hi2) rfl (by rw [ln_law i hi2]; decide) r1 ?_
        refine t_ia (cd cds i).2 dX9_byLaw_77 hs2 (by decide) rfl c5 (by rw [seta_ne (by decide), hF]) ?_
        refine fin _ ?_
        rw [← hev]
        show _ = evL F _ (ev1 F _ _)
        unfold ev1
        rw [if_neg (by omega), if_pos c4]
      · have c4 : (cd cds i).1 = 0 := (nI_eq (by omega) (b := 0) (by decide)).mp c3
        refine x_aload_n dX9_byLaw_54 rfl ?_
        refine t_ga 29 dX9_byLaw_55 f_X9_40_27 (by decide) rfl (by decide) ?_
        refine x_iload_n dX9_byLaw_58 rfl ?_
        refine t_aa i dX9_byLaw_59 (by decide) rfl hi2 ?_
        refine x_iconst dX9_byLaw_60 1 rfl ?_
        refine t_ia 1 dX9_byLaw_61 hs2 (ar_law i hi2) rfl (by rw [ln_law i hi2]; decide) r1 ?_
        refine x_goto 78 dX9_byLaw_62 rfl ?_
        refine fin _ ?_
        rw [← hev]
        show _ = evL F _ (ev1 F _ _)
        unfold ev1
        rw [if_pos c4]
  · intro S arr junk harr hlen hSi hwf hev h0
    have hs2 : tOK (seta s 365 arr) := seta_ok hs hlen
    have hv : arr.getD 0 0 = lawV cds F := by
      rw [List.drop_length] at hev
      have e2 : S = evL F cds [] := hev
      unfold lawV
      by_cases hc : cds = []
      · rw [if_pos hc]
        rcases h0 with h0 | h0
        · exact h0.2
        · rw [hc] at hSi
          exact absurd h0 (by simp at hSi; rw [hSi]; decide)
      · rw [if_neg hc, ← e2, harr]
        rcases h0 with h0 | h0
        · exact absurd (List.length_eq_zero_iff.mp h0.1) hc
        · exact st_0 h0
    refine x_iload_n dX9_byLaw_18 rfl ?_
    refine x_aload_n dX9_byLaw_19 rfl ?_
    refine t_gi dX9_byLaw_20 f_X9_188_27 (by decide) rfl (by decide) hL.1 ?_
    refine x_icmp_ge 127 dX9_byLaw_23 rfl (fun _ => ?_) (fun hc9 => absurd (Int32.le_refl _) hc9)
    refine x_bipush dX9_byLaw_127 20 (by decide) ?_
    refine x_iconst dX9_byLaw_129 0 rfl ?_
    refine x_aload_n dX9_byLaw_130 rfl ?_
    refine t_ga 365 dX9_byLaw_131 f_X9_52_27 (by decide) rfl (by decide) ?_
    refine x_at 134 rfl ?_
    refine x_iconst dX9_byLaw_134 0 rfl ?_
    refine t_ia 0 dX9_byLaw_135 hs2 (by decide) rfl (by decide) (gt seta_get hv) ?_
    refine xiS2 dX9_byLaw_136 s_X9_238 (Nat.le_of_ble_eq_true rfl) (c_more _ _) ?_
    refine xiS2 dX9_byLaw_139 s_X9_235 (Nat.le_of_ble_eq_true rfl) (c_less _ _) ?_
    exact x_ireturn dX9_byLaw_142 rfl ⟨_, rfl, by rw [← wrN_eq]; rfl, _, rfl, (tE.refl hs).seta (List.mem_cons_self) hlen⟩
theorem c_wearBy (hs : tOK s) (hb : G.2.2.1 ≤ T0) {cds : List (Nat × Nat)} (hL : tLw s cds) (a1 a2 a3 a4 a5 a6 a7 : Int32) : xMet G (d + 3) 0 0 m_X9_wearBy [.ref T0, .int a1, .int a2, .int a3, .int a4, .int a5, .int a6, .int a7] (tw T0 h s) (xP (fun v h' => v = .int (nI (wrN cds [a1, a2, a3, a4, a5, a6, a7])) ∧ ∃ s', h' = tw T0 h s' ∧ tE [365, 366] s s')) := by
  refine xMet.of [some (.ref T0), some (.int a1), some (.int a2), some (.int a3), some (.int a4), some (.int a5), some (.int a6), some (.int a7)] pl_X9 rfl (Nat.le_of_ble_eq_true rfl) ?_
  have hl : (s.2.2 366).length = 7 := hs 366
  refine x_aload_n dX9_wearBy_0 rfl ?_
  refine t_ga 366 dX9_wearBy_1 f_X9_55_27 (by decide) rfl (by decide) ?_
  refine x_iconst dX9_wearBy_4 0 rfl ?_
  refine x_iload_n dX9_wearBy_5 rfl ?_
  refine t_is 0 dX9_wearBy_6 hs (by decide) rfl (by decide) hb ?_
  refine x_aload_n dX9_wearBy_7 rfl ?_
  refine t_ga 366 dX9_wearBy_8 f_X9_55_27 (by decide) rfl (by decide) ?_
  refine x_iconst dX9_wearBy_11 1 rfl ?_
  refine x_at 12 rfl ?_
  refine x_iload_n dX9_wearBy_12 rfl ?_
  refine t_is 1 dX9_wearBy_13 (seta_ok hs (by rw [List.length_set]; exact hl)) (by decide) rfl (by decide) hb ?_
  rw [seta_get, seta_seta]
  refine x_aload_n dX9_wearBy_14 rfl ?_
  refine t_ga 366 dX9_wearBy_15 f_X9_55_27 (by decide) rfl (by decide) ?_
  refine x_iconst dX9_wearBy_18 2 rfl ?_
  refine x_iload_n dX9_wearBy_19 rfl ?_
  refine t_is 2 dX9_wearBy_20 (seta_ok hs (by simp only [List.length_set]; exact hl)) (by decide) rfl (by decide) hb ?_
  rw [seta_get, seta_seta]
  refine x_aload_n dX9_wearBy_21 rfl ?_
  refine x_at 22 rfl ?_
  refine t_ga 366 dX9_wearBy_22 f_X9_55_27 (by decide) rfl (by decide) ?_
  refine x_iconst dX9_wearBy_25 3 rfl ?_
  refine x_iload dX9_wearBy_26 rfl ?_
  refine t_is 3 dX9_wearBy_28 (seta_ok hs (by simp only [List.length_set]; exact hl)) (by decide) rfl (by decide) hb ?_
  rw [seta_get, seta_seta]
  refine x_aload_n dX9_wearBy_29 rfl ?_
  refine t_ga 366 dX9_wearBy_30 f_X9_55_27 (by decide) rfl (by decide) ?_
  refine x_iconst dX9_wearBy_33 4 rfl ?_
  refine x_iload dX9_wearBy_34 rfl ?_
  refine x_at 36 rfl ?_
  refine t_is 4 dX9_wearBy_36 (seta_ok hs (by simp only [List.length_set]; exact hl)) (by decide) rfl (by decide) hb ?_
  rw [seta_get, seta_seta]
  refine x_aload_n dX9_wearBy_37 rfl ?_
  refine t_ga 366 dX9_wearBy_38 f_X9_55_27 (by decide) rfl (by decide) ?_
  refine x_iconst dX9_wearBy_41 5 rfl ?_
  refine x_iload dX9_wearBy_42 rfl ?_
  refine t_is 5 dX9_wearBy_44 (seta_ok hs (by simp only [List.length_set]; exact hl)) (by decide) rfl (by decide) hb ?_
  rw [seta_get, seta_seta]
  refine x_aload_n dX9_wearBy_45 rfl ?_
  refine t_ga 366 dX9_wearBy_46 f_X9_55_27 (by decide) rfl (by decide) ?_
  refine x_at 49 rfl ?_
  refine x_bipush dX9_wearBy_49 6 (by decide) ?_
  refine x_iload dX9_wearBy_51 rfl ?_
  refine t_is 6 dX9_wearBy_53 (seta_ok hs (by simp only [List.length_set]; exact hl)) (by decide) rfl (by decide) hb ?_
  rw [seta_get, seta_seta]
  have e : ((((((((s.2.2 366).set 0 a1).set 1 a2).set 2 a3).set 3 a4).set 4 a5).set 5 a6).set 6 a7) = [a1, a2, a3, a4, a5, a6, a7] := by
    match s.2.2 366, hl with
    | [b1, b2, b3, b4, b5, b6, b7], _ => rfl
  rw [e]
  have E1 : tE [365, 366] s (seta s 366 [a1, a2, a3, a4, a5, a6, a7]) := (tE.refl hs).seta (by decide) rfl
  refine x_aload_n dX9_wearBy_54 rfl ?_
  refine xpV0 dX9_wearBy_55 v_X9_253_27 tw_get0 (Nat.le_of_ble_eq_true rfl) (c_byLaw E1.2.2.2 hb (hL.tE E1 (by intro i hi q; simp at q; omega)) (F := [a1, a2, a3, a4, a5, a6, a7]) seta_get) (by omega) (by omega) (fun v h1 hF => ?_)
  obtain ⟨hv, s', rfl, hE⟩ := hF
  subst hv
  exact x_ireturn dX9_wearBy_58 rfl ⟨_, rfl, rfl, s', rfl, E1.trans (hE.mono (by decide))⟩
/-- the facts of a thing -/
def fcM (play : Int32) (M : Mk) (a : Nat) : List Int32 := [wAt M a, M.2.1.getD a 0, on (cOf M a), nI a, nI M.2.2.2.2.2, nI M.2.2.2.1, play]
variable {M : Mk} {j : Nat}
theorem c_wearOf (hs : tOK s) (hb : G.2.2.1 ≤ T0) (hj : tRow j) (hm : s.2.2 j = mrow M) (hM : mOK M) (hS : mSm M) {cds : List (Nat × Nat)} (hL : tLw s cds) {play : Int32} (hp : (s.2.2 4).getD 3 0 = play) (a : Nat) (ha : a < 8) : xMet G (d + 4) 0 0 m_X9_wearOf [.ref T0, .ref (T0 + j), .int (nI a)] (tw T0 h s) (xP (fun v h' => v = .int (nI (wrN cds (fcM play M a))) ∧ ∃ s', h' = tw T0 h s' ∧ tE [365, 366] s s')) := by
  refine xMet.of [some (.ref T0), some (.ref (T0 + j)), some (.int (nI a))] pl_X9 rfl (Nat.le_of_ble_eq_true rfl) ?_
  subst hp
  refine x_aload_n dX9_wearOf_0 rfl ?_
  refine x_aload_n dX9_wearOf_1 rfl ?_
  refine x_iconst dX9_wearOf_2 0 rfl ?_
  refine x_iload_n dX9_wearOf_3 rfl ?_
  refine x_iadd dX9_wearOf_4 ?_
  refine t_rj a dX9_wearOf_5 hs hj hm (ix_w _) (by omega) (mrow_w hM ha) ?_
  refine x_aload_n dX9_wearOf_6 rfl ?_
  refine x_bipush dX9_wearOf_7 8 (by decide) ?_
  refine x_at 9 rfl ?_
  refine x_iload_n dX9_wearOf_9 rfl ?_
  refine x_iadd dX9_wearOf_10 ?_
  refine t_rj (8 + a) dX9_wearOf_11 hs hj hm (ix_o _) (by omega) (mrow_o hM ha) ?_
  refine x_aload_n dX9_wearOf_12 rfl ?_
  refine x_iload_n dX9_wearOf_13 rfl ?_
  refine xiS2 dX9_wearOf_14 s_X9_256 (Nat.le_of_ble_eq_true rfl) (c_criesOf hs hj hm hM hS a (by omega)) ?_
  refine xiS1 dX9_wearOf_17 s_X9_260 (Nat.le_of_ble_eq_true rfl) (c_ones _) ?_
  refine x_iload_n dX9_wearOf_20 rfl ?_
  refine x_at 21 rfl ?_
  refine x_aload_n dX9_wearOf_21 rfl ?_
  refine x_bipush dX9_wearOf_22 59 (by decide) ?_
  refine t_rj 59 dX9_wearOf_24 hs hj hm rfl (by omega) (mrow_d hM) ?_
  refine x_aload_n dX9_wearOf_25 rfl ?_
  refine x_bipush dX9_wearOf_26 57 (by decide) ?_
  refine t_rj 57 dX9_wearOf_28 hs hj hm rfl (by omega) (mrow_l hM) ?_
  refine x_aload_n dX9_wearOf_29 rfl ?_
  refine t_ga 4 dX9_wearOf_30 f_X9_23_27 (by decide) rfl (by decide) ?_
  refine x_at 33 rfl ?_
  refine x_iconst dX9_wearOf_33 3 rfl ?_
  refine t_ia 3 dX9_wearOf_34 hs (by decide) rfl (by decide) rfl ?_
  refine xpV7 dX9_wearOf_35 v_X9_263_27 tw_get0 (Nat.le_of_ble_eq_true rfl) (c_wearBy hs hb hL _ _ _ _ _ _ _) (by omega) (by omega) (fun v h1 hF => ?_)
  obtain ⟨hv, hr⟩ := hF
  subst hv
  exact x_ireturn dX9_wearOf_38 rfl ⟨_, rfl, rfl, hr⟩
/-- the weights when c things have worn -/
def dWk (w : List Nat) (f : Nat → Nat) : Nat → List Nat
  | 0 => w
  | c + 1 => (dWk w f c).set c (max 1 (w.getD c 0 - f c))
theorem dWk_len {w : List Nat} {f : Nat → Nat} : ∀ c, (dWk w f c).length = w.length
  | 0 => rfl
  | c + 1 => by unfold dWk; rw [List.length_set, dWk_len c]
theorem dWk_ge {w : List Nat} {f : Nat → Nat} : ∀ (c i : Nat), c ≤ i → (dWk w f c).getD i 0 = w.getD i 0
  | 0, _, _ => rfl
  | c + 1, i, h => by
    unfold dWk
    rw [List.getD_eq_getElem?_getD, List.getElem?_set, if_neg (by omega), ← List.getD_eq_getElem?_getD, dWk_ge c i (by omega)]
/-- a day's end -/
def mDay (n : Nat) (cds : List (Nat × Nat)) (play : Int32) (M : Mk) : Mk := mD (mW M (dWk M.1 (fun a => wrN cds (fcM play M a)) n)) (M.2.2.2.2.2 + 1)
theorem mxsub {w k : Nat} (hw : w < 1000) (hk : k < 1000) : mx 1 (nI w - nI k) = nI (max 1 (w - k)) := by
  unfold mx
  by_cases h1 : w < k
  · have := pk_sneg (a := w) (b := k) (by omega) h1
    rw [if_pos (Int32.lt_trans this (by decide)), Nat.max_eq_left (by omega)]
    rfl
  · rw [pk_sub (by omega)]
    by_cases h2 : w - k < 1
    · rw [if_pos (show nI (w - k) < 1 from (nI_ltI (b := 1) (by omega) (by decide)).mpr h2), Nat.max_eq_left (by omega)]
      rfl
    · rw [if_neg (show ¬ nI (w - k) < 1 from fun q => h2 ((nI_ltI (b := 1) (by omega) (by decide)).mp q)), Nat.max_eq_right (by omega)]
theorem c_dayEnds (hs : tOK s) (hb : G.2.2.1 ≤ T0) (hj : tRow j) (hm : s.2.2 j = mrow M) (hM : mOK M) (hS : mSm M) {cds : List (Nat × Nat)} (hL : tLw s cds) {play : Int32} (hp : (s.2.2 4).getD 3 0 = play) {n : Nat} (hn : (s.2.2 4).getD 0 0 = nI n) (h8 : n ≤ 8) (hw : ∀ a, M.1.getD a 0 < 1000) : xMet G (d + 5) 0 0 m_X9_dayEnds [.ref T0, .ref (T0 + j)] (tw T0 h s) (xV (fun h' => ∃ s', h' = tw T0 h s' ∧ tE [365, 366, 450, j] s s' ∧ s'.2.2 j = mrow (mDay n cds play M))) := by
  refine xMet.of [some (.ref T0), some (.ref (T0 + j)), none] pl_X9 rfl (Nat.le_of_ble_eq_true rfl) ?_
  have hj4 : ¬ j = 4 := by rcases hj with e | e <;> omega
  have hjA : ∀ i, i < 160 → ¬ 29 + 1 + i ∈ [365, 366, 450, j] := by
    intro i hi q
    simp only [List.mem_cons, List.not_mem_nil, or_false] at q
    rcases hj with e | e <;> omega
  generalize hQ : (xV (fun h' => ∃ s', h' = tw T0 h s' ∧ tE [365, 366, 450, j] s s' ∧ s'.2.2 j = mrow (mDay n cds play M))) = Q
  generalize hf : (fun a => wrN cds (fcM play M a)) = f
  have hf1 : ∀ a, f a = wrN cds (fcM play M a) := fun a => by rw [← hf]
  have part2 : ∀ s1, tE [365, 366, 450] s s1 → (∀ a, a < n → (s1.2.2 450).getD a 0 = nI (f a)) → ∀ x2, xRun G m_X9_dayEnds (d + 5) 0 0 30 [some (.ref T0), some (.ref (T0 + j)), x2] [] (tw T0 h s1) Q := by
    intro s1 hE hwr x2
    have hm1 : s1.2.2 j = mrow M := (hE.2.2.1 j (by rcases hj with e | e <;> rw [e] <;> decide)).trans hm
    have k1 : ∀ M' : Mk, mOK M' → tOK (seta s1 j (mrow M')) := fun M' hM' => seta_ok hE.2.2.2 (by rw [mrow_len hM', hj.len])
    have hok : ∀ c, mOK (mW M (dWk M.1 f c)) := fun c => ⟨by show (dWk M.1 f c).length = 8; rw [dWk_len]; exact hM.1, hM.2⟩
    have t4 : ∀ r, (seta s1 j r).2.2 4 = s.2.2 4 := fun r => by rw [seta_ne (Ne.symm hj4)]; exact hE.2.2.1 4 (by decide)
    refine x_iconst dX9_dayEnds_30 0 rfl ?_
    refine xsi2 dX9_dayEnds_31 (by decide) rfl ?_
    suffices hh : xRun G m_X9_dayEnds (d + 5) 0 0 32 [some (.ref T0), some (.ref (T0 + j)), some (.int (nI 0))] [] (tw T0 h (seta s1 j (mrow (mW M (dWk M.1 f 0))))) Q by
      rw [seta_id (show s1.2.2 j = mrow (mW M (dWk M.1 f 0)) from hm1)] at hh
      exact hh
    refine xfor (fun c => xRun G m_X9_dayEnds (d + 5) 0 0 32 [some (.ref T0), some (.ref (T0 + j)), some (.int (nI c))] [] (tw T0 h (seta s1 j (mrow (mW M (dWk M.1 f c))))) Q) n ?_ ?_
    · intro c hc ih
      have c8 : c < 8 := by omega
      have rw1 : (mrow (mW M (dWk M.1 f c))).getD c 0 = nI (M.1.getD c 0) := by
        rw [mrow_w (hok c) c8]
        show nI ((dWk M.1 f c).getD c 0) = _
        rw [dWk_ge c c (Nat.le_refl _)]
      have fle : f c ≤ 20 := by rw [hf1]; exact wrN_le
      refine x_iload_n dX9_dayEnds_32 rfl ?_
      refine x_aload_n dX9_dayEnds_33 rfl ?_
      refine t_ga 4 dX9_dayEnds_34 f_X9_23_27 (by decide) rfl (by decide) ?_
      refine x_iconst dX9_dayEnds_37 0 rfl ?_
      refine t_ia 0 dX9_dayEnds_38 (k1 _ (hok c)) (by decide) rfl (by decide) (gt (t4 _) hn) ?_
      refine x_icmp_ge 69 dX9_dayEnds_39 rfl (fun hc9 => absurd hc9 (nI_ge hc (by omega))) (fun _ => ?_)
      refine x_aload_n dX9_dayEnds_42 rfl ?_
      refine x_iconst dX9_dayEnds_43 0 rfl ?_
      refine x_at 44 rfl ?_
      refine x_iload_n dX9_dayEnds_44 rfl ?_
      refine x_iadd dX9_dayEnds_45 ?_
      refine x_iconst dX9_dayEnds_46 1 rfl ?_
      refine x_aload_n dX9_dayEnds_47 rfl ?_
      refine x_iconst dX9_dayEnds_48 0 rfl ?_
      refine x_iload_n dX9_dayEnds_49 rfl ?_
      refine x_iadd dX9_dayEnds_50 ?_
      refine t_rj c dX9_dayEnds_51 (k1 _ (hok c)) hj seta_get (ix_w _) (by omega) rw1 ?_
      refine x_at 52 rfl ?_
      refine x_aload_n dX9_dayEnds_52 rfl ?_
      refine t_ga 450 dX9_dayEnds_53 f_X9_67_27 (by decide) rfl (by decide) ?_
      refine x_iload_n dX9_dayEnds_56 rfl ?_
      refine t_ia c dX9_dayEnds_57 (k1 _ (hok c)) (by decide) rfl (show c < 8 from c8) (gt (seta_ne (by rcases hj with e | e <;> omega)) (hwr c hc)) ?_
      refine x_isub dX9_dayEnds_58 ?_
      refine xiS2 dX9_dayEnds_59 s_X9_238 (Nat.le_of_ble_eq_true rfl) (c_more _ _) ?_
      rw [mxsub (hw c) (by omega)]
      refine t_rs c (mrow (mW M (dWk M.1 f (c + 1)))) dX9_dayEnds_62 (k1 _ (hok c)) hj (ix_w _) (by omega) hb (by rw [seta_get, mrow_setw (hok c) c8]; rfl) ?_
      rw [seta_seta]
      refine xinc2 _ dX9_dayEnds_63 (by decide) rfl (nI_1 c) ?_
      refine x_goto 32 dX9_dayEnds_66 rfl ?_
      exact ih
    · have eD : (mrow (mW M (dWk M.1 f n))).set 59 (nI M.2.2.2.2.2 + 1) = mrow (mDay n cds play M) := by
        rw [nI_1, mrow_setd (hok n)]
        unfold mDay
        rw [hf]
      refine x_iload_n dX9_dayEnds_32 rfl ?_
      refine x_aload_n dX9_dayEnds_33 rfl ?_
      refine t_ga 4 dX9_dayEnds_34 f_X9_23_27 (by decide) rfl (by decide) ?_
      refine x_iconst dX9_dayEnds_37 0 rfl ?_
      refine t_ia 0 dX9_dayEnds_38 (k1 _ (hok n)) (by decide) rfl (by decide) (gt (t4 _) hn) ?_
      refine x_icmp_ge 69 dX9_dayEnds_39 rfl (fun _ => ?_) (fun hc9 => absurd (Int32.le_refl _) hc9)
      refine x_aload_n dX9_dayEnds_69 rfl ?_
      refine x_bipush dX9_dayEnds_70 59 (by decide) ?_
      refine x_at 72 rfl ?_
      refine x_dup2 dX9_dayEnds_72 rfl rfl ?_
      refine t_rj 59 dX9_dayEnds_73 (k1 _ (hok n)) hj seta_get rfl (by decide) (mrow_d (hok n)) ?_
      refine x_iconst dX9_dayEnds_74 1 rfl ?_
      refine x_iadd dX9_dayEnds_75 ?_
      refine t_rs 59 (mrow (mDay n cds play M)) dX9_dayEnds_76 (k1 _ (hok n)) hj rfl (by omega) hb (by rw [seta_get]; exact eD) ?_
      rw [seta_seta]
      refine x_return dX9_dayEnds_77 rfl ?_
      rw [← hQ]
      refine ⟨rfl, _, rfl, (hE.mono (B := [365, 366, 450, j]) (by intro i hi; simp only [List.mem_cons, List.not_mem_nil, or_false] at hi ⊢; omega)).seta (by simp) ?_, seta_get⟩
      rw [← eD, List.length_set, mrow_len (hok n), hj.len]
  refine x_iconst dX9_dayEnds_0 0 rfl ?_
  refine xsi2 dX9_dayEnds_1 (by decide) rfl ?_
  suffices hh : ∀ s1, tE [365, 366, 450] s s1 → (∀ a, a < 0 → (s1.2.2 450).getD a 0 = nI (f a)) → xRun G m_X9_dayEnds (d + 5) 0 0 2 [some (.ref T0), some (.ref (T0 + j)), some (.int (nI 0))] [] (tw T0 h s1) Q from hh s (tE.refl hs) (fun a ha => absurd ha (Nat.not_lt_zero _))
  refine xfor (fun c => ∀ s1, tE [365, 366, 450] s s1 → (∀ a, a < c → (s1.2.2 450).getD a 0 = nI (f a)) → xRun G m_X9_dayEnds (d + 5) 0 0 2 [some (.ref T0), some (.ref (T0 + j)), some (.int (nI c))] [] (tw T0 h s1) Q) n ?_ ?_
  · intro c hc ih s1 hE hwr
    have hm1 : s1.2.2 j = mrow M := (hE.2.2.1 j (by rcases hj with e | e <;> rw [e] <;> decide)).trans hm
    have t4 : s1.2.2 4 = s.2.2 4 := hE.2.2.1 4 (by decide)
    refine x_iload_n dX9_dayEnds_2 rfl ?_
    refine x_aload_n dX9_dayEnds_3 rfl ?_
    refine t_ga 4 dX9_dayEnds_4 f_X9_23_27 (by decide) rfl (by decide) ?_
    refine x_iconst dX9_dayEnds_7 0 rfl ?_
    refine t_ia 0 dX9_dayEnds_8 hE.2.2.2 (by decide) rfl (by decide) (gt t4 hn) ?_
    refine x_icmp_ge 30 dX9_dayEnds_9 rfl (fun hc9 => absurd hc9 (nI_ge hc (by omega))) (fun _ => ?_)
    refine x_aload_n dX9_dayEnds_12 rfl ?_
    refine t_ga 450 dX9_dayEnds_13 f_X9_67_27 (by decide) rfl (by decide) ?_
    refine x_at 16 rfl ?_
    refine x_iload_n dX9_dayEnds_16 rfl ?_
    refine x_aload_n dX9_dayEnds_17 rfl ?_
    refine x_aload_n dX9_dayEnds_18 rfl ?_
    refine x_iload_n dX9_dayEnds_19 rfl ?_
    refine xpV2 dX9_dayEnds_20 v_X9_283_27 tw_get0 (Nat.le_of_ble_eq_true rfl) (c_wearOf hE.2.2.2 hb hj hm1 hM hS (hL.tE hE (by intro i hi q; simp at q; omega)) (gt t4 hp) c (by omega)) (by omega) (by omega) (fun v h1 hF => ?_)
    obtain ⟨hv, s2, rfl, hE2⟩ := hF
    subst hv
    have E3 : tE [365, 366, 450] s s2 := hE.trans (hE2.mono (by decide))
    refine t_is c dX9_dayEnds_23 E3.2.2.2 (by decide) rfl (show c < 8 by omega) hb ?_
    refine xinc2 _ dX9_dayEnds_24 (by decide) rfl (nI_1 c) ?_
    refine x_goto 2 dX9_dayEnds_27 rfl ?_
    have l2 : (s2.2.2 450).length = 8 := E3.2.2.2 450
    refine ih _ (E3.seta (by decide) (by rw [List.length_set]; exact l2)) (fun a ha => ?_)
    rw [seta_get, getD_set (by omega)]
    by_cases e : a = c
    · rw [if_pos e, e, hf1]
    · rw [if_neg e, hE2.2.2.1 450 (by decide)]
      exact hwr a (by omega)
  · intro s1 hE hwr
    have t4 : s1.2.2 4 = s.2.2 4 := hE.2.2.1 4 (by decide)
    refine x_iload_n dX9_dayEnds_2 rfl ?_
    refine x_aload_n dX9_dayEnds_3 rfl ?_
    refine t_ga 4 dX9_dayEnds_4 f_X9_23_27 (by decide) rfl (by decide) ?_
    refine x_iconst dX9_dayEnds_7 0 rfl ?_
    refine t_ia 0 dX9_dayEnds_8 hE.2.2.2 (by decide) rfl (by decide) (gt t4 hn) ?_
    refine x_icmp_ge 30 dX9_dayEnds_9 rfl (fun _ => ?_) (fun hc9 => absurd (Int32.le_refl _) hc9)
    exact part2 s1 hE hwr _
theorem mWeigh_ok {play : Int32} {M : Mk} (hM : mOK M) {a n b m : Nat} : mOK ((mWeigh play M a n b m).getD M) := by
  unfold mWeigh
  split
  · exact hM
  · next hq =>
    refine ⟨hM.1, ?_, ?_⟩
    · show ((M.2.1.set a _).set b _).length = 8
      rw [List.length_set, List.length_set]
      exact hM.2.1
    · have h1 := hM.2.2
      have h2 : ¬ M.2.2.1.length = 10 := fun q => hq (Or.inr (Or.inl q))
      show (M.2.2.1 ++ _).length ≤ 10
      rw [List.length_append]
      split
      · show _ + 1 ≤ 10; omega
      · split
        · show _ + 1 ≤ 10; omega
        · show _ + 0 ≤ 10; omega
theorem mTip_ok {M : Mk} (hM : mOK M) {c : Nat} : mOK ((mTip M c).getD M) := by
  unfold mTip
  split
  · exact hM
  · refine ⟨hM.1, hM.2.1, ?_⟩
    have h1 := hM.2.2
    show (M.2.2.1.eraseIdx c).length ≤ 10
    rw [List.length_eraseIdx]
    split <;> omega
theorem mFeed_ok {M : Mk} (hM : mOK M) {a n : Nat} : mOK ((mFeed M a n).getD M) := by
  unfold mFeed
  split
  · exact hM
  · refine ⟨?_, hM.2⟩
    show (M.1.set a _).length = 8
    rw [List.length_set]
    exact hM.1
/-- a step: 0 weigh, 1 tip, 2 feed, 3 turn, 4 a day -/
abbrev tSt : Type := Nat × Nat × Nat × Nat × Nat
def mDo (n : Nat) (cds : List (Nat × Nat)) (play : Int32) (M : Mk) (x : tSt) : Option Mk :=
  if x.1 = 0 then mWeigh play M x.2.1 x.2.2.1 x.2.2.2.1 x.2.2.2.2 else if x.1 = 1 then mTip M x.2.1 else if x.1 = 2 then mFeed M x.2.1 x.2.2.1 else if x.1 = 3 then mTurn M else if 300 ≤ M.2.2.2.2.2 then none else some (mDay n cds play M)
/-- a step's numbers are in their bounds -/
def stOK (n : Nat) (x : tSt) : Prop := x.1 ≤ 4 ∧ (x.1 = 0 → x.2.1 < n ∧ x.2.2.1 < 10 ∧ 0 < x.2.2.1 ∧ x.2.2.2.1 < n ∧ x.2.2.2.2 < 10 ∧ 0 < x.2.2.2.2) ∧ (x.1 = 1 → x.2.1 < 10) ∧ (x.1 = 2 → x.2.1 < n ∧ x.2.2.1 ≤ 30)
theorem ar_stp : ∀ i, i < 80 → (367 + 1 + i < 475 ∧ ¬ 367 + 1 + i = 0 ∧ tgrid (367 + 1 + i) = 0 ∧ ¬ 367 + 1 + i = 472) := by decide +kernel
theorem ln_stp : ∀ i, i < 80 → tlen (367 + 1 + i) = 6 := by decide +kernel
theorem c_does (hs : tOK s) (hb : G.2.2.1 ≤ T0) (hj : tRow j) (hm : s.2.2 j = mrow M) (hM : mOK M) (hS : mSm M) {cds : List (Nat × Nat)} (hL : tLw s cds) {play : Int32} (hp : (s.2.2 4).getD 3 0 = play) {n : Nat} (hn : (s.2.2 4).getD 0 0 = nI n) (h8 : n ≤ 8) (hw : ∀ a, M.1.getD a 0 ≤ 60) (hl : M.2.2.2.1 ≤ 18) (hdd : M.2.2.2.2.2 < 100000) (q : Nat) (hq : q < 80) (x : tSt) (hx : stOK n x) (x5 : Int32) (hr : s.2.2 (367 + 1 + q) = [nI x.1, nI x.2.1, nI x.2.2.1, nI x.2.2.2.1, nI x.2.2.2.2, x5]) : xMet G (d + 6) 0 0 m_X9_does [.ref T0, .ref (T0 + j), .ref (T0 + (367 + 1 + q))] (tw T0 h s) (xP (fun v h' => v = .int (b2 (mDo n cds play M x).isSome) ∧ ∃ s', h' = tw T0 h s' ∧ tE [365, 366, 450, j] s s' ∧ s'.2.2 j = mrow ((mDo n cds play M x).getD M))) := by
  refine xMet.of [some (.ref T0), some (.ref (T0 + j)), some (.ref (T0 + (367 + 1 + q)))] pl_X9 rfl (Nat.le_of_ble_eq_true rfl) ?_
  have r0 : (s.2.2 (367 + 1 + q)).getD 0 0 = nI x.1 := by rw [hr]; rfl
  have r1 : (s.2.2 (367 + 1 + q)).getD 1 0 = nI x.2.1 := by rw [hr]; rfl
  have r2 : (s.2.2 (367 + 1 + q)).getD 2 0 = nI x.2.2.1 := by rw [hr]; rfl
  have r3 : (s.2.2 (367 + 1 + q)).getD 3 0 = nI x.2.2.2.1 := by rw [hr]; rfl
  have r4 : (s.2.2 (367 + 1 + q)).getD 4 0 = nI x.2.2.2.2 := by rw [hr]; rfl
  have hwr : ∀ M' : Mk, mOK M' → tE [365, 366, 450, j] s (seta s j (mrow M')) := fun M' hM' => (tE.refl hs).seta (by simp) (by rw [mrow_len hM', hj.len])
  refine x_aload_n dX9_does_0 rfl ?_
  refine x_iconst dX9_does_1 0 rfl ?_
  refine t_ia 0 dX9_does_2 hs (ar_stp q hq) rfl (by rw [ln_stp q hq]; decide) r0 ?_
  have h5 : x.1 = 0 ∨ x.1 = 1 ∨ x.1 = 2 ∨ x.1 = 3 ∨ x.1 = 4 := by have := hx.1; omega
  rcases h5 with h5 | h5 | h5 | h5 | h5
  · have hb4 := hx.2.1 h5
    rw [mDo, if_pos h5, h5]
    refine x_tableIn 32 dX9_does_3 (by decide) (by decide) rfl (by decide) ?_
    refine x_aload_n dX9_does_32 rfl ?_
    refine x_aload_n dX9_does_33 rfl ?_
    refine x_aload_n dX9_does_34 rfl ?_
    refine x_iconst dX9_does_35 1 rfl ?_
    refine t_ia 1 dX9_does_36 hs (ar_stp q hq) rfl (by rw [ln_stp q hq]; decide) r1 ?_
    refine x_aload_n dX9_does_37 rfl ?_
    refine x_iconst dX9_does_38 2 rfl ?_
    refine t_ia 2 dX9_does_39 hs (ar_stp q hq) rfl (by rw [ln_stp q hq]; decide) r2 ?_
    refine x_at 40 rfl ?_
    refine x_aload_n dX9_does_40 rfl ?_
    refine x_iconst dX9_does_41 3 rfl ?_
    refine t_ia 3 dX9_does_42 hs (ar_stp q hq) rfl (by rw [ln_stp q hq]; decide) r3 ?_
    refine x_aload_n dX9_does_43 rfl ?_
    refine x_iconst dX9_does_44 4 rfl ?_
    refine t_ia 4 dX9_does_45 hs (ar_stp q hq) rfl (by rw [ln_stp q hq]; decide) r4 ?_
    refine xiV5 dX9_does_46 v_X9_286_27 tw_get0 (Nat.le_of_ble_eq_true rfl) (c_weighs hs hj hm hM hS hb hp _ _ _ _ (by omega) (by omega) (by omega) (by omega)) ?_
    refine x_zreturn dX9_does_49 rfl (by cases (mWeigh play M x.2.1 x.2.2.1 x.2.2.2.1 x.2.2.2.2).isSome <;> rfl) ⟨_, rfl, rfl, _, rfl, hwr _ ?_, seta_get⟩
    exact mWeigh_ok hM
  · rw [mDo, if_neg (by omega), if_pos h5, h5]
    have := hx.2.2.1 h5
    refine x_tableIn 50 dX9_does_3 (by decide) (by decide) rfl (by decide) ?_
    refine x_aload_n dX9_does_50 rfl ?_
    refine x_aload_n dX9_does_51 rfl ?_
    refine x_iconst dX9_does_52 1 rfl ?_
    refine t_ia 1 dX9_does_53 hs (ar_stp q hq) rfl (by rw [ln_stp q hq]; decide) r1 ?_
    refine xiS2 dX9_does_54 s_X9_289 (Nat.le_of_ble_eq_true rfl) (c_tips hs hj hm hM hb _ (by omega)) ?_
    exact x_zreturn dX9_does_57 rfl (by cases (mTip M x.2.1).isSome <;> rfl) ⟨_, rfl, rfl, _, rfl, hwr _ (mTip_ok hM), seta_get⟩
  · rw [mDo, if_neg (by omega), if_neg (by omega), if_pos h5, h5]
    have := hx.2.2.2 h5
    refine x_tableIn 58 dX9_does_3 (by decide) (by decide) rfl (by decide) ?_
    refine x_aload_n dX9_does_58 rfl ?_
    refine x_aload_n dX9_does_59 rfl ?_
    refine x_iconst dX9_does_60 1 rfl ?_
    refine t_ia 1 dX9_does_61 hs (ar_stp q hq) rfl (by rw [ln_stp q hq]; decide) r1 ?_
    refine x_aload_n dX9_does_62 rfl ?_
    refine x_iconst dX9_does_63 2 rfl ?_
    refine t_ia 2 dX9_does_64 hs (ar_stp q hq) rfl (by rw [ln_stp q hq]; decide) r2 ?_
    refine xiS3 dX9_does_65 s_X9_293 (Nat.le_of_ble_eq_true rfl) (c_feeds hs hj hm hM hb _ _ (by omega) (hw _) (by omega)) ?_
    exact x_zreturn dX9_does_68 rfl (by cases (mFeed M x.2.1 x.2.2.1).isSome <;> rfl) ⟨_, rfl, rfl, _, rfl, hwr _ (mFeed_ok hM), seta_get⟩
  · rw [mDo, if_neg (by omega), if_neg (by omega), if_neg (by omega), if_pos h5, h5]
    refine x_tableIn 69 dX9_does_3 (by decide) (by decide) rfl (by decide) ?_
    refine x_aload_n dX9_does_69 rfl ?_
    refine x_bipush dX9_does_70 57 (by decide) ?_
    refine t_rj 57 dX9_does_72 hs hj hm rfl (by decide) (mrow_l hM) ?_
    refine x_bipush dX9_does_73 9 (by decide) ?_
    refine x_icmp_ne 80 dX9_does_75 rfl (fun c1 => ?_) (fun c1 => ?_)
    · have c2 : ¬ M.2.2.2.1 = 9 := fun e => c1 (by rw [e]; rfl)
      rw [mTurn, if_neg c2]
      refine x_aload_n dX9_does_80 rfl ?_
      refine x_bipush dX9_does_81 57 (by decide) ?_
      refine x_bipush dX9_does_83 18 (by decide) ?_
      refine x_aload_n dX9_does_85 rfl ?_
      refine x_bipush dX9_does_86 57 (by decide) ?_
      refine t_rj 57 dX9_does_88 hs hj hm rfl (by decide) (mrow_l hM) ?_
      refine x_isub dX9_does_89 ?_
      rw [show (18 : Int32) - nI M.2.2.2.1 = nI (18 - M.2.2.2.1) from pk_sub (a := 18) hl]
      refine t_rs 57 (mrow (mL M (18 - M.2.2.2.1))) dX9_does_90 hs hj rfl (by decide) hb (by rw [hm, mrow_setl hM]) ?_
      refine x_iconst dX9_does_91 1 rfl ?_
      exact x_zreturn dX9_does_92 rfl rfl ⟨_, rfl, rfl, _, rfl, hwr _ ⟨hM.1, hM.2.1, hM.2.2⟩, seta_get⟩
    · have c2 : M.2.2.2.1 = 9 := (nI_eq (by omega) (b := 9) (by decide)).mp c1
      rw [mTurn, if_pos c2]
      refine x_iconst dX9_does_78 0 rfl ?_
      exact x_zreturn dX9_does_79 rfl rfl ⟨_, rfl, rfl, s, rfl, tE.refl hs, hm⟩
  · rw [mDo, if_neg (by omega), if_neg (by omega), if_neg (by omega), if_neg (by omega), h5]
    refine x_tableOut 93 dX9_does_3 (by decide) (by decide) ?_
    refine x_aload_n dX9_does_93 rfl ?_
    refine x_bipush dX9_does_94 59 (by decide) ?_
    refine t_rj 59 dX9_does_96 hs hj hm rfl (by decide) (mrow_d hM) ?_
    refine x_sipush dX9_does_97 300 (by decide) ?_
    refine x_icmp_lt 105 dX9_does_100 rfl (fun c1 => ?_) (fun c1 => ?_)
    · have c2 : ¬ 300 ≤ M.2.2.2.2.2 := by
        have := (nI_ltI (b := 300) (by omega) (by decide)).mp c1
        omega
      rw [if_neg c2]
      refine x_aload_n dX9_does_105 rfl ?_
      refine x_aload_n dX9_does_106 rfl ?_
      refine xvV1 dX9_does_107 v_X9_297_27 tw_get0 (Nat.le_of_ble_eq_true rfl) (c_dayEnds hs hb hj hm hM hS hL hp hn h8 (fun a => by have := hw a; omega)) (by omega) (by omega) (fun h1 hF => ?_)
      refine x_iconst dX9_does_110 1 rfl ?_
      obtain ⟨s', rfl, hE, hr9⟩ := hF
      exact x_zreturn dX9_does_111 rfl rfl ⟨_, rfl, rfl, s', rfl, hE, hr9⟩
    · have c2 : 300 ≤ M.2.2.2.2.2 := Nat.le_of_not_lt (fun e => c1 ((nI_ltI (b := 300) (by omega) (by decide)).mpr e))
      rw [if_pos c2]
      refine x_iconst dX9_does_103 0 rfl ?_
      exact x_zreturn dX9_does_104 rfl rfl ⟨_, rfl, rfl, s, rfl, tE.refl hs, hm⟩
end TL
