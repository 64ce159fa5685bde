set_option maxRecDepth 100000
/-! ===== the twin, 12: what is worth what, fat rings ===== -/
theorem fz_nil_of {l : List Int32} (hl : l.length = 1024) (h : ∀ i, i < 1024 → l.getD i 0 = 0) : l = fz [] := by
  refine getD_ext (by rw [hl, fz_len]) (fun i hi => ?_)
  rw [hl] at hi
  rw [h i hi, fz_get hi]
  simp [b2]
/-- Euclid's way -/
def gcL : Nat → Int64 → Int64 → Int64
  | 0, a, _ => a
  | f + 1, a, b => if b = 0 then a else gcL f b (a - a / b * b)
/-- a is above b's rest -/
def gOK : Nat → Int64 → Int64 → Prop
  | 0, _, b => b = 0
  | f + 1, a, b => b = 0 ∨ gOK f b (a - a / b * b)
def ptL (f : Nat) (up low : Int64) (part : Int32) : Int64 := if part = 0 then up / gcL f low up else low / gcL f low up
section TU
variable {G : xG} {d : Nat} {h : xH} {T0 : Nat} {s : tS} {M : Mk}
theorem c_partOf (f : Nat) (up low : Int64) (part : Int32) (hf : gOK f low up) (hn : ¬ gcL f low up = 0) : xMet G d 0 0 m_X9_partOf [.long up, .long low, .int part] h (xI (.long (ptL f up low part)) h) := by
  refine xMet.of [some (.long up), none, some (.long low), none, some (.int part), none, none, none, none, none, none] pl_X9 rfl (Nat.le_of_ble_eq_true rfl) ?_
  refine x_lload_n dX9_partOf_0 rfl ?_
  refine xsl5 dX9_partOf_1 (by decide) rfl ?_
  refine x_lload_n dX9_partOf_3 rfl ?_
  refine xsl7 dX9_partOf_4 (by decide) rfl ?_
  suffices hh : ∀ (k : Nat) (a b : Int64) x9, gOK k a b → gcL k a b = gcL f low up → xRun G m_X9_partOf d 0 0 6 [some (.long up), none, some (.long low), none, some (.int part), some (.long a), none, some (.long b), none, x9, none] [] h (xI (.long (ptL f up low part)) h) from hh f low up _ hf rfl
  have fin : ∀ (a b : Int64) x9, b = 0 → a = gcL f low up → xRun G m_X9_partOf d 0 0 6 [some (.long up), none, some (.long low), none, some (.int part), some (.long a), none, some (.long b), none, x9, none] [] h (xI (.long (ptL f up low part)) h) := by
    intro a b x9 hb ha
    subst hb
    subst ha
    refine x_lload dX9_partOf_6 rfl ?_
    refine x_lconst dX9_partOf_8 0 rfl ?_
    refine x_lcmp dX9_partOf_9 ?_
    refine x_if_eq 31 dX9_partOf_10 rfl (fun _ => ?_) (fun hc9 => absurd (rfl) hc9)
    refine x_iload dX9_partOf_31 rfl ?_
    refine x_if_ne 43 dX9_partOf_33 rfl (fun c1 => ?_) (fun c1 => ?_)
    · refine x_lload_n dX9_partOf_43 rfl ?_
      refine x_lload dX9_partOf_44 rfl ?_
      refine x_ldiv dX9_partOf_46 (hn) ?_
      refine x_lreturn dX9_partOf_47 rfl ⟨?_, rfl⟩
      rw [ptL, if_neg c1]
    · refine x_lload_n dX9_partOf_36 rfl ?_
      refine x_lload dX9_partOf_37 rfl ?_
      refine x_ldiv dX9_partOf_39 (hn) ?_
      refine x_goto 47 dX9_partOf_40 rfl ?_
      refine x_lreturn dX9_partOf_47 rfl ⟨?_, rfl⟩
      rw [ptL, if_pos c1]
  intro k
  induction k with
  | zero => intro a b x9 h1 h2; exact fin a b x9 h1 h2
  | succ k ih =>
    intro a b x9 h1 h2
    by_cases hb : b = 0
    · refine fin a b x9 hb ?_
      rw [← h2, gcL, if_pos hb]
    · rw [gcL, if_neg hb] at h2
      refine x_lload dX9_partOf_6 rfl ?_
      refine x_lconst dX9_partOf_8 0 rfl ?_
      refine x_lcmp dX9_partOf_9 ?_
      refine x_if_eq 31 dX9_partOf_10 rfl (fun hc9 => absurd hc9 (fun q => hb ((lg_cmp_eq _ _).mp q))) (fun _ => ?_)
      refine x_lload dX9_partOf_13 rfl ?_
      refine x_lload dX9_partOf_15 rfl ?_
      refine x_lrem dX9_partOf_17 (hb) ?_
      refine xsl9 dX9_partOf_18 (by decide) rfl ?_
      refine x_at 20 rfl ?_
      refine x_lload dX9_partOf_20 rfl ?_
      refine xsl5 dX9_partOf_22 (by decide) rfl ?_
      refine x_lload dX9_partOf_24 rfl ?_
      refine xsl7 dX9_partOf_26 (by decide) rfl ?_
      refine x_goto 6 dX9_partOf_28 rfl ?_
      exact ih _ _ _ (h1.resolve_left hb) h2
theorem c_worths (hs : tOK s) (hb : G.2.2.1 ≤ T0) (hm : s.2.2 448 = mrow M) (hM : mOK M) (hS : mSm M) (a b : Nat) (ha : a < 8) (hb8 : b < 8) (hab : ¬ a = b) : xMet G (d + 11) 0 0 m_X9_worths [.ref T0, .int (nI a), .int (nI b)] (tw T0 h s) (xU (tw T0 h (sBest s (bst M (0, 1) (pth (fun _ => true) M b 8 a [a]))))) := by
  refine xMet.of [some (.ref T0), some (.int (nI a)), some (.int (nI b))] pl_X9 rfl (Nat.le_of_ble_eq_true rfl) ?_
  have key := c_chains (G := G) (d := d) (h := h) hs hb hm hM hS b hb8 8 [] a (sh1 a) [a] (0, 1) ha hab (mk8.one ha) (fun q => hab (List.mem_singleton.mp q).symm) (Nat.le_refl 9)
  simp only [List.nil_append, List.map_id'] at key
  refine x_aload_n dX9_worths_0 rfl ?_
  refine x_lconst dX9_worths_1 0 rfl ?_
  refine t_pl dX9_worths_2 p_X9_338_27 rfl (by decide) hb ?_
  refine x_aload_n dX9_worths_5 rfl ?_
  refine x_lconst dX9_worths_6 1 rfl ?_
  refine t_pl dX9_worths_7 p_X9_334_27 rfl (by decide) hb ?_
  refine x_aload_n dX9_worths_10 rfl ?_
  refine x_iload_n dX9_worths_11 rfl ?_
  refine x_at 12 rfl ?_
  refine x_iload_n dX9_worths_12 rfl ?_
  refine x_iconst dX9_worths_13 1 rfl ?_
  refine x_iload_n dX9_worths_14 rfl ?_
  refine x_ishl dX9_worths_15 ?_
  refine x_lconst dX9_worths_16 1 rfl ?_
  refine x_lconst dX9_worths_17 1 rfl ?_
  refine xuV5 dX9_worths_18 v_X9_348_27 tw_get0 (Nat.le_of_ble_eq_true rfl) (key) ?_
  exact x_return dX9_worths_21 rfl ⟨rfl, rfl⟩
theorem c_allRings (hs : tOK s) (hb : G.2.2.1 ≤ T0) (hm : s.2.2 448 = mrow M) (hM : mOK M) (hS : mSm M) {n : Nat} (hn : (s.2.2 4).getD 0 0 = nI n) (h8 : n ≤ 8) : xMet G (d + 12) 0 0 m_X9_allRings [.ref T0] (tw T0 h s) (xU (tw T0 h (sRg s (rgA M n)))) := by
  refine xMet.of [some (.ref T0), none] pl_X9 rfl (Nat.le_of_ble_eq_true rfl) ?_
  refine x_aload_n dX9_allRings_0 rfl ?_
  refine x_lconst dX9_allRings_1 0 rfl ?_
  refine t_pl dX9_allRings_2 p_X9_338_27 rfl (by decide) hb ?_
  refine x_aload_n dX9_allRings_5 rfl ?_
  refine x_lconst dX9_allRings_6 1 rfl ?_
  refine t_pl dX9_allRings_7 p_X9_334_27 rfl (by decide) hb ?_
  refine x_aload_n dX9_allRings_10 rfl ?_
  refine x_iconst dX9_allRings_11 (-1) rfl ?_
  refine x_at 12 rfl ?_
  refine t_pi dX9_allRings_12 p_X9_356_27 rfl (by decide) hb ?_
  refine x_iconst dX9_allRings_15 0 rfl ?_
  refine xsi1 dX9_allRings_16 (by decide) rfl ?_
  generalize hs1 : seti (setl (setl s 39 0) 40 1) 42 (-1) = s1
  have ok1 : tOK s1 := by rw [← hs1]; exact hs
  have part2 : ∀ x1, xRun G m_X9_allRings (d + 12) 0 0 39 [some (.ref T0), x1] [] (tw T0 h (sRg s (rgA M 0))) (xU (tw T0 h (sRg s (rgA M n)))) := by
    intro x1
    refine x_iconst dX9_allRings_39 0 rfl ?_
    refine xsi1 dX9_allRings_40 (by decide) rfl ?_
    have hB : ∀ t, rgB (rgA M t) := by
      intro t
      induction t with
      | zero => intro q hq; cases hq
      | succ t ih => exact rgF_B _ ih
    refine xfor (fun t => xRun G m_X9_allRings (d + 12) 0 0 41 [some (.ref T0), some (.int (nI t))] [] (tw T0 h (sRg s (rgA M t))) (xU (tw T0 h (sRg s (rgA M n))))) n ?_ ?_
    · intro t ht ih
      have key := c_rings (G := G) (d := d) (h := h) hs hb hm hM hS t (by omega) 8 [] t (sh1 t) [t] (rgA M t) (hB t) (fun _ q => nomatch q) (by omega) (mk8.one (by omega)) List.mem_cons_self (Nat.le_refl 9)
      simp only [List.nil_append, List.map_id'] at key
      refine x_iload_n dX9_allRings_41 rfl ?_
      refine x_aload_n dX9_allRings_42 rfl ?_
      refine t_ga 4 dX9_allRings_43 f_X9_23_27 (by decide) rfl (by decide) ?_
      refine x_iconst dX9_allRings_46 0 rfl ?_
      refine t_ia 0 dX9_allRings_47 (sRg_ok hs) (by decide) rfl (by decide) (gt (sRg_a (by decide)) hn) ?_
      refine x_icmp_ge 69 dX9_allRings_48 rfl (fun hc9 => absurd hc9 (nI_ge ht (by omega))) (fun _ => ?_)
      refine x_aload_n dX9_allRings_51 rfl ?_
      refine x_iload_n dX9_allRings_52 rfl ?_
      refine x_at 53 rfl ?_
      refine x_iload_n dX9_allRings_53 rfl ?_
      refine x_iconst dX9_allRings_54 1 rfl ?_
      refine x_iload_n dX9_allRings_55 rfl ?_
      refine x_ishl dX9_allRings_56 ?_
      refine x_iconst dX9_allRings_57 0 rfl ?_
      refine x_lconst dX9_allRings_58 1 rfl ?_
      refine x_lconst dX9_allRings_59 1 rfl ?_
      refine xuV6 dX9_allRings_60 v_X9_352_27 tw_get0 (Nat.le_of_ble_eq_true rfl) key ?_
      refine xinc1 _ dX9_allRings_63 (by decide) rfl (nI_1 t) ?_
      refine x_goto 41 dX9_allRings_66 rfl ?_
      exact ih
    · refine x_iload_n dX9_allRings_41 rfl ?_
      refine x_aload_n dX9_allRings_42 rfl ?_
      refine t_ga 4 dX9_allRings_43 f_X9_23_27 (by decide) rfl (by decide) ?_
      refine x_iconst dX9_allRings_46 0 rfl ?_
      refine t_ia 0 dX9_allRings_47 (sRg_ok hs) (by decide) rfl (by decide) (gt (sRg_a (by decide)) hn) ?_
      refine x_icmp_ge 69 dX9_allRings_48 rfl (fun _ => ?_) (fun hc9 => absurd (Int32.le_refl _) hc9)
      exact x_return dX9_allRings_69 rfl ⟨rfl, rfl⟩
  suffices hh : ∀ r : List Int32, r.length = 1024 → (∀ i, i < 0 → r.getD i 0 = 0) → xRun G m_X9_allRings (d + 12) 0 0 17 [some (.ref T0), some (.int (nI 0))] [] (tw T0 h (seta s1 472 r)) (xU (tw T0 h (sRg s (rgA M n)))) by
    have := hh (s1.2.2 472) (ok1 472) (fun i hi => absurd hi (Nat.not_lt_zero _))
    rw [seta_id rfl] at this
    exact this
  refine xfor (fun c => ∀ r : List Int32, r.length = 1024 → (∀ i, i < c → r.getD i 0 = 0) → xRun G m_X9_allRings (d + 12) 0 0 17 [some (.ref T0), some (.int (nI c))] [] (tw T0 h (seta s1 472 r)) (xU (tw T0 h (sRg s (rgA M n))))) 1024 ?_ ?_
  · intro c hc ih r hl hr
    refine x_iload_n dX9_allRings_17 rfl ?_
    refine x_aload_n dX9_allRings_18 rfl ?_
    refine t_ga 472 dX9_allRings_19 f_X9_76_27 (by decide) rfl (by decide) ?_
    refine x_alen (t := 2) dX9_allRings_22 tw_z rfl ?_
    rw [seta_get, List.length_map, hl]
    refine x_icmp_ge 39 dX9_allRings_23 rfl (fun hc9 => absurd hc9 (nI_ge hc (by decide))) (fun _ => ?_)
    refine x_aload_n dX9_allRings_26 rfl ?_
    refine t_ga 472 dX9_allRings_27 f_X9_76_27 (by decide) rfl (by decide) ?_
    refine x_iload_n dX9_allRings_30 rfl ?_
    refine x_at 31 rfl ?_
    refine x_iconst dX9_allRings_31 0 rfl ?_
    refine t_zs c (by decide) dX9_allRings_32 (seta_ok ok1 hl) rfl hc hb ?_
    rw [seta_get, seta_seta]
    refine xinc1 _ dX9_allRings_33 (by decide) rfl (nI_1 c) ?_
    refine x_goto 17 dX9_allRings_36 rfl ?_
    refine ih _ (by rw [List.length_set]; exact hl) (fun i hi => ?_)
    rw [getD_set (by omega)]
    by_cases e : i = c
    · rw [if_pos e]
    · rw [if_neg e]; exact hr i (by omega)
  · intro r hl hr
    refine x_iload_n dX9_allRings_17 rfl ?_
    refine x_aload_n dX9_allRings_18 rfl ?_
    refine t_ga 472 dX9_allRings_19 f_X9_76_27 (by decide) rfl (by decide) ?_
    refine x_alen (t := 2) dX9_allRings_22 tw_z rfl ?_
    rw [seta_get, List.length_map, hl]
    refine x_icmp_ge 39 dX9_allRings_23 rfl (fun _ => ?_) (fun hc9 => absurd (Int32.le_refl _) hc9)
    rw [fz_nil_of hl hr]
    have e : seta s1 472 (fz []) = sRg s (rgA M 0) := by rw [← hs1]; rfl
    rw [e]
    exact part2 _
end TU
