set_option maxRecDepth 100000
/-! ===== the twin, 23: a law's text ===== -/
section TL3
variable {G : xG} {d : Nat} {h : xH} {T0 : Nat} {s : tS} {t : List Nat}
theorem rd_units (hs : tOK s) (ht : tTx s t) (hb : G.2.2.1 ≤ T0) (h150 : t.length ≤ 150) : ∀ (D : Nat), D ≤ 6 → rdC G T0 h s t (d + 6 + 3 * D) m_X9_one (nI (6 - D)) (pUnit t D) ∧ rdC G T0 h s t (d + 8 + 3 * D) m_X9_sum (nI (6 - D)) (pSum t (pUnit t D)) := by
  intro D
  have up : ∀ D, D ≤ 6 → rdC G T0 h s t (d + 6 + 3 * D) m_X9_one (nI (6 - D)) (pUnit t D) → rdC G T0 h s t (d + 8 + 3 * D) m_X9_sum (nI (6 - D)) (pSum t (pUnit t D)) := by
    intro D _ h1
    rw [show d + 6 + 3 * D = (d + 4 + 3 * D) + 2 by omega] at h1
    have h2 := c_product hs ht hb h150 (pUnit_G D) h1
    rw [show d + 4 + 3 * D + 3 = (d + 5 + 3 * D) + 2 by omega] at h2
    have h3 := c_sum hs ht hb h150 (pUnit_G D) h2
    rw [show d + 5 + 3 * D + 3 = d + 8 + 3 * D by omega] at h3
    exact h3
  induction D with
  | zero =>
    intro h0
    have h1 : rdC G T0 h s t (d + 6 + 3 * 0) m_X9_one (nI (6 - 0)) (pUnit t 0) := c_one hs ht hb h150 0 0 h0 none ⟨fun _ => rfl, fun _ => rfl⟩ (fun P z => nomatch z) (fun P z => nomatch z)
    exact ⟨h1, up 0 h0 h1⟩
  | succ D ih =>
    intro h0
    have h1 := (ih (by omega)).2
    have h2 := c_one (G := G) (d := d) (h := h) (T0 := T0) hs ht hb h150 (3 * D + 3) (D + 1) h0 (some (pSum t (pUnit t D))) ⟨fun z => absurd z (by omega), fun z => nomatch z⟩ (fun P z => by cases z; exact pSum_G (pUnit_G D)) (fun P z => by
      cases z
      rw [show 6 - (D + 1) + 1 = 6 - D by omega, show d + 5 + (3 * D + 3) = d + 8 + 3 * D by omega]
      exact h1)
    rw [show d + 6 + (3 * D + 3) = d + 6 + 3 * (D + 1) by omega] at h2
    exact ⟨h2, up (D + 1) h0 h2⟩
/-- rows laid from a grid to another -/
theorem c_lays (hs : tOK s) (hb : G.2.2.1 ≤ T0) (a b N w m : Nat) (ha : a < 475 ∧ ¬ a = 0 ∧ tgrid a = N) (hb9 : b < 475 ∧ ¬ b = 0 ∧ tgrid b = N) (hN : 0 < N) (hm : m ≤ N) (hN9 : N < 1000) (hw : w < 1000) (ra : ∀ i, i < N → (a + 1 + i < 475 ∧ ¬ a + 1 + i = 0 ∧ tgrid (a + 1 + i) = 0 ∧ ¬ a + 1 + i = 472) ∧ tlen (a + 1 + i) = w) (rb : ∀ i, i < N → (b + 1 + i < 475 ∧ ¬ b + 1 + i = 0 ∧ tgrid (b + 1 + i) = 0 ∧ ¬ b + 1 + i = 472) ∧ tlen (b + 1 + i) = w) (hab : a + N < b ∨ b + N < a) : xMet G d 0 0 m_X9_lays [.ref (T0 + a), .ref (T0 + b), .int (nI m)] (tw T0 h s) (xV (fun h' => ∃ s', h' = tw T0 h s' ∧ s'.1 = s.1 ∧ s'.2.1 = s.2.1 ∧ tOK s' ∧ (∀ j, ¬ (b + 1 ≤ j ∧ j < b + 1 + m) → s'.2.2 j = s.2.2 j) ∧ ∀ i, i < m → s'.2.2 (b + 1 + i) = s.2.2 (a + 1 + i))) := by
  refine xMet.of [some (.ref (T0 + a)), some (.ref (T0 + b)), some (.int (nI m)), none, none] pl_X9 rfl (Nat.le_of_ble_eq_true rfl) ?_
  generalize hQ : xV _ = Q
  have hga : ¬ tgrid a = 0 := by rw [ha.2.2]; omega
  have hgb : ¬ tgrid b = 0 := by rw [hb9.2.2]; omega
  refine x_iconst dX9_lays_0 0 rfl ?_
  refine xsi3 dX9_lays_1 (by decide) rfl ?_
  suffices hh : ∀ s1 x4, s1.1 = s.1 → s1.2.1 = s.2.1 → tOK s1 → (∀ j, ¬ (b + 1 ≤ j ∧ j < b + 1 + 0) → s1.2.2 j = s.2.2 j) → (∀ i, i < 0 → s1.2.2 (b + 1 + i) = s.2.2 (a + 1 + i)) → xRun G m_X9_lays d 0 0 2 [some (.ref (T0 + a)), some (.ref (T0 + b)), some (.int (nI m)), some (.int (nI 0)), x4] [] (tw T0 h s1) Q from hh s _ rfl rfl hs (fun _ _ => rfl) (fun i hi => absurd hi (Nat.not_lt_zero _))
  refine xfor (fun q => ∀ s1 x4, s1.1 = s.1 → s1.2.1 = s.2.1 → tOK s1 → (∀ j, ¬ (b + 1 ≤ j ∧ j < b + 1 + q) → s1.2.2 j = s.2.2 j) → (∀ i, i < q → s1.2.2 (b + 1 + i) = s.2.2 (a + 1 + i)) → xRun G m_X9_lays d 0 0 2 [some (.ref (T0 + a)), some (.ref (T0 + b)), some (.int (nI m)), some (.int (nI q)), x4] [] (tw T0 h s1) Q) m ?_ ?_
  · intro q hq ihq s1 x4 e1 e2 ok1 e3 e4
    have q1 : q < N := by omega
    have lb := (rb q q1).2
    have la := (ra q q1).2
    have hrow : s1.2.2 (a + 1 + q) = s.2.2 (a + 1 + q) := e3 _ (by omega)
    refine x_iload_n dX9_lays_2 rfl ?_
    refine x_iload_n dX9_lays_3 rfl ?_
    refine x_icmp_ge 43 dX9_lays_4 rfl (fun hc9 => absurd hc9 (nI_ge hq (by omega))) (fun _ => ?_)
    refine x_iconst dX9_lays_7 0 rfl ?_
    refine xsi4 dX9_lays_8 (by decide) rfl ?_
    suffices hh : ∀ r, r.length = w → (∀ i, i < 0 → r.getD i 0 = (s.2.2 (a + 1 + q)).getD i 0) → xRun G m_X9_lays d 0 0 10 [some (.ref (T0 + a)), some (.ref (T0 + b)), some (.int (nI m)), some (.int (nI q)), some (.int (nI 0))] [] (tw T0 h (seta s1 (b + 1 + q) r)) Q by
      have := hh (s1.2.2 (b + 1 + q)) (by rw [ok1, lb]) (fun i hi => absurd hi (Nat.not_lt_zero _))
      rw [seta_id rfl] at this
      exact this
    refine xfor (fun i => ∀ r, r.length = w → (∀ i', i' < i → r.getD i' 0 = (s.2.2 (a + 1 + q)).getD i' 0) → xRun G m_X9_lays d 0 0 10 [some (.ref (T0 + a)), some (.ref (T0 + b)), some (.int (nI m)), some (.int (nI q)), some (.int (nI i))] [] (tw T0 h (seta s1 (b + 1 + q) r)) Q) w ?_ ?_
    · intro i hi ih r hl hr
      have okr : tOK (seta s1 (b + 1 + q) r) := seta_ok ok1 (by rw [hl, lb])
      refine x_iload dX9_lays_10 rfl ?_
      refine x_aload_n dX9_lays_12 rfl ?_
      refine x_iload_n dX9_lays_13 rfl ?_
      refine t_aa q dX9_lays_14 ⟨hb9.1, hb9.2.1, hgb⟩ rfl (by rw [hb9.2.2]; exact q1) ?_
      refine x_alen (t := 0) dX9_lays_15 (vs := r.map .int) (by rw [tw_arr (rb q q1).1.1 (rb q q1).1.2.1 (rb q q1).1.2.2.1 (rb q q1).1.2.2.2, seta_get]) rfl ?_
      rw [List.length_map, hl]
      refine x_icmp_ge 37 dX9_lays_16 rfl (fun hc9 => absurd hc9 (nI_ge hi (by omega))) (fun _ => ?_)
      refine x_aload_n dX9_lays_19 rfl ?_
      refine x_iload_n dX9_lays_20 rfl ?_
      refine t_aa q dX9_lays_21 ⟨hb9.1, hb9.2.1, hgb⟩ rfl (by rw [hb9.2.2]; exact q1) ?_
      refine x_iload dX9_lays_22 rfl ?_
      refine x_aload_n dX9_lays_24 rfl ?_
      refine x_iload_n dX9_lays_25 rfl ?_
      refine t_aa q dX9_lays_26 ⟨ha.1, ha.2.1, hga⟩ rfl (by rw [ha.2.2]; exact q1) ?_
      refine x_at 27 rfl ?_
      refine x_iload dX9_lays_27 rfl ?_
      refine t_ia i dX9_lays_29 okr (ra q q1).1 rfl (by rw [la]; exact hi) (gt ((seta_ne (by omega)).trans hrow) rfl) ?_
      refine t_is i dX9_lays_30 okr (rb q q1).1 rfl (by rw [lb]; exact hi) hb ?_
      rw [seta_get, seta_seta]
      refine xinc4 _ dX9_lays_31 (by decide) rfl (nI_1 i) ?_
      refine x_goto 10 dX9_lays_34 rfl ?_
      refine ih _ (by rw [List.length_set]; exact hl) (fun i' hi' => ?_)
      rw [getD_set (by omega)]
      by_cases e : i' = i
      · rw [if_pos e, e]
      · rw [if_neg e]; exact hr i' (by omega)
    · intro r hl hr
      have er : r = s.2.2 (a + 1 + q) := getD_ext (by rw [hl, hs, la]) (fun i hi => hr i (by omega))
      refine x_iload dX9_lays_10 rfl ?_
      refine x_aload_n dX9_lays_12 rfl ?_
      refine x_iload_n dX9_lays_13 rfl ?_
      refine t_aa q dX9_lays_14 ⟨hb9.1, hb9.2.1, hgb⟩ rfl (by rw [hb9.2.2]; exact q1) ?_
      refine x_alen (t := 0) dX9_lays_15 (vs := r.map .int) (by rw [tw_arr (rb q q1).1.1 (rb q q1).1.2.1 (rb q q1).1.2.2.1 (rb q q1).1.2.2.2, seta_get]) rfl ?_
      rw [List.length_map, hl]
      refine x_icmp_ge 37 dX9_lays_16 rfl (fun _ => ?_) (fun hc9 => absurd (Int32.le_refl _) hc9)
      refine xinc3 _ dX9_lays_37 (by decide) rfl (nI_1 q) ?_
      refine x_goto 2 dX9_lays_40 rfl ?_
      refine ihq (seta s1 (b + 1 + q) r) _ e1 e2 (seta_ok ok1 (by rw [hl, lb])) (fun j hj => ?_) (fun i hi => ?_)
      · rw [seta_ne (by omega)]
        exact e3 j (by omega)
      · by_cases e : i = q
        · rw [e, seta_get, er]
        · rw [seta_ne (by omega)]
          exact e4 i (by omega)
  · intro s1 x4 e1 e2 ok1 e3 e4
    refine x_iload_n dX9_lays_2 rfl ?_
    refine x_iload_n dX9_lays_3 rfl ?_
    refine x_icmp_ge 43 dX9_lays_4 rfl (fun _ => ?_) (fun hc9 => absurd (Int32.le_refl _) hc9)
    refine x_return dX9_lays_43 rfl ?_
    rw [← hQ]
    exact ⟨rfl, s1, rfl, e1, e2, ok1, e3, e4⟩
end TL3
