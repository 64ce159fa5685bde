set_option maxRecDepth 100000
/-! ===== the twin, 14: days ahead, fairs ===== -/
section TF
variable {G : xG} {d : Nat} {h : xH} {T0 : Nat} {s : tS} {W : Wd}
/-- the trial row -/
def tTr (s : tS) (M : Mk) : Prop := s.2.2 449 = mrow M
theorem p_ahead (hI : tIn s W) (hW : wOK W) (hb : G.2.2.1 ≤ T0) (n x : Int32) : xMet G (d + 6) 0 0 m_X9_ahead [.ref T0, .int n, .int x] (tw T0 h s) (tQ T0 h (oAhead W n x)) := by
  refine xMet.of [some (.ref T0), some (.int n), some (.int x), none] pl_X9 rfl (Nat.le_of_ble_eq_true rfl) ?_
  have hI0 := hI.J hW ((tJ.refl hI.1).seti (k := 0) (v := 0) rfl)
  have hm := hI0.2.2.2.2.2.1
  have hB := hW.2.2.2.2.2.1
  have h8 := hW.2.2.1
  have j449 : tRow 449 := Or.inr rfl
  have no : ¬ ((0 ≤ n ∧ n ≤ 99) ∧ 0 ≤ x ∧ x ≤ 2) → xRun G m_X9_ahead (d + 6) 0 0 25 [some (.ref T0), some (.int n), some (.int x), none] [.ref T0] (tw T0 h (seti s 0 0)) (tQ T0 h (oAhead W n x)) := by
    intro q
    rw [oAhead, if_neg q]
    refine x_iconst dX9_ahead_25 1 rfl ?_
    refine x_goto 30 dX9_ahead_26 rfl ?_
    refine x_iconst dX9_ahead_30 1 rfl ?_
    refine x_iconst dX9_ahead_31 1 rfl ?_
    refine xiV3 dX9_ahead_32 v_X9_171_27 tw_get0 (Nat.le_of_ble_eq_true rfl) (c_badT hI0.1 hb rfl _ (by decide) 1 (by decide)) ?_
    refine x_if_eq 40 dX9_ahead_35 rfl (fun hc9 => absurd hc9 (by decide)) (fun _ => ?_)
    refine x_iconst dX9_ahead_38 0 rfl ?_
    exact x_ireturn dX9_ahead_39 rfl (tQ.mk rfl (hI0.ref (by decide)) rfl)
  refine x_aload_n dX9_ahead_0 rfl ?_
  refine x_iconst dX9_ahead_1 0 rfl ?_
  refine t_pi dX9_ahead_2 p_X9_92_27 rfl (by decide) hb ?_
  refine x_aload_n dX9_ahead_5 rfl ?_
  refine x_iload_n dX9_ahead_6 rfl ?_
  refine x_iconst dX9_ahead_7 0 rfl ?_
  refine x_bipush dX9_ahead_8 99 (by decide) ?_
  refine xiS3 dX9_ahead_10 s_X9_126 (Nat.le_of_ble_eq_true rfl) (c_in _ _ _) ?_
  refine x_at 13 rfl ?_
  refine x_if_eq 25 dX9_ahead_13 rfl (fun c1 => ?_) (fun c1 => ?_)
  · exact no (fun q => of_decide_eq_false (b2_eq.mp c1) q.1)
  · have c2 := of_decide_eq_true (b2_ne.mp c1)
    refine x_iload_n dX9_ahead_16 rfl ?_
    refine x_iconst dX9_ahead_17 0 rfl ?_
    refine x_iconst dX9_ahead_18 2 rfl ?_
    refine xiS3 dX9_ahead_19 s_X9_126 (Nat.le_of_ble_eq_true rfl) (c_in _ _ _) ?_
    refine x_if_ne 29 dX9_ahead_22 rfl (fun c3 => ?_) (fun c3 => ?_)
    · have c4 := of_decide_eq_true (b2_ne.mp c3)
      rw [oAhead, if_pos ⟨c2, c4⟩]
      obtain ⟨k, hk, rfl, ek⟩ := inN 99 (by decide) (by decide) c2
      rw [ek]
      refine x_iconst dX9_ahead_29 0 rfl ?_
      refine x_iconst dX9_ahead_30 1 rfl ?_
      refine x_iconst dX9_ahead_31 1 rfl ?_
      refine xiV3 dX9_ahead_32 v_X9_171_27 tw_get0 (Nat.le_of_ble_eq_true rfl) (c_badF hI0.1 hb rfl _ 1 (by decide)) ?_
      refine x_if_eq 40 dX9_ahead_35 rfl (fun _ => ?_) (fun hc9 => absurd (rfl) hc9)
      refine x_aload_n dX9_ahead_40 rfl ?_
      refine t_ga 448 dX9_ahead_41 f_X9_61_27 (by decide) rfl (by decide) ?_
      refine x_aload_n dX9_ahead_44 rfl ?_
      refine x_at 45 rfl ?_
      refine t_ga 449 dX9_ahead_45 f_X9_64_27 (by decide) rfl (by decide) ?_
      refine xuS2 dX9_ahead_48 s_X9_314 (Nat.le_of_ble_eq_true rfl) (c_copies hI0.1 hb 448 449 (by decide) (by decide) rfl rfl (by decide)) ?_
      refine x_iconst dX9_ahead_51 0 rfl ?_
      refine xsi3 dX9_ahead_52 (by decide) rfl ?_
      have hI1 : tIn (seta (seti s 0 0) 449 ((seti s 0 0).2.2 448)) W := hI0.J hW ((tJ.refl hI0.1).seta rfl (by rw [hI0.1 448]; rfl))
      suffices hh : ∀ s1, tIn s1 W → s1.1 0 = 0 → s1.2.2 449 = mrow (mDays (wN W) (wLw W) (nI (wPy W)) (wM W) 0) → xRun G m_X9_ahead (d + 6) 0 0 53 [some (.ref T0), some (.int (nI k)), some (.int x), some (.int (nI 0))] [] (tw T0 h s1) (tQ T0 h (0, ahV W (mDays (wN W) (wLw W) (nI (wPy W)) (wM W) k) x, W)) from hh _ hI1 rfl (seta_get.trans hm)
      refine xfor (fun i => ∀ s1, tIn s1 W → s1.1 0 = 0 → s1.2.2 449 = mrow (mDays (wN W) (wLw W) (nI (wPy W)) (wM W) i) → xRun G m_X9_ahead (d + 6) 0 0 53 [some (.ref T0), some (.int (nI k)), some (.int x), some (.int (nI i))] [] (tw T0 h s1) (tQ T0 h (0, ahV W (mDays (wN W) (wLw W) (nI (wPy W)) (wM W) k) x, W))) k ?_ ?_
      · intro i hi ih s1 hI1 h01 hr1
        have hBi := mDays_B (m := wN W) (cds := wLw W) (play := nI (wPy W)) hB i
        refine x_iload_n dX9_ahead_53 rfl ?_
        refine x_iload_n dX9_ahead_54 rfl ?_
        refine x_icmp_ge 72 dX9_ahead_55 rfl (fun hc9 => absurd hc9 (nI_ge hi (by omega))) (fun _ => ?_)
        refine x_aload_n dX9_ahead_58 rfl ?_
        refine x_aload_n dX9_ahead_59 rfl ?_
        refine t_ga 449 dX9_ahead_60 f_X9_64_27 (by decide) rfl (by decide) ?_
        refine xvV1 dX9_ahead_63 v_X9_297_27 tw_get0 (Nat.le_of_ble_eq_true rfl) (c_dayEnds hI1.1 hb j449 hr1 hBi.1 (hBi.sm h8) hI1.2.2.2.2.1 hI1.2.2.2.1.2.1 hI1.2.2.2.1.1 h8 (fun a => by have := hBi.2.1 a; omega)) (by omega) (by omega) (fun h1 hF => ?_)
        obtain ⟨s2, rfl, hE, hr2⟩ := hF
        refine xinc3 _ dX9_ahead_66 (by decide) rfl (nI_1 i) ?_
        refine x_goto 53 dX9_ahead_69 rfl ?_
        exact ih s2 (hI1.J hW (tJ.of hE (by decide))) (by rw [hE.1]; exact h01) hr2
      · intro s1 hI1 h01 hr1
        have hBk := mDays_B (m := wN W) (cds := wLw W) (play := nI (wPy W)) hB k
        generalize mDays (wN W) (wLw W) (nI (wPy W)) (wM W) k = Mk' at hr1 hBk
        refine x_iload_n dX9_ahead_53 rfl ?_
        refine x_iload_n dX9_ahead_54 rfl ?_
        refine x_icmp_ge 72 dX9_ahead_55 rfl (fun _ => ?_) (fun hc9 => absurd (Int32.le_refl _) hc9)
        refine x_iload_n dX9_ahead_72 rfl ?_
        refine x_if_ne 87 dX9_ahead_73 rfl (fun c5 => ?_) (fun c5 => ?_)
        · refine x_iload_n dX9_ahead_87 rfl ?_
          refine x_iconst dX9_ahead_88 1 rfl ?_
          refine x_icmp_ne 103 dX9_ahead_89 rfl (fun c6 => ?_) (fun c6 => ?_)
          · refine x_aload_n dX9_ahead_103 rfl ?_
            refine t_ga 449 dX9_ahead_104 f_X9_64_27 (by decide) rfl (by decide) ?_
            refine xiS1 dX9_ahead_107 s_X9_322 (Nat.le_of_ble_eq_true rfl) (c_notSo hI1.1 j449 hr1 hBk.1 (hBk.sm h8)) ?_
            exact x_ireturn dX9_ahead_110 rfl (tQ.mk (show _ = ahV _ _ _ by rw [ahV, if_neg c5, if_neg c6]) hI1 h01)
          · refine x_aload_n dX9_ahead_92 rfl ?_
            refine x_aload_n dX9_ahead_93 rfl ?_
            refine t_ga 449 dX9_ahead_94 f_X9_64_27 (by decide) rfl (by decide) ?_
            refine xiV1 dX9_ahead_97 v_X9_331_27 tw_get0 (Nat.le_of_ble_eq_true rfl) (c_heaviestIn hI1.1 j449 hr1 hBk.1 hI1.2.2.2.1.1 h8) ?_
            refine x_goto 110 dX9_ahead_100 rfl ?_
            exact x_ireturn dX9_ahead_110 rfl (tQ.mk (show _ = ahV _ _ _ by rw [ahV, if_neg c5, if_pos c6]) hI1 h01)
        · refine x_aload_n dX9_ahead_76 rfl ?_
          refine x_aload_n dX9_ahead_77 rfl ?_
          refine t_ga 449 dX9_ahead_78 f_X9_64_27 (by decide) rfl (by decide) ?_
          refine xiV1 dX9_ahead_81 v_X9_318_27 tw_get0 (Nat.le_of_ble_eq_true rfl) (c_weightIn hI1.1 j449 hr1 hBk.1 hI1.2.2.2.1.1 h8) ?_
          refine x_goto 110 dX9_ahead_84 rfl ?_
          exact x_ireturn dX9_ahead_110 rfl (tQ.mk (show _ = ahV _ _ _ by rw [ahV, if_pos c5]) hI1 h01)
    · exact no (fun q => of_decide_eq_false (b2_eq.mp c3) q.2)
theorem c_draw (hb : G.2.2.1 ≤ T0) (m : Nat) (h0 : 0 < m) (hm : m < 1000) : xMet G d 0 0 m_X9_draw [.ref T0, .int (nI m)] (tw T0 h s) (xI (.int (nI (drw (lot (s.1 45)) m))) (tw T0 h (seti s 45 (lot (s.1 45))))) := by
  refine xMet.of [some (.ref T0), some (.int (nI m))] pl_X9 rfl (Nat.le_of_ble_eq_true rfl) ?_
  refine x_aload_n dX9_draw_0 rfl ?_
  refine x_aload_n dX9_draw_1 rfl ?_
  refine t_gi dX9_draw_2 f_X9_404_27 (by decide) rfl (by decide) rfl ?_
  refine x_ldcw dX9_draw_5 (1103515245) q2509 ?_
  refine x_imul dX9_draw_8 ?_
  refine x_sipush dX9_draw_9 12345 (by decide) ?_
  refine x_iadd dX9_draw_12 ?_
  refine t_pi dX9_draw_13 p_X9_404_27 rfl (by decide) hb ?_
  refine x_at 16 rfl ?_
  refine x_aload_n dX9_draw_16 rfl ?_
  refine t_gi dX9_draw_17 f_X9_404_27 (by decide) rfl (by decide) rfl ?_
  refine x_bipush dX9_draw_20 16 (by decide) ?_
  refine x_ishr dX9_draw_22 ?_
  refine x_sipush dX9_draw_23 32767 (by decide) ?_
  rw [show ((16 : Int32) &&& 31) = 16 from by decide, show s.1 45 * 1103515245 + 12345 = lot (s.1 45) from rfl]
  refine x_iand dX9_draw_26 ?_
  rw [pk_and _ 15 (m := 32767) (by decide)]
  refine x_iload_n dX9_draw_27 rfl ?_
  refine x_irem dX9_draw_28 (nI_ne0 h0 (by omega)) ?_
  have hk : ((seti s 45 (lot (s.1 45))).1 45 >>> 16).toBitVec.toNat % 2 ^ 15 < 2 ^ 15 := Nat.mod_lt _ (by decide)
  rw [pk_rem (Nat.lt_trans hk (by decide)) h0 (by omega)]
  exact x_ireturn dX9_draw_29 rfl ⟨rfl, rfl⟩
theorem c_fairBy (hI : tIn s W) (hW : wOK W) (hb : G.2.2.1 ≤ T0) (t0 : s.1 0 = 0) (seed : Int32) (days q : Nat) (hd9 : days ≤ 96) (hq : q ≤ 16) : xMet G (d + 6) 0 0 m_X9_fairBy [.ref T0, .int seed, .int (nI days), .int (nI q)] (tw T0 h s) (xV (fun h' => ∃ s', h' = tw T0 h s' ∧ tIn s' W ∧ s'.1 0 = 0 ∧ s'.2.2 449 = mrow (wFr W seed days q))) := by
  refine xMet.of [some (.ref T0), some (.int seed), some (.int (nI days)), some (.int (nI q)), none, none, none] pl_X9 rfl (Nat.le_of_ble_eq_true rfl) ?_
  have hB := hW.2.2.2.2.2.1
  have h8 := hW.2.2.1
  have j449 : tRow 449 := Or.inr rfl
  have hm := hI.2.2.2.2.2.1
  refine x_aload_n dX9_fairBy_0 rfl ?_
  refine t_ga 448 dX9_fairBy_1 f_X9_61_27 (by decide) rfl (by decide) ?_
  refine x_aload_n dX9_fairBy_4 rfl ?_
  refine t_ga 449 dX9_fairBy_5 f_X9_64_27 (by decide) rfl (by decide) ?_
  refine xuS2 dX9_fairBy_8 s_X9_314 (Nat.le_of_ble_eq_true rfl) (c_copies hI.1 hb 448 449 (by decide) (by decide) rfl rfl (by decide)) ?_
  refine x_aload_n dX9_fairBy_11 rfl ?_
  refine x_iload_n dX9_fairBy_12 rfl ?_
  refine t_pi dX9_fairBy_13 p_X9_404_27 rfl (by decide) hb ?_
  refine x_at 16 rfl ?_
  refine x_iconst dX9_fairBy_16 0 rfl ?_
  refine xsi4 dX9_fairBy_17 (by decide) rfl ?_
  have hI1 : tIn (seti (seta s 449 (s.2.2 448)) 45 seed) W := hI.J hW (((tJ.refl hI.1).seta rfl (by rw [hI.1 448]; rfl)).seti rfl)
  generalize hQ : xV (fun h' => ∃ s', h' = tw T0 h s' ∧ tIn s' W ∧ s'.1 0 = 0 ∧ s'.2.2 449 = mrow (wFr W seed days q)) = Q
  suffices hh : ∀ s1 x5 x6, tIn s1 W → s1.1 0 = 0 → s1.2.2 449 = mrow (frF (wN W) (wLw W) (nI (wPy W)) q (wM W, seed) 0).1 → s1.1 45 = (frF (wN W) (wLw W) (nI (wPy W)) q (wM W, seed) 0).2 → xRun G m_X9_fairBy (d + 6) 0 0 19 [some (.ref T0), some (.int seed), some (.int (nI days)), some (.int (nI q)), some (.int (nI 0)), x5, x6] [] (tw T0 h s1) Q from hh _ _ _ hI1 t0 (seta_get.trans hm) rfl
  refine xfor (fun i => ∀ s1 x5 x6, tIn s1 W → s1.1 0 = 0 → s1.2.2 449 = mrow (frF (wN W) (wLw W) (nI (wPy W)) q (wM W, seed) i).1 → s1.1 45 = (frF (wN W) (wLw W) (nI (wPy W)) q (wM W, seed) i).2 → xRun G m_X9_fairBy (d + 6) 0 0 19 [some (.ref T0), some (.int seed), some (.int (nI days)), some (.int (nI q)), some (.int (nI i)), x5, x6] [] (tw T0 h s1) Q) days ?_ ?_
  · intro i hi ih s1 x5 x6 hI1 h01 hr1 hl1
    have hBi := frF_B (cds := wLw W) (play := nI (wPy W)) (q := q) (x := (wM W, seed)) hB i
    generalize hX : frF (wN W) (wLw W) (nI (wPy W)) q (wM W, seed) i = X at hr1 hl1 hBi
    have hih : frF (wN W) (wLw W) (nI (wPy W)) q (wM W, seed) (i + 1) = frS (wN W) (wLw W) (nI (wPy W)) q X := by rw [← hX]; rfl
    rw [hih] at ih
    have fin : ∀ (s2 : tS) (M2 : Mk) x5 x6, tIn s2 W → s2.1 0 = 0 → mB (wN W) (300 + i) M2 → s2.2.2 449 = mrow M2 → s2.1 45 = (frS (wN W) (wLw W) (nI (wPy W)) q X).2 → mDay (wN W) (wLw W) (nI (wPy W)) M2 = (frS (wN W) (wLw W) (nI (wPy W)) q X).1 → xRun G m_X9_fairBy (d + 6) 0 0 98 [some (.ref T0), some (.int seed), some (.int (nI days)), some (.int (nI q)), some (.int (nI i)), x5, x6] [] (tw T0 h s2) Q := by
      intro s2 M2 x5 x6 hI2 h02 hB2 hr2 hl2 e2
      refine x_aload_n dX9_fairBy_98 rfl ?_
      refine x_aload_n dX9_fairBy_99 rfl ?_
      refine t_ga 449 dX9_fairBy_100 f_X9_64_27 (by decide) rfl (by decide) ?_
      refine xvV1 dX9_fairBy_103 v_X9_297_27 tw_get0 (Nat.le_of_ble_eq_true rfl) (c_dayEnds hI2.1 hb j449 hr2 hB2.1 (hB2.sm h8) hI2.2.2.2.2.1 hI2.2.2.2.1.2.1 hI2.2.2.2.1.1 h8 (fun a => by have := hB2.2.1 a; omega)) (by omega) (by omega) (fun h1 hF => ?_)
      obtain ⟨s3, rfl, hE, hr3⟩ := hF
      refine xinc4 _ dX9_fairBy_106 (by decide) rfl (nI_1 i) ?_
      refine x_goto 19 dX9_fairBy_109 rfl ?_
      exact ih s3 _ _ (hI2.J hW (tJ.of hE (by decide))) (by rw [hE.1]; exact h02) (by rw [hr3, e2]) (by rw [hE.1]; exact hl2)
    by_cases hn0 : wN W = 0
    · have e : frS (wN W) (wLw W) (nI (wPy W)) q X = (mDay (wN W) (wLw W) (nI (wPy W)) X.1, X.2) := by unfold frS; rw [if_pos hn0]
      refine x_iload dX9_fairBy_19 rfl ?_
      refine x_iload_n dX9_fairBy_21 rfl ?_
      refine x_icmp_ge 112 dX9_fairBy_22 rfl (fun hc9 => absurd hc9 (nI_ge hi (by omega))) (fun _ => ?_)
      refine x_aload_n dX9_fairBy_25 rfl ?_
      refine t_ga 4 dX9_fairBy_26 f_X9_23_27 (by decide) rfl (by decide) ?_
      refine x_iconst dX9_fairBy_29 0 rfl ?_
      refine t_ia 0 dX9_fairBy_30 hI1.1 (by decide) rfl (by decide) hI1.2.2.2.1.1 ?_
      refine x_if_le 98 dX9_fairBy_31 rfl (fun _ => ?_) (fun hc9 => absurd (by rw [hn0]; decide) hc9)
      exact fin s1 X.1 _ _ hI1 h01 hBi hr1 (by rw [e]; exact hl1) (by rw [e])
    · have hn1 : 0 < wN W := Nat.pos_of_ne_zero hn0
      have a1 : drw (lot X.2) (wN W) < wN W := Nat.mod_lt _ hn1
      have a2 : drw (lot (lot X.2)) (wN W) < wN W := Nat.mod_lt _ hn1
      have a3 : drw (lot (lot (lot X.2))) 3 < 3 := Nat.mod_lt _ (by decide)
      have a4 : drw (lot (lot (lot (lot X.2)))) 16 < 16 := Nat.mod_lt _ (by decide)
      let s2 := seti s1 45 (lot X.2)
      let s3 := seti s2 45 (lot (lot X.2))
      let s4 := seti s3 45 (lot (lot (lot X.2)))
      have k1 := c_draw (G := G) (d := d + 5) (h := h) (s := s1) hb (wN W) hn1 (by omega)
      have k2 := c_draw (G := G) (d := d + 5) (h := h) (s := s2) hb (wN W) hn1 (by omega)
      have k3 := c_draw (G := G) (d := d + 5) (h := h) (s := s3) hb 3 (by decide) (by decide)
      rw [hl1] at k1
      have hI2 : tIn s2 W := hI1.J hW ((tJ.refl hI1.1).seti rfl)
      have hI3 : tIn s3 W := hI2.J hW ((tJ.refl hI2.1).seti rfl)
      have hI4 : tIn s4 W := hI3.J hW ((tJ.refl hI3.1).seti rfl)
      have key := c_weighs (G := G) (d := d + 3) (h := h) (s := s4) hI4.1 j449 hr1 hBi.1 (hBi.sm h8) hb hI4.2.2.2.1.2.1 (drw (lot X.2) (wN W)) (1 + drw (lot (lot (lot X.2))) 3) (drw (lot (lot X.2)) (wN W)) 1 (by omega) (by omega) (by omega) (by decide)
      generalize hM1 : (mWeigh (nI (wPy W)) X.1 (drw (lot X.2) (wN W)) (1 + drw (lot (lot (lot X.2))) 3) (drw (lot (lot X.2)) (wN W)) 1).getD X.1 = M1 at key
      have hB1 : mB (wN W) (300 + i) M1 := by rw [← hM1]; exact mWeigh_B hBi a1 a2 (by omega) (by decide)
      have hI5 : tIn (seta s4 449 (mrow M1)) W := hI4.J hW ((tJ.refl hI4.1).seta rfl (by rw [mrow_len hB1.1]; rfl))
      have k4 := c_draw (G := G) (d := d + 5) (h := h) (s := seta s4 449 (mrow M1)) hb 16 (by decide) (by decide)
      let s6 := seti (seta s4 449 (mrow M1)) 45 (lot (lot (lot (lot X.2))))
      have hI6 : tIn s6 W := hI5.J hW ((tJ.refl hI5.1).seti rfl)
      have eF : frS (wN W) (wLw W) (nI (wPy W)) q X = (mDay (wN W) (wLw W) (nI (wPy W)) (if drw (lot (lot (lot (lot X.2)))) 16 < q then (mTip M1 0).getD M1 else M1), lot (lot (lot (lot X.2)))) := by
        unfold frS
        rw [if_neg hn0, ← hM1]
      refine x_iload dX9_fairBy_19 rfl ?_
      refine x_iload_n dX9_fairBy_21 rfl ?_
      refine x_icmp_ge 112 dX9_fairBy_22 rfl (fun hc9 => absurd hc9 (nI_ge hi (by omega))) (fun _ => ?_)
      refine x_aload_n dX9_fairBy_25 rfl ?_
      refine t_ga 4 dX9_fairBy_26 f_X9_23_27 (by decide) rfl (by decide) ?_
      refine x_iconst dX9_fairBy_29 0 rfl ?_
      refine t_ia 0 dX9_fairBy_30 hI1.1 (by decide) rfl (by decide) hI1.2.2.2.1.1 ?_
      refine x_if_le 98 dX9_fairBy_31 rfl (fun hc9 => absurd hc9 (nI_nle hn1 (by omega))) (fun _ => ?_)
      refine x_at 34 rfl ?_
      refine x_aload_n dX9_fairBy_34 rfl ?_
      refine x_aload_n dX9_fairBy_35 rfl ?_
      refine t_ga 4 dX9_fairBy_36 f_X9_23_27 (by decide) rfl (by decide) ?_
      refine x_iconst dX9_fairBy_39 0 rfl ?_
      refine t_ia 0 dX9_fairBy_40 hI1.1 (by decide) rfl (by decide) hI1.2.2.2.1.1 ?_
      refine xiV1 dX9_fairBy_41 v_X9_408_27 tw_get0 (Nat.le_of_ble_eq_true rfl) (k1) ?_
      refine xsi5 dX9_fairBy_44 (by decide) rfl ?_
      refine x_aload_n dX9_fairBy_46 rfl ?_
      refine x_at 47 rfl ?_
      refine x_aload_n dX9_fairBy_47 rfl ?_
      refine t_ga 4 dX9_fairBy_48 f_X9_23_27 (by decide) rfl (by decide) ?_
      refine x_iconst dX9_fairBy_51 0 rfl ?_
      refine t_ia 0 dX9_fairBy_52 hI2.1 (by decide) rfl (by decide) hI2.2.2.2.1.1 ?_
      refine xiV1 dX9_fairBy_53 v_X9_408_27 tw_get0 (Nat.le_of_ble_eq_true rfl) (k2) ?_
      refine xsi6 dX9_fairBy_56 (by decide) rfl ?_
      refine x_aload_n dX9_fairBy_58 rfl ?_
      refine x_aload_n dX9_fairBy_59 rfl ?_
      refine x_at 60 rfl ?_
      refine t_ga 449 dX9_fairBy_60 f_X9_64_27 (by decide) rfl (by decide) ?_
      refine x_iload dX9_fairBy_63 rfl ?_
      refine x_iconst dX9_fairBy_65 1 rfl ?_
      refine x_aload_n dX9_fairBy_66 rfl ?_
      refine x_iconst dX9_fairBy_67 3 rfl ?_
      refine xiV1 dX9_fairBy_68 v_X9_408_27 tw_get0 (Nat.le_of_ble_eq_true rfl) (k3) ?_
      refine x_iadd dX9_fairBy_71 ?_
      rw [show (1 : Int32) + nI (drw (lot ((s3).1 45)) 3) = nI (1 + drw (lot (lot (lot X.2))) 3) from nI_add 1 _]
      refine x_iload dX9_fairBy_72 rfl ?_
      refine x_iconst dX9_fairBy_74 1 rfl ?_
      refine xiV5 dX9_fairBy_75 v_X9_286_27 tw_get0 (Nat.le_of_ble_eq_true rfl) (key) ?_
      refine x_pop dX9_fairBy_78 rfl ?_
      refine x_aload_n dX9_fairBy_79 rfl ?_
      refine x_bipush dX9_fairBy_80 16 (by decide) ?_
      refine xiV1 dX9_fairBy_82 v_X9_408_27 tw_get0 (Nat.le_of_ble_eq_true rfl) (k4) ?_
      refine x_iload_n dX9_fairBy_85 rfl ?_
      refine x_icmp_ge 98 dX9_fairBy_86 rfl (fun c1 => ?_) (fun c1 => ?_)
      · have c2 : ¬ drw (lot (lot (lot (lot X.2)))) 16 < q := by
          have := (nI_leI (by omega) (show drw (lot (lot (lot (lot X.2)))) 16 < 2 ^ 31 by omega)).mp c1
          omega
        rw [if_neg c2] at eF
        exact fin s6 M1 _ _ hI6 h01 hB1 seta_get (by rw [eF]; rfl) (by rw [eF])
      · have c2 : drw (lot (lot (lot (lot X.2)))) 16 < q := Nat.lt_of_not_le (fun z => c1 ((nI_leI (by omega) (show drw (lot (lot (lot (lot X.2)))) 16 < 2 ^ 31 by omega)).mpr z))
        rw [if_pos c2] at eF
        have key2 := c_tips (G := G) (d := d + 5) (h := h) (s := s6) hI6.1 j449 (M := M1) seta_get hB1.1 hb 0 (by decide)
        have hB2 : mB (wN W) (300 + i) ((mTip M1 0).getD M1) := mTip_B hB1
        refine x_aload_n dX9_fairBy_89 rfl ?_
        refine t_ga 449 dX9_fairBy_90 f_X9_64_27 (by decide) rfl (by decide) ?_
        refine x_iconst dX9_fairBy_93 0 rfl ?_
        refine xiS2 dX9_fairBy_94 s_X9_289 (Nat.le_of_ble_eq_true rfl) (key2) ?_
        refine x_pop dX9_fairBy_97 rfl ?_
        exact fin (seta s6 449 (mrow ((mTip M1 0).getD M1))) _ _ _ (hI6.J hW ((tJ.refl hI6.1).seta rfl (by rw [mrow_len hB2.1]; rfl))) h01 hB2 seta_get (by rw [eF]; rfl) (by rw [eF])
  · intro s1 x5 x6 hI1 h01 hr1 hl1
    refine x_iload dX9_fairBy_19 rfl ?_
    refine x_iload_n dX9_fairBy_21 rfl ?_
    refine x_icmp_ge 112 dX9_fairBy_22 rfl (fun _ => ?_) (fun hc9 => absurd (Int32.le_refl _) hc9)
    refine x_return dX9_fairBy_112 rfl ?_
    rw [← hQ]
    exact ⟨rfl, s1, rfl, hI1, h01, hr1⟩
theorem c_isFair (days q : Int32) : xMet G (d + 1) 0 0 m_X9_isFair [.int days, .int q] h (xI (.int (b2 (decide (isFr days q)))) h) := by
  refine xMet.of [some (.int days), some (.int q)] pl_X9 rfl (Nat.le_of_ble_eq_true rfl) ?_
  refine x_iload_n dX9_isFair_0 rfl ?_
  refine x_iconst dX9_isFair_1 1 rfl ?_
  refine x_bipush dX9_isFair_2 96 (by decide) ?_
  refine xiS3 dX9_isFair_4 s_X9_126 (Nat.le_of_ble_eq_true rfl) (c_in _ _ _) ?_
  refine x_if_eq 24 dX9_isFair_7 rfl (fun c1 => ?_) (fun c1 => ?_)
  · refine x_iconst dX9_isFair_24 0 rfl ?_
    exact x_zreturn dX9_isFair_25 rfl rfl (xr0 (decide_eq_false (fun z => of_decide_eq_false (b2_eq.mp c1) z.1)))
  · refine x_iload_n dX9_isFair_10 rfl ?_
    refine x_iconst dX9_isFair_11 0 rfl ?_
    refine x_bipush dX9_isFair_12 16 (by decide) ?_
    refine xiS3 dX9_isFair_14 s_X9_126 (Nat.le_of_ble_eq_true rfl) (c_in _ _ _) ?_
    refine x_if_eq 24 dX9_isFair_17 rfl (fun c2 => ?_) (fun c2 => ?_)
    · refine x_iconst dX9_isFair_24 0 rfl ?_
      exact x_zreturn dX9_isFair_25 rfl rfl (xr0 (decide_eq_false (fun z => of_decide_eq_false (b2_eq.mp c2) z.2)))
    · refine x_iconst dX9_isFair_20 1 rfl ?_
      refine x_goto 25 dX9_isFair_21 rfl ?_
      exact x_zreturn dX9_isFair_25 rfl rfl (xr1 (decide_eq_true ⟨of_decide_eq_true (b2_ne.mp c1), of_decide_eq_true (b2_ne.mp c2)⟩))
theorem p_fair (hI : tIn s W) (hW : wOK W) (hb : G.2.2.1 ≤ T0) (seed days q x : Int32) : xMet G (d + 7) 0 0 m_X9_fair [.ref T0, .int seed, .int days, .int q, .int x] (tw T0 h s) (tQ T0 h (oFair W seed days q x)) := by
  refine xMet.of [some (.ref T0), some (.int seed), some (.int days), some (.int q), some (.int x)] pl_X9 rfl (Nat.le_of_ble_eq_true rfl) ?_
  have hI0 := hI.J hW ((tJ.refl hI.1).seti (k := 0) (v := 0) rfl)
  have hB := hW.2.2.2.2.2.1
  have h8 := hW.2.2.1
  have j449 : tRow 449 := Or.inr rfl
  have no : ¬ (isFr days q ∧ 0 ≤ x ∧ x ≤ 3) → xRun G m_X9_fair (d + 7) 0 0 24 [some (.ref T0), some (.int seed), some (.int days), some (.int q), some (.int x)] [.ref T0] (tw T0 h (seti s 0 0)) (tQ T0 h (oFair W seed days q x)) := by
    intro z
    rw [oFair, if_neg z]
    refine x_iconst dX9_fair_24 1 rfl ?_
    refine x_goto 29 dX9_fair_25 rfl ?_
    refine x_iconst dX9_fair_29 1 rfl ?_
    refine x_iconst dX9_fair_30 1 rfl ?_
    refine xiV3 dX9_fair_31 v_X9_171_27 tw_get0 (Nat.le_of_ble_eq_true rfl) (c_badT hI0.1 hb rfl _ (by decide) 1 (by decide)) ?_
    refine x_if_eq 39 dX9_fair_34 rfl (fun hc9 => absurd hc9 (by decide)) (fun _ => ?_)
    refine x_iconst dX9_fair_37 0 rfl ?_
    exact x_ireturn dX9_fair_38 rfl (tQ.mk rfl (hI0.ref (by decide)) rfl)
  refine x_aload_n dX9_fair_0 rfl ?_
  refine x_iconst dX9_fair_1 0 rfl ?_
  refine t_pi dX9_fair_2 p_X9_92_27 rfl (by decide) hb ?_
  refine x_aload_n dX9_fair_5 rfl ?_
  refine x_iload_n dX9_fair_6 rfl ?_
  refine x_iload_n dX9_fair_7 rfl ?_
  refine xiS2 dX9_fair_8 s_X9_411 (Nat.le_of_ble_eq_true rfl) (c_isFair _ _) ?_
  refine x_if_eq 24 dX9_fair_11 rfl (fun c1 => ?_) (fun c1 => ?_)
  · exact no (fun z => of_decide_eq_false (b2_eq.mp c1) z.1)
  · have c2 := of_decide_eq_true (b2_ne.mp c1)
    refine x_iload dX9_fair_14 rfl ?_
    refine x_iconst dX9_fair_16 0 rfl ?_
    refine x_iconst dX9_fair_17 3 rfl ?_
    refine xiS3 dX9_fair_18 s_X9_126 (Nat.le_of_ble_eq_true rfl) (c_in _ _ _) ?_
    refine x_if_ne 28 dX9_fair_21 rfl (fun c3 => ?_) (fun c3 => ?_)
    · have c4 := of_decide_eq_true (b2_ne.mp c3)
      rw [oFair, if_pos ⟨c2, c4⟩]
      obtain ⟨k, hk1, hk, rfl, ek⟩ := in19 96 (lo := 1) rfl (by decide) (by decide) c2.1 (by decide)
      obtain ⟨r, hr, rfl, er⟩ := inN 16 (by decide) (by decide) c2.2
      rw [ek, er]
      have hBk : mB (wN W) (300 + k) (wFr W seed k r) := frF_B hB k
      refine x_iconst dX9_fair_28 0 rfl ?_
      refine x_iconst dX9_fair_29 1 rfl ?_
      refine x_iconst dX9_fair_30 1 rfl ?_
      refine xiV3 dX9_fair_31 v_X9_171_27 tw_get0 (Nat.le_of_ble_eq_true rfl) (c_badF hI0.1 hb rfl _ 1 (by decide)) ?_
      refine x_if_eq 39 dX9_fair_34 rfl (fun _ => ?_) (fun hc9 => absurd (rfl) hc9)
      refine x_aload_n dX9_fair_39 rfl ?_
      refine x_iload_n dX9_fair_40 rfl ?_
      refine x_iload_n dX9_fair_41 rfl ?_
      refine x_at 42 rfl ?_
      refine x_iload_n dX9_fair_42 rfl ?_
      refine xvV3 dX9_fair_43 v_X9_414_27 tw_get0 (Nat.le_of_ble_eq_true rfl) (c_fairBy hI0 hW hb rfl seed k r hk hr) (by omega) (by omega) (fun h1 hF => ?_)
      obtain ⟨s1, rfl, hI1, h01, hr1⟩ := hF
      generalize wFr W seed k r = Mk' at hr1 hBk
      refine x_iload dX9_fair_46 rfl ?_
      refine x_if_ne 62 dX9_fair_48 rfl (fun c5 => ?_) (fun c5 => ?_)
      · refine x_iload dX9_fair_62 rfl ?_
        refine x_iconst dX9_fair_64 1 rfl ?_
        refine x_icmp_ne 78 dX9_fair_65 rfl (fun c6 => ?_) (fun c6 => ?_)
        · refine x_iload dX9_fair_78 rfl ?_
          refine x_iconst dX9_fair_80 2 rfl ?_
          refine x_icmp_ne 102 dX9_fair_81 rfl (fun c7 => ?_) (fun c7 => ?_)
          · refine x_aload_n dX9_fair_102 rfl ?_
            refine t_ga 449 dX9_fair_103 f_X9_64_27 (by decide) rfl (by decide) ?_
            refine xiS1 dX9_fair_106 s_X9_322 (Nat.le_of_ble_eq_true rfl) (c_notSo hI1.1 j449 hr1 hBk.1 (hBk.sm h8)) ?_
            exact x_ireturn dX9_fair_109 rfl (tQ.mk (show _ = frV _ _ _ by rw [frV, if_neg c5, if_neg c6, if_neg c7]) hI1 h01)
          · refine x_aload_n dX9_fair_84 rfl ?_
            refine t_ga 449 dX9_fair_85 f_X9_64_27 (by decide) rfl (by decide) ?_
            refine x_bipush dX9_fair_88 58 (by decide) ?_
            refine t_rj 58 dX9_fair_90 hI1.1 j449 hr1 rfl (by decide) (mrow_g hBk.1) ?_
            refine x_aload_n dX9_fair_91 rfl ?_
            refine t_ga 448 dX9_fair_92 f_X9_61_27 (by decide) rfl (by decide) ?_
            refine x_bipush dX9_fair_95 58 (by decide) ?_
            refine t_rj 58 dX9_fair_97 hI1.1 (Or.inl rfl) hI1.2.2.2.2.2.1 rfl (by decide) (mrow_g hB.1) ?_
            refine x_at 98 rfl ?_
            refine x_isub dX9_fair_98 ?_
            refine x_goto 109 dX9_fair_99 rfl ?_
            exact x_ireturn dX9_fair_109 rfl (tQ.mk (show _ = frV _ _ _ by rw [frV, if_neg c5, if_neg c6, if_pos c7]) hI1 h01)
        · refine x_aload_n dX9_fair_68 rfl ?_
          refine t_ga 449 dX9_fair_69 f_X9_64_27 (by decide) rfl (by decide) ?_
          refine x_bipush dX9_fair_72 56 (by decide) ?_
          refine t_rj 56 dX9_fair_74 hI1.1 j449 hr1 rfl (by decide) (mrow_n hBk.1) ?_
          refine x_goto 109 dX9_fair_75 rfl ?_
          exact x_ireturn dX9_fair_109 rfl (tQ.mk (show _ = frV _ _ _ by rw [frV, if_neg c5, if_pos c6]) hI1 h01)
      · refine x_aload_n dX9_fair_51 rfl ?_
        refine x_aload_n dX9_fair_52 rfl ?_
        refine t_ga 449 dX9_fair_53 f_X9_64_27 (by decide) rfl (by decide) ?_
        refine xiV1 dX9_fair_56 v_X9_318_27 tw_get0 (Nat.le_of_ble_eq_true rfl) (c_weightIn hI1.1 j449 hr1 hBk.1 hI1.2.2.2.1.1 h8) ?_
        refine x_goto 109 dX9_fair_59 rfl ?_
        exact x_ireturn dX9_fair_109 rfl (tQ.mk (show _ = frV _ _ _ by rw [frV, if_pos c5]) hI1 h01)
    · exact no (fun z => of_decide_eq_false (b2_eq.mp c3) z.2)
end TF
