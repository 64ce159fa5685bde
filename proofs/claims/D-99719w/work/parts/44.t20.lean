set_option maxRecDepth 100000
/-! ===== the twin, 20: images kept, images taken back ===== -/
theorem ar_kep : ∀ i, i < 3 → (468 + 1 + i < 475 ∧ ¬ 468 + 1 + i = 0 ∧ tgrid (468 + 1 + i) = 0 ∧ ¬ 468 + 1 + i = 472) := by decide +kernel
theorem ln_kep : ∀ i, i < 3 → tlen (468 + 1 + i) = 1021 := by decide +kernel
/-- what is put where: works, now, before -/
def srcI (s : tS) (i : Nat) : Int32 := if i = 0 then s.1 33 else if i < 61 then (s.2.2 448).getD (i - 1) 0 else (s.2.2 (451 + 1 + (i - 61) / 60)).getD ((i - 61) % 60) 0
section TQ9
variable {G : xG} {d : Nat} {h : xH} {T0 : Nat} {s : tS} {W : Wd}
theorem c_putsF (hs : tOK s) (hb : G.2.2.1 ≤ T0) (q : Nat) (hq : q < 3) (p : Nat) (hp : p < 1021) (hsp : s.1 36 = nI p) (v : Int32) : xMet G d 0 0 m_X9_puts [.ref T0, .ref (T0 + (468 + 1 + q)), .int v, .int 0] (tw T0 h s) (xI (.int v) (tw T0 h (seti (seta s (468 + 1 + q) ((s.2.2 (468 + 1 + q)).set p v)) 36 (nI (p + 1))))) := by
  refine xMet.of [some (.ref T0), some (.ref (T0 + (468 + 1 + q))), some (.int v), some (.int 0)] pl_X9 rfl (Nat.le_of_ble_eq_true rfl) ?_
  have hl : (s.2.2 (468 + 1 + q)).length = 1021 := by rw [hs, ln_kep q hq]
  have ok2 : tOK (seta s (468 + 1 + q) ((s.2.2 (468 + 1 + q)).set p v)) := seta_ok hs (by rw [List.length_set, hs])
  refine x_iload_n dX9_puts_0 rfl ?_
  refine x_if_ne 11 dX9_puts_1 rfl (fun hc9 => absurd (rfl) hc9) (fun _ => ?_)
  refine x_aload_n dX9_puts_4 rfl ?_
  refine x_aload_n dX9_puts_5 rfl ?_
  refine t_gi dX9_puts_6 f_X9_418_27 (by decide) rfl (by decide) hsp ?_
  refine x_iload_n dX9_puts_9 rfl ?_
  refine t_is p dX9_puts_10 hs (ar_kep q hq) rfl (by rw [ln_kep q hq]; exact hp) hb ?_
  refine x_aload_n dX9_puts_11 rfl ?_
  refine x_dup dX9_puts_12 rfl ?_
  refine t_gi dX9_puts_13 f_X9_418_27 (by decide) rfl (by decide) hsp ?_
  refine x_iconst dX9_puts_16 1 rfl ?_
  refine x_iadd dX9_puts_17 ?_
  rw [nI_1]
  refine t_pi dX9_puts_18 p_X9_418_27 rfl (by decide) hb ?_
  refine x_aload_n dX9_puts_21 rfl ?_
  refine x_aload_n dX9_puts_22 rfl ?_
  refine t_gi dX9_puts_23 f_X9_418_27 (by decide) rfl (by decide) seti_get ?_
  refine x_iconst dX9_puts_26 1 rfl ?_
  refine x_isub dX9_puts_27 ?_
  rw [nI_pred]
  refine t_ia p dX9_puts_28 (s := seti (seta s (468 + 1 + q) ((s.2.2 (468 + 1 + q)).set p v)) 36 (nI (p + 1))) ok2 (ar_kep q hq) rfl (by rw [ln_kep q hq]; exact hp) (v := v) ?_ ?_
  · show ((seta s (468 + 1 + q) ((s.2.2 (468 + 1 + q)).set p v)).2.2 (468 + 1 + q)).getD p 0 = v
    rw [seta_get, getD_set (by omega), if_pos rfl]
  exact x_ireturn dX9_puts_29 rfl ⟨rfl, rfl⟩
theorem c_putsT (hs : tOK s) (hb : G.2.2.1 ≤ T0) (q : Nat) (hq : q < 3) (p : Nat) (hp : p < 1021) (hsp : s.1 36 = nI p) (v : Int32) : xMet G d 0 0 m_X9_puts [.ref T0, .ref (T0 + (468 + 1 + q)), .int v, .int 1] (tw T0 h s) (xI (.int ((s.2.2 (468 + 1 + q)).getD p 0)) (tw T0 h (seti s 36 (nI (p + 1))))) := by
  refine xMet.of [some (.ref T0), some (.ref (T0 + (468 + 1 + q))), some (.int v), some (.int 1)] pl_X9 rfl (Nat.le_of_ble_eq_true rfl) ?_
  refine x_iload_n dX9_puts_0 rfl ?_
  refine x_if_ne 11 dX9_puts_1 rfl (fun _ => ?_) (fun hc9 => absurd hc9 (by decide))
  refine x_aload_n dX9_puts_11 rfl ?_
  refine x_dup dX9_puts_12 rfl ?_
  refine t_gi dX9_puts_13 f_X9_418_27 (by decide) rfl (by decide) hsp ?_
  refine x_iconst dX9_puts_16 1 rfl ?_
  refine x_iadd dX9_puts_17 ?_
  rw [nI_1]
  refine t_pi dX9_puts_18 p_X9_418_27 rfl (by decide) hb ?_
  refine x_aload_n dX9_puts_21 rfl ?_
  refine x_aload_n dX9_puts_22 rfl ?_
  refine t_gi dX9_puts_23 f_X9_418_27 (by decide) rfl (by decide) seti_get ?_
  refine x_iconst dX9_puts_26 1 rfl ?_
  refine x_isub dX9_puts_27 ?_
  rw [nI_pred]
  refine t_ia p dX9_puts_28 (s := seti s 36 (nI (p + 1))) hs (ar_kep q hq) rfl (by rw [ln_kep q hq]; exact hp) rfl ?_
  exact x_ireturn dX9_puts_29 rfl ⟨rfl, rfl⟩
/-- the state when p of an image are put -/
def sIm (s : tS) (q : Nat) (r : List Int32) (p : Nat) : tS := seti (seta s (468 + 1 + q) r) 36 (nI p)
def rIm (s : tS) (r : List Int32) (p : Nat) : Prop := r.length = 1021 ∧ ∀ i, i < p → r.getD i 0 = srcI s i
theorem rIm.step {r : List Int32} {p : Nat} (hr : rIm s r p) (hp : p < 1021) {v : Int32} (hv : v = srcI s p) : rIm s (r.set p v) (p + 1) := by
  refine ⟨by rw [List.length_set]; exact hr.1, fun i hi => ?_⟩
  rw [getD_set (by rw [hr.1]; exact hp)]
  by_cases e : i = p
  · rw [if_pos e, hv, e]
  · rw [if_neg e]; exact hr.2 i (by omega)
theorem sIm_ok {q : Nat} {r : List Int32} {p : Nat} (hs : tOK s) (hq : q < 3) (hr : r.length = 1021) : tOK (sIm s q r p) := seta_ok hs (by rw [hr, ln_kep q hq])
theorem sIm_put {q : Nat} {r : List Int32} {p : Nat} {v : Int32} : seti (seta (sIm s q r p) (468 + 1 + q) (((sIm s q r p).2.2 (468 + 1 + q)).set p v)) 36 (nI (p + 1)) = sIm s q (r.set p v) (p + 1) := by
  have e : (sIm s q r p).2.2 (468 + 1 + q) = r := seta_get
  rw [e]
  unfold sIm
  show seti (seti (seta (seta s (468 + 1 + q) r) (468 + 1 + q) (r.set p v)) 36 (nI p)) 36 (nI (p + 1)) = _
  rw [seta_seta, seti_seti]
theorem c_putsAllF (hs : tOK s) (hb : G.2.2.1 ≤ T0) (q : Nat) (hq : q < 3) : xMet G (d + 1) 0 0 m_X9_putsAll [.ref T0, .ref (T0 + (468 + 1 + q)), .int 0] (tw T0 h s) (xV (fun h' => ∃ r, rIm s r 1021 ∧ h' = tw T0 h (sIm s q r 1021))) := by
  refine xMet.of [some (.ref T0), some (.ref (T0 + (468 + 1 + q))), some (.int 0), none, none] pl_X9 rfl (Nat.le_of_ble_eq_true rfl) ?_
  generalize hQ : (xV (fun h' => ∃ r, rIm s r 1021 ∧ h' = tw T0 h (sIm s q r 1021))) = Q
  have l448 : (s.2.2 448).length = 60 := hs 448
  have g448 : ∀ r p, (sIm s q r p).2.2 448 = s.2.2 448 := fun r p => seta_ne (by omega)
  have gbef : ∀ r p w, w < 16 → (sIm s q r p).2.2 (451 + 1 + w) = s.2.2 (451 + 1 + w) := fun r p w hw => seta_ne (by omega)
  -- the rows before
  have part3 : ∀ r x3, rIm s r 61 → xRun G m_X9_putsAll (d + 1) 0 0 51 [some (.ref T0), some (.ref (T0 + (468 + 1 + q))), some (.int 0), x3, none] [] (tw T0 h (sIm s q r 61)) Q := by
    intro r x3 hr
    refine x_iconst dX9_putsAll_51 0 rfl ?_
    refine xsi3 dX9_putsAll_52 (by decide) rfl ?_
    suffices hh : ∀ r x4, rIm s r (61 + 60 * 0) → xRun G m_X9_putsAll (d + 1) 0 0 53 [some (.ref T0), some (.ref (T0 + (468 + 1 + q))), some (.int 0), some (.int (nI 0)), x4] [] (tw T0 h (sIm s q r (61 + 60 * 0))) Q from hh r _ hr
    refine xfor (fun w => ∀ r x4, rIm s r (61 + 60 * w) → xRun G m_X9_putsAll (d + 1) 0 0 53 [some (.ref T0), some (.ref (T0 + (468 + 1 + q))), some (.int 0), some (.int (nI w)), x4] [] (tw T0 h (sIm s q r (61 + 60 * w))) Q) 16 ?_ ?_
    · intro w hw ihw r x4 hr
      refine x_iload_n dX9_putsAll_53 rfl ?_
      refine x_bipush dX9_putsAll_54 16 (by decide) ?_
      refine x_icmp_ge 105 dX9_putsAll_56 rfl (fun hc9 => absurd hc9 (nI_ge hw (by decide))) (fun _ => ?_)
      refine x_iconst dX9_putsAll_59 0 rfl ?_
      refine xsi4 dX9_putsAll_60 (by decide) rfl ?_
      suffices hh : ∀ r, rIm s r (61 + 60 * w + 0) → xRun G m_X9_putsAll (d + 1) 0 0 62 [some (.ref T0), some (.ref (T0 + (468 + 1 + q))), some (.int 0), some (.int (nI w)), some (.int (nI 0))] [] (tw T0 h (sIm s q r (61 + 60 * w + 0))) Q from hh r hr
      refine xfor (fun k => ∀ r, rIm s r (61 + 60 * w + k) → xRun G m_X9_putsAll (d + 1) 0 0 62 [some (.ref T0), some (.ref (T0 + (468 + 1 + q))), some (.int 0), some (.int (nI w)), some (.int (nI k))] [] (tw T0 h (sIm s q r (61 + 60 * w + k))) Q) 60 ?_ ?_
      · intro k hk ih r hr
        have hp : 61 + 60 * w + k < 1021 := by omega
        have esrc : (s.2.2 (451 + 1 + w)).getD k 0 = srcI s (61 + 60 * w + k) := by
          unfold srcI
          rw [if_neg (by omega), if_neg (by omega), show (61 + 60 * w + k - 61) / 60 = w by omega, show (61 + 60 * w + k - 61) % 60 = k by omega]
        have kk := c_putsF (G := G) (d := d) (h := h) (s := sIm s q r (61 + 60 * w + k)) (sIm_ok hs hq hr.1) hb q hq (61 + 60 * w + k) hp rfl (srcI s (61 + 60 * w + k))
        rw [sIm_put] at kk
        have hr2 := hr.step hp rfl
        generalize hr' : r.set (61 + 60 * w + k) (srcI s (61 + 60 * w + k)) = r' at kk hr2
        have okb := sIm_ok (s := s) (p := 61 + 60 * w + k) hs hq hr.1
        refine x_iload dX9_putsAll_62 rfl ?_
        refine x_bipush dX9_putsAll_64 60 (by decide) ?_
        refine x_icmp_ge 99 dX9_putsAll_66 rfl (fun hc9 => absurd hc9 (nI_ge hk (by decide))) (fun _ => ?_)
        refine x_aload_n dX9_putsAll_69 rfl ?_
        refine t_ga 451 dX9_putsAll_70 f_X9_70_27 (by decide) rfl (by decide) ?_
        refine x_iload_n dX9_putsAll_73 rfl ?_
        refine t_aa w dX9_putsAll_74 (by decide) rfl hw ?_
        refine x_iload dX9_putsAll_75 rfl ?_
        refine x_at 77 rfl ?_
        refine x_aload_n dX9_putsAll_77 rfl ?_
        refine x_aload_n dX9_putsAll_78 rfl ?_
        refine x_aload_n dX9_putsAll_79 rfl ?_
        refine t_ga 451 dX9_putsAll_80 f_X9_70_27 (by decide) rfl (by decide) ?_
        refine x_iload_n dX9_putsAll_83 rfl ?_
        refine t_aa w dX9_putsAll_84 (by decide) rfl hw ?_
        refine x_iload dX9_putsAll_85 rfl ?_
        refine t_ia k dX9_putsAll_87 okb (ar_bef w hw) rfl (by rw [ln_bef w hw]; exact hk) (gt (gbef _ _ w hw) esrc) ?_
        refine x_at 88 rfl ?_
        refine x_iload_n dX9_putsAll_88 rfl ?_
        refine xiV3 dX9_putsAll_89 v_X9_421_27 tw_get0 (Nat.le_of_ble_eq_true rfl) kk ?_
        refine t_is k dX9_putsAll_92 (sIm_ok hs hq hr2.1) (ar_bef w hw) rfl (by rw [ln_bef w hw]; exact hk) hb ?_
        have e : seta (sIm s q r' (61 + 60 * w + k + 1)) (451 + 1 + w) (((sIm s q r' (61 + 60 * w + k + 1)).2.2 (451 + 1 + w)).set k (srcI s (61 + 60 * w + k))) = sIm s q r' (61 + 60 * w + k + 1) := by
          refine seta_id ?_
          rw [gbef _ _ w hw, ← esrc, set_same]
        rw [e]
        refine xinc4 _ dX9_putsAll_93 (by decide) rfl (nI_1 k) ?_
        refine x_goto 62 dX9_putsAll_96 rfl ?_
        exact ih r' hr2
      · intro r hr
        refine x_iload dX9_putsAll_62 rfl ?_
        refine x_bipush dX9_putsAll_64 60 (by decide) ?_
        refine x_icmp_ge 99 dX9_putsAll_66 rfl (fun _ => ?_) (fun hc9 => absurd (Int32.le_refl _) hc9)
        refine xinc3 _ dX9_putsAll_99 (by decide) rfl (nI_1 w) ?_
        refine x_goto 53 dX9_putsAll_102 rfl ?_
        rw [show 61 + 60 * w + 60 = 61 + 60 * (w + 1) by omega] at hr ⊢
        exact ihw r _ hr
    · intro r x4 hr
      refine x_iload_n dX9_putsAll_53 rfl ?_
      refine x_bipush dX9_putsAll_54 16 (by decide) ?_
      refine x_icmp_ge 105 dX9_putsAll_56 rfl (fun _ => ?_) (fun hc9 => absurd (Int32.le_refl _) hc9)
      refine x_return dX9_putsAll_105 rfl ?_
      rw [← hQ]
      exact ⟨rfl, r, hr, rfl⟩
  refine x_aload_n dX9_putsAll_0 rfl ?_
  refine x_iconst dX9_putsAll_1 0 rfl ?_
  refine t_pi dX9_putsAll_2 p_X9_418_27 rfl (by decide) hb ?_
  have k0 := c_putsF (G := G) (d := d) (h := h) (s := seti s 36 0) hs hb q hq 0 (by decide) rfl (s.1 33)
  have e0 : seti s 36 0 = sIm s q (s.2.2 (468 + 1 + q)) 0 := by unfold sIm; rw [seta_id rfl]; rfl
  have hr0 : rIm s (s.2.2 (468 + 1 + q)) 0 := ⟨by rw [hs, ln_kep q hq], fun i hi => absurd hi (Nat.not_lt_zero _)⟩
  rw [e0, sIm_put] at k0
  have hr1 := hr0.step (v := s.1 33) (by decide) rfl
  generalize (s.2.2 (468 + 1 + q)).set 0 (s.1 33) = r1 at k0 hr1
  rw [e0]
  refine x_aload_n dX9_putsAll_5 rfl ?_
  refine x_aload_n dX9_putsAll_6 rfl ?_
  refine x_aload_n dX9_putsAll_7 rfl ?_
  refine x_aload_n dX9_putsAll_8 rfl ?_
  refine t_gi dX9_putsAll_9 f_X9_194_27 (by decide) rfl (by decide) rfl ?_
  refine x_iload_n dX9_putsAll_12 rfl ?_
  refine xiV3 dX9_putsAll_13 v_X9_421_27 tw_get0 (Nat.le_of_ble_eq_true rfl) (k0) ?_
  refine x_at 16 rfl ?_
  refine t_pi dX9_putsAll_16 p_X9_194_27 rfl (by decide) hb ?_
  rw [seti_id (s := sIm s q r1 (0 + 1)) (k := 33) (a := s.1 33) rfl]
  refine x_iconst dX9_putsAll_19 0 rfl ?_
  refine xsi3 dX9_putsAll_20 (by decide) rfl ?_
  suffices hh : ∀ r, rIm s r (1 + 0) → xRun G m_X9_putsAll (d + 1) 0 0 21 [some (.ref T0), some (.ref (T0 + (468 + 1 + q))), some (.int 0), some (.int (nI 0)), none] [] (tw T0 h (sIm s q r (1 + 0))) Q from hh r1 hr1
  refine xfor (fun k => ∀ r, rIm s r (1 + k) → xRun G m_X9_putsAll (d + 1) 0 0 21 [some (.ref T0), some (.ref (T0 + (468 + 1 + q))), some (.int 0), some (.int (nI k)), none] [] (tw T0 h (sIm s q r (1 + k))) Q) 60 ?_ ?_
  · intro k hk ih r hr
    have hp : 1 + k < 1021 := by omega
    have esrc : (s.2.2 448).getD k 0 = srcI s (1 + k) := by
      unfold srcI
      rw [if_neg (by omega), if_pos (by omega), Nat.add_sub_cancel_left]
    have kk := c_putsF (G := G) (d := d) (h := h) (s := sIm s q r (1 + k)) (sIm_ok hs hq hr.1) hb q hq (1 + k) hp rfl (srcI s (1 + k))
    rw [sIm_put] at kk
    have hr2 := hr.step hp rfl
    generalize hr' : r.set (1 + k) (srcI s (1 + k)) = r' at kk hr2
    have okb := sIm_ok (s := s) (p := 1 + k) hs hq hr.1
    refine x_iload_n dX9_putsAll_21 rfl ?_
    refine x_bipush dX9_putsAll_22 60 (by decide) ?_
    refine x_icmp_ge 51 dX9_putsAll_24 rfl (fun hc9 => absurd hc9 (nI_ge hk (by decide))) (fun _ => ?_)
    refine x_aload_n dX9_putsAll_27 rfl ?_
    refine t_ga 448 dX9_putsAll_28 f_X9_61_27 (by decide) rfl (by decide) ?_
    refine x_iload_n dX9_putsAll_31 rfl ?_
    refine x_aload_n dX9_putsAll_32 rfl ?_
    refine x_aload_n dX9_putsAll_33 rfl ?_
    refine x_at 34 rfl ?_
    refine x_aload_n dX9_putsAll_34 rfl ?_
    refine t_ga 448 dX9_putsAll_35 f_X9_61_27 (by decide) rfl (by decide) ?_
    refine x_iload_n dX9_putsAll_38 rfl ?_
    refine t_ia k dX9_putsAll_39 okb (by decide) rfl (show k < 60 from hk) (gt (g448 _ _) esrc) ?_
    refine x_iload_n dX9_putsAll_40 rfl ?_
    refine xiV3 dX9_putsAll_41 v_X9_421_27 tw_get0 (Nat.le_of_ble_eq_true rfl) kk ?_
    refine t_is k dX9_putsAll_44 (sIm_ok hs hq hr2.1) (by decide) rfl (show k < 60 from hk) hb ?_
    have e : seta (sIm s q r' (1 + k + 1)) 448 (((sIm s q r' (1 + k + 1)).2.2 448).set k (srcI s (1 + k))) = sIm s q r' (1 + k + 1) := by
      refine seta_id ?_
      rw [g448, ← esrc, set_same]
    rw [e]
    refine xinc3 _ dX9_putsAll_45 (by decide) rfl (nI_1 k) ?_
    refine x_goto 21 dX9_putsAll_48 rfl ?_
    exact ih r' hr2
  · intro r hr
    refine x_iload_n dX9_putsAll_21 rfl ?_
    refine x_bipush dX9_putsAll_22 60 (by decide) ?_
    refine x_icmp_ge 51 dX9_putsAll_24 rfl (fun _ => ?_) (fun hc9 => absurd (Int32.le_refl _) hc9)
    exact part3 r _ hr
theorem p_image (hI : tIn s W) (hW : wOK W) (hb : G.2.2.1 ≤ T0) : xMet G (d + 2) 0 0 m_X9_image [.ref T0] (tw T0 h s) (tQ T0 h (oImage W)) := by
  refine xMet.of [some (.ref T0)] pl_X9 rfl (Nat.le_of_ble_eq_true rfl) ?_
  have hI0 := hI.J hW ((tJ.refl hI.1).seti (k := 0) (v := 0) rfl)
  have h35 := hI0.2.2.2.2.2.2.2.1.1
  have h3 := hW.2.2.2.2.2.2.2.1.1
  have h16 := hW.2.2.2.2.2.2.1.1
  refine x_aload_n dX9_image_0 rfl ?_
  refine x_iconst dX9_image_1 0 rfl ?_
  refine t_pi dX9_image_2 p_X9_92_27 rfl (by decide) hb ?_
  refine x_aload_n dX9_image_5 rfl ?_
  refine t_gi dX9_image_6 f_X9_200_27 (by decide) rfl (by decide) h35 ?_
  refine x_iconst dX9_image_9 3 rfl ?_
  refine x_icmp_ne 15 dX9_image_10 rfl (fun c1 => ?_) (fun c1 => ?_)
  · have c2 : ¬ (wIm W).length = 3 := fun z => c1 (by rw [z]; rfl)
    rw [oImage, if_neg c2]
    have hq3 : (wIm W).length < 3 := by omega
    refine x_aload_n dX9_image_15 rfl ?_
    refine x_aload_n dX9_image_16 rfl ?_
    refine t_ga 468 dX9_image_17 f_X9_73_27 (by decide) rfl (by decide) ?_
    refine x_aload_n dX9_image_20 rfl ?_
    refine t_gi dX9_image_21 f_X9_200_27 (by decide) rfl (by decide) h35 ?_
    refine t_aa (wIm W).length dX9_image_24 (by decide) rfl (show _ < 3 from hq3) ?_
    refine x_iconst dX9_image_25 0 rfl ?_
    refine xvV2 dX9_image_26 v_X9_425_27 tw_get0 (Nat.le_of_ble_eq_true rfl) (c_putsAllF hI0.1 hb (wIm W).length hq3) (by omega) (by omega) (fun h1 hF => ?_)
    obtain ⟨r, hr, rfl⟩ := hF
    have f35 : (sIm (seti s 0 0) (wIm W).length r 1021).1 35 = nI (wIm W).length := h35
    refine x_aload_n dX9_image_29 rfl ?_
    refine x_dup dX9_image_30 rfl ?_
    refine t_gi dX9_image_31 f_X9_200_27 (by decide) rfl (by decide) f35 ?_
    refine x_iconst dX9_image_34 1 rfl ?_
    refine x_iadd dX9_image_35 ?_
    rw [nI_1]
    have f35' : (seti (sIm (seti s 0 0) (wIm W).length r 1021) 35 (nI ((wIm W).length + 1))).1 35 = nI ((wIm W).length + 1) := rfl
    refine t_pi dX9_image_36 p_X9_200_27 rfl (by decide) hb ?_
    refine x_aload_n dX9_image_39 rfl ?_
    refine t_gi dX9_image_40 f_X9_200_27 (by decide) rfl (by decide) f35' ?_
    refine x_ireturn dX9_image_43 rfl (tQ.mk rfl ?_ rfl)
    obtain ⟨q0, q1, q2, q3, q4, q5, q6, q7, q8, q9, q10⟩ := hI0
    have hA : ∀ j, ¬ j = 468 + 1 + (wIm W).length → (seti (sIm (seti s 0 0) (wIm W).length r 1021) 35 (nI ((wIm W).length + 1))).2.2 j = (seti s 0 0).2.2 j := fun j hj => seta_ne hj
    have hFd : ∀ k, ¬ k = 35 → ¬ k = 36 → (seti (sIm (seti s 0 0) (wIm W).length r 1021) 35 (nI ((wIm W).length + 1))).1 k = (seti s 0 0).1 k := fun k h1 h2 => (seti_ne h1).trans (seti_ne h2)
    have h160 := q4.2.1
    have h6 := hW.2.2.2.2.2.2.2.2.1.1
    refine ⟨sIm_ok (p := 1021) q0 hq3 hr.1, ⟨(hFd 1 (by decide) (by decide)).trans q1.1, fun i hi => by rw [hA 1 (by omega)]; exact q1.2 i hi⟩, (hFd 3 (by decide) (by decide)).trans q2, ?_, ⟨(hFd 17 (by decide) (by decide)).trans q4.1, q4.2.1, fun i hi => (hA _ (by have : i < (wLw W).length := hi; omega)).trans (q4.2.2.1 i hi), q4.2.2.2⟩, (hA 448 (by omega)).trans q5, ⟨(hFd 33 (by decide) (by decide)).trans q6.1, fun i hi => (hA _ (by have : i < (wPs W).length := hi; omega)).trans (q6.2 i hi)⟩, ⟨?_, fun i hi => ?_⟩, ⟨(hFd 32 (by decide) (by decide)).trans q8.1, fun i hi => (hA _ (by have : i < (wLn W).length := hi; omega)).trans (q8.2 i hi)⟩, (hFd 34 (by decide) (by decide)).trans q9, (hA 2 (by omega)).trans q10⟩
    · rw [hA 4 (by omega), hA 6 (by omega)]
      exact q3
    · rw [f35']
      show _ = nI (wIm W ++ [(wM W, wPs W)]).length
      rw [List.length_append]
      rfl
    · have hi2 : i < (wIm W ++ [(wM W, wPs W)]).length := hi
      rw [List.length_append] at hi2
      have hi3 : i < (wIm W).length + 1 := hi2
      show (_ = nI ((wIm W ++ [(wM W, wPs W)]).getD i (wM W, [])).2.length ∧ (∀ k, k < 60 → _ = (mrow ((wIm W ++ [(wM W, wPs W)]).getD i (wM W, [])).1).getD k 0) ∧ ∀ w, w < ((wIm W ++ [(wM W, wPs W)]).getD i (wM W, [])).2.length → ∀ k, k < 60 → _ = (mrow (((wIm W ++ [(wM W, wPs W)]).getD i (wM W, [])).2.getD w (wM W))).getD k 0)
      rw [getD_snoc]
      by_cases e : i = (wIm W).length
      · rw [if_neg (by omega), if_pos e, e]
        have g : (seti (sIm (seti s 0 0) (wIm W).length r 1021) 35 (nI ((wIm W).length + 1))).2.2 (468 + 1 + (wIm W).length) = r := seta_get
        rw [g]
        refine ⟨?_, fun k hk => ?_, fun w hw k hk => ?_⟩
        · rw [hr.2 0 (by decide)]
          exact q6.1
        · rw [hr.2 (1 + k) (by omega)]
          unfold srcI
          rw [if_neg (by omega), if_pos (by omega), Nat.add_sub_cancel_left, q5]
        · have hw2 : w < (wPs W).length := hw
          rw [hr.2 (61 + 60 * w + k) (by omega)]
          unfold srcI
          rw [if_neg (by omega), if_neg (by omega), show (61 + 60 * w + k - 61) / 60 = w by omega, show (61 + 60 * w + k - 61) % 60 = k by omega, q6.2 w hw2]
      · rw [if_pos (by omega), hA _ (by omega)]
        exact q7.2 i (by omega)
  · have c2 : (wIm W).length = 3 := (nI_eq (by omega) (b := 3) (by decide)).mp c1
    rw [oImage, if_pos c2]
    refine x_iconst dX9_image_13 (-1) rfl ?_
    exact x_ireturn dX9_image_14 rfl (tQ.mk rfl hI0 rfl)
/-- the state when p of an image are taken back: works, now and before are the image's ahead of p -/
def sBk (s s1 : tS) (q p : Nat) : Prop := tOK s1 ∧ (∀ k, ¬ k = 33 → ¬ k = 36 → s1.1 k = s.1 k) ∧ (∀ j, ¬ j = 448 → ¬ (452 ≤ j ∧ j < 468) → s1.2.2 j = s.2.2 j) ∧ s1.1 36 = nI p ∧ ∀ i, i < p → srcI s1 i = (s.2.2 (468 + 1 + q)).getD i 0
theorem sBk.kep {s1 : tS} {q p : Nat} (h : sBk s s1 q p) : s1.2.2 (468 + 1 + q) = s.2.2 (468 + 1 + q) := h.2.2.1 _ (by omega) (by omega)
theorem c_putsAllT (hs : tOK s) (hb : G.2.2.1 ≤ T0) (q : Nat) (hq : q < 3) : xMet G (d + 1) 0 0 m_X9_putsAll [.ref T0, .ref (T0 + (468 + 1 + q)), .int 1] (tw T0 h s) (xV (fun h' => ∃ s1, sBk s s1 q 1021 ∧ h' = tw T0 h s1)) := by
  refine xMet.of [some (.ref T0), some (.ref (T0 + (468 + 1 + q))), some (.int 1), none, none] pl_X9 rfl (Nat.le_of_ble_eq_true rfl) ?_
  generalize hQ : (xV (fun h' => ∃ s1, sBk s s1 q 1021 ∧ h' = tw T0 h s1)) = Q
  have part3 : ∀ s1 x3, sBk s s1 q 61 → xRun G m_X9_putsAll (d + 1) 0 0 51 [some (.ref T0), some (.ref (T0 + (468 + 1 + q))), some (.int 1), x3, none] [] (tw T0 h s1) Q := by
    intro s1 x3 hr
    refine x_iconst dX9_putsAll_51 0 rfl ?_
    refine xsi3 dX9_putsAll_52 (by decide) rfl ?_
    suffices hh : ∀ s1 x4, sBk s s1 q (61 + 60 * 0) → xRun G m_X9_putsAll (d + 1) 0 0 53 [some (.ref T0), some (.ref (T0 + (468 + 1 + q))), some (.int 1), some (.int (nI 0)), x4] [] (tw T0 h s1) Q from hh s1 _ hr
    refine xfor (fun w => ∀ s1 x4, sBk s s1 q (61 + 60 * w) → xRun G m_X9_putsAll (d + 1) 0 0 53 [some (.ref T0), some (.ref (T0 + (468 + 1 + q))), some (.int 1), some (.int (nI w)), x4] [] (tw T0 h s1) Q) 16 ?_ ?_
    · intro w hw ihw s1 x4 hr
      refine x_iload_n dX9_putsAll_53 rfl ?_
      refine x_bipush dX9_putsAll_54 16 (by decide) ?_
      refine x_icmp_ge 105 dX9_putsAll_56 rfl (fun hc9 => absurd hc9 (nI_ge hw (by decide))) (fun _ => ?_)
      refine x_iconst dX9_putsAll_59 0 rfl ?_
      refine xsi4 dX9_putsAll_60 (by decide) rfl ?_
      suffices hh : ∀ s1, sBk s s1 q (61 + 60 * w + 0) → xRun G m_X9_putsAll (d + 1) 0 0 62 [some (.ref T0), some (.ref (T0 + (468 + 1 + q))), some (.int 1), some (.int (nI w)), some (.int (nI 0))] [] (tw T0 h s1) Q from hh s1 hr
      clear hr
      refine xfor (fun k => ∀ s1, sBk s s1 q (61 + 60 * w + k) → xRun G m_X9_putsAll (d + 1) 0 0 62 [some (.ref T0), some (.ref (T0 + (468 + 1 + q))), some (.int 1), some (.int (nI w)), some (.int (nI k))] [] (tw T0 h s1) Q) 60 ?_ ?_
      · intro k hk ih s1 hr
        have hp : 61 + 60 * w + k < 1021 := by omega
        have kk := c_putsT (G := G) (d := d) (h := h) (s := s1) hr.1 hb q hq (61 + 60 * w + k) hp hr.2.2.2.1 ((s1.2.2 (451 + 1 + w)).getD k 0)
        rw [hr.kep] at kk
        have hl : (s1.2.2 (451 + 1 + w)).length = 60 := by rw [hr.1, ln_bef w hw]
        refine x_iload dX9_putsAll_62 rfl ?_
        refine x_bipush dX9_putsAll_64 60 (by decide) ?_
        refine x_icmp_ge 99 dX9_putsAll_66 rfl (fun hc9 => absurd hc9 (nI_ge hk (by decide))) (fun _ => ?_)
        refine x_aload_n dX9_putsAll_69 rfl ?_
        refine t_ga 451 dX9_putsAll_70 f_X9_70_27 (by decide) rfl (by decide) ?_
        refine x_iload_n dX9_putsAll_73 rfl ?_
        refine t_aa w dX9_putsAll_74 (by decide) rfl hw ?_
        refine x_iload dX9_putsAll_75 rfl ?_
        refine x_at 77 rfl ?_
        refine x_aload_n dX9_putsAll_77 rfl ?_
        refine x_aload_n dX9_putsAll_78 rfl ?_
        refine x_aload_n dX9_putsAll_79 rfl ?_
        refine t_ga 451 dX9_putsAll_80 f_X9_70_27 (by decide) rfl (by decide) ?_
        refine x_iload_n dX9_putsAll_83 rfl ?_
        refine t_aa w dX9_putsAll_84 (by decide) rfl hw ?_
        refine x_iload dX9_putsAll_85 rfl ?_
        refine t_ia k dX9_putsAll_87 hr.1 (ar_bef w hw) rfl (by rw [ln_bef w hw]; exact hk) rfl ?_
        refine x_at 88 rfl ?_
        refine x_iload_n dX9_putsAll_88 rfl ?_
        refine xiV3 dX9_putsAll_89 v_X9_421_27 tw_get0 (Nat.le_of_ble_eq_true rfl) kk ?_
        refine t_is k dX9_putsAll_92 (s := seti s1 36 (nI (61 + 60 * w + k + 1))) hr.1 (ar_bef w hw) rfl (by rw [ln_bef w hw]; exact hk) hb ?_
        refine xinc4 _ dX9_putsAll_93 (by decide) rfl (nI_1 k) ?_
        refine x_goto 62 dX9_putsAll_96 rfl ?_
        refine ih _ ⟨seta_ok (s := seti s1 36 (nI (61 + 60 * w + k + 1))) hr.1 (by rw [List.length_set]; exact hr.1 _), fun j h1 h2 => (seti_ne h2).trans (hr.2.1 j h1 h2), fun j h1 h2 => (seta_ne (by omega)).trans (hr.2.2.1 j h1 h2), rfl, fun i hi => ?_⟩
        have hgo : ∀ i, ¬ i = 61 + 60 * w + k → i < 61 + 60 * w + k → srcI (seta (seti s1 36 (nI (61 + 60 * w + k + 1))) (451 + 1 + w) ((s1.2.2 (451 + 1 + w)).set k ((s.2.2 (468 + 1 + q)).getD (61 + 60 * w + k) 0))) i = srcI s1 i := by
          intro i h1 h2
          unfold srcI
          by_cases e0 : i = 0
          · rw [if_pos e0, if_pos e0]; rfl
          · rw [if_neg e0, if_neg e0]
            by_cases e1 : i < 61
            · rw [if_pos e1, if_pos e1, seta_ne (by omega)]; rfl
            · rw [if_neg e1, if_neg e1]
              by_cases e2 : (i - 61) / 60 = w
              · rw [e2, seta_get, getD_set (by omega), if_neg (by omega)]
              · rw [seta_ne (by omega)]; rfl
        by_cases e : i = 61 + 60 * w + k
        · subst e
          show srcI (seta (seti s1 36 (nI (61 + 60 * w + k + 1))) (451 + 1 + w) ((s1.2.2 (451 + 1 + w)).set k ((s.2.2 (468 + 1 + q)).getD (61 + 60 * w + k) 0))) (61 + 60 * w + k) = _
          unfold srcI
          rw [if_neg (by omega), if_neg (by omega), show (61 + 60 * w + k - 61) / 60 = w by omega, show (61 + 60 * w + k - 61) % 60 = k by omega, seta_get, getD_set (by omega), if_pos rfl]
        · rw [← hr.2.2.2.2 i (by omega)]
          exact hgo i e (by omega)
      · intro s1 hr
        refine x_iload dX9_putsAll_62 rfl ?_
        refine x_bipush dX9_putsAll_64 60 (by decide) ?_
        refine x_icmp_ge 99 dX9_putsAll_66 rfl (fun _ => ?_) (fun hc9 => absurd (Int32.le_refl _) hc9)
        refine xinc3 _ dX9_putsAll_99 (by decide) rfl (nI_1 w) ?_
        refine x_goto 53 dX9_putsAll_102 rfl ?_
        rw [show 61 + 60 * w + 60 = 61 + 60 * (w + 1) by omega] at hr
        exact ihw s1 _ hr
    · intro s1 x4 hr
      refine x_iload_n dX9_putsAll_53 rfl ?_
      refine x_bipush dX9_putsAll_54 16 (by decide) ?_
      refine x_icmp_ge 105 dX9_putsAll_56 rfl (fun _ => ?_) (fun hc9 => absurd (Int32.le_refl _) hc9)
      refine x_return dX9_putsAll_105 rfl ?_
      rw [← hQ]
      exact ⟨rfl, s1, hr, rfl⟩
  refine x_aload_n dX9_putsAll_0 rfl ?_
  refine x_iconst dX9_putsAll_1 0 rfl ?_
  refine t_pi dX9_putsAll_2 p_X9_418_27 rfl (by decide) hb ?_
  have k0 := c_putsT (G := G) (d := d) (h := h) (s := seti s 36 0) hs hb q hq 0 (by decide) rfl (s.1 33)
  refine x_aload_n dX9_putsAll_5 rfl ?_
  refine x_aload_n dX9_putsAll_6 rfl ?_
  refine x_aload_n dX9_putsAll_7 rfl ?_
  refine x_aload_n dX9_putsAll_8 rfl ?_
  refine t_gi dX9_putsAll_9 f_X9_194_27 (by decide) rfl (by decide) rfl ?_
  refine x_iload_n dX9_putsAll_12 rfl ?_
  refine xiV3 dX9_putsAll_13 v_X9_421_27 tw_get0 (Nat.le_of_ble_eq_true rfl) (k0) ?_
  refine x_at 16 rfl ?_
  refine t_pi dX9_putsAll_16 p_X9_194_27 rfl (by decide) hb ?_
  refine x_iconst dX9_putsAll_19 0 rfl ?_
  refine xsi3 dX9_putsAll_20 (by decide) rfl ?_
  have e1 : sBk s (seti (seti (seti s 36 0) 36 (nI (0 + 1))) 33 ((s.2.2 (468 + 1 + q)).getD 0 0)) q 1 := by
    refine ⟨hs, fun k h1 h2 => (seti_ne h1).trans ((seti_ne h2).trans (seti_ne h2)), fun _ _ _ => rfl, rfl, fun i hi => ?_⟩
    have : i = 0 := by omega
    subst this
    rfl
  suffices hh : ∀ s1, sBk s s1 q (1 + 0) → xRun G m_X9_putsAll (d + 1) 0 0 21 [some (.ref T0), some (.ref (T0 + (468 + 1 + q))), some (.int 1), some (.int (nI 0)), none] [] (tw T0 h s1) Q from hh _ e1
  refine xfor (fun k => ∀ s1, sBk s s1 q (1 + k) → xRun G m_X9_putsAll (d + 1) 0 0 21 [some (.ref T0), some (.ref (T0 + (468 + 1 + q))), some (.int 1), some (.int (nI k)), none] [] (tw T0 h s1) Q) 60 ?_ ?_
  · intro k hk ih s1 hr
    have hp : 1 + k < 1021 := by omega
    have kk := c_putsT (G := G) (d := d) (h := h) (s := s1) hr.1 hb q hq (1 + k) hp hr.2.2.2.1 ((s1.2.2 448).getD k 0)
    rw [hr.kep] at kk
    have hl : (s1.2.2 448).length = 60 := hr.1 448
    refine x_iload_n dX9_putsAll_21 rfl ?_
    refine x_bipush dX9_putsAll_22 60 (by decide) ?_
    refine x_icmp_ge 51 dX9_putsAll_24 rfl (fun hc9 => absurd hc9 (nI_ge hk (by decide))) (fun _ => ?_)
    refine x_aload_n dX9_putsAll_27 rfl ?_
    refine t_ga 448 dX9_putsAll_28 f_X9_61_27 (by decide) rfl (by decide) ?_
    refine x_iload_n dX9_putsAll_31 rfl ?_
    refine x_aload_n dX9_putsAll_32 rfl ?_
    refine x_aload_n dX9_putsAll_33 rfl ?_
    refine x_at 34 rfl ?_
    refine x_aload_n dX9_putsAll_34 rfl ?_
    refine t_ga 448 dX9_putsAll_35 f_X9_61_27 (by decide) rfl (by decide) ?_
    refine x_iload_n dX9_putsAll_38 rfl ?_
    refine t_ia k dX9_putsAll_39 hr.1 (by decide) rfl (show k < 60 from hk) rfl ?_
    refine x_iload_n dX9_putsAll_40 rfl ?_
    refine xiV3 dX9_putsAll_41 v_X9_421_27 tw_get0 (Nat.le_of_ble_eq_true rfl) kk ?_
    refine t_is k dX9_putsAll_44 (s := seti s1 36 (nI (1 + k + 1))) hr.1 (by decide) rfl (show k < 60 from hk) hb ?_
    refine xinc3 _ dX9_putsAll_45 (by decide) rfl (nI_1 k) ?_
    refine x_goto 21 dX9_putsAll_48 rfl ?_
    refine ih _ ⟨seta_ok (s := seti s1 36 (nI (1 + k + 1))) hr.1 (by rw [List.length_set]; exact hr.1 _), fun j h1 h2 => (seti_ne h2).trans (hr.2.1 j h1 h2), fun j h1 h2 => (seta_ne h1).trans (hr.2.2.1 j h1 h2), rfl, fun i hi => ?_⟩
    by_cases e : i = 1 + k
    · subst e
      show srcI (seta (seti s1 36 (nI (1 + k + 1))) 448 ((s1.2.2 448).set k ((s.2.2 (468 + 1 + q)).getD (1 + k) 0))) (1 + k) = _
      unfold srcI
      rw [if_neg (by omega), if_pos (by omega), seta_get, getD_set (by omega), if_pos (by omega)]
    · rw [← hr.2.2.2.2 i (by omega)]
      show srcI (seta (seti s1 36 (nI (1 + k + 1))) 448 ((s1.2.2 448).set k ((s.2.2 (468 + 1 + q)).getD (1 + k) 0))) i = _
      unfold srcI
      by_cases e0 : i = 0
      · rw [if_pos e0, if_pos e0]; rfl
      · rw [if_neg e0, if_neg e0, if_pos (by omega), if_pos (by omega), seta_get, getD_set (by omega), if_neg (by omega)]
  · intro s1 hr
    refine x_iload_n dX9_putsAll_21 rfl ?_
    refine x_bipush dX9_putsAll_22 60 (by decide) ?_
    refine x_icmp_ge 51 dX9_putsAll_24 rfl (fun _ => ?_) (fun hc9 => absurd (Int32.le_refl _) hc9)
    exact part3 s1 _ hr
theorem p_restore (hI : tIn s W) (hW : wOK W) (hb : G.2.2.1 ≤ T0) : xMet G (d + 2) 0 0 m_X9_restore [.ref T0] (tw T0 h s) (tQ T0 h (oRestore W)) := by
  refine xMet.of [some (.ref T0)] pl_X9 rfl (Nat.le_of_ble_eq_true rfl) ?_
  have hI0 := hI.J hW ((tJ.refl hI.1).seti (k := 0) (v := 0) rfl)
  have h35 := hI0.2.2.2.2.2.2.2.1.1
  have h3 := hW.2.2.2.2.2.2.2.1
  have h16 := hW.2.2.2.2.2.2.1.1
  refine x_aload_n dX9_restore_0 rfl ?_
  refine x_iconst dX9_restore_1 0 rfl ?_
  refine t_pi dX9_restore_2 p_X9_92_27 rfl (by decide) hb ?_
  refine x_aload_n dX9_restore_5 rfl ?_
  refine t_gi dX9_restore_6 f_X9_200_27 (by decide) rfl (by decide) h35 ?_
  refine x_if_ne 14 dX9_restore_9 rfl (fun c1 => ?_) (fun c1 => ?_)
  · have c2 : ¬ (wIm W).length = 0 := fun z => c1 (by rw [z]; rfl)
    rw [oRestore, if_neg c2]
    generalize hq : (wIm W).length - 1 = q at *
    have hq3 : q < 3 := by omega
    have hqL : q < (wIm W).length := by omega
    refine x_aload_n dX9_restore_14 rfl ?_
    refine x_dup dX9_restore_15 rfl ?_
    refine t_gi dX9_restore_16 f_X9_200_27 (by decide) rfl (by decide) h35 ?_
    refine x_iconst dX9_restore_19 1 rfl ?_
    refine x_isub dX9_restore_20 ?_
    rw [show nI (wIm W).length - 1 = nI q by rw [← hq]; exact pk_sub (b := 1) (by omega)]
    refine t_pi dX9_restore_21 p_X9_200_27 rfl (by decide) hb ?_
    generalize hs1 : seti (seti s 0 0) 35 (nI q) = s1
    have e35 : s1.1 35 = nI q := by rw [← hs1]; rfl
    have ok1 : tOK s1 := by rw [← hs1]; exact hI.1
    refine x_aload_n dX9_restore_24 rfl ?_
    refine x_aload_n dX9_restore_25 rfl ?_
    refine t_ga 468 dX9_restore_26 f_X9_73_27 (by decide) rfl (by decide) ?_
    refine x_aload_n dX9_restore_29 rfl ?_
    refine t_gi dX9_restore_30 f_X9_200_27 (by decide) rfl (by decide) e35 ?_
    refine t_aa q dX9_restore_33 (by decide) rfl (show _ < 3 from hq3) ?_
    refine x_iconst dX9_restore_34 1 rfl ?_
    refine xvV2 dX9_restore_35 v_X9_425_27 tw_get0 (Nat.le_of_ble_eq_true rfl) (c_putsAllT ok1 hb q hq3) (by omega) (by omega) (fun h1 hF => ?_)
    obtain ⟨s2, hr, rfl⟩ := hF
    have f35 : (seti s2 34 0).1 35 = nI q := by
      show s2.1 35 = nI q
      rw [hr.2.1 35 (by decide) (by decide)]; exact e35
    refine x_aload_n dX9_restore_38 rfl ?_
    refine x_iconst dX9_restore_39 0 rfl ?_
    refine t_pi dX9_restore_40 p_X9_197_27 rfl (by decide) hb ?_
    refine x_aload_n dX9_restore_43 rfl ?_
    refine t_gi dX9_restore_44 f_X9_200_27 (by decide) rfl (by decide) f35 ?_
    have e0 : s2.1 0 = 0 := by rw [hr.2.1 0 (by decide) (by decide), ← hs1]; rfl
    refine x_ireturn dX9_restore_47 rfl (tQ.mk rfl ?_ e0)
    obtain ⟨q0, q1, q2, q3, q4, q5, q6, q7, q8, q9, q10⟩ := hI0
    have hB := h3.2 _ (getD_mem (x := (wM W, [])) hqL)
    have eim : imL W = (wIm W).getD q (wM W, []) := by unfold imL; rw [hq]
    rw [← eim] at hB
    have h7 := q7.2 q hqL
    rw [← eim] at h7
    have hA : ∀ j, ¬ j = 448 → ¬ (452 ≤ j ∧ j < 468) → (seti s2 34 0).2.2 j = s.2.2 j := fun j h1 h2 => by
      rw [← show s1.2.2 j = s.2.2 j by rw [← hs1]; rfl]
      exact hr.2.2.1 j h1 h2
    have hFd : ∀ k, ¬ k = 33 → ¬ k = 36 → ¬ k = 34 → ¬ k = 35 → (seti s2 34 0).1 k = (seti s 0 0).1 k := fun k h1 h2 h3 h4 => by
      rw [seti_ne h3, hr.2.1 k h1 h2, ← hs1, seti_ne h4]
    have hk : ∀ i, i < 1021 → srcI s2 i = ((seti s 0 0).2.2 (468 + 1 + q)).getD i 0 := fun i hi => by
      rw [hr.2.2.2.2 i hi, ← hs1]; rfl
    have h160 := q4.2.1
    have h6 := hW.2.2.2.2.2.2.2.2.1.1
    have hN : s2.2.2 448 = mrow (imL W).1 := by
      refine getD_ext (by rw [hr.1 448, mrow_len hB.1.1]; rfl) (fun k hk9 => ?_)
      rw [hr.1 448] at hk9
      have hk60 : k < 60 := hk9
      have := hk (1 + k) (by omega)
      rw [h7.2.1 k hk60] at this
      rw [← this]
      unfold srcI
      rw [if_neg (by omega), if_pos (by omega), Nat.add_sub_cancel_left]
    have hP : ∀ w, w < (imL W).2.length → s2.2.2 (451 + 1 + w) = mrow ((imL W).2.getD w (wM W)) := fun w hw => by
      have hw16 : w < 16 := by have := hB.2.1; omega
      have hBw := hB.2.2 _ (getD_mem (x := wM W) hw)
      refine getD_ext (by rw [hr.1, ln_bef w hw16, mrow_len hBw.1]) (fun k hk9 => ?_)
      rw [hr.1, ln_bef w hw16] at hk9
      have := hk (61 + 60 * w + k) (by omega)
      rw [h7.2.2 w hw k hk9] at this
      rw [← this]
      unfold srcI
      rw [if_neg (by omega), if_neg (by omega), show (61 + 60 * w + k - 61) / 60 = w by omega, show (61 + 60 * w + k - 61) % 60 = k by omega]
    have hWk : s2.1 33 = nI (imL W).2.length := by
      have := hk 0 (by decide)
      rw [h7.1] at this
      exact this
    refine ⟨hr.1, ⟨(hFd 1 (by decide) (by decide) (by decide) (by decide)).trans q1.1, fun i hi => by rw [hA 1 (by decide) (by decide)]; exact q1.2 i hi⟩, (hFd 3 (by decide) (by decide) (by decide) (by decide)).trans q2, ?_, ⟨(hFd 17 (by decide) (by decide) (by decide) (by decide)).trans q4.1, q4.2.1, fun i hi => (hA _ (by have : i < (wLw W).length := hi; omega) (by have : i < (wLw W).length := hi; omega)).trans (q4.2.2.1 i hi), q4.2.2.2⟩, hN, ⟨hWk, fun i hi => ?_⟩, ⟨?_, fun i hi => ?_⟩, ⟨(hFd 32 (by decide) (by decide) (by decide) (by decide)).trans q8.1, fun i hi => (hA _ (by have : i < (wLn W).length := hi; omega) (by have : i < (wLn W).length := hi; omega)).trans (q8.2 i hi)⟩, rfl, (hA 2 (by decide) (by decide)).trans q10⟩
    · rw [hA 4 (by decide) (by decide), hA 6 (by decide) (by decide)]
      exact q3
    · have hi2 : i < (imL W).2.length := hi
      show s2.2.2 (451 + 1 + i) = mrow ((imL W).2.getD i (imL W).1)
      rw [hP i hi2, getD_any hi2]
    · rw [f35]
      show _ = nI ((wIm W).take q).length
      rw [List.length_take, Nat.min_eq_left (by omega)]
    · have hi2 : i < ((wIm W).take q).length := hi
      rw [List.length_take] at hi2
      have hi3 : i < q := by omega
      rw [hA _ (by omega) (by omega)]
      show ((s.2.2 (468 + 1 + i)).getD 0 0 = nI (((wIm W).take q).getD i ((imL W).1, [])).2.length ∧ (∀ k, k < 60 → (s.2.2 (468 + 1 + i)).getD (1 + k) 0 = (mrow (((wIm W).take q).getD i ((imL W).1, [])).1).getD k 0) ∧ ∀ w, w < (((wIm W).take q).getD i ((imL W).1, [])).2.length → ∀ k, k < 60 → (s.2.2 (468 + 1 + i)).getD (61 + 60 * w + k) 0 = (mrow ((((wIm W).take q).getD i ((imL W).1, [])).2.getD w (imL W).1)).getD k 0)
      rw [getD_take hi3, getD_any (y := (wM W, [])) (by omega)]
      have h9 := q7.2 i (by omega)
      refine ⟨h9.1, h9.2.1, fun w hw k hk => ?_⟩
      rw [show s.2.2 (468 + 1 + i) = (seti s 0 0).2.2 (468 + 1 + i) from rfl, h9.2.2 w hw k hk, getD_any hw]
  · have c2 : (wIm W).length = 0 := (nI_eq (by omega) (b := 0) (by decide)).mp c1
    rw [oRestore, if_pos c2]
    refine x_iconst dX9_restore_12 (-1) rfl ?_
    exact x_ireturn dX9_restore_13 rfl (tQ.mk rfl hI0 rfl)
end TQ9
