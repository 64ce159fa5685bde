set_option maxRecDepth 100000
/-! ===== the twin, 8: it holds a world; what it answers of it ===== -/
def tIn (s : tS) (W : Wd) : Prop := tOK s ∧
  (s.1 1 = nI (wTp W).length ∧ ∀ i, i < (wTp W).length → (s.2.2 1).getD i 0 = nI ((wTp W).getD i 0)) ∧ s.1 3 = wPl W ∧
  ((s.2.2 4).getD 0 0 = nI (wN W) ∧ (s.2.2 4).getD 3 0 = nI (wPy W) ∧ ∀ a, a < wN W → (s.2.2 6).getD a 0 = nI ((wW W).getD a 0)) ∧ tLw s (wLw W) ∧ s.2.2 448 = mrow (wM W) ∧
  (s.1 33 = nI (wPs W).length ∧ ∀ i, i < (wPs W).length → s.2.2 (451 + 1 + i) = mrow ((wPs W).getD i (wM W))) ∧
  (s.1 35 = nI (wIm W).length ∧ ∀ i, i < (wIm W).length → ((s.2.2 (468 + 1 + i)).getD 0 0 = nI ((wIm W).getD i (wM W, [])).2.length ∧ (∀ k, k < 60 → (s.2.2 (468 + 1 + i)).getD (1 + k) 0 = (mrow ((wIm W).getD i (wM W, [])).1).getD k 0) ∧ ∀ w, w < ((wIm W).getD i (wM W, [])).2.length → ∀ k, k < 60 → (s.2.2 (468 + 1 + i)).getD (61 + 60 * w + k) 0 = (mrow (((wIm W).getD i (wM W, [])).2.getD w (wM W))).getD k 0)) ∧
  (s.1 32 = nI (wLn W).length ∧ ∀ i, i < (wLn W).length → s.2.2 (351 + 1 + i) = [nI ((wLn W).getD i (0, 0, 0)).1, nI ((wLn W).getD i (0, 0, 0)).2.1, nI ((wLn W).getD i (0, 0, 0)).2.2]) ∧
  s.1 34 = nI (wRS W) ∧ s.2.2 2 = [(wRf W).1, (wRf W).2]
/-- what of the twin is only for the while -/
def tFs (k : Nat) : Bool := !(k == 1 || k == 3 || k == 17 || k == 32 || k == 33 || k == 34 || k == 35)
def tAs (j : Nat) : Bool := !(j == 1 || j == 2 || j == 4 || j == 6 || (30 ≤ j && j < 190) || (352 ≤ j && j < 358) || j == 448 || (452 ≤ j && j < 468) || (469 ≤ j && j < 472))
/-- the same but for that -/
def tJ (s s' : tS) : Prop := (∀ k, tFs k = false → s'.1 k = s.1 k) ∧ (∀ j, tAs j = false → s'.2.2 j = s.2.2 j) ∧ tOK s'
theorem tJ.refl {s : tS} (h : tOK s) : tJ s s := ⟨fun _ _ => rfl, fun _ _ => rfl, h⟩
theorem tJ.trans {s s1 s2 : tS} (h1 : tJ s s1) (h2 : tJ s1 s2) : tJ s s2 := ⟨fun k hk => (h2.1 k hk).trans (h1.1 k hk), fun j hj => (h2.2.1 j hj).trans (h1.2.1 j hj), h2.2.2⟩
theorem tJ.seti {s s' : tS} {k : Nat} {v : Int32} (h : tJ s s') (hk : tFs k = true) : tJ s (seti s' k v) :=
  ⟨fun i hi => (if_neg (fun q : i = k => by rw [q, hk] at hi; cases hi)).trans (h.1 i hi), h.2.1, h.2.2⟩
theorem tJ.setl {s s' : tS} {k : Nat} {v : Int64} (h : tJ s s') : tJ s (setl s' k v) := ⟨h.1, h.2.1, h.2.2⟩
theorem tJ.seta {s s' : tS} {k : Nat} {xs : List Int32} (h : tJ s s') (hk : tAs k = true) (hl : xs.length = tlen k) : tJ s (seta s' k xs) :=
  ⟨h.1, fun i hi => (seta_ne (fun q : i = k => by rw [q, hk] at hi; cases hi)).trans (h.2.1 i hi), seta_ok h.2.2 hl⟩
theorem tJ.of {A : List Nat} {s s' : tS} (h : tE A s s') (hA : ∀ j ∈ A, tAs j = true) : tJ s s' :=
  ⟨fun k _ => by rw [h.1], fun j hj => h.2.2.1 j (fun q => by rw [hA j q] at hj; cases hj), h.2.2.2⟩
theorem tAs_law : ∀ i, i < 160 → tAs (29 + 1 + i) = false := by decide +kernel
theorem tAs_bef : ∀ i, i < 16 → tAs (451 + 1 + i) = false := by decide +kernel
theorem tAs_kep : ∀ i, i < 3 → tAs (468 + 1 + i) = false := by decide +kernel
theorem tAs_lin : ∀ i, i < 6 → tAs (351 + 1 + i) = false := by decide +kernel
theorem tIn.J {s s' : tS} {W : Wd} (h : tIn s W) (hW : wOK W) (hJ : tJ s s') : tIn s' W := by
  obtain ⟨h0, h1, h2, h3, h4, h5, h6, h7, h8, h9, h10⟩ := h
  obtain ⟨a1, a2, a3, a4, a5, a6, a7, a8, a9, a10⟩ := hW
  refine ⟨hJ.2.2, ⟨(hJ.1 1 rfl).trans h1.1, fun i hi => by rw [hJ.2.1 1 rfl]; exact h1.2 i hi⟩, (hJ.1 3 rfl).trans h2, ?_, ?_, (hJ.2.1 448 rfl).trans h5, ⟨(hJ.1 33 rfl).trans h6.1, fun i hi => (hJ.2.1 _ (tAs_bef i (by omega))).trans (h6.2 i hi)⟩, ⟨(hJ.1 35 rfl).trans h7.1, fun i hi => by rw [hJ.2.1 _ (tAs_kep i (by omega))]; exact h7.2 i hi⟩, ⟨(hJ.1 32 rfl).trans h8.1, fun i hi => (hJ.2.1 _ (tAs_lin i (by omega))).trans (h8.2 i hi)⟩, (hJ.1 34 rfl).trans h9, (hJ.2.1 2 rfl).trans h10⟩
  · rw [hJ.2.1 4 rfl, hJ.2.1 6 rfl]
    exact h3
  · exact ⟨(hJ.1 17 rfl).trans h4.1, h4.2.1, fun i hi => (hJ.2.1 _ (tAs_law i (by have := h4.2.1; omega))).trans (h4.2.2.1 i hi), h4.2.2.2⟩
/-- a refusal -/
def sRef (s : tS) (w : Int32) (r : Nat) : tS := seta (seti s 0 w) 2 ((s.2.2 2).set r ((s.2.2 2).getD r 0 + 1))
theorem tIn.ref {s : tS} {W : Wd} (h : tIn s W) {w : Int32} {r : Nat} (hr : r < 2) : tIn (sRef s w r) (wRef W r) := by
  obtain ⟨h0, h1, h2, h3, h4, h5, h6, h7, h8, h9, h10⟩ := h
  have e : (s.2.2 2).set r ((s.2.2 2).getD r 0 + 1) = [(wRf (wRef W r)).1, (wRf (wRef W r)).2] := by
    rw [h10]
    have : r = 0 ∨ r = 1 := by omega
    rcases this with rfl | rfl <;> rfl
  unfold sRef
  rw [e]
  have e30 : ∀ j, ¬ j = 2 → (seta (seti s 0 w) 2 [(wRf (wRef W r)).1, (wRf (wRef W r)).2]).2.2 j = s.2.2 j := fun j hj => seta_ne hj
  refine ⟨seta_ok h0 rfl, ⟨h1.1, fun i hi => by rw [e30 1 (by decide)]; exact h1.2 i hi⟩, h2, ?_, ?_, (e30 _ (by decide)).trans h5, ⟨h6.1, fun i hi => (e30 _ (by omega)).trans (h6.2 i hi)⟩, ⟨h7.1, fun i hi => by rw [e30 _ (by omega)]; exact h7.2 i hi⟩, ⟨h8.1, fun i hi => (e30 _ (by omega)).trans (h8.2 i hi)⟩, h9, seta_get⟩
  · rw [e30 4 (by decide), e30 6 (by decide)]
    exact h3
  · exact ⟨h4.1, h4.2.1, fun i hi => (e30 _ (by omega)).trans (h4.2.2.1 i hi), h4.2.2.2⟩
/-- how a call of the twin ends -/
def tQ (T0 : Nat) (h : xH) (o : oR) : xQ := xP (fun v h' => v = .int o.2.1 ∧ ∃ s', h' = tw T0 h s' ∧ tIn s' o.2.2 ∧ s'.1 0 = nI o.1)
theorem tQ.mk {T0 : Nat} {h : xH} {o : oR} {v : Int32} {s' : tS} (hv : v = o.2.1) (hI : tIn s' o.2.2) (h0 : s'.1 0 = nI o.1) : tQ T0 h o (.returned (some (.int v))) (tw T0 h s') := ⟨_, rfl, by rw [hv], s', rfl, hI, h0⟩
section TP
variable {G : xG} {d : Nat} {h : xH} {T0 : Nat} {s : tS} {W : Wd}
theorem c_badT (hs : tOK s) (hb : G.2.2.1 ≤ T0) (h0 : s.1 0 = 0) (w : Int32) (hw : ¬ w = 0) (r : Nat) (hr : r < 2) : xMet G d 0 0 m_X9_bad [.ref T0, .int 1, .int w, .int (nI r)] (tw T0 h s) (xI (.int 1) (tw T0 h (sRef s w r))) := by
  have := c_bad (G := G) (d := d) (h := h) hs hb true w r hr
  have e : sBad s true w r = sRef s w r := by unfold sBad sRef; rw [if_pos ⟨rfl, h0⟩]
  rw [e] at this
  have e2 : decide (¬ (sRef s w r).1 0 = 0) = true := decide_eq_true hw
  rw [e2] at this
  exact this
theorem c_badF (hs : tOK s) (hb : G.2.2.1 ≤ T0) (h0 : s.1 0 = 0) (w : Int32) (r : Nat) (hr : r < 2) : xMet G d 0 0 m_X9_bad [.ref T0, .int 0, .int w, .int (nI r)] (tw T0 h s) (xI (.int 0) (tw T0 h s)) := by
  have := c_bad (G := G) (d := d) (h := h) hs hb false w r hr
  have e : sBad s false w r = s := by unfold sBad; rw [if_neg (fun q => nomatch q.1)]
  rw [e] at this
  have e2 : decide (¬ s.1 0 = 0) = false := decide_eq_false (fun q => q h0)
  rw [e2] at this
  exact this
theorem p_fault (hI : tIn s W) (hW : wOK W) (hb : G.2.2.1 ≤ T0) : xMet G (d + 1) 0 0 m_X9_fault [.ref T0] (tw T0 h s) (tQ T0 h (oFault W)) := by
  refine xMet.of [some (.ref T0)] pl_X9 rfl (Nat.le_of_ble_eq_true rfl) ?_
  have hI0 := hI.J hW ((tJ.refl hI.1).seti (k := 0) (v := 0) rfl)
  refine x_aload_n dX9_fault_0 rfl ?_
  refine x_iconst dX9_fault_1 0 rfl ?_
  refine t_pi dX9_fault_2 p_X9_92_27 rfl (by decide) hb ?_
  refine x_aload_n dX9_fault_5 rfl ?_
  refine t_gi dX9_fault_6 f_X9_9_27 (by decide) rfl (by decide) hI0.2.2.1 ?_
  exact x_ireturn dX9_fault_9 rfl (tQ.mk rfl hI0 rfl)
theorem in01 {x : Int32} (h : 0 ≤ x ∧ x ≤ 1) : x = 0 ∨ x = 1 := by
  obtain ⟨k, hk, e⟩ := nI_of2 (M := 1) (n := 1) (by decide) (Int32.not_lt.mpr h.1) h.2
  have : k = 0 ∨ k = 1 := by omega
  rcases this with rfl | rfl
  · exact Or.inl e
  · exact Or.inr e
theorem p_status (hI : tIn s W) (hW : wOK W) (hb : G.2.2.1 ≤ T0) (x : Int32) : xMet G (d + 1) 0 0 m_X9_status [.ref T0, .int x] (tw T0 h s) (tQ T0 h (oStatus W x)) := by
  refine xMet.of [some (.ref T0), some (.int x)] pl_X9 rfl (Nat.le_of_ble_eq_true rfl) ?_
  have hI0 := hI.J hW ((tJ.refl hI.1).seti (k := 0) (v := 0) rfl)
  have hr := hI0.2.2.2.2.2.2.2.2.2.2
  refine x_aload_n dX9_status_0 rfl ?_
  refine x_iconst dX9_status_1 0 rfl ?_
  refine t_pi dX9_status_2 p_X9_92_27 rfl (by decide) hb ?_
  refine x_iload_n dX9_status_5 rfl ?_
  refine x_iconst dX9_status_6 0 rfl ?_
  refine x_iconst dX9_status_7 1 rfl ?_
  refine xiS3 dX9_status_8 s_X9_126 (Nat.le_of_ble_eq_true rfl) (c_in _ _ _) ?_
  refine x_if_eq 23 dX9_status_11 rfl (fun c1 => ?_) (fun c1 => ?_)
  · have c2 := of_decide_eq_false (b2_eq.mp c1)
    refine x_iconst dX9_status_23 (-1) rfl ?_
    refine x_ireturn dX9_status_24 rfl (tQ.mk ?_ hI0 rfl)
    show -1 = (if x = 0 then _ else if x = 1 then _ else _)
    rw [if_neg (fun q => c2 (by rw [q]; decide)), if_neg (fun q => c2 (by rw [q]; decide))]
  · have c2 := of_decide_eq_true (b2_ne.mp c1)
    rcases in01 c2 with rfl | rfl
    · refine x_aload_n dX9_status_14 rfl ?_
      refine t_ga 2 dX9_status_15 f_X9_17_27 (by decide) rfl (by decide) ?_
      refine x_iload_n dX9_status_18 rfl ?_
      refine t_ia 0 dX9_status_19 hI0.1 (by decide) rfl (by decide) (gt hr rfl) ?_
      refine x_goto 24 dX9_status_20 rfl ?_
      exact x_ireturn dX9_status_24 rfl (tQ.mk rfl hI0 rfl)
    · refine x_aload_n dX9_status_14 rfl ?_
      refine t_ga 2 dX9_status_15 f_X9_17_27 (by decide) rfl (by decide) ?_
      refine x_iload_n dX9_status_18 rfl ?_
      refine t_ia 1 dX9_status_19 hI0.1 (by decide) rfl (by decide) (gt hr rfl) ?_
      refine x_goto 24 dX9_status_20 rfl ?_
      exact x_ireturn dX9_status_24 rfl (tQ.mk rfl hI0 rfl)
theorem p_count (hI : tIn s W) (hW : wOK W) (hb : G.2.2.1 ≤ T0) (x : Int32) : xMet G (d + 1) 0 0 m_X9_count [.ref T0, .int x] (tw T0 h s) (tQ T0 h (oCount W x)) := by
  refine xMet.of [some (.ref T0), some (.int x)] pl_X9 rfl (Nat.le_of_ble_eq_true rfl) ?_
  have hI0 := hI.J hW ((tJ.refl hI.1).seti (k := 0) (v := 0) rfl)
  refine x_aload_n dX9_count_0 rfl ?_
  refine x_iconst dX9_count_1 0 rfl ?_
  refine t_pi dX9_count_2 p_X9_92_27 rfl (by decide) hb ?_
  refine x_iload_n dX9_count_5 rfl ?_
  refine x_if_ne 16 dX9_count_6 rfl (fun c1 => ?_) (fun c1 => ?_)
  · refine x_iload_n dX9_count_16 rfl ?_
    refine x_iconst dX9_count_17 1 rfl ?_
    refine x_icmp_ne 28 dX9_count_18 rfl (fun c2 => ?_) (fun c2 => ?_)
    · refine x_iload_n dX9_count_28 rfl ?_
      refine x_iconst dX9_count_29 2 rfl ?_
      refine x_icmp_ne 40 dX9_count_30 rfl (fun c3 => ?_) (fun c3 => ?_)
      · refine x_iconst dX9_count_40 (-1) rfl ?_
        refine x_ireturn dX9_count_41 rfl (tQ.mk ?_ hI0 rfl)
        show -1 = (if x = 0 then _ else if x = 1 then _ else if x = 2 then _ else _)
        rw [if_neg c1, if_neg c2, if_neg c3]
      · refine x_aload_n dX9_count_33 rfl ?_
        refine t_gi dX9_count_34 f_X9_194_27 (by decide) rfl (by decide) hI0.2.2.2.2.2.2.1.1 ?_
        refine x_goto 41 dX9_count_37 rfl ?_
        refine x_ireturn dX9_count_41 rfl (tQ.mk ?_ hI0 rfl)
        show _ = (if x = 0 then _ else if x = 1 then _ else if x = 2 then _ else _)
        rw [if_neg c1, if_neg c2, if_pos c3]
    · refine x_aload_n dX9_count_21 rfl ?_
      refine t_gi dX9_count_22 f_X9_95_27 (by decide) rfl (by decide) hI0.2.1.1 ?_
      refine x_goto 41 dX9_count_25 rfl ?_
      refine x_ireturn dX9_count_41 rfl (tQ.mk ?_ hI0 rfl)
      show _ = (if x = 0 then _ else if x = 1 then _ else if x = 2 then _ else _)
      rw [if_neg c1, if_pos c2]
  · refine x_aload_n dX9_count_9 rfl ?_
    refine t_gi dX9_count_10 f_X9_200_27 (by decide) rfl (by decide) hI0.2.2.2.2.2.2.2.1.1 ?_
    refine x_goto 41 dX9_count_13 rfl ?_
    refine x_ireturn dX9_count_41 rfl (tQ.mk ?_ hI0 rfl)
    show _ = (if x = 0 then _ else if x = 1 then _ else if x = 2 then _ else _)
    rw [if_pos c1]
theorem inN {x : Int32} {m : Int32} (n : Nat) (hm : m.toInt = n) (hn : n < 2 ^ 31) (h : 0 ≤ x ∧ x ≤ m) : ∃ k, k ≤ n ∧ x = nI k ∧ iN x = k := by
  obtain ⟨k, hk, e⟩ := nI_of2 (M := m) (n := n) hm (Int32.not_lt.mpr h.1) h.2
  exact ⟨k, hk, e, by rw [e, iN_nI (by omega)]⟩
theorem p_told (hI : tIn s W) (hW : wOK W) (hb : G.2.2.1 ≤ T0) (x : Int32) : xMet G (d + 2) 0 0 m_X9_told [.ref T0, .int x] (tw T0 h s) (tQ T0 h (oTold W x)) := by
  refine xMet.of [some (.ref T0), some (.int x)] pl_X9 rfl (Nat.le_of_ble_eq_true rfl) ?_
  have hI0 := hI.J hW ((tJ.refl hI.1).seti (k := 0) (v := 0) rfl)
  have hm := hI0.2.2.2.2.2.1
  have hB := hW.2.2.2.2.2.1
  have hn := hI0.2.2.2.1.1
  have h8 := hW.2.2.1
  have j448 : tRow 448 := Or.inl rfl
  refine x_aload_n dX9_told_0 rfl ?_
  refine x_iconst dX9_told_1 0 rfl ?_
  refine t_pi dX9_told_2 p_X9_92_27 rfl (by decide) hb ?_
  refine x_aload_n dX9_told_5 rfl ?_
  refine x_iload_n dX9_told_6 rfl ?_
  refine x_iconst dX9_told_7 0 rfl ?_
  refine x_bipush dX9_told_8 10 (by decide) ?_
  refine xiS3 dX9_told_10 s_X9_126 (Nat.le_of_ble_eq_true rfl) (c_in _ _ _) ?_
  refine x_at 13 rfl ?_
  refine x_if_ne 20 dX9_told_13 rfl (fun c1 => ?_) (fun c1 => ?_)
  · have c2 := of_decide_eq_true (b2_ne.mp c1)
    rw [oTold, if_pos c2]
    obtain ⟨k, hk, rfl, e⟩ := inN 10 (by decide) (by decide) c2
    rw [e]
    refine x_iconst dX9_told_20 0 rfl ?_
    refine x_iconst dX9_told_21 1 rfl ?_
    refine x_iconst dX9_told_22 1 rfl ?_
    refine xiV3 dX9_told_23 v_X9_171_27 tw_get0 (Nat.le_of_ble_eq_true rfl) (c_badF hI0.1 hb rfl _ 1 (by decide)) ?_
    refine x_if_eq 31 dX9_told_26 rfl (fun _ => ?_) (fun hc9 => absurd (rfl) hc9)
    refine x_iload_n dX9_told_31 rfl ?_
    have hq : k = 0 ∨ k = 1 ∨ k = 2 ∨ k = 3 ∨ k = 4 ∨ k = 5 ∨ k = 6 ∨ k = 7 ∨ k = 8 ∨ k = 9 ∨ k = 10 := by omega
    rcases hq with rfl | rfl | rfl | rfl | rfl | rfl | rfl | rfl | rfl | rfl | rfl
    · refine x_tableIn 88 dX9_told_32 (by decide) (by decide) rfl (by decide) ?_
      refine x_aload_n dX9_told_88 rfl ?_
      refine t_ga 4 dX9_told_89 f_X9_23_27 (by decide) rfl (by decide) ?_
      refine x_iconst dX9_told_92 0 rfl ?_
      refine t_ia 0 dX9_told_93 hI0.1 (by decide) rfl (by decide) hn ?_
      exact x_ireturn dX9_told_94 rfl (tQ.mk rfl hI0 rfl)
    · refine x_tableIn 95 dX9_told_32 (by decide) (by decide) rfl (by decide) ?_
      refine x_aload_n dX9_told_95 rfl ?_
      refine t_ga 448 dX9_told_96 f_X9_61_27 (by decide) rfl (by decide) ?_
      refine x_bipush dX9_told_99 56 (by decide) ?_
      refine t_ia 56 dX9_told_101 hI0.1 (by decide) rfl (by decide) (gt hm (mrow_n hB.1)) ?_
      exact x_ireturn dX9_told_102 rfl (tQ.mk rfl hI0 rfl)
    · refine x_tableIn 103 dX9_told_32 (by decide) (by decide) rfl (by decide) ?_
      refine x_aload_n dX9_told_103 rfl ?_
      refine t_ga 448 dX9_told_104 f_X9_61_27 (by decide) rfl (by decide) ?_
      refine x_bipush dX9_told_107 59 (by decide) ?_
      refine t_ia 59 dX9_told_109 hI0.1 (by decide) rfl (by decide) (gt hm (mrow_d hB.1)) ?_
      exact x_ireturn dX9_told_110 rfl (tQ.mk rfl hI0 rfl)
    · refine x_tableIn 111 dX9_told_32 (by decide) (by decide) rfl (by decide) ?_
      refine x_aload_n dX9_told_111 rfl ?_
      refine t_ga 448 dX9_told_112 f_X9_61_27 (by decide) rfl (by decide) ?_
      refine x_bipush dX9_told_115 57 (by decide) ?_
      refine t_ia 57 dX9_told_117 hI0.1 (by decide) rfl (by decide) (gt hm (mrow_l hB.1)) ?_
      exact x_ireturn dX9_told_118 rfl (tQ.mk rfl hI0 rfl)
    · refine x_tableIn 119 dX9_told_32 (by decide) (by decide) rfl (by decide) ?_
      refine x_aload_n dX9_told_119 rfl ?_
      refine t_ga 4 dX9_told_120 f_X9_23_27 (by decide) rfl (by decide) ?_
      refine x_iconst dX9_told_123 3 rfl ?_
      refine t_ia 3 dX9_told_124 hI0.1 (by decide) rfl (by decide) hI0.2.2.2.1.2.1 ?_
      exact x_ireturn dX9_told_125 rfl (tQ.mk rfl hI0 rfl)
    · refine x_tableIn 126 dX9_told_32 (by decide) (by decide) rfl (by decide) ?_
      refine x_aload_n dX9_told_126 rfl ?_
      refine x_aload_n dX9_told_127 rfl ?_
      refine t_ga 448 dX9_told_128 f_X9_61_27 (by decide) rfl (by decide) ?_
      refine xiV1 dX9_told_131 v_X9_318_27 tw_get0 (Nat.le_of_ble_eq_true rfl) (c_weightIn hI0.1 j448 hm hB.1 hn h8) ?_
      exact x_ireturn dX9_told_134 rfl (tQ.mk rfl hI0 rfl)
    · refine x_tableIn 135 dX9_told_32 (by decide) (by decide) rfl (by decide) ?_
      refine x_aload_n dX9_told_135 rfl ?_
      refine t_ga 448 dX9_told_136 f_X9_61_27 (by decide) rfl (by decide) ?_
      refine xiS1 dX9_told_139 s_X9_322 (Nat.le_of_ble_eq_true rfl) (c_notSo hI0.1 j448 hm hB.1 (hB.sm h8)) ?_
      exact x_ireturn dX9_told_142 rfl (tQ.mk rfl hI0 rfl)
    · refine x_tableIn 143 dX9_told_32 (by decide) (by decide) rfl (by decide) ?_
      refine x_aload_n dX9_told_143 rfl ?_
      refine x_aload_n dX9_told_144 rfl ?_
      refine t_ga 448 dX9_told_145 f_X9_61_27 (by decide) rfl (by decide) ?_
      refine xiV1 dX9_told_148 v_X9_325_27 tw_get0 (Nat.le_of_ble_eq_true rfl) (c_criedIn hI0.1 j448 hm hB.1 (hB.sm h8) hn h8) ?_
      exact x_ireturn dX9_told_151 rfl (tQ.mk rfl hI0 rfl)
    · refine x_tableIn 152 dX9_told_32 (by decide) (by decide) rfl (by decide) ?_
      refine x_aload_n dX9_told_152 rfl ?_
      refine t_gi dX9_told_153 f_X9_191_27 (by decide) rfl (by decide) hI0.2.2.2.2.2.2.2.2.1.1 ?_
      exact x_ireturn dX9_told_156 rfl (tQ.mk rfl hI0 rfl)
    · refine x_tableIn 157 dX9_told_32 (by decide) (by decide) rfl (by decide) ?_
      refine x_aload_n dX9_told_157 rfl ?_
      refine t_gi dX9_told_158 f_X9_197_27 (by decide) rfl (by decide) hI0.2.2.2.2.2.2.2.2.2.1 ?_
      exact x_ireturn dX9_told_161 rfl (tQ.mk rfl hI0 rfl)
    · refine x_tableOut 162 dX9_told_32 (by decide) (by decide) ?_
      refine x_aload_n dX9_told_162 rfl ?_
      refine t_ga 448 dX9_told_163 f_X9_61_27 (by decide) rfl (by decide) ?_
      refine x_bipush dX9_told_166 58 (by decide) ?_
      refine t_ia 58 dX9_told_168 hI0.1 (by decide) rfl (by decide) (gt hm (mrow_g hB.1)) ?_
      exact x_ireturn dX9_told_169 rfl (tQ.mk rfl hI0 rfl)
  · have c2 := of_decide_eq_false (b2_eq.mp c1)
    rw [oTold, if_neg c2]
    refine x_iconst dX9_told_16 1 rfl ?_
    refine x_goto 21 dX9_told_17 rfl ?_
    refine x_iconst dX9_told_21 1 rfl ?_
    refine x_iconst dX9_told_22 1 rfl ?_
    refine xiV3 dX9_told_23 v_X9_171_27 tw_get0 (Nat.le_of_ble_eq_true rfl) (c_badT hI0.1 hb rfl _ (by decide) 1 (by decide)) ?_
    refine x_if_eq 31 dX9_told_26 rfl (fun hc9 => absurd hc9 (by decide)) (fun _ => ?_)
    refine x_iconst dX9_told_29 0 rfl ?_
    exact x_ireturn dX9_told_30 rfl (tQ.mk rfl (hI0.ref (by decide)) rfl)
theorem isT_ix {a : Int32} (hW : wOK W) (h : isT W a) : ∃ k, k < wN W ∧ a = nI k ∧ iN a = k := by
  have h8 := hW.2.2.1
  cases hn : wN W with
  | zero =>
    rw [isT, hn] at h
    exact absurd (Int32.le_trans h.1 h.2) (by decide)
  | succ m =>
    rw [isT, hn, nI_pred] at h
    obtain ⟨k, hk, e1, e2⟩ := inN m (m := nI m) (by rw [nI_toInt (by omega)]) (by omega) h
    exact ⟨k, by omega, e1, e2⟩
theorem p_thing (hI : tIn s W) (hW : wOK W) (hb : G.2.2.1 ≤ T0) (a x : Int32) : xMet G (d + 5) 0 0 m_X9_thing [.ref T0, .int a, .int x] (tw T0 h s) (tQ T0 h (oThing W a x)) := by
  refine xMet.of [some (.ref T0), some (.int a), some (.int x)] pl_X9 rfl (Nat.le_of_ble_eq_true rfl) ?_
  have hI0 := hI.J hW ((tJ.refl hI.1).seti (k := 0) (v := 0) rfl)
  have hm := hI0.2.2.2.2.2.1
  have hB := hW.2.2.2.2.2.1
  have hn := hI0.2.2.2.1.1
  have h8 := hW.2.2.1
  have j448 : tRow 448 := Or.inl rfl
  refine x_aload_n dX9_thing_0 rfl ?_
  refine x_iconst dX9_thing_1 0 rfl ?_
  refine t_pi dX9_thing_2 p_X9_92_27 rfl (by decide) hb ?_
  refine x_aload_n dX9_thing_5 rfl ?_
  refine x_aload_n dX9_thing_6 rfl ?_
  refine x_iload_n dX9_thing_7 rfl ?_
  refine xiV1 dX9_thing_8 v_X9_328_27 tw_get0 (Nat.le_of_ble_eq_true rfl) (c_isThing hI0.1 hn _) ?_
  refine x_if_ne 18 dX9_thing_11 rfl (fun c1 => ?_) (fun c1 => ?_)
  · have c2 : isT W a := of_decide_eq_true (b2_ne.mp c1)
    rw [oThing, if_neg (fun q => q c2)]
    obtain ⟨t, ht, rfl, et⟩ := isT_ix hW c2
    rw [et]
    have t8 : t < 8 := by omega
    refine x_iconst dX9_thing_18 0 rfl ?_
    refine x_iconst dX9_thing_19 1 rfl ?_
    refine x_iconst dX9_thing_20 0 rfl ?_
    refine xiV3 dX9_thing_21 v_X9_171_27 tw_get0 (Nat.le_of_ble_eq_true rfl) (c_badF hI0.1 hb rfl _ 0 (by decide)) ?_
    refine x_if_ne 50 dX9_thing_24 rfl (fun hc9 => absurd (by decide) hc9) (fun _ => ?_)
    refine x_aload_n dX9_thing_27 rfl ?_
    refine x_iload_n dX9_thing_28 rfl ?_
    refine x_iconst dX9_thing_29 0 rfl ?_
    refine x_at 30 rfl ?_
    refine x_iconst dX9_thing_30 4 rfl ?_
    refine xiS3 dX9_thing_31 s_X9_126 (Nat.le_of_ble_eq_true rfl) (c_in _ _ _) ?_
    refine x_if_ne 41 dX9_thing_34 rfl (fun c3 => ?_) (fun c3 => ?_)
    · have c4 := of_decide_eq_true (b2_ne.mp c3)
      rw [if_pos c4]
      obtain ⟨k, hk, rfl, e⟩ := inN 4 (by decide) (by decide) c4
      rw [e]
      refine x_iconst dX9_thing_41 0 rfl ?_
      refine x_iconst dX9_thing_42 2 rfl ?_
      refine x_iconst dX9_thing_43 1 rfl ?_
      refine xiV3 dX9_thing_44 v_X9_171_27 tw_get0 (Nat.le_of_ble_eq_true rfl) (c_badF hI0.1 hb rfl _ 1 (by decide)) ?_
      refine x_if_eq 52 dX9_thing_47 rfl (fun _ => ?_) (fun hc9 => absurd (rfl) hc9)
      refine x_iload_n dX9_thing_52 rfl ?_
      have hq : k = 0 ∨ k = 1 ∨ k = 2 ∨ k = 3 ∨ k = 4 := by omega
      rcases hq with rfl | rfl | rfl | rfl | rfl
      · refine x_tableIn 84 dX9_thing_53 (by decide) (by decide) rfl (by decide) ?_
        refine x_aload_n dX9_thing_84 rfl ?_
        refine t_ga 448 dX9_thing_85 f_X9_61_27 (by decide) rfl (by decide) ?_
        refine x_iconst dX9_thing_88 0 rfl ?_
        refine x_iload_n dX9_thing_89 rfl ?_
        refine x_iadd dX9_thing_90 ?_
        refine t_rj t dX9_thing_91 hI0.1 j448 hm (ix_w _) (by omega) (mrow_w hB.1 t8) ?_
        exact x_ireturn dX9_thing_92 rfl (tQ.mk rfl hI0 rfl)
      · refine x_tableIn 93 dX9_thing_53 (by decide) (by decide) rfl (by decide) ?_
        refine x_aload_n dX9_thing_93 rfl ?_
        refine t_ga 6 dX9_thing_94 f_X9_29_27 (by decide) rfl (by decide) ?_
        refine x_iload_n dX9_thing_97 rfl ?_
        refine t_ia t dX9_thing_98 hI0.1 (by decide) rfl (show t < 8 from t8) (hI0.2.2.2.1.2.2 t ht) ?_
        exact x_ireturn dX9_thing_99 rfl (tQ.mk rfl hI0 rfl)
      · refine x_tableIn 100 dX9_thing_53 (by decide) (by decide) rfl (by decide) ?_
        refine x_aload_n dX9_thing_100 rfl ?_
        refine t_ga 448 dX9_thing_101 f_X9_61_27 (by decide) rfl (by decide) ?_
        refine x_bipush dX9_thing_104 8 (by decide) ?_
        refine x_iload_n dX9_thing_106 rfl ?_
        refine x_iadd dX9_thing_107 ?_
        refine t_rj (8 + t) dX9_thing_108 hI0.1 j448 hm (ix_o _) (by omega) (mrow_o hB.1 t8) ?_
        exact x_ireturn dX9_thing_109 rfl (tQ.mk rfl hI0 rfl)
      · refine x_tableIn 110 dX9_thing_53 (by decide) (by decide) rfl (by decide) ?_
        refine x_aload_n dX9_thing_110 rfl ?_
        refine t_ga 448 dX9_thing_111 f_X9_61_27 (by decide) rfl (by decide) ?_
        refine x_iload_n dX9_thing_114 rfl ?_
        refine xiS2 dX9_thing_115 s_X9_256 (Nat.le_of_ble_eq_true rfl) (c_criesOf hI0.1 j448 hm hB.1 (hB.sm h8) t (by omega)) ?_
        exact x_ireturn dX9_thing_118 rfl (tQ.mk rfl hI0 rfl)
      · refine x_tableOut 119 dX9_thing_53 (by decide) (by decide) ?_
        refine x_aload_n dX9_thing_119 rfl ?_
        refine x_aload_n dX9_thing_120 rfl ?_
        refine t_ga 448 dX9_thing_121 f_X9_61_27 (by decide) rfl (by decide) ?_
        refine x_iload_n dX9_thing_124 rfl ?_
        refine xpV2 dX9_thing_125 v_X9_283_27 tw_get0 (Nat.le_of_ble_eq_true rfl) (c_wearOf hI0.1 hb j448 hm hB.1 (hB.sm h8) hI0.2.2.2.2.1 hI0.2.2.2.1.2.1 t t8) (by omega) (by omega) (fun v h1 hF => ?_)
        obtain ⟨hv, s2, rfl, hE⟩ := hF
        subst hv
        have hJ := tJ.of hE (by decide)
        exact x_ireturn dX9_thing_128 rfl (tQ.mk rfl (hI0.J hW hJ) (by rw [hE.1]; rfl))
    · have c4 := of_decide_eq_false (b2_eq.mp c3)
      rw [if_neg c4]
      refine x_iconst dX9_thing_37 1 rfl ?_
      refine x_goto 42 dX9_thing_38 rfl ?_
      refine x_iconst dX9_thing_42 2 rfl ?_
      refine x_iconst dX9_thing_43 1 rfl ?_
      refine xiV3 dX9_thing_44 v_X9_171_27 tw_get0 (Nat.le_of_ble_eq_true rfl) (c_badT hI0.1 hb rfl _ (by decide) 1 (by decide)) ?_
      refine x_if_eq 52 dX9_thing_47 rfl (fun hc9 => absurd hc9 (by decide)) (fun _ => ?_)
      refine x_iconst dX9_thing_50 0 rfl ?_
      exact x_ireturn dX9_thing_51 rfl (tQ.mk rfl (hI0.ref (by decide)) rfl)
  · have c2 : ¬ isT W a := of_decide_eq_false (b2_eq.mp c1)
    rw [oThing, if_pos c2]
    refine x_iconst dX9_thing_14 1 rfl ?_
    refine x_goto 19 dX9_thing_15 rfl ?_
    refine x_iconst dX9_thing_19 1 rfl ?_
    refine x_iconst dX9_thing_20 0 rfl ?_
    refine xiV3 dX9_thing_21 v_X9_171_27 tw_get0 (Nat.le_of_ble_eq_true rfl) (c_badT hI0.1 hb rfl _ (by decide) 0 (by decide)) ?_
    refine x_if_ne 50 dX9_thing_24 rfl (fun _ => ?_) (fun hc9 => absurd hc9 (by decide))
    refine x_iconst dX9_thing_50 0 rfl ?_
    exact x_ireturn dX9_thing_51 rfl (tQ.mk rfl (hI0.ref (by decide)) rfl)
end TP
