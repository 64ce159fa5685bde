set_option maxRecDepth 100000
/-! ===== the twin, 2: reading a text ===== -/
/-- the text that is read: its bytes lie ahead in the tape, its size is the twin's -/
def tTx (s : tS) (t : List Nat) : Prop := s.1 2 = nI t.length ∧ t.length ≤ 600 ∧ (∀ i, i < t.length → (s.2.2 1).getD i 0 = nI (t.getD i 0)) ∧ ∀ i, t.getD i 0 < 256
def kd (q : Nat) : Int32 := match q with | 0 => 1 | 1 => 2 | _ => 3
def pf (e : Option (Nat × Nat)) : Int32 := match e with | none => 0 | some q => kd q.1
def pp (e : Option (Nat × Nat)) : Int32 := match e with | none => -1 | some q => nI q.2
theorem kd_ne (q : Nat) : ¬ kd q = 0 := by
  unfold kd
  split <;> decide
theorem pf_ne (q : Nat × Nat) : ¬ pf (some q) = 0 := kd_ne q.1
theorem pf_iff {e : Option (Nat × Nat)} : pf e = 0 ↔ e = none := by
  cases e with
  | none => exact ⟨fun _ => rfl, fun _ => rfl⟩
  | some q => exact ⟨fun h => absurd h (pf_ne q), fun h => by cases h⟩
/-- where the reading is: the place, the fault -/
def pst (s : tS) (k : Nat) (e : Option (Nat × Nat)) : tS := seti (seti (seti s 4 (nI k)) 5 (pf e)) 6 (pp e)
theorem pst4 {s : tS} {k : Nat} {e : Option (Nat × Nat)} : (pst s k e).1 4 = nI k := rfl
theorem pst5 {s : tS} {k : Nat} {e : Option (Nat × Nat)} : (pst s k e).1 5 = pf e := rfl
theorem pst6 {s : tS} {k : Nat} {e : Option (Nat × Nat)} : (pst s k e).1 6 = pp e := rfl
theorem pstO {s : tS} {k j : Nat} {e : Option (Nat × Nat)} (h : ¬ j = 4) (h5 : ¬ j = 5) (h6 : ¬ j = 6) : (pst s k e).1 j = s.1 j := by
  show (if j = 6 then _ else if j = 5 then _ else if j = 4 then _ else s.1 j) = s.1 j
  rw [if_neg h6, if_neg h5, if_neg h]
theorem pst_tx {s : tS} {k : Nat} {e : Option (Nat × Nat)} {t : List Nat} (h : tTx s t) : tTx (pst s k e) t := h
theorem pst_ok {s : tS} {k : Nat} {e : Option (Nat × Nat)} (h : tOK s) : tOK (pst s k e) := h
theorem pst_at {s : tS} {k k' : Nat} {e : Option (Nat × Nat)} : seti (pst s k e) 4 (nI k') = pst s k' e := by
  refine Prod.ext ?_ rfl
  funext j
  show (if j = 4 then nI k' else if j = 6 then pp e else if j = 5 then pf e else if j = 4 then nI k else s.1 j) = (if j = 6 then pp e else if j = 5 then pf e else if j = 4 then nI k' else s.1 j)
  by_cases h4 : j = 4
  · subst h4; simp
  · simp [h4]
theorem pst_inc {s : tS} {k : Nat} {e : Option (Nat × Nat)} : seti (pst s k e) 4 (nI k + 1) = pst s (k + 1) e := by rw [nI_1]; exact pst_at
def wr (e : Option (Nat × Nat)) (q p : Nat) : Option (Nat × Nat) := match e with | none => some (q, p) | some x => some x
theorem pst_wr {s : tS} {k : Nat} {e : Option (Nat × Nat)} {q p : Nat} : sWr (pst s k e) (kd q) (nI p) = pst s k (wr e q p) := by
  cases e with
  | some x => rw [sWr, if_neg (show ¬ (pst s k (some x)).1 5 = 0 from pf_ne x)]; rfl
  | none =>
    rw [sWr, if_pos (show (pst s k none).1 5 = 0 from rfl)]
    refine Prod.ext ?_ rfl
    funext j
    show (if j = 6 then nI p else if j = 5 then kd q else if j = 6 then _ else if j = 5 then _ else if j = 4 then nI k else s.1 j) = (if j = 6 then nI p else if j = 5 then kd q else if j = 4 then nI k else s.1 j)
    by_cases h6 : j = 6
    · subst h6; simp
    · by_cases h5 : j = 5
      · subst h5; simp
      · simp [h6, h5]
/-- a byte, -1 behind the end -/
def tb (t : List Nat) (k : Nat) : Int32 := if k < t.length then nI (t.getD k 0) else -1
theorem tb_in {t : List Nat} {k : Nat} (h : k < t.length) : tb t k = nI (t.getD k 0) := if_pos h
theorem tb_out {t : List Nat} {k : Nat} (h : ¬ k < t.length) : tb t k = -1 := if_neg h
theorem tb_B {t : List Nat} {k : Nat} (h : k < t.length) (ht : t.getD k 0 < 256) : tb t k = 32 ↔ isB (t.getD k 0) = true := by
  rw [tb_in h, show (32 : Int32) = nI 32 from rfl, nI_eq (by omega) (by decide)]
  simp [isB]
theorem tb_Bn {s : tS} {t : List Nat} {k : Nat} (ht : tTx s t) (h : k < t.length → isB (t.getD k 0) = false) : ¬ tb t k = 32 := by
  by_cases h1 : k < t.length
  · intro h2
    have h3 := (tb_B h1 (ht.2.2.2 k)).mp h2
    rw [h h1] at h3
    cases h3
  · rw [tb_out h1]
    decide
theorem isDg_nI {c : Nat} (h : c < 256) : isDg (nI c) = isDgN c := by
  unfold isDg isDgN
  have e1 : (48 : Int32) ≤ nI c ↔ 48 ≤ c := nI_leI (a := 48) (by decide) (by omega)
  have e2 : nI c ≤ (57 : Int32) ↔ c ≤ 57 := nI_leI (b := 57) (by omega) (by decide)
  simp only [e1, e2]
theorem isSm_nI {c : Nat} (h : c < 256) : isSm (nI c) = isSmN c := by
  unfold isSm isSmN
  have e1 : (97 : Int32) ≤ nI c ↔ 97 ≤ c := nI_leI (a := 97) (by decide) (by omega)
  have e2 : nI c ≤ (122 : Int32) ↔ c ≤ 122 := nI_leI (b := 122) (by omega) (by decide)
  simp only [e1, e2]
theorem tb_dg {t : List Nat} {k : Nat} (ht : ∀ i, t.getD i 0 < 256) : isDg (tb t k) = true ↔ k < t.length ∧ isDgN (t.getD k 0) = true := by
  by_cases h : k < t.length
  · rw [tb_in h, isDg_nI (ht k)]
    exact ⟨fun q => ⟨h, q⟩, fun q => q.2⟩
  · rw [tb_out h]
    exact ⟨fun q => absurd q (by decide), fun q => absurd q.1 h⟩
theorem tb_sm {t : List Nat} {k : Nat} (ht : ∀ i, t.getD i 0 < 256) : isSm (tb t k) = true ↔ k < t.length ∧ isSmN (t.getD k 0) = true := by
  by_cases h : k < t.length
  · rw [tb_in h, isSm_nI (ht k)]
    exact ⟨fun q => ⟨h, q⟩, fun q => q.2⟩
  · rw [tb_out h]
    exact ⟨fun q => absurd q (by decide), fun q => absurd q.1 h⟩
theorem not_p {p : Nat → Bool} {t : List Nat} {k : Nat} (h : ¬ (k < t.length ∧ p (t.getD k 0) = true)) : k < t.length → p (t.getD k 0) = false := fun h1 => by
  cases h2 : p (t.getD k 0) with
  | true => exact absurd ⟨h1, h2⟩ h
  | false => rfl
theorem b2_ne {b : Bool} : ¬ b2 b = 0 ↔ b = true := by cases b <;> decide
theorem b2_eq {b : Bool} : b2 b = 0 ↔ b = false := by cases b <;> decide
section TB
variable {G : xG} {d : Nat} {h : xH} {T0 : Nat} {s : tS} {t : List Nat}
theorem c_byteAt (hs : tOK s) (ht : tTx s t) (k : Nat) (hk : k < 2147483648) : xMet G d 0 0 m_X9_byteAt [.ref T0, .int (nI k)] (tw T0 h s) (xI (.int (tb t k)) (tw T0 h s)) := by
  refine xMet.of [some (.ref T0), some (.int (nI k))] pl_X9 rfl (Nat.le_of_ble_eq_true rfl) ?_
  have hk9 : k < 2 ^ 31 := hk
  have hl9 : t.length < 2 ^ 31 := Nat.lt_of_le_of_lt ht.2.1 (by decide)
  refine x_iload_n dX9_byteAt_0 rfl ?_
  refine x_aload_n dX9_byteAt_1 rfl ?_
  refine t_gi dX9_byteAt_2 f_X9_98_27 (by decide) rfl (by decide) ht.1 ?_
  refine x_icmp_lt 12 dX9_byteAt_5 rfl (fun c1 => ?_) (fun c1 => ?_)
  · have c2 : k < t.length := (nI_ltI hk9 hl9).mp c1
    refine x_aload_n dX9_byteAt_12 rfl ?_
    refine t_ga 1 dX9_byteAt_13 f_X9_13_27 (by decide) rfl (by decide) ?_
    refine x_iload_n dX9_byteAt_16 rfl ?_
    refine t_ia k dX9_byteAt_17 hs (by decide) rfl (Nat.lt_of_lt_of_le c2 ht.2.1) (ht.2.2.1 k c2) ?_
    exact x_ireturn dX9_byteAt_18 rfl (xrv (tb_in c2).symm)
  · have c2 : ¬ k < t.length := fun q => c1 ((nI_ltI hk9 hl9).mpr q)
    refine x_iconst dX9_byteAt_8 (-1) rfl ?_
    refine x_goto 18 dX9_byteAt_9 rfl ?_
    exact x_ireturn dX9_byteAt_18 rfl (xrv (tb_out c2).symm)
theorem c_wrongP (hb : G.2.2.1 ≤ T0) {e : Option (Nat × Nat)} {k : Nat} (q p : Nat) : xMet G d 0 0 m_X9_wrong [.ref T0, .int (kd q), .int (nI p)] (tw T0 h (pst s k e)) (xU (tw T0 h (pst s k (wr e q p)))) := by
  rw [← pst_wr]
  exact c_wrong hb _ _
theorem c_blanks (hs : tOK s) (ht : tTx s t) (hb : G.2.2.1 ≤ T0) {e : Option (Nat × Nat)} (k : Nat) (hk : k ≤ 600) : xMet G (d + 1) 0 0 m_X9_blanks [.ref T0] (tw T0 h (pst s k e)) (xU (tw T0 h (pst s (sc isB t k) e))) := by
  refine xMet.of [some (.ref T0)] pl_X9 rfl (Nat.le_of_ble_eq_true rfl) ?_
  revert hk
  refine scan_ind (fun k => k ≤ 600 → xRun G m_X9_blanks (d + 1) 0 0 0 [some (.ref T0)] [] (tw T0 h (pst s k e)) (xU (tw T0 h (pst s (sc isB t k) e)))) isB t ?_ ?_ k
  · intro k h1 h2 ih hk
    rw [sc_y h1 h2]
    refine x_aload_n dX9_blanks_0 rfl ?_
    refine x_aload_n dX9_blanks_1 rfl ?_
    refine t_gi dX9_blanks_2 f_X9_101_27 (by decide) rfl (by decide) pst4 ?_
    refine xiV1 dX9_blanks_5 v_X9_104_27 tw_get0 (Nat.le_of_ble_eq_true rfl) (c_byteAt (pst_ok hs) (pst_tx ht) k (by omega)) ?_
    refine x_bipush dX9_blanks_8 32 (by decide) ?_
    refine x_icmp_ne 26 dX9_blanks_10 rfl (fun hc9 => absurd ((tb_B h1 (ht.2.2.2 k)).mpr h2) hc9) (fun _ => ?_)
    refine x_aload_n dX9_blanks_13 rfl ?_
    refine x_dup dX9_blanks_14 rfl ?_
    refine x_at 15 rfl ?_
    refine t_gi dX9_blanks_15 f_X9_101_27 (by decide) rfl (by decide) pst4 ?_
    refine x_iconst dX9_blanks_18 1 rfl ?_
    refine x_iadd dX9_blanks_19 ?_
    refine t_pi dX9_blanks_20 p_X9_101_27 rfl (by decide) hb ?_
    rw [pst_inc]
    refine x_goto 0 dX9_blanks_23 rfl ?_
    exact ih (by have := ht.2.1; omega)
  · intro k h1 hk
    rw [sc_n h1]
    refine x_aload_n dX9_blanks_0 rfl ?_
    refine x_aload_n dX9_blanks_1 rfl ?_
    refine t_gi dX9_blanks_2 f_X9_101_27 (by decide) rfl (by decide) pst4 ?_
    refine xiV1 dX9_blanks_5 v_X9_104_27 tw_get0 (Nat.le_of_ble_eq_true rfl) (c_byteAt (pst_ok hs) (pst_tx ht) k (by omega)) ?_
    refine x_bipush dX9_blanks_8 32 (by decide) ?_
    refine x_icmp_ne 26 dX9_blanks_10 rfl (fun _ => ?_) (fun hc9 => absurd hc9 (tb_Bn ht h1))
    exact x_return dX9_blanks_26 rfl ⟨rfl, rfl⟩
end TB
