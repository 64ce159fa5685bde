set_option maxRecDepth 100000
/-! ===== the twin, 1: small ones ===== -/
theorem pl_X9 : plainName RX9 = true := by decide +kernel
def b2 (b : Bool) : Int32 := if b then 1 else 0
theorem xr0 {b : Bool} {h : xH} (hb : b = false) : xI (.int (b2 b)) h (.returned (some (.int 0))) h := by subst hb; exact ⟨rfl, rfl⟩
theorem xr1 {b : Bool} {h : xH} (hb : b = true) : xI (.int (b2 b)) h (.returned (some (.int 1))) h := by subst hb; exact ⟨rfl, rfl⟩
theorem xrv {v w : Int32} {h : xH} (hb : v = w) : xI (.int w) h (.returned (some (.int v))) h := by subst hb; exact ⟨rfl, rfl⟩
theorem nlt {a b : Int32} (h : ¬ a < b) : b ≤ a := Int32.not_lt.mp h
theorem nle {a b : Int32} (h : ¬ a ≤ b) : b < a := Int32.not_le.mp h
theorem ltn {a b : Int32} (h : a < b) : ¬ b ≤ a := Int32.not_le.mpr h
section TA
variable {G : xG} {d : Nat} {h : xH}
theorem c_in (v lo hi : Int32) : xMet G d 0 0 m_X9_in [.int v, .int lo, .int hi] h (xI (.int (b2 (decide (lo ≤ v ∧ v ≤ hi)))) h) := by
  refine xMet.of [some (.int v), some (.int lo), some (.int hi)] pl_X9 rfl (Nat.le_of_ble_eq_true rfl) ?_
  refine x_iload_n dX9_in_0 rfl ?_
  refine x_iload_n dX9_in_1 rfl ?_
  refine x_icmp_lt 14 dX9_in_2 rfl (fun c1 => ?_) (fun c1 => ?_)
  · refine x_iconst dX9_in_14 0 rfl ?_
    exact x_zreturn dX9_in_15 rfl rfl (xr0 (by simp [ltn c1]))
  · refine x_iload_n dX9_in_5 rfl ?_
    refine x_iload_n dX9_in_6 rfl ?_
    refine x_icmp_gt 14 dX9_in_7 rfl (fun c2 => ?_) (fun c2 => ?_)
    · refine x_iconst dX9_in_14 0 rfl ?_
      exact x_zreturn dX9_in_15 rfl rfl (xr0 (by simp [ltn c2]))
    · refine x_iconst dX9_in_10 1 rfl ?_
      refine x_goto 15 dX9_in_11 rfl ?_
      exact x_zreturn dX9_in_15 rfl rfl (xr1 (by simp [nlt c1, nlt c2]))
def mn (a b : Int32) : Int32 := if a < b then a else b
def mx (a b : Int32) : Int32 := if b < a then a else b
theorem c_less (a b : Int32) : xMet G d 0 0 m_X9_less [.int a, .int b] h (xI (.int (mn a b)) h) := by
  refine xMet.of [some (.int a), some (.int b)] pl_X9 rfl (Nat.le_of_ble_eq_true rfl) ?_
  refine x_iload_n dX9_less_0 rfl ?_
  refine x_iload_n dX9_less_1 rfl ?_
  refine x_icmp_ge 9 dX9_less_2 rfl (fun c1 => ?_) (fun c1 => ?_)
  · refine x_iload_n dX9_less_9 rfl ?_
    exact x_ireturn dX9_less_10 rfl (xrv (by rw [mn, if_neg (Int32.not_lt.mpr c1)]))
  · refine x_iload_n dX9_less_5 rfl ?_
    refine x_goto 10 dX9_less_6 rfl ?_
    exact x_ireturn dX9_less_10 rfl (xrv (by rw [mn, if_pos (nle c1)]))
theorem c_more (a b : Int32) : xMet G d 0 0 m_X9_more [.int a, .int b] h (xI (.int (mx a b)) h) := by
  refine xMet.of [some (.int a), some (.int b)] pl_X9 rfl (Nat.le_of_ble_eq_true rfl) ?_
  refine x_iload_n dX9_more_0 rfl ?_
  refine x_iload_n dX9_more_1 rfl ?_
  refine x_icmp_le 9 dX9_more_2 rfl (fun c1 => ?_) (fun c1 => ?_)
  · refine x_iload_n dX9_more_9 rfl ?_
    exact x_ireturn dX9_more_10 rfl (xrv (by rw [mx, if_neg (Int32.not_lt.mpr c1)]))
  · refine x_iload_n dX9_more_5 rfl ?_
    refine x_goto 10 dX9_more_6 rfl ?_
    exact x_ireturn dX9_more_10 rfl (xrv (by rw [mx, if_pos (nle c1)]))
/-- the bit k of bits -/
def bt (bits k : Int32) : Bool := decide ((bits >>> (k &&& 31)) &&& 1 = 1)
theorem c_has (a b : Int32) : xMet G d 0 0 m_X9_has [.int a, .int b] h (xI (.int (b2 (bt a b))) h) := by
  refine xMet.of [some (.int a), some (.int b)] pl_X9 rfl (Nat.le_of_ble_eq_true rfl) ?_
  refine x_iload_n dX9_has_0 rfl ?_
  refine x_iload_n dX9_has_1 rfl ?_
  refine x_ishr dX9_has_2 ?_
  refine x_iconst dX9_has_3 1 rfl ?_
  refine x_iand dX9_has_4 ?_
  refine x_iconst dX9_has_5 1 rfl ?_
  refine x_icmp_ne 13 dX9_has_6 rfl (fun c1 => ?_) (fun c1 => ?_)
  · refine x_iconst dX9_has_13 0 rfl ?_
    exact x_zreturn dX9_has_14 rfl rfl (xr0 (by simp [bt, c1]))
  · refine x_iconst dX9_has_9 1 rfl ?_
    refine x_goto 14 dX9_has_10 rfl ?_
    exact x_zreturn dX9_has_14 rfl rfl (xr1 (by simp [bt, c1]))
def isDg (c : Int32) : Bool := decide (48 ≤ c ∧ c ≤ 57)
def isSm (c : Int32) : Bool := decide (97 ≤ c ∧ c ≤ 122)
theorem c_isDigit (c : Int32) : xMet G d 0 0 m_X9_isDigit [.int c] h (xI (.int (b2 (isDg c))) h) := by
  refine xMet.of [some (.int c)] pl_X9 rfl (Nat.le_of_ble_eq_true rfl) ?_
  refine x_iload_n dX9_isDigit_0 rfl ?_
  refine x_bipush dX9_isDigit_1 48 (by decide) ?_
  refine x_icmp_lt 16 dX9_isDigit_3 rfl (fun c1 => ?_) (fun c1 => ?_)
  · refine x_iconst dX9_isDigit_16 0 rfl ?_
    exact x_zreturn dX9_isDigit_17 rfl rfl (xr0 (by simp [isDg, ltn c1]))
  · refine x_iload_n dX9_isDigit_6 rfl ?_
    refine x_bipush dX9_isDigit_7 57 (by decide) ?_
    refine x_icmp_gt 16 dX9_isDigit_9 rfl (fun c2 => ?_) (fun c2 => ?_)
    · refine x_iconst dX9_isDigit_16 0 rfl ?_
      exact x_zreturn dX9_isDigit_17 rfl rfl (xr0 (by simp [isDg, ltn c2]))
    · refine x_iconst dX9_isDigit_12 1 rfl ?_
      refine x_goto 17 dX9_isDigit_13 rfl ?_
      exact x_zreturn dX9_isDigit_17 rfl rfl (xr1 (by simp [isDg, nlt c1, nlt c2]))
theorem c_isSmall (c : Int32) : xMet G d 0 0 m_X9_isSmall [.int c] h (xI (.int (b2 (isSm c))) h) := by
  refine xMet.of [some (.int c)] pl_X9 rfl (Nat.le_of_ble_eq_true rfl) ?_
  refine x_iload_n dX9_isSmall_0 rfl ?_
  refine x_bipush dX9_isSmall_1 97 (by decide) ?_
  refine x_icmp_lt 16 dX9_isSmall_3 rfl (fun c1 => ?_) (fun c1 => ?_)
  · refine x_iconst dX9_isSmall_16 0 rfl ?_
    exact x_zreturn dX9_isSmall_17 rfl rfl (xr0 (by simp [isSm, ltn c1]))
  · refine x_iload_n dX9_isSmall_6 rfl ?_
    refine x_bipush dX9_isSmall_7 122 (by decide) ?_
    refine x_icmp_gt 16 dX9_isSmall_9 rfl (fun c2 => ?_) (fun c2 => ?_)
    · refine x_iconst dX9_isSmall_16 0 rfl ?_
      exact x_zreturn dX9_isSmall_17 rfl rfl (xr0 (by simp [isSm, ltn c2]))
    · refine x_iconst dX9_isSmall_12 1 rfl ?_
      refine x_goto 17 dX9_isSmall_13 rfl ?_
      exact x_zreturn dX9_isSmall_17 rfl rfl (xr1 (by simp [isSm, nlt c1, nlt c2]))
variable {T0 : Nat} {s : tS}
theorem c_thrown : xMet G d 0 0 m_X9_thrown [.ref T0] (tw T0 h s) (xI (.int (s.1 0)) (tw T0 h s)) := by
  refine xMet.of [some (.ref T0)] pl_X9 rfl (Nat.le_of_ble_eq_true rfl) ?_
  refine x_aload_n dX9_thrown_0 rfl ?_
  refine t_gi dX9_thrown_1 f_X9_92_27 (by decide) rfl (by decide) rfl ?_
  exact x_ireturn dX9_thrown_4 rfl ⟨rfl, rfl⟩
/-- a fault is noted once -/
def sWr (s : tS) (k p : Int32) : tS := if s.1 5 = 0 then seti (seti s 5 k) 6 p else s
theorem c_wrong (hb : G.2.2.1 ≤ T0) (k p : Int32) : xMet G d 0 0 m_X9_wrong [.ref T0, .int k, .int p] (tw T0 h s) (xU (tw T0 h (sWr s k p))) := by
  refine xMet.of [some (.ref T0), some (.int k), some (.int p)] pl_X9 rfl (Nat.le_of_ble_eq_true rfl) ?_
  refine x_aload_n dX9_wrong_0 rfl ?_
  refine t_gi dX9_wrong_1 f_X9_108_27 (by decide) rfl (by decide) rfl ?_
  refine x_if_ne 17 dX9_wrong_4 rfl (fun c1 => ?_) (fun c1 => ?_)
  · exact x_return dX9_wrong_17 rfl ⟨rfl, by rw [sWr, if_neg c1]⟩
  · refine x_aload_n dX9_wrong_7 rfl ?_
    refine x_iload_n dX9_wrong_8 rfl ?_
    refine t_pi dX9_wrong_9 p_X9_108_27 rfl (by decide) hb ?_
    refine x_aload_n dX9_wrong_12 rfl ?_
    refine x_iload_n dX9_wrong_13 rfl ?_
    refine t_pi dX9_wrong_14 p_X9_111_27 rfl (by decide) hb ?_
    exact x_return dX9_wrong_17 rfl ⟨rfl, by rw [sWr, if_pos c1]⟩
/-- refused: what, and for which reason -/
def sBad (s : tS) (is : Bool) (w : Int32) (r : Nat) : tS := if is = true ∧ s.1 0 = 0 then seta (seti s 0 w) 2 ((s.2.2 2).set r ((s.2.2 2).getD r 0 + 1)) else s
theorem c_bad (hs : tOK s) (hb : G.2.2.1 ≤ T0) (is : Bool) (w : Int32) (r : Nat) (hr : r < 2) : xMet G d 0 0 m_X9_bad [.ref T0, .int (b2 is), .int w, .int (nI r)] (tw T0 h s) (xI (.int (b2 (decide (¬ (sBad s is w r).1 0 = 0)))) (tw T0 h (sBad s is w r))) := by
  refine xMet.of [some (.ref T0), some (.int (b2 is)), some (.int w), some (.int (nI r))] pl_X9 rfl (Nat.le_of_ble_eq_true rfl) ?_
  have fin : xRun G m_X9_bad d 0 0 26 [some (.ref T0), some (.int (b2 is)), some (.int w), some (.int (nI r))] [] (tw T0 h (sBad s is w r)) (xI (.int (b2 (decide (¬ (sBad s is w r).1 0 = 0)))) (tw T0 h (sBad s is w r))) := by
    refine x_aload_n dX9_bad_26 rfl ?_
    refine t_gi dX9_bad_27 f_X9_92_27 (by decide) rfl (by decide) rfl ?_
    refine x_if_eq 37 dX9_bad_30 rfl (fun c1 => ?_) (fun c1 => ?_)
    · refine x_iconst dX9_bad_37 0 rfl ?_
      exact x_zreturn dX9_bad_38 rfl rfl (xr0 (by simp [c1]))
    · refine x_iconst dX9_bad_33 1 rfl ?_
      refine x_goto 38 dX9_bad_34 rfl ?_
      exact x_zreturn dX9_bad_38 rfl rfl (xr1 (by simp [c1]))
  refine x_iload_n dX9_bad_0 rfl ?_
  refine x_if_eq 26 dX9_bad_1 rfl (fun c1 => ?_) (fun c1 => ?_)
  · have e : sBad s is w r = s := by
      cases is
      · simp [sBad]
      · exact absurd c1 (by decide)
    rw [e] at fin ⊢
    exact fin
  · refine x_aload_n dX9_bad_4 rfl ?_
    refine t_gi dX9_bad_5 f_X9_92_27 (by decide) rfl (by decide) rfl ?_
    refine x_if_ne 26 dX9_bad_8 rfl (fun c2 => ?_) (fun c2 => ?_)
    · have e : sBad s is w r = s := by simp [sBad, c2]
      rw [e] at fin ⊢
      exact fin
    · have e : sBad s is w r = seta (seti s 0 w) 2 ((s.2.2 2).set r ((s.2.2 2).getD r 0 + 1)) := by
        cases is
        · exact absurd rfl c1
        · simp [sBad, c2]
      rw [e] at fin ⊢
      refine x_aload_n dX9_bad_11 rfl ?_
      refine x_iload_n dX9_bad_12 rfl ?_
      refine t_pi dX9_bad_13 p_X9_92_27 rfl (by decide) hb ?_
      refine x_aload_n dX9_bad_16 rfl ?_
      refine t_ga 2 dX9_bad_17 f_X9_17_27 (by decide) rfl (by decide) ?_
      refine x_iload_n dX9_bad_20 rfl ?_
      refine x_dup2 dX9_bad_21 rfl rfl ?_
      refine t_ia r dX9_bad_22 (seti_ok hs) (by decide) rfl hr rfl ?_
      refine x_at 23 rfl ?_
      refine x_iconst dX9_bad_23 1 rfl ?_
      refine x_iadd dX9_bad_24 ?_
      refine t_is r dX9_bad_25 (seti_ok hs) (by decide) rfl hr hb ?_
      exact fin
end TA
