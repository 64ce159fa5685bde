set_option maxRecDepth 100000
/-! ===== the twin, 3: numbers, words, signs ===== -/
theorem dig_step {v c : Nat} (hc : 48 ≤ c) : (10 : Int32) * nI v + nI c - 48 = nI (10 * v + (c - 48)) := by
  rw [show (10 : Int32) = nI 10 from rfl, pk_mul, nI_add, show (48 : Int32) = nI 48 from rfl, pk_sub (by omega)]
  congr 1
  omega
theorem nodg {s : tS} {t : List Nat} {k : Nat} (ht : tTx s t) (h : k < t.length → isDgN (t.getD k 0) = false) : isDg (tb t k) = false := by
  cases h1 : isDg (tb t k) with
  | false => rfl
  | true =>
    have h2 := (tb_dg ht.2.2.2).mp h1
    rw [h h2.1] at h2
    cases h2.2
theorem nosm {s : tS} {t : List Nat} {k : Nat} (ht : tTx s t) (h : k < t.length → isSmN (t.getD k 0) = false) : isSm (tb t k) = false := by
  cases h1 : isSm (tb t k) with
  | false => rfl
  | true =>
    have h2 := (tb_sm ht.2.2.2).mp h1
    rw [h h2.1] at h2
    cases h2.2
section TN
variable {G : xG} {d : Nat} {h : xH} {T0 : Nat} {s : tS} {t : List Nat}
set_option maxHeartbeats 1000000 in
theorem number_loop (hs : tOK s) (ht : tTx s t) (hb : G.2.2.1 ≤ T0) {Q : xQ} {e : Option (Nat × Nat)} {x1 x2 x3 : Option Value} (n3 : xnl x3 = true) : ∀ k v, v ≤ 100000 → xRun G m_X9_number (d + 1) 0 0 106 [some (.ref T0), x1, x2, x3, some (.int (nI (vF t k v)))] [] (tw T0 h (pst s (sc isDgN t k) e)) Q → k ≤ 600 → xRun G m_X9_number (d + 1) 0 0 44 [some (.ref T0), x1, x2, x3, some (.int (nI v))] [] (tw T0 h (pst s k e)) Q := by
  refine scan_ind _ isDgN t ?_ ?_
  · intro k h1 h2 ih v hv
    rw [sc_y h1 h2, vF_y h1 h2]
    intro hQ hk
    have hc : 48 ≤ t.getD k 0 ∧ t.getD k 0 ≤ 57 := by simpa [isDgN] using h2
    refine x_aload_n dX9_number_44 rfl ?_
    refine x_aload_n dX9_number_45 rfl ?_
    refine t_gi dX9_number_46 f_X9_101_27 (by decide) rfl (by decide) pst4 ?_
    refine xiV1 dX9_number_49 v_X9_104_27 tw_get0 (Nat.le_of_ble_eq_true rfl) (c_byteAt (pst_ok hs) (pst_tx ht) k (by omega)) ?_
    refine xiS1 dX9_number_52 s_X9_117 (Nat.le_of_ble_eq_true rfl) (c_isDigit _) ?_
    refine x_if_eq 106 dX9_number_55 rfl (fun hc9 => absurd hc9 (b2_ne.mpr ((tb_dg ht.2.2.2).mpr ⟨h1, h2⟩))) (fun _ => ?_)
    refine x_bipush dX9_number_58 10 (by decide) ?_
    refine x_iload dX9_number_60 rfl ?_
    refine x_at 62 rfl ?_
    refine x_imul dX9_number_62 ?_
    refine x_aload_n dX9_number_63 rfl ?_
    refine x_aload_n dX9_number_64 rfl ?_
    refine t_gi dX9_number_65 f_X9_101_27 (by decide) rfl (by decide) pst4 ?_
    refine xiV1 dX9_number_68 v_X9_104_27 tw_get0 (Nat.le_of_ble_eq_true rfl) (c_byteAt (pst_ok hs) (pst_tx ht) k (by omega)) ?_
    refine x_iadd dX9_number_71 ?_
    refine x_bipush dX9_number_72 48 (by decide) ?_
    refine x_isub dX9_number_74 ?_
    refine x_at 75 rfl ?_
    rw [tb_in h1, dig_step hc.1]
    refine xsi4 dX9_number_75 (by decide) n3 ?_
    refine x_iload dX9_number_77 rfl ?_
    refine x_ldc dX9_number_79 100000 q2173 ?_
    have hfin : xRun G m_X9_number (d + 1) 0 0 91 [some (.ref T0), x1, x2, x3, some (.int (nI (10 * v + (t.getD k 0 - 48))))] [.int (nI (min (10 * v + (t.getD k 0 - 48)) 100000))] (tw T0 h (pst s k e)) Q := by
      refine xsi4 dX9_number_91 (by decide) n3 ?_
      refine x_aload_n dX9_number_93 rfl ?_
      refine x_dup dX9_number_94 rfl ?_
      refine t_gi dX9_number_95 f_X9_101_27 (by decide) rfl (by decide) pst4 ?_
      refine x_iconst dX9_number_98 1 rfl ?_
      refine x_iadd dX9_number_99 ?_
      refine t_pi dX9_number_100 p_X9_101_27 rfl (by decide) hb ?_
      rw [pst_inc]
      refine x_goto 44 dX9_number_103 rfl ?_
      exact ih _ (Nat.min_le_right _ _) hQ (by have := ht.2.1; omega)
    refine x_icmp_le 89 dX9_number_81 rfl (fun c1 => ?_) (fun c1 => ?_)
    · have c2 : 10 * v + (t.getD k 0 - 48) ≤ 100000 := (nI_leI (b := 100000) (by omega) (by decide)).mp c1
      rw [Nat.min_eq_left c2] at hfin
      refine x_iload dX9_number_89 rfl ?_
      exact hfin
    · have c2 : ¬ 10 * v + (t.getD k 0 - 48) ≤ 100000 := fun q => c1 ((nI_leI (b := 100000) (by omega) (by decide)).mpr q)
      rw [Nat.min_eq_right (by omega)] at hfin
      refine x_ldc dX9_number_84 (100000) q2173 ?_
      refine x_goto 91 dX9_number_86 rfl ?_
      exact hfin
  · intro k h1 v hv
    rw [sc_n h1, vF_n h1]
    intro hQ hk
    refine x_aload_n dX9_number_44 rfl ?_
    refine x_aload_n dX9_number_45 rfl ?_
    refine t_gi dX9_number_46 f_X9_101_27 (by decide) rfl (by decide) pst4 ?_
    refine xiV1 dX9_number_49 v_X9_104_27 tw_get0 (Nat.le_of_ble_eq_true rfl) (c_byteAt (pst_ok hs) (pst_tx ht) k (by omega)) ?_
    refine xiS1 dX9_number_52 s_X9_117 (Nat.le_of_ble_eq_true rfl) (c_isDigit _) ?_
    refine x_if_eq 106 dX9_number_55 rfl (fun _ => ?_) (fun hc9 => absurd (b2_eq.mpr (nodg ht h1)) hc9)
    exact hQ
theorem nE_dg {t : List Nat} {k : Nat} {lo hi : Int32} (h : sc isB t k < t.length ∧ isDgN (t.getD (sc isB t k) 0) = true) : nE t k lo hi = if lo ≤ nI (nV t k) ∧ nI (nV t k) ≤ hi then none else some (1, sc isB t k) := if_pos h
theorem nE_nd {t : List Nat} {k : Nat} {lo hi : Int32} (h : ¬ (sc isB t k < t.length ∧ isDgN (t.getD (sc isB t k) 0) = true)) : nE t k lo hi = some (0, sc isB t k) := if_neg h
set_option maxHeartbeats 1000000 in
theorem c_number (hs : tOK s) (ht : tTx s t) (hb : G.2.2.1 ≤ T0) (k : Nat) (hk : k ≤ t.length) (lo hi : Int32) : xMet G (d + 2) 0 0 m_X9_number [.ref T0, .int lo, .int hi] (tw T0 h (pst s k none)) (xI (.int (if nE t k lo hi = none then nI (nV t k) else 0)) (tw T0 h (pst s (nK t k) (nE t k lo hi)))) := by
  refine xMet.of [some (.ref T0), some (.int lo), some (.int hi), none, none] pl_X9 rfl (Nat.le_of_ble_eq_true rfl) ?_
  have h6 := ht.2.1
  have hb6 : sc isB t k ≤ t.length := sc_le hk
  have fin : ∀ e, xRun G m_X9_number (d + 2) 0 0 122 [some (.ref T0), some (.int lo), some (.int hi), some (.int (nI (sc isB t k))), some (.int (nI (nV t k)))] [] (tw T0 h (pst s (nK t k) e)) (xI (.int (if e = none then nI (nV t k) else 0)) (tw T0 h (pst s (nK t k) e))) := by
    intro e
    refine x_aload_n dX9_number_122 rfl ?_
    refine t_gi dX9_number_123 f_X9_108_27 (by decide) rfl (by decide) pst5 ?_
    refine x_if_ne 134 dX9_number_126 rfl (fun c1 => ?_) (fun c1 => ?_)
    · refine x_iconst dX9_number_134 0 rfl ?_
      exact x_ireturn dX9_number_135 rfl (xrv (by rw [if_neg (fun q => c1 (pf_iff.mpr q))]))
    · refine x_iload dX9_number_129 rfl ?_
      refine x_goto 135 dX9_number_131 rfl ?_
      exact x_ireturn dX9_number_135 rfl (xrv (by rw [if_pos (pf_iff.mp c1)]))
  have mid : ∀ e, xRun G m_X9_number (d + 2) 0 0 106 [some (.ref T0), some (.int lo), some (.int hi), some (.int (nI (sc isB t k))), some (.int (nI (nV t k)))] [] (tw T0 h (pst s (nK t k) e)) (xI (.int (if (if lo ≤ nI (nV t k) ∧ nI (nV t k) ≤ hi then e else wr e 1 (sc isB t k)) = none then nI (nV t k) else 0)) (tw T0 h (pst s (nK t k) (if lo ≤ nI (nV t k) ∧ nI (nV t k) ≤ hi then e else wr e 1 (sc isB t k))))) := by
    intro e
    refine x_iload dX9_number_106 rfl ?_
    refine x_iload_n dX9_number_108 rfl ?_
    refine x_iload_n dX9_number_109 rfl ?_
    refine xiS3 dX9_number_110 s_X9_126 (Nat.le_of_ble_eq_true rfl) (c_in _ _ _) ?_
    refine x_if_ne 122 dX9_number_113 rfl (fun c1 => ?_) (fun c1 => ?_)
    · have c2 : lo ≤ nI (nV t k) ∧ nI (nV t k) ≤ hi := by simpa using b2_ne.mp c1
      rw [if_pos c2]
      exact fin e
    · have c2 : ¬ (lo ≤ nI (nV t k) ∧ nI (nV t k) ≤ hi) := by simpa using b2_eq.mp c1
      rw [if_neg c2]
      refine x_aload_n dX9_number_116 rfl ?_
      refine x_iconst dX9_number_117 2 rfl ?_
      refine x_iload_n dX9_number_118 rfl ?_
      refine xuV2 dX9_number_119 v_X9_121_27 tw_get0 (Nat.le_of_ble_eq_true rfl) (c_wrongP hb (e := e) 1 (sc isB t k)) ?_
      exact fin _
  refine x_aload_n dX9_number_0 rfl ?_
  refine t_gi dX9_number_1 f_X9_108_27 (by decide) rfl (by decide) pst5 ?_
  refine x_if_eq 9 dX9_number_4 rfl (fun _ => ?_) (fun hc9 => absurd (rfl) hc9)
  refine x_aload_n dX9_number_9 rfl ?_
  refine xuV0 dX9_number_10 v_X9_114_27 tw_get0 (Nat.le_of_ble_eq_true rfl) (c_blanks hs ht hb k (by omega)) ?_
  refine x_aload_n dX9_number_13 rfl ?_
  refine t_gi dX9_number_14 f_X9_101_27 (by decide) rfl (by decide) pst4 ?_
  refine xsi3 dX9_number_17 (by decide) rfl ?_
  refine x_at 18 rfl ?_
  refine x_iconst dX9_number_18 0 rfl ?_
  refine xsi4 dX9_number_19 (by decide) rfl ?_
  refine x_aload_n dX9_number_21 rfl ?_
  refine x_aload_n dX9_number_22 rfl ?_
  refine t_gi dX9_number_23 f_X9_101_27 (by decide) rfl (by decide) pst4 ?_
  refine xiV1 dX9_number_26 v_X9_104_27 tw_get0 (Nat.le_of_ble_eq_true rfl) (c_byteAt (pst_ok hs) (pst_tx ht) (sc isB t k) (by omega)) ?_
  refine xiS1 dX9_number_29 s_X9_117 (Nat.le_of_ble_eq_true rfl) (c_isDigit _) ?_
  refine x_if_ne 44 dX9_number_32 rfl (fun c1 => ?_) (fun c1 => ?_)
  · have c2 := (tb_dg ht.2.2.2).mp (b2_ne.mp c1)
    refine number_loop hs ht hb rfl (sc isB t k) 0 (by omega) ?_ (by omega)
    have h9 := mid none
    rw [nE_dg c2]
    exact h9
  · have c2 : ¬ (sc isB t k < t.length ∧ isDgN (t.getD (sc isB t k) 0) = true) := fun q => by
      have := (tb_dg ht.2.2.2).mpr q
      rw [b2_eq.mp c1] at this
      cases this
    refine x_aload_n dX9_number_35 rfl ?_
    refine x_iconst dX9_number_36 1 rfl ?_
    refine x_aload_n dX9_number_37 rfl ?_
    refine t_gi dX9_number_38 f_X9_101_27 (by decide) rfl (by decide) pst4 ?_
    refine xuV2 dX9_number_41 v_X9_121_27 tw_get0 (Nat.le_of_ble_eq_true rfl) (c_wrongP hb (e := none) 0 (sc isB t k)) ?_
    refine number_loop hs ht hb rfl (sc isB t k) 0 (by omega) ?_ (by omega)
    have h9 := mid (wr none 0 (sc isB t k))
    rw [nE_nd c2]
    have e9 : (if lo ≤ nI (nV t k) ∧ nI (nV t k) ≤ hi then wr none 0 (sc isB t k) else wr (wr none 0 (sc isB t k)) 1 (sc isB t k)) = some (0, sc isB t k) := by
      split <;> rfl
    rw [e9] at h9
    exact h9
theorem c_numberF {k : Nat} (q : Nat × Nat) (lo hi : Int32) : xMet G d 0 0 m_X9_number [.ref T0, .int lo, .int hi] (tw T0 h (pst s k (some q))) (xI (.int 0) (tw T0 h (pst s k (some q)))) := by
  refine xMet.of [some (.ref T0), some (.int lo), some (.int hi), none, none] pl_X9 rfl (Nat.le_of_ble_eq_true rfl) ?_
  refine x_aload_n dX9_number_0 rfl ?_
  refine t_gi dX9_number_1 f_X9_108_27 (by decide) rfl (by decide) pst5 ?_
  refine x_if_eq 9 dX9_number_4 rfl (fun hc9 => absurd hc9 (pf_ne q)) (fun _ => ?_)
  refine x_iconst dX9_number_7 0 rfl ?_
  exact x_ireturn dX9_number_8 rfl ⟨rfl, rfl⟩
/-- six letters by 27s -/
def sx (v e : Int32) : Int32 := if e = 0 then v else 27 * v + e
def sixv (a b c d e f : Int32) : Int32 := sx (sx (sx (27 * (27 * a + b) + c) d) e) f
theorem c_six (a b c e f g : Int32) : xMet G d 0 0 m_X9_six [.int a, .int b, .int c, .int e, .int f, .int g] h (xI (.int (sixv a b c e f g)) h) := by
  refine xMet.of [some (.int a), some (.int b), some (.int c), some (.int e), some (.int f), some (.int g), none] pl_X9 rfl (Nat.le_of_ble_eq_true rfl) ?_
  have p3 : ∀ v : Int32, xRun G m_X9_six d 0 0 51 [some (.int a), some (.int b), some (.int c), some (.int e), some (.int f), some (.int g), some (.int v)] [] h (xI (.int (sx v g)) h) := by
    intro v
    refine x_iload dX9_six_51 rfl ?_
    refine x_if_ne 61 dX9_six_53 rfl (fun c1 => ?_) (fun c1 => ?_)
    · refine x_bipush dX9_six_61 27 (by decide) ?_
      refine x_iload dX9_six_63 rfl ?_
      refine x_imul dX9_six_65 ?_
      refine x_iload dX9_six_66 rfl ?_
      refine x_iadd dX9_six_68 ?_
      exact x_ireturn dX9_six_69 rfl (xrv (by rw [sx, if_neg c1]))
    · refine x_iload dX9_six_56 rfl ?_
      refine x_goto 69 dX9_six_58 rfl ?_
      exact x_ireturn dX9_six_69 rfl (xrv (by rw [sx, if_pos c1]))
  have p2 : ∀ v : Int32, xRun G m_X9_six d 0 0 31 [some (.int a), some (.int b), some (.int c), some (.int e), some (.int f), some (.int g), some (.int v)] [] h (xI (.int (sx (sx v f) g)) h) := by
    intro v
    refine x_iload dX9_six_31 rfl ?_
    refine x_if_ne 41 dX9_six_33 rfl (fun c1 => ?_) (fun c1 => ?_)
    · rw [show sx v f = 27 * v + f from if_neg c1]
      refine x_bipush dX9_six_41 27 (by decide) ?_
      refine x_iload dX9_six_43 rfl ?_
      refine x_imul dX9_six_45 ?_
      refine x_iload dX9_six_46 rfl ?_
      refine x_iadd dX9_six_48 ?_
      refine xsi6 dX9_six_49 (by decide) rfl ?_
      exact p3 _
    · rw [show sx v f = v from if_pos c1]
      refine x_iload dX9_six_36 rfl ?_
      refine x_goto 49 dX9_six_38 rfl ?_
      refine xsi6 dX9_six_49 (by decide) rfl ?_
      exact p3 _
  refine x_bipush dX9_six_0 27 (by decide) ?_
  refine x_bipush dX9_six_2 27 (by decide) ?_
  refine x_iload_n dX9_six_4 rfl ?_
  refine x_imul dX9_six_5 ?_
  refine x_iload_n dX9_six_6 rfl ?_
  refine x_iadd dX9_six_7 ?_
  refine x_imul dX9_six_8 ?_
  refine x_iload_n dX9_six_9 rfl ?_
  refine x_at 10 rfl ?_
  refine x_iadd dX9_six_10 ?_
  refine xsi6 dX9_six_11 (by decide) rfl ?_
  refine x_iload_n dX9_six_13 rfl ?_
  refine x_if_ne 22 dX9_six_14 rfl (fun c1 => ?_) (fun c1 => ?_)
  · rw [sixv, show sx (27 * (27 * a + b) + c) e = 27 * (27 * (27 * a + b) + c) + e from if_neg c1]
    refine x_bipush dX9_six_22 27 (by decide) ?_
    refine x_iload dX9_six_24 rfl ?_
    refine x_imul dX9_six_26 ?_
    refine x_iload_n dX9_six_27 rfl ?_
    refine x_iadd dX9_six_28 ?_
    refine xsi6 dX9_six_29 (by decide) rfl ?_
    exact p2 _
  · rw [sixv, show sx (27 * (27 * a + b) + c) e = 27 * (27 * a + b) + c from if_pos c1]
    refine x_iload dX9_six_17 rfl ?_
    refine x_goto 29 dX9_six_19 rfl ?_
    refine xsi6 dX9_six_29 (by decide) rfl ?_
    exact p2 _
theorem c_skipWord (hs : tOK s) (ht : tTx s t) (hb : G.2.2.1 ≤ T0) {e : Option (Nat × Nat)} (k : Nat) (hk : k ≤ 600) : xMet G (d + 1) 0 0 m_X9_skipWord [.ref T0] (tw T0 h (pst s k e)) (xU (tw T0 h (pst s (sc isSmN t k) e))) := by
  refine xMet.of [some (.ref T0)] pl_X9 rfl (Nat.le_of_ble_eq_true rfl) ?_
  revert hk
  refine scan_ind (fun k => k ≤ 600 → xRun G m_X9_skipWord (d + 1) 0 0 0 [some (.ref T0)] [] (tw T0 h (pst s k e)) (xU (tw T0 h (pst s (sc isSmN t k) e)))) isSmN t ?_ ?_ k
  · intro k h1 h2 ih hk
    rw [sc_y h1 h2]
    refine x_aload_n dX9_skipWord_0 rfl ?_
    refine x_aload_n dX9_skipWord_1 rfl ?_
    refine t_gi dX9_skipWord_2 f_X9_101_27 (by decide) rfl (by decide) pst4 ?_
    refine xiV1 dX9_skipWord_5 v_X9_104_27 tw_get0 (Nat.le_of_ble_eq_true rfl) (c_byteAt (pst_ok hs) (pst_tx ht) k (by omega)) ?_
    refine xiS1 dX9_skipWord_8 s_X9_130 (Nat.le_of_ble_eq_true rfl) (c_isSmall _) ?_
    refine x_if_eq 27 dX9_skipWord_11 rfl (fun hc9 => absurd hc9 (b2_ne.mpr ((tb_sm ht.2.2.2).mpr ⟨h1, h2⟩))) (fun _ => ?_)
    refine x_aload_n dX9_skipWord_14 rfl ?_
    refine x_dup dX9_skipWord_15 rfl ?_
    refine x_at 16 rfl ?_
    refine t_gi dX9_skipWord_16 f_X9_101_27 (by decide) rfl (by decide) pst4 ?_
    refine x_iconst dX9_skipWord_19 1 rfl ?_
    refine x_iadd dX9_skipWord_20 ?_
    refine t_pi dX9_skipWord_21 p_X9_101_27 rfl (by decide) hb ?_
    rw [pst_inc]
    refine x_goto 0 dX9_skipWord_24 rfl ?_
    exact ih (by have := ht.2.1; omega)
  · intro k h1 hk
    rw [sc_n h1]
    refine x_aload_n dX9_skipWord_0 rfl ?_
    refine x_aload_n dX9_skipWord_1 rfl ?_
    refine t_gi dX9_skipWord_2 f_X9_101_27 (by decide) rfl (by decide) pst4 ?_
    refine xiV1 dX9_skipWord_5 v_X9_104_27 tw_get0 (Nat.le_of_ble_eq_true rfl) (c_byteAt (pst_ok hs) (pst_tx ht) k (by omega)) ?_
    refine xiS1 dX9_skipWord_8 s_X9_130 (Nat.le_of_ble_eq_true rfl) (c_isSmall _) ?_
    refine x_if_eq 27 dX9_skipWord_11 rfl (fun _ => ?_) (fun hc9 => absurd (b2_eq.mpr (nosm ht h1)) hc9)
    exact x_return dX9_skipWord_27 rfl ⟨rfl, rfl⟩
/-- the word at a place -/
def wl (t : List Nat) (k : Nat) : List Nat := tk isSmN t (sc isB t k)
def wv (l : List Nat) : Int32 := if l.length ≤ 6 then nI (wpk l) else -1
/-- letters by 27s, but the first six alone -/
def af (n v : Nat) (l : List Nat) : Nat × Nat := l.foldl (fun (p : Nat × Nat) c => (p.1 + 1, if p.1 < 6 then 27 * p.2 + (c - 96) else p.2)) (n, v)
theorem af_len (l : List Nat) : ∀ n v, (af n v l).1 = n + l.length := by
  induction l with
  | nil => intro n v; rfl
  | cons c l ih =>
    intro n v
    show (af (n + 1) _ l).1 = _
    rw [ih, List.length_cons]
    omega
theorem af_val (l : List Nat) : ∀ n v, (af n v l).2 = (l.take (6 - n)).foldl (fun v c => 27 * v + (c - 96)) v := by
  induction l with
  | nil => intro n v; simp [af]
  | cons c l ih =>
    intro n v
    show (af (n + 1) (if n < 6 then 27 * v + (c - 96) else v) l).2 = _
    rw [ih]
    by_cases hn : n < 6
    · rw [if_pos hn, show 6 - n = (6 - (n + 1)) + 1 by omega, List.take_succ_cons, List.foldl_cons]
    · rw [if_neg hn, show 6 - n = 0 by omega, show 6 - (n + 1) = 0 by omega]
      rfl
theorem let_step {v c : Nat} (hc : 97 ≤ c) : (27 : Int32) * nI v + nI c - 97 + 1 = nI (27 * v + (c - 96)) := by
  rw [show (27 : Int32) = nI 27 from rfl, pk_mul, nI_add, show (97 : Int32) = nI 97 from rfl, pk_sub (by omega), nI_1]
  congr 1
  omega
set_option maxHeartbeats 1000000 in
theorem word_loop (hs : tOK s) (ht : tTx s t) (hb : G.2.2.1 ≤ T0) {Q : xQ} {e : Option (Nat × Nat)} (b : Nat) : ∀ q n v, q = b + n → xRun G m_X9_wordHere (d + 1) 0 0 61 [some (.ref T0), some (.int (nI (af n v (tk isSmN t q)).2)), some (.int (nI (af n v (tk isSmN t q)).1))] [] (tw T0 h (pst s b e)) Q → q ≤ 600 → xRun G m_X9_wordHere (d + 1) 0 0 8 [some (.ref T0), some (.int (nI v)), some (.int (nI n))] [] (tw T0 h (pst s b e)) Q := by
  refine scan_ind _ isSmN t ?_ ?_
  · intro q h1 h2 ih n v hq
    rw [tk_y h1 h2]
    intro hQ hk
    have hc : 97 ≤ t.getD q 0 ∧ t.getD q 0 ≤ 122 := by simpa [isSmN] using h2
    have hfin : xRun G m_X9_wordHere (d + 1) 0 0 54 [some (.ref T0), some (.int (nI v)), some (.int (nI n))] [.int (nI (if n < 6 then 27 * v + (t.getD q 0 - 96) else v))] (tw T0 h (pst s b e)) Q := by
      refine xsi1 dX9_wordHere_54 (by decide) rfl ?_
      refine xinc2 _ dX9_wordHere_55 (by decide) rfl (nI_1 n) ?_
      refine x_goto 8 dX9_wordHere_58 rfl ?_
      exact ih (n + 1) _ (by omega) hQ (by have := ht.2.1; omega)
    refine x_aload_n dX9_wordHere_8 rfl ?_
    refine x_aload_n dX9_wordHere_9 rfl ?_
    refine t_gi dX9_wordHere_10 f_X9_101_27 (by decide) rfl (by decide) pst4 ?_
    refine x_iload_n dX9_wordHere_13 rfl ?_
    refine x_iadd dX9_wordHere_14 ?_
    rw [nI_add, ← hq]
    refine xiV1 dX9_wordHere_15 v_X9_104_27 tw_get0 (Nat.le_of_ble_eq_true rfl) (c_byteAt (pst_ok hs) (pst_tx ht) q (by omega)) ?_
    refine xiS1 dX9_wordHere_18 s_X9_130 (Nat.le_of_ble_eq_true rfl) (c_isSmall _) ?_
    refine x_if_eq 61 dX9_wordHere_21 rfl (fun hc9 => absurd hc9 (b2_ne.mpr ((tb_sm ht.2.2.2).mpr ⟨h1, h2⟩))) (fun _ => ?_)
    refine x_at 24 rfl ?_
    refine x_iload_n dX9_wordHere_24 rfl ?_
    refine x_bipush dX9_wordHere_25 6 (by decide) ?_
    refine x_icmp_ge 53 dX9_wordHere_27 rfl (fun c1 => ?_) (fun c1 => ?_)
    · have c2 : ¬ n < 6 := by
        have := (nI_leI (a := 6) (by decide) (by omega)).mp c1
        omega
      rw [if_neg c2] at hfin
      refine x_iload_n dX9_wordHere_53 rfl ?_
      exact hfin
    · have c2 : n < 6 := Nat.lt_of_not_le (fun q => c1 ((nI_leI (a := 6) (by decide) (by omega)).mpr q))
      rw [if_pos c2] at hfin
      refine x_bipush dX9_wordHere_30 27 (by decide) ?_
      refine x_iload_n dX9_wordHere_32 rfl ?_
      refine x_imul dX9_wordHere_33 ?_
      refine x_aload_n dX9_wordHere_34 rfl ?_
      refine x_aload_n dX9_wordHere_35 rfl ?_
      refine t_gi dX9_wordHere_36 f_X9_101_27 (by decide) rfl (by decide) pst4 ?_
      refine x_iload_n dX9_wordHere_39 rfl ?_
      refine x_iadd dX9_wordHere_40 ?_
      refine x_at 41 rfl ?_
      rw [nI_add, ← hq]
      refine xiV1 dX9_wordHere_41 v_X9_104_27 tw_get0 (Nat.le_of_ble_eq_true rfl) (c_byteAt (pst_ok hs) (pst_tx ht) q (by omega)) ?_
      refine x_iadd dX9_wordHere_44 ?_
      refine x_bipush dX9_wordHere_45 97 (by decide) ?_
      refine x_isub dX9_wordHere_47 ?_
      refine x_iconst dX9_wordHere_48 1 rfl ?_
      refine x_iadd dX9_wordHere_49 ?_
      refine x_goto 54 dX9_wordHere_50 rfl ?_
      rw [tb_in h1, let_step hc.1]
      exact hfin
  · intro q h1 n v hq
    rw [tk_n h1]
    intro hQ hk
    refine x_aload_n dX9_wordHere_8 rfl ?_
    refine x_aload_n dX9_wordHere_9 rfl ?_
    refine t_gi dX9_wordHere_10 f_X9_101_27 (by decide) rfl (by decide) pst4 ?_
    refine x_iload_n dX9_wordHere_13 rfl ?_
    refine x_iadd dX9_wordHere_14 ?_
    rw [nI_add, ← hq]
    refine xiV1 dX9_wordHere_15 v_X9_104_27 tw_get0 (Nat.le_of_ble_eq_true rfl) (c_byteAt (pst_ok hs) (pst_tx ht) q (by omega)) ?_
    refine xiS1 dX9_wordHere_18 s_X9_130 (Nat.le_of_ble_eq_true rfl) (c_isSmall _) ?_
    refine x_if_eq 61 dX9_wordHere_21 rfl (fun _ => ?_) (fun hc9 => absurd (b2_eq.mpr (nosm ht h1)) hc9)
    exact hQ
theorem c_wordHere (hs : tOK s) (ht : tTx s t) (hb : G.2.2.1 ≤ T0) {e : Option (Nat × Nat)} (k : Nat) (hk : k ≤ t.length) : xMet G (d + 2) 0 0 m_X9_wordHere [.ref T0] (tw T0 h (pst s k e)) (xI (.int (wv (wl t k))) (tw T0 h (pst s (sc isB t k) e))) := by
  refine xMet.of [some (.ref T0), none, none] pl_X9 rfl (Nat.le_of_ble_eq_true rfl) ?_
  have h6 := ht.2.1
  have hb6 : sc isB t k ≤ t.length := sc_le hk
  have hl6 : (wl t k).length ≤ 600 := by
    have := @tk_len isSmN t (sc isB t k)
    unfold wl
    omega
  refine x_aload_n dX9_wordHere_0 rfl ?_
  refine xuV0 dX9_wordHere_1 v_X9_114_27 tw_get0 (Nat.le_of_ble_eq_true rfl) (c_blanks hs ht hb k (by omega)) ?_
  refine x_iconst dX9_wordHere_4 0 rfl ?_
  refine xsi1 dX9_wordHere_5 (by decide) rfl ?_
  refine x_iconst dX9_wordHere_6 0 rfl ?_
  refine xsi2 dX9_wordHere_7 (by decide) rfl ?_
  refine word_loop hs ht hb (sc isB t k) (sc isB t k) 0 0 rfl ?_ (by omega)
  rw [af_len, af_val]
  rw [Nat.zero_add]
  refine x_iload_n dX9_wordHere_61 rfl ?_
  refine x_bipush dX9_wordHere_62 6 (by decide) ?_
  refine x_icmp_le 71 dX9_wordHere_64 rfl (fun c1 => ?_) (fun c1 => ?_)
  · have c2 : (wl t k).length ≤ 6 := (nI_leI (b := 6) (by omega) (by decide)).mp c1
    refine x_iload_n dX9_wordHere_71 rfl ?_
    refine x_ireturn dX9_wordHere_72 rfl (xrv ?_)
    rw [wv, if_pos c2]
    show nI (((wl t k).take 6).foldl _ 0) = _
    rw [List.take_of_length_le c2]
    rfl
  · have c2 : ¬ (wl t k).length ≤ 6 := fun q => c1 ((nI_leI (a := (wl t k).length) (b := 6) (by omega) (by decide)).mpr q)
    refine x_iconst dX9_wordHere_67 (-1) rfl ?_
    refine x_goto 72 dX9_wordHere_68 rfl ?_
    refine x_ireturn dX9_wordHere_72 rfl (xrv ?_)
    rw [wv, if_neg c2]
theorem wv_eq {l w : List Nat} (hl : ∀ c ∈ l, isSmN c = true) (h6 : l.length ≤ 6) (hw : ∀ c ∈ w, isSmN c = true) : wv w = nI (wpk l) ↔ w = l := by
  have b1 : wpk l < 2 ^ 31 := Nat.lt_of_lt_of_le (wpk_lt 6 l hl h6) (by decide)
  unfold wv
  by_cases h : w.length ≤ 6
  · have b2 : wpk w < 2 ^ 31 := Nat.lt_of_lt_of_le (wpk_lt 6 w hw h) (by decide)
    rw [if_pos h, nI_eq b2 b1]
    exact ⟨fun q => wpk_inj w.length w l (Nat.le_refl _) hw hl q, fun q => by rw [q]⟩
  · rw [if_neg h]
    refine ⟨fun q => ?_, fun q => absurd (q ▸ h6) h⟩
    have := nI_pos b1
    rw [← q] at this
    exact absurd (by decide) this
theorem c_isWord (hs : tOK s) (ht : tTx s t) (hb : G.2.2.1 ≤ T0) (k : Nat) (hk : k ≤ t.length) {a b c e f g : Int32} (l : List Nat) (hv : sixv a b c e f g = nI (wpk l)) (hl : l.all isSmN = true) (h6 : l.length ≤ 6) : xMet G (d + 3) 0 0 m_X9_isWord [.ref T0, .int a, .int b, .int c, .int e, .int f, .int g] (tw T0 h (pst s k none)) (xI (.int (b2 (decide (wl t k = l)))) (tw T0 h (pst s (sc isB t k) none))) := by
  refine xMet.of [some (.ref T0), some (.int a), some (.int b), some (.int c), some (.int e), some (.int f), some (.int g)] pl_X9 rfl (Nat.le_of_ble_eq_true rfl) ?_
  have key := wv_eq (w := wl t k) (List.all_eq_true.mp hl) h6 tk_all
  refine x_aload_n dX9_isWord_0 rfl ?_
  refine t_gi dX9_isWord_1 f_X9_108_27 (by decide) rfl (by decide) pst5 ?_
  refine x_if_ne 30 dX9_isWord_4 rfl (fun hc9 => absurd (rfl) hc9) (fun _ => ?_)
  refine x_aload_n dX9_isWord_7 rfl ?_
  refine xiV0 dX9_isWord_8 v_X9_133_27 tw_get0 (Nat.le_of_ble_eq_true rfl) (c_wordHere hs ht hb k hk) ?_
  refine x_iload_n dX9_isWord_11 rfl ?_
  refine x_iload_n dX9_isWord_12 rfl ?_
  refine x_iload_n dX9_isWord_13 rfl ?_
  refine x_at 14 rfl ?_
  refine x_iload dX9_isWord_14 rfl ?_
  refine x_iload dX9_isWord_16 rfl ?_
  refine x_iload dX9_isWord_18 rfl ?_
  refine xiS6 dX9_isWord_20 s_X9_137 (Nat.le_of_ble_eq_true rfl) (c_six _ _ _ _ _ _) ?_
  refine x_icmp_ne 30 dX9_isWord_23 rfl (fun c1 => ?_) (fun c1 => ?_)
  · refine x_iconst dX9_isWord_30 0 rfl ?_
    exact x_zreturn dX9_isWord_31 rfl rfl (xr0 (decide_eq_false (fun q => c1 (by rw [hv]; exact key.mpr q))))
  · refine x_iconst dX9_isWord_26 1 rfl ?_
    refine x_goto 31 dX9_isWord_27 rfl ?_
    exact x_zreturn dX9_isWord_31 rfl rfl (xr1 (decide_eq_true (key.mp (by rw [← hv]; exact c1))))
theorem c_isWordF {k : Nat} (q : Nat × Nat) (a b c e f g : Int32) : xMet G d 0 0 m_X9_isWord [.ref T0, .int a, .int b, .int c, .int e, .int f, .int g] (tw T0 h (pst s k (some q))) (xI (.int 0) (tw T0 h (pst s k (some q)))) := by
  refine xMet.of [some (.ref T0), some (.int a), some (.int b), some (.int c), some (.int e), some (.int f), some (.int g)] pl_X9 rfl (Nat.le_of_ble_eq_true rfl) ?_
  refine x_aload_n dX9_isWord_0 rfl ?_
  refine t_gi dX9_isWord_1 f_X9_108_27 (by decide) rfl (by decide) pst5 ?_
  refine x_if_ne 30 dX9_isWord_4 rfl (fun _ => ?_) (fun hc9 => absurd hc9 (pf_ne q))
  refine x_iconst dX9_isWord_30 0 rfl ?_
  exact x_zreturn dX9_isWord_31 rfl rfl ⟨rfl, rfl⟩
end TN
