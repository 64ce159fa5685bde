set_option maxRecDepth 100000
/-! ===== the twin, 21: known words, codes noted ===== -/
theorem tk_get {p : Nat → Bool} {t : List Nat} : ∀ k i, i < (tk p t k).length → (tk p t k).getD i 0 = t.getD (k + i) 0 ∧ k + i < t.length := by
  refine scan_ind _ p t ?_ ?_
  · intro k h1 h2 ih i hi
    rw [tk_y h1 h2] at hi ⊢
    cases i with
    | zero => exact ⟨rfl, h1⟩
    | succ i =>
      have := ih i (by simpa using hi)
      rw [show k + (i + 1) = k + 1 + i by omega]
      exact this
  · intro k h i hi
    rw [tk_n h] at hi
    exact absurd hi (Nat.not_lt_zero _)
theorem take6 {w l : List Nat} {c : Nat} (h7 : w.length = 7) (hl : l.length = 6) : w = l ++ [c] ↔ w.take 6 = l ∧ w.getD 6 0 = c := by
  match w, h7 with
  | [a1, a2, a3, a4, a5, a6, a7], _ =>
    match l, hl with
    | [b1, b2, b3, b4, b5, b6], _ =>
      show [a1, a2, a3, a4, a5, a6, a7] = [b1, b2, b3, b4, b5, b6, c] ↔ [a1, a2, a3, a4, a5, a6] = [b1, b2, b3, b4, b5, b6] ∧ a7 = c
      simp only [List.cons.injEq, and_true]
      constructor
      · rintro ⟨h1, h2, h3, h4, h5, h6, h7⟩
        exact ⟨⟨h1, h2, h3, h4, h5, h6⟩, h7⟩
      · rintro ⟨⟨h1, h2, h3, h4, h5, h6⟩, h7⟩
        exact ⟨h1, h2, h3, h4, h5, h6, h7⟩
section TW1
variable {G : xG} {d : Nat} {h : xH} {T0 : Nat} {s : tS} {t : List Nat}
theorem seven_loop (hs : tOK s) (ht : tTx s t) (hb : G.2.2.1 ≤ T0) {Q : xQ} {e : Option (Nat × Nat)} {x1 x2 x5 : Option Value} (n2 : xnl x2 = true) (b : Nat) : ∀ q n v, q = b + n → xRun G m_X9_isSeven (d + 1) 0 0 74 [some (.ref T0), x1, x2, some (.int (nI (af n v (tk isSmN t q)).2)), some (.int (nI (af n v (tk isSmN t q)).1)), x5] [] (tw T0 h (pst s b e)) Q → q ≤ 600 → xRun G m_X9_isSeven (d + 1) 0 0 18 [some (.ref T0), x1, x2, some (.int (nI v)), some (.int (nI n)), x5] [] (tw T0 h (pst s b e)) Q := by
  refine scan_ind _ isSmN t ?_ ?_
  · intro q h1 h2 ih n v hq
    rw [tk_y h1 h2]
    intro hQ hk
    have hc : 97 ≤ t.getD q 0 ∧ t.getD q 0 ≤ 122 := by simpa [isSmN] using h2
    have hfin : xRun G m_X9_isSeven (d + 1) 0 0 67 [some (.ref T0), x1, x2, some (.int (nI v)), some (.int (nI n)), x5] [.int (nI (if n < 6 then 27 * v + (t.getD q 0 - 96) else v))] (tw T0 h (pst s b e)) Q := by
      refine xsi3 dX9_isSeven_67 (by decide) n2 ?_
      refine xinc4 _ dX9_isSeven_68 (by decide) rfl (nI_1 n) ?_
      refine x_goto 18 dX9_isSeven_71 rfl ?_
      exact ih (n + 1) _ (by omega) hQ (by have := ht.2.1; omega)
    refine x_aload_n dX9_isSeven_18 rfl ?_
    refine x_aload_n dX9_isSeven_19 rfl ?_
    refine t_gi dX9_isSeven_20 f_X9_101_27 (by decide) rfl (by decide) pst4 ?_
    refine x_iload dX9_isSeven_23 rfl ?_
    refine x_iadd dX9_isSeven_25 ?_
    rw [nI_add, ← hq]
    refine xiV1 dX9_isSeven_26 v_X9_104_27 tw_get0 (Nat.le_of_ble_eq_true rfl) (c_byteAt (pst_ok hs) (pst_tx ht) q (by omega)) ?_
    refine xiS1 dX9_isSeven_29 s_X9_130 (Nat.le_of_ble_eq_true rfl) (c_isSmall _) ?_
    refine x_if_eq 74 dX9_isSeven_32 rfl (fun hc9 => absurd hc9 (b2_ne.mpr ((tb_sm ht.2.2.2).mpr ⟨h1, h2⟩))) (fun _ => ?_)
    refine x_at 35 rfl ?_
    refine x_iload dX9_isSeven_35 rfl ?_
    refine x_bipush dX9_isSeven_37 6 (by decide) ?_
    refine x_icmp_ge 66 dX9_isSeven_39 rfl (fun c1 => ?_) (fun c1 => ?_)
    · have c2 : ¬ n < 6 := by
        have := (nI_leI (a := 6) (by decide) (by omega)).mp c1
        omega
      rw [if_neg c2] at hfin
      refine x_iload_n dX9_isSeven_66 rfl ?_
      exact hfin
    · have c2 : n < 6 := Nat.lt_of_not_le (fun q => c1 ((nI_leI (a := 6) (by decide) (by omega)).mpr q))
      rw [if_pos c2] at hfin
      refine x_bipush dX9_isSeven_42 27 (by decide) ?_
      refine x_iload_n dX9_isSeven_44 rfl ?_
      refine x_imul dX9_isSeven_45 ?_
      refine x_aload_n dX9_isSeven_46 rfl ?_
      refine x_aload_n dX9_isSeven_47 rfl ?_
      refine t_gi dX9_isSeven_48 f_X9_101_27 (by decide) rfl (by decide) pst4 ?_
      refine x_iload dX9_isSeven_51 rfl ?_
      refine x_iadd dX9_isSeven_53 ?_
      refine x_at 54 rfl ?_
      rw [nI_add, ← hq]
      refine xiV1 dX9_isSeven_54 v_X9_104_27 tw_get0 (Nat.le_of_ble_eq_true rfl) (c_byteAt (pst_ok hs) (pst_tx ht) q (by omega)) ?_
      refine x_iadd dX9_isSeven_57 ?_
      refine x_bipush dX9_isSeven_58 97 (by decide) ?_
      refine x_isub dX9_isSeven_60 ?_
      refine x_iconst dX9_isSeven_61 1 rfl ?_
      refine x_iadd dX9_isSeven_62 ?_
      refine x_goto 67 dX9_isSeven_63 rfl ?_
      rw [tb_in h1, let_step hc.1]
      exact hfin
  · intro q h1 n v hq
    rw [tk_n h1]
    intro hQ hk
    refine x_aload_n dX9_isSeven_18 rfl ?_
    refine x_aload_n dX9_isSeven_19 rfl ?_
    refine t_gi dX9_isSeven_20 f_X9_101_27 (by decide) rfl (by decide) pst4 ?_
    refine x_iload dX9_isSeven_23 rfl ?_
    refine x_iadd dX9_isSeven_25 ?_
    rw [nI_add, ← hq]
    refine xiV1 dX9_isSeven_26 v_X9_104_27 tw_get0 (Nat.le_of_ble_eq_true rfl) (c_byteAt (pst_ok hs) (pst_tx ht) q (by omega)) ?_
    refine xiS1 dX9_isSeven_29 s_X9_130 (Nat.le_of_ble_eq_true rfl) (c_isSmall _) ?_
    refine x_if_eq 74 dX9_isSeven_32 rfl (fun _ => ?_) (fun hc9 => absurd (b2_eq.mpr (nosm ht h1)) hc9)
    exact hQ
theorem c_isSeven (hs : tOK s) (ht : tTx s t) (hb : G.2.2.1 ≤ T0) (k : Nat) (hk : k ≤ t.length) {six : Int32} (l : List Nat) (c : Nat) (hv : six = nI (wpk l)) (hl : l.all isSmN = true) (h6 : l.length = 6) (hc : c < 256) : xMet G (d + 2) 0 0 m_X9_isSeven [.ref T0, .int six, .int (nI c)] (tw T0 h (pst s k none)) (xI (.int (b2 (decide (wl t k = l ++ [c])))) (tw T0 h (if wl t k = l ++ [c] then pst s (sc isSmN t (sc isB t k)) none else pst s (sc isB t k) none))) := by
  refine xMet.of [some (.ref T0), some (.int six), some (.int (nI c)), none, none, none] pl_X9 rfl (Nat.le_of_ble_eq_true rfl) ?_
  subst hv
  have h66 := ht.2.1
  have hb6 : sc isB t k ≤ t.length := sc_le hk
  have hwl : (wl t k).length ≤ 600 := by
    have := @tk_len isSmN t (sc isB t k)
    unfold wl
    omega
  have fin : ∀ v : Bool, v = decide (wl t k = l ++ [c]) → ∀ x3 x4 x5, xRun G m_X9_isSeven (d + 2) 0 0 106 [some (.ref T0), some (.int (nI (wpk l))), some (.int (nI c)), some (.int x3), some (.int x4), x5] [.int (b2 v)] (tw T0 h (pst s (sc isB t k) none)) (xI (.int (b2 (decide (wl t k = l ++ [c])))) (tw T0 h (if wl t k = l ++ [c] then pst s (sc isSmN t (sc isB t k)) none else pst s (sc isB t k) none))) := by
    intro v hv x3 x4 x5
    refine xsi5 dX9_isSeven_106 (by decide) rfl ?_
    refine x_iload dX9_isSeven_108 rfl ?_
    refine x_if_eq 117 dX9_isSeven_110 rfl (fun c1 => ?_) (fun c1 => ?_)
    · have c2 := b2_eq.mp c1
      rw [hv] at c2
      rw [if_neg (of_decide_eq_false c2), c2]
      rw [hv, c2]
      refine x_iload dX9_isSeven_117 rfl ?_
      exact x_zreturn dX9_isSeven_119 rfl rfl ⟨rfl, rfl⟩
    · have c2 := b2_ne.mp c1
      rw [hv] at c2
      rw [if_pos (of_decide_eq_true c2), c2]
      rw [hv, c2]
      refine x_aload_n dX9_isSeven_113 rfl ?_
      refine xuV0 dX9_isSeven_114 v_X9_145_27 tw_get0 (Nat.le_of_ble_eq_true rfl) (c_skipWord hs ht hb (sc isB t k) (by omega)) ?_
      refine x_iload dX9_isSeven_117 rfl ?_
      exact x_zreturn dX9_isSeven_119 rfl rfl ⟨rfl, rfl⟩
  refine x_aload_n dX9_isSeven_0 rfl ?_
  refine t_gi dX9_isSeven_1 f_X9_108_27 (by decide) rfl (by decide) pst5 ?_
  refine x_if_eq 9 dX9_isSeven_4 rfl (fun _ => ?_) (fun hc9 => absurd (rfl) hc9)
  refine x_aload_n dX9_isSeven_9 rfl ?_
  refine xuV0 dX9_isSeven_10 v_X9_114_27 tw_get0 (Nat.le_of_ble_eq_true rfl) (c_blanks hs ht hb k (by omega)) ?_
  refine x_iconst dX9_isSeven_13 0 rfl ?_
  refine xsi3 dX9_isSeven_14 (by decide) rfl ?_
  refine x_iconst dX9_isSeven_15 0 rfl ?_
  refine x_at 16 rfl ?_
  refine xsi4 dX9_isSeven_16 (by decide) rfl ?_
  refine seven_loop hs ht hb rfl (sc isB t k) (sc isB t k) 0 0 rfl ?_ (by omega)
  rw [af_len, af_val, Nat.zero_add, show tk isSmN t (sc isB t k) = wl t k from rfl]
  show xRun _ _ _ _ _ _ [_, _, _, some (.int (nI (wpk ((wl t k).take 6)))), _, _] _ _ _
  have hw6 : wpk ((wl t k).take 6) < 2 ^ 31 := Nat.lt_of_lt_of_le (wpk_lt 6 _ (fun x hx => tk_all x (List.mem_of_mem_take hx)) (by rw [List.length_take]; omega)) (by decide)
  have hl6 : wpk l < 2 ^ 31 := Nat.lt_of_lt_of_le (wpk_lt 6 l (List.all_eq_true.mp hl) (by omega)) (by decide)
  refine x_iload dX9_isSeven_74 rfl ?_
  refine x_bipush dX9_isSeven_76 7 (by decide) ?_
  refine x_icmp_ne 105 dX9_isSeven_78 rfl (fun c1 => ?_) (fun c1 => ?_)
  · have c2 : ¬ (wl t k).length = 7 := fun z => c1 (by rw [z]; rfl)
    refine x_iconst dX9_isSeven_105 0 rfl ?_
    exact fin false (decide_eq_false (fun z => c2 (by rw [z, List.length_append, h6]; rfl))).symm _ _ _
  · have c2 : (wl t k).length = 7 := (nI_eq (by omega) (b := 7) (by decide)).mp c1
    have key := take6 (c := c) c2 h6
    refine x_iload_n dX9_isSeven_81 rfl ?_
    refine x_iload_n dX9_isSeven_82 rfl ?_
    refine x_icmp_ne 105 dX9_isSeven_83 rfl (fun c3 => ?_) (fun c3 => ?_)
    · refine x_iconst dX9_isSeven_105 0 rfl ?_
      exact fin false (decide_eq_false (fun z => c3 (by rw [(key.mp z).1]))).symm _ _ _
    · have c4 : (wl t k).take 6 = l := wpk_inj 6 _ _ (by rw [List.length_take]; omega) (fun x hx => tk_all x (List.mem_of_mem_take hx)) (List.all_eq_true.mp hl) ((nI_eq hw6 hl6).mp c3)
      have g6 := tk_get (p := isSmN) (t := t) (sc isB t k) 6 (show 6 < (wl t k).length by omega)
      refine x_aload_n dX9_isSeven_86 rfl ?_
      refine x_aload_n dX9_isSeven_87 rfl ?_
      refine t_gi dX9_isSeven_88 f_X9_101_27 (by decide) rfl (by decide) pst4 ?_
      refine x_bipush dX9_isSeven_91 6 (by decide) ?_
      refine x_iadd dX9_isSeven_93 ?_
      rw [show nI (sc isB t k) + 6 = nI (sc isB t k + 6) from nI_add _ 6]
      refine xiV1 dX9_isSeven_94 v_X9_104_27 tw_get0 (Nat.le_of_ble_eq_true rfl) (c_byteAt (pst_ok hs) (pst_tx ht) (sc isB t k + 6) (by omega)) ?_
      refine x_iload_n dX9_isSeven_97 rfl ?_
      refine x_icmp_ne 105 dX9_isSeven_98 rfl (fun c5 => ?_) (fun c5 => ?_)
      · refine x_iconst dX9_isSeven_105 0 rfl ?_
        refine fin false (decide_eq_false (fun z => c5 ?_)).symm _ _ _
        rw [tb_in g6.2, ← g6.1, show tk isSmN t (sc isB t k) = wl t k from rfl, (key.mp z).2]
      · have c6 : (wl t k).getD 6 0 = c := by
          rw [tb_in g6.2] at c5
          rw [show wl t k = tk isSmN t (sc isB t k) from rfl, g6.1]
          exact (nI_eq (by have := ht.2.2.2 (sc isB t k + 6); omega) (by omega)).mp c5
        refine x_iconst dX9_isSeven_101 1 rfl ?_
        refine x_goto 106 dX9_isSeven_102 rfl ?_
        exact fin true (decide_eq_true (key.mpr ⟨c4, c6⟩)).symm _ _ _
theorem c_knownHere (hs : tOK s) (ht : tTx s t) (hb : G.2.2.1 ≤ T0) (k : Nat) (hk : k ≤ t.length) : xMet G (d + 5) 0 0 m_X9_knownHere [.ref T0] (tw T0 h (pst s k none)) (xI (.int (oN (knW (wl t k)))) (tw T0 h (match knW (wl t k) with | some _ => pst s (sc isSmN t (sc isB t k)) none | none => pst s (sc isB t k) none))) := by
  refine xMet.of [some (.ref T0)] pl_X9 rfl (Nat.le_of_ble_eq_true rfl) ?_
  have hb6 : sc isB t k ≤ t.length := sc_le hk
  have w1 := c_takes (G := G) (d := d) (h := h) (T0 := T0) (s := s) hs ht hb k hk (a := 23) (b := 5) (c := 9) (e := 7) (f := 8) (g := 20) [119, 101, 105, 103, 104, 116] rfl rfl (by decide)
  have w2 := c_isSeven (G := G) (d := d + 2) (h := h) (T0 := T0) (s := s) hs ht hb (sc isB t k) hb6 (six := sixv 23 5 9 7 8 5) [119, 101, 105, 103, 104, 101] 100 rfl rfl rfl (by decide)
  have w3 := c_takes (G := G) (d := d) (h := h) (T0 := T0) (s := s) hs ht hb (sc isB t k) hb6 (a := 3) (b := 18) (c := 9) (e := 5) (f := 4) (g := 0) [99, 114, 105, 101, 100] rfl rfl (by decide)
  have w4 := c_takes (G := G) (d := d) (h := h) (T0 := T0) (s := s) hs ht hb (sc isB t k) hb6 (a := 20) (b := 8) (c := 9) (e := 14) (f := 7) (g := 0) [116, 104, 105, 110, 103] rfl rfl (by decide)
  have w5 := c_takes (G := G) (d := d) (h := h) (T0 := T0) (s := s) hs ht hb (sc isB t k) hb6 (a := 4) (b := 1) (c := 25) (e := 0) (f := 0) (g := 0) [100, 97, 121] rfl rfl (by decide)
  have w6 := c_takes (G := G) (d := d) (h := h) (T0 := T0) (s := s) hs ht hb (sc isB t k) hb6 (a := 12) (b := 5) (c := 1) (e := 14) (f := 0) (g := 0) [108, 101, 97, 110] rfl rfl (by decide)
  have w7 := c_takes (G := G) (d := d) (h := h) (T0 := T0) (s := s) hs ht hb (sc isB t k) hb6 (a := 16) (b := 12) (c := 1) (e := 25) (f := 0) (g := 0) [112, 108, 97, 121] rfl rfl (by decide)
  rw [wl_B, sc_idem] at w2 w3 w4 w5 w6 w7
  rw [show [119, 101, 105, 103, 104, 101] ++ [100] = [119, 101, 105, 103, 104, 101, 100] from rfl] at w2
  generalize wl t k = w at *
  unfold knW
  refine x_aload_n dX9_knownHere_0 rfl ?_
  refine x_bipush dX9_knownHere_1 23 (by decide) ?_
  refine x_iconst dX9_knownHere_3 5 rfl ?_
  refine x_bipush dX9_knownHere_4 9 (by decide) ?_
  refine x_bipush dX9_knownHere_6 7 (by decide) ?_
  refine x_bipush dX9_knownHere_8 8 (by decide) ?_
  refine x_bipush dX9_knownHere_10 20 (by decide) ?_
  refine xiV6 dX9_knownHere_12 v_X9_218_27 tw_get0 (Nat.le_of_ble_eq_true rfl) (w1) ?_
  refine x_at 15 rfl ?_
  refine x_if_eq 20 dX9_knownHere_15 rfl (fun c1 => ?_) (fun c1 => ?_)
  · have d1 := of_decide_eq_false (b2_eq.mp c1)
    simp only [if_neg d1]
    refine x_aload_n dX9_knownHere_20 rfl ?_
    refine x_bipush dX9_knownHere_21 23 (by decide) ?_
    refine x_iconst dX9_knownHere_23 5 rfl ?_
    refine x_bipush dX9_knownHere_24 9 (by decide) ?_
    refine x_bipush dX9_knownHere_26 7 (by decide) ?_
    refine x_bipush dX9_knownHere_28 8 (by decide) ?_
    refine x_iconst dX9_knownHere_30 5 rfl ?_
    refine xiS6 dX9_knownHere_31 s_X9_137 (Nat.le_of_ble_eq_true rfl) (c_six _ _ _ _ _ _) ?_
    refine x_at 34 rfl ?_
    refine x_bipush dX9_knownHere_34 100 (by decide) ?_
    refine xiV2 dX9_knownHere_36 v_X9_221_27 tw_get0 (Nat.le_of_ble_eq_true rfl) (w2) ?_
    refine x_if_eq 44 dX9_knownHere_39 rfl (fun c2 => ?_) (fun c2 => ?_)
    · have d2 := of_decide_eq_false (b2_eq.mp c2)
      simp only [if_neg d2]
      refine x_aload_n dX9_knownHere_44 rfl ?_
      refine x_iconst dX9_knownHere_45 3 rfl ?_
      refine x_bipush dX9_knownHere_46 18 (by decide) ?_
      refine x_bipush dX9_knownHere_48 9 (by decide) ?_
      refine x_iconst dX9_knownHere_50 5 rfl ?_
      refine x_iconst dX9_knownHere_51 4 rfl ?_
      refine x_iconst dX9_knownHere_52 0 rfl ?_
      refine xiV6 dX9_knownHere_53 v_X9_218_27 tw_get0 (Nat.le_of_ble_eq_true rfl) (w3) ?_
      refine x_at 56 rfl ?_
      refine x_if_eq 61 dX9_knownHere_56 rfl (fun c3 => ?_) (fun c3 => ?_)
      · have d3 := of_decide_eq_false (b2_eq.mp c3)
        simp only [if_neg d3]
        refine x_aload_n dX9_knownHere_61 rfl ?_
        refine x_bipush dX9_knownHere_62 20 (by decide) ?_
        refine x_bipush dX9_knownHere_64 8 (by decide) ?_
        refine x_bipush dX9_knownHere_66 9 (by decide) ?_
        refine x_bipush dX9_knownHere_68 14 (by decide) ?_
        refine x_bipush dX9_knownHere_70 7 (by decide) ?_
        refine x_iconst dX9_knownHere_72 0 rfl ?_
        refine xiV6 dX9_knownHere_73 v_X9_218_27 tw_get0 (Nat.le_of_ble_eq_true rfl) (w4) ?_
        refine x_at 76 rfl ?_
        refine x_if_eq 81 dX9_knownHere_76 rfl (fun c4 => ?_) (fun c4 => ?_)
        · have d4 := of_decide_eq_false (b2_eq.mp c4)
          simp only [if_neg d4]
          refine x_aload_n dX9_knownHere_81 rfl ?_
          refine x_iconst dX9_knownHere_82 4 rfl ?_
          refine x_iconst dX9_knownHere_83 1 rfl ?_
          refine x_bipush dX9_knownHere_84 25 (by decide) ?_
          refine x_iconst dX9_knownHere_86 0 rfl ?_
          refine x_iconst dX9_knownHere_87 0 rfl ?_
          refine x_iconst dX9_knownHere_88 0 rfl ?_
          refine xiV6 dX9_knownHere_89 v_X9_218_27 tw_get0 (Nat.le_of_ble_eq_true rfl) (w5) ?_
          refine x_at 92 rfl ?_
          refine x_if_eq 97 dX9_knownHere_92 rfl (fun c5 => ?_) (fun c5 => ?_)
          · have d5 := of_decide_eq_false (b2_eq.mp c5)
            simp only [if_neg d5]
            refine x_aload_n dX9_knownHere_97 rfl ?_
            refine x_bipush dX9_knownHere_98 12 (by decide) ?_
            refine x_iconst dX9_knownHere_100 5 rfl ?_
            refine x_iconst dX9_knownHere_101 1 rfl ?_
            refine x_bipush dX9_knownHere_102 14 (by decide) ?_
            refine x_iconst dX9_knownHere_104 0 rfl ?_
            refine x_iconst dX9_knownHere_105 0 rfl ?_
            refine xiV6 dX9_knownHere_106 v_X9_218_27 tw_get0 (Nat.le_of_ble_eq_true rfl) (w6) ?_
            refine x_at 109 rfl ?_
            refine x_if_eq 114 dX9_knownHere_109 rfl (fun c6 => ?_) (fun c6 => ?_)
            · have d6 := of_decide_eq_false (b2_eq.mp c6)
              simp only [if_neg d6]
              refine x_aload_n dX9_knownHere_114 rfl ?_
              refine x_bipush dX9_knownHere_115 16 (by decide) ?_
              refine x_bipush dX9_knownHere_117 12 (by decide) ?_
              refine x_iconst dX9_knownHere_119 1 rfl ?_
              refine x_bipush dX9_knownHere_120 25 (by decide) ?_
              refine x_iconst dX9_knownHere_122 0 rfl ?_
              refine x_iconst dX9_knownHere_123 0 rfl ?_
              refine xiV6 dX9_knownHere_124 v_X9_218_27 tw_get0 (Nat.le_of_ble_eq_true rfl) (w7) ?_
              refine x_at 127 rfl ?_
              refine x_if_eq 135 dX9_knownHere_127 rfl (fun c7 => ?_) (fun c7 => ?_)
              · have d7 := of_decide_eq_false (b2_eq.mp c7)
                simp only [if_neg d7]
                refine x_iconst dX9_knownHere_135 (-1) rfl ?_
                exact x_ireturn dX9_knownHere_136 rfl ⟨rfl, rfl⟩
              · have d7 := of_decide_eq_true (b2_ne.mp c7)
                simp only [if_pos d7]
                refine x_bipush dX9_knownHere_130 6 (by decide) ?_
                refine x_goto 136 dX9_knownHere_132 rfl ?_
                exact x_ireturn dX9_knownHere_136 rfl ⟨rfl, rfl⟩
            · have d6 := of_decide_eq_true (b2_ne.mp c6)
              simp only [if_pos d6]
              refine x_iconst dX9_knownHere_112 5 rfl ?_
              exact x_ireturn dX9_knownHere_113 rfl ⟨rfl, rfl⟩
          · have d5 := of_decide_eq_true (b2_ne.mp c5)
            simp only [if_pos d5]
            refine x_iconst dX9_knownHere_95 4 rfl ?_
            exact x_ireturn dX9_knownHere_96 rfl ⟨rfl, rfl⟩
        · have d4 := of_decide_eq_true (b2_ne.mp c4)
          simp only [if_pos d4]
          refine x_iconst dX9_knownHere_79 3 rfl ?_
          exact x_ireturn dX9_knownHere_80 rfl ⟨rfl, rfl⟩
      · have d3 := of_decide_eq_true (b2_ne.mp c3)
        simp only [if_pos d3]
        refine x_iconst dX9_knownHere_59 2 rfl ?_
        exact x_ireturn dX9_knownHere_60 rfl ⟨rfl, rfl⟩
    · have d2 := of_decide_eq_true (b2_ne.mp c2)
      simp only [if_pos d2]
      refine x_iconst dX9_knownHere_42 1 rfl ?_
      exact x_ireturn dX9_knownHere_43 rfl ⟨rfl, rfl⟩
  · have d1 := of_decide_eq_true (b2_ne.mp c1)
    simp only [if_pos d1]
    refine x_iconst dX9_knownHere_18 0 rfl ?_
    exact x_ireturn dX9_knownHere_19 rfl ⟨rfl, rfl⟩
end TW1
