set_option maxRecDepth 100000
/-! ===== the twin, 4: signs, words taken, a start and an end of a reading ===== -/
/-- the sign c stands at b -/
def ch (t : List Nat) (b c : Nat) : Bool := decide (b < t.length ∧ t.getD b 0 = c)
theorem tb_ch {t : List Nat} {b c : Nat} (ht : ∀ i, t.getD i 0 < 256) (hc : c < 256) : tb t b = nI c ↔ ch t b c = true := by
  unfold ch
  by_cases h : b < t.length
  · rw [tb_in h, nI_eq (by have := ht b; omega) (by omega)]
    simp [h]
  · rw [tb_out h]
    refine ⟨fun q => ?_, fun q => absurd (of_decide_eq_true q).1 h⟩
    have := nI_pos (show c < 2 ^ 31 by omega)
    rw [← q] at this
    exact absurd (by decide) this
theorem ch_f {t : List Nat} {b c : Nat} (h : ¬ ch t b c = true) : ch t b c = false := by
  cases h1 : ch t b c with
  | true => exact absurd h1 h
  | false => rfl
section TS
variable {G : xG} {d : Nat} {h : xH} {T0 : Nat} {s : tS} {t : List Nat}
theorem c_sign (hs : tOK s) (ht : tTx s t) (hb : G.2.2.1 ≤ T0) (k : Nat) (hk : k ≤ t.length) (c : Nat) (hc : c < 256) {ci : Int32} (hci : ci = nI c) : xMet G (d + 2) 0 0 m_X9_sign [.ref T0, .int ci] (tw T0 h (pst s k none)) (xU (tw T0 h (if ch t (sc isB t k) c = true then pst s (sc isB t k + 1) none else pst s (sc isB t k) (some (0, sc isB t k))))) := by
  refine xMet.of [some (.ref T0), some (.int ci)] pl_X9 rfl (Nat.le_of_ble_eq_true rfl) ?_
  subst hci
  have h6 := ht.2.1
  have hb6 : sc isB t k ≤ t.length := sc_le hk
  refine x_aload_n dX9_sign_0 rfl ?_
  refine t_gi dX9_sign_1 f_X9_108_27 (by decide) rfl (by decide) pst5 ?_
  refine x_if_eq 8 dX9_sign_4 rfl (fun _ => ?_) (fun hc9 => absurd (rfl) hc9)
  refine x_aload_n dX9_sign_8 rfl ?_
  refine xuV0 dX9_sign_9 v_X9_114_27 tw_get0 (Nat.le_of_ble_eq_true rfl) (c_blanks hs ht hb k (by omega)) ?_
  refine x_aload_n dX9_sign_12 rfl ?_
  refine x_aload_n dX9_sign_13 rfl ?_
  refine t_gi dX9_sign_14 f_X9_101_27 (by decide) rfl (by decide) pst4 ?_
  refine x_at 17 rfl ?_
  refine xiV1 dX9_sign_17 v_X9_104_27 tw_get0 (Nat.le_of_ble_eq_true rfl) (c_byteAt (pst_ok hs) (pst_tx ht) (sc isB t k) (by omega)) ?_
  refine x_iload_n dX9_sign_20 rfl ?_
  refine x_icmp_ne 37 dX9_sign_21 rfl (fun c1 => ?_) (fun c1 => ?_)
  · rw [if_neg (fun q => c1 ((tb_ch ht.2.2.2 hc).mpr q))]
    refine x_aload_n dX9_sign_37 rfl ?_
    refine x_iconst dX9_sign_38 1 rfl ?_
    refine x_aload_n dX9_sign_39 rfl ?_
    refine t_gi dX9_sign_40 f_X9_101_27 (by decide) rfl (by decide) pst4 ?_
    refine xuV2 dX9_sign_43 v_X9_121_27 tw_get0 (Nat.le_of_ble_eq_true rfl) (c_wrongP hb (e := none) 0 (sc isB t k)) ?_
    exact x_return dX9_sign_46 rfl ⟨rfl, rfl⟩
  · rw [if_pos ((tb_ch ht.2.2.2 hc).mp c1)]
    refine x_aload_n dX9_sign_24 rfl ?_
    refine x_dup dX9_sign_25 rfl ?_
    refine t_gi dX9_sign_26 f_X9_101_27 (by decide) rfl (by decide) pst4 ?_
    refine x_iconst dX9_sign_29 1 rfl ?_
    refine x_iadd dX9_sign_30 ?_
    refine t_pi dX9_sign_31 p_X9_101_27 rfl (by decide) hb ?_
    rw [pst_inc]
    refine x_goto 46 dX9_sign_34 rfl ?_
    exact x_return dX9_sign_46 rfl ⟨rfl, rfl⟩
theorem c_signF {k : Nat} (q : Nat × Nat) (ci : Int32) : xMet G d 0 0 m_X9_sign [.ref T0, .int ci] (tw T0 h (pst s k (some q))) (xU (tw T0 h (pst s k (some q)))) := by
  refine xMet.of [some (.ref T0), some (.int ci)] pl_X9 rfl (Nat.le_of_ble_eq_true rfl) ?_
  refine x_aload_n dX9_sign_0 rfl ?_
  refine t_gi dX9_sign_1 f_X9_108_27 (by decide) rfl (by decide) pst5 ?_
  refine x_if_eq 8 dX9_sign_4 rfl (fun hc9 => absurd hc9 (pf_ne q)) (fun _ => ?_)
  exact x_return dX9_sign_7 rfl ⟨rfl, rfl⟩
theorem c_takesSign (hs : tOK s) (ht : tTx s t) (hb : G.2.2.1 ≤ T0) (k : Nat) (hk : k ≤ t.length) (c : Nat) (hc : c < 256) {ci : Int32} (hci : ci = nI c) : xMet G (d + 2) 0 0 m_X9_takesSign [.ref T0, .int ci] (tw T0 h (pst s k none)) (xI (.int (b2 (ch t (sc isB t k) c))) (tw T0 h (if ch t (sc isB t k) c = true then pst s (sc isB t k + 1) none else pst s (sc isB t k) none))) := by
  refine xMet.of [some (.ref T0), some (.int ci), none] pl_X9 rfl (Nat.le_of_ble_eq_true rfl) ?_
  subst hci
  have h6 := ht.2.1
  have hb6 : sc isB t k ≤ t.length := sc_le hk
  refine x_aload_n dX9_takesSign_0 rfl ?_
  refine t_gi dX9_takesSign_1 f_X9_108_27 (by decide) rfl (by decide) pst5 ?_
  refine x_if_eq 9 dX9_takesSign_4 rfl (fun _ => ?_) (fun hc9 => absurd (rfl) hc9)
  refine x_aload_n dX9_takesSign_9 rfl ?_
  refine xuV0 dX9_takesSign_10 v_X9_114_27 tw_get0 (Nat.le_of_ble_eq_true rfl) (c_blanks hs ht hb k (by omega)) ?_
  refine x_aload_n dX9_takesSign_13 rfl ?_
  refine x_aload_n dX9_takesSign_14 rfl ?_
  refine t_gi dX9_takesSign_15 f_X9_101_27 (by decide) rfl (by decide) pst4 ?_
  refine x_at 18 rfl ?_
  refine xiV1 dX9_takesSign_18 v_X9_104_27 tw_get0 (Nat.le_of_ble_eq_true rfl) (c_byteAt (pst_ok hs) (pst_tx ht) (sc isB t k) (by omega)) ?_
  refine x_iload_n dX9_takesSign_21 rfl ?_
  refine x_icmp_ne 29 dX9_takesSign_22 rfl (fun c1 => ?_) (fun c1 => ?_)
  · have c2 := ch_f (fun q => c1 ((tb_ch ht.2.2.2 hc).mpr q))
    rw [if_neg (by rw [c2]; decide)]
    refine x_iconst dX9_takesSign_29 0 rfl ?_
    refine xsi2 dX9_takesSign_30 (by decide) rfl ?_
    refine x_iload_n dX9_takesSign_31 rfl ?_
    refine x_if_eq 45 dX9_takesSign_32 rfl (fun _ => ?_) (fun hc9 => absurd (rfl) hc9)
    refine x_iload_n dX9_takesSign_45 rfl ?_
    exact x_zreturn dX9_takesSign_46 rfl rfl (xr0 c2)
  · have c2 := (tb_ch ht.2.2.2 hc).mp c1
    rw [if_pos c2]
    refine x_iconst dX9_takesSign_25 1 rfl ?_
    refine x_goto 30 dX9_takesSign_26 rfl ?_
    refine xsi2 dX9_takesSign_30 (by decide) rfl ?_
    refine x_iload_n dX9_takesSign_31 rfl ?_
    refine x_if_eq 45 dX9_takesSign_32 rfl (fun hc9 => absurd hc9 ((by decide))) (fun _ => ?_)
    refine x_aload_n dX9_takesSign_35 rfl ?_
    refine x_dup dX9_takesSign_36 rfl ?_
    refine t_gi dX9_takesSign_37 f_X9_101_27 (by decide) rfl (by decide) pst4 ?_
    refine x_at 40 rfl ?_
    refine x_iconst dX9_takesSign_40 1 rfl ?_
    refine x_iadd dX9_takesSign_41 ?_
    refine t_pi dX9_takesSign_42 p_X9_101_27 rfl (by decide) hb ?_
    rw [pst_inc]
    refine x_iload_n dX9_takesSign_45 rfl ?_
    exact x_zreturn dX9_takesSign_46 rfl rfl (xr1 c2)
theorem c_takesSignF {k : Nat} (q : Nat × Nat) (ci : Int32) : xMet G d 0 0 m_X9_takesSign [.ref T0, .int ci] (tw T0 h (pst s k (some q))) (xI (.int 0) (tw T0 h (pst s k (some q)))) := by
  refine xMet.of [some (.ref T0), some (.int ci), none] pl_X9 rfl (Nat.le_of_ble_eq_true rfl) ?_
  refine x_aload_n dX9_takesSign_0 rfl ?_
  refine t_gi dX9_takesSign_1 f_X9_108_27 (by decide) rfl (by decide) pst5 ?_
  refine x_if_eq 9 dX9_takesSign_4 rfl (fun hc9 => absurd hc9 (pf_ne q)) (fun _ => ?_)
  refine x_iconst dX9_takesSign_7 0 rfl ?_
  exact x_zreturn dX9_takesSign_8 rfl rfl ⟨rfl, rfl⟩
theorem c_takes (hs : tOK s) (ht : tTx s t) (hb : G.2.2.1 ≤ T0) (k : Nat) (hk : k ≤ t.length) {a b c e f g : Int32} (l : List Nat) (hv : sixv a b c e f g = nI (wpk l)) (hl : l.all isSmN = true) (h6 : l.length ≤ 6) : xMet G (d + 4) 0 0 m_X9_takes [.ref T0, .int a, .int b, .int c, .int e, .int f, .int g] (tw T0 h (pst s k none)) (xI (.int (b2 (decide (wl t k = l)))) (tw T0 h (if wl t k = l then pst s (sc isSmN t (sc isB t k)) none else pst s (sc isB t k) none))) := by
  refine xMet.of [some (.ref T0), some (.int a), some (.int b), some (.int c), some (.int e), some (.int f), some (.int g), none] pl_X9 rfl (Nat.le_of_ble_eq_true rfl) ?_
  have h66 := ht.2.1
  have hb6 : sc isB t k ≤ t.length := sc_le hk
  refine x_aload_n dX9_takes_0 rfl ?_
  refine x_iload_n dX9_takes_1 rfl ?_
  refine x_iload_n dX9_takes_2 rfl ?_
  refine x_iload_n dX9_takes_3 rfl ?_
  refine x_iload dX9_takes_4 rfl ?_
  refine x_iload dX9_takes_6 rfl ?_
  refine x_iload dX9_takes_8 rfl ?_
  refine xiV6 dX9_takes_10 v_X9_141_27 tw_get0 (Nat.le_of_ble_eq_true rfl) (c_isWord hs ht hb k hk l hv hl h6) ?_
  refine x_at 13 rfl ?_
  refine xsi7 dX9_takes_13 (by decide) rfl ?_
  refine x_iload dX9_takes_15 rfl ?_
  refine x_if_eq 24 dX9_takes_17 rfl (fun c1 => ?_) (fun c1 => ?_)
  · have c2 := b2_eq.mp c1
    rw [if_neg (of_decide_eq_false c2)]
    refine x_iload dX9_takes_24 rfl ?_
    exact x_zreturn dX9_takes_26 rfl (by cases decide (wl t k = l) <;> rfl) ⟨rfl, rfl⟩
  · have c2 := b2_ne.mp c1
    rw [if_pos (of_decide_eq_true c2)]
    refine x_aload_n dX9_takes_20 rfl ?_
    refine xuV0 dX9_takes_21 v_X9_145_27 tw_get0 (Nat.le_of_ble_eq_true rfl) (c_skipWord hs ht hb (sc isB t k) (by omega)) ?_
    refine x_iload dX9_takes_24 rfl ?_
    exact x_zreturn dX9_takes_26 rfl (by cases decide (wl t k = l) <;> rfl) ⟨rfl, rfl⟩
theorem c_ends {k : Nat} {e : Option (Nat × Nat)} (hb : G.2.2.1 ≤ T0) : xMet G d 0 0 m_X9_ends [.ref T0] (tw T0 h (pst s k e)) (xI (.int (pf e - 10)) (tw T0 h (seti (pst s k e) 3 (pp e)))) := by
  refine xMet.of [some (.ref T0)] pl_X9 rfl (Nat.le_of_ble_eq_true rfl) ?_
  refine x_aload_n dX9_ends_0 rfl ?_
  refine x_aload_n dX9_ends_1 rfl ?_
  refine t_gi dX9_ends_2 f_X9_111_27 (by decide) rfl (by decide) pst6 ?_
  refine t_pi dX9_ends_5 p_X9_9_27 rfl (by decide) hb ?_
  refine x_aload_n dX9_ends_8 rfl ?_
  refine t_gi dX9_ends_9 f_X9_108_27 (by decide) rfl (by decide) (show (seti (pst s k e) 3 (pp e)).1 5 = pf e from rfl) ?_
  refine x_bipush dX9_ends_12 10 (by decide) ?_
  refine x_isub dX9_ends_14 ?_
  exact x_ireturn dX9_ends_15 rfl ⟨rfl, rfl⟩
/-- the fields at a reading's start -/
def sSt (s : tS) (n : Int32) : tS := seti (seti (seti (seti s 1 0) 2 n) 7 0) 8 0
theorem pst_sSt {s : tS} {n : Int32} : seti (seti (seti (seti (seti (seti (seti s 1 0) 2 n) 4 0) 5 0) 6 (-1)) 7 0) 8 0 = pst (sSt s n) 0 none := by
  refine Prod.ext ?_ rfl
  funext j
  show (if j = 8 then 0 else if j = 7 then 0 else if j = 6 then -1 else if j = 5 then 0 else if j = 4 then 0 else if j = 2 then n else if j = 1 then 0 else s.1 j) = (if j = 6 then -1 else if j = 5 then 0 else if j = 4 then nI 0 else if j = 8 then 0 else if j = 7 then 0 else if j = 2 then n else if j = 1 then 0 else s.1 j)
  by_cases h8 : j = 8
  · subst h8; rfl
  · by_cases h7 : j = 7
    · subst h7; rfl
    · by_cases h6 : j = 6
      · subst h6; rfl
      · by_cases h5 : j = 5
        · subst h5; rfl
        · by_cases h4 : j = 4
          · subst h4; rfl
          · simp [h8, h7, h6, h5, h4]
theorem c_starts (hs : tOK s) {n : Int32} (ht : tTx (sSt s n) t) (hb : G.2.2.1 ≤ T0) : xMet G (d + 2) 0 0 m_X9_starts [.ref T0, .int n] (tw T0 h s) (xU (tw T0 h (pst (sSt s n) (sc isB t 0) none))) := by
  refine xMet.of [some (.ref T0), some (.int n)] pl_X9 rfl (Nat.le_of_ble_eq_true rfl) ?_
  refine x_aload_n dX9_starts_0 rfl ?_
  refine x_iconst dX9_starts_1 0 rfl ?_
  refine t_pi dX9_starts_2 p_X9_95_27 rfl (by decide) hb ?_
  refine x_aload_n dX9_starts_5 rfl ?_
  refine x_iload_n dX9_starts_6 rfl ?_
  refine t_pi dX9_starts_7 p_X9_98_27 rfl (by decide) hb ?_
  refine x_aload_n dX9_starts_10 rfl ?_
  refine x_iconst dX9_starts_11 0 rfl ?_
  refine x_at 12 rfl ?_
  refine t_pi dX9_starts_12 p_X9_101_27 rfl (by decide) hb ?_
  refine x_aload_n dX9_starts_15 rfl ?_
  refine x_iconst dX9_starts_16 0 rfl ?_
  refine t_pi dX9_starts_17 p_X9_108_27 rfl (by decide) hb ?_
  refine x_aload_n dX9_starts_20 rfl ?_
  refine x_iconst dX9_starts_21 (-1) rfl ?_
  refine t_pi dX9_starts_22 p_X9_111_27 rfl (by decide) hb ?_
  refine x_aload_n dX9_starts_25 rfl ?_
  refine x_at 26 rfl ?_
  refine x_iconst dX9_starts_26 0 rfl ?_
  refine t_pi dX9_starts_27 p_X9_148_27 rfl (by decide) hb ?_
  refine x_aload_n dX9_starts_30 rfl ?_
  refine x_iconst dX9_starts_31 0 rfl ?_
  refine t_pi dX9_starts_32 p_X9_151_27 rfl (by decide) hb ?_
  refine x_aload_n dX9_starts_35 rfl ?_
  rw [pst_sSt]
  refine xuV0 dX9_starts_36 v_X9_114_27 tw_get0 (Nat.le_of_ble_eq_true rfl) (c_blanks (s := sSt s n) hs ht hb 0 (by omega)) ?_
  exact x_return dX9_starts_39 rfl ⟨rfl, rfl⟩
/-- what kind of clause stands here -/
def kH (w : List Nat) : Int32 := if w = [116, 104, 105, 110, 103] then 0 else if w = [99, 114, 121] then 1 else if w = [98, 101, 97, 109] then 2 else -1
theorem wl_B {t : List Nat} {k : Nat} : wl t (sc isB t k) = wl t k := by unfold wl; rw [sc_idem]
theorem c_kindHere (hs : tOK s) (ht : tTx s t) (hb : G.2.2.1 ≤ T0) (k : Nat) (hk : k ≤ t.length) : xMet G (d + 4) 0 0 m_X9_kindHere [.ref T0] (tw T0 h (pst s k none)) (xI (.int (kH (wl t k))) (tw T0 h (pst s (sc isB t k) none))) := by
  refine xMet.of [some (.ref T0)] pl_X9 rfl (Nat.le_of_ble_eq_true rfl) ?_
  have hb6 : sc isB t k ≤ t.length := sc_le hk
  have w1 := c_isWord (G := G) (d := d) (h := h) (T0 := T0) (s := s) hs ht hb k hk (a := 20) (b := 8) (c := 9) (e := 14) (f := 7) (g := 0) [116, 104, 105, 110, 103] rfl rfl (by decide)
  have w2 := c_isWord (G := G) (d := d) (h := h) (T0 := T0) (s := s) hs ht hb (sc isB t k) hb6 (a := 3) (b := 18) (c := 25) (e := 0) (f := 0) (g := 0) [99, 114, 121] rfl rfl (by decide)
  have w3 := c_isWord (G := G) (d := d) (h := h) (T0 := T0) (s := s) hs ht hb (sc isB t k) hb6 (a := 2) (b := 5) (c := 1) (e := 13) (f := 0) (g := 0) [98, 101, 97, 109] rfl rfl (by decide)
  rw [sc_idem, wl_B] at w2 w3
  refine x_aload_n dX9_kindHere_0 rfl ?_
  refine x_bipush dX9_kindHere_1 20 (by decide) ?_
  refine x_bipush dX9_kindHere_3 8 (by decide) ?_
  refine x_bipush dX9_kindHere_5 9 (by decide) ?_
  refine x_bipush dX9_kindHere_7 14 (by decide) ?_
  refine x_bipush dX9_kindHere_9 7 (by decide) ?_
  refine x_iconst dX9_kindHere_11 0 rfl ?_
  refine xiV6 dX9_kindHere_12 v_X9_141_27 tw_get0 (Nat.le_of_ble_eq_true rfl) (w1) ?_
  refine x_at 15 rfl ?_
  refine x_if_eq 20 dX9_kindHere_15 rfl (fun c1 => ?_) (fun c1 => ?_)
  · have c2 := of_decide_eq_false (b2_eq.mp c1)
    refine x_aload_n dX9_kindHere_20 rfl ?_
    refine x_iconst dX9_kindHere_21 3 rfl ?_
    refine x_bipush dX9_kindHere_22 18 (by decide) ?_
    refine x_bipush dX9_kindHere_24 25 (by decide) ?_
    refine x_iconst dX9_kindHere_26 0 rfl ?_
    refine x_iconst dX9_kindHere_27 0 rfl ?_
    refine x_iconst dX9_kindHere_28 0 rfl ?_
    refine xiV6 dX9_kindHere_29 v_X9_141_27 tw_get0 (Nat.le_of_ble_eq_true rfl) (w2) ?_
    refine x_at 32 rfl ?_
    refine x_if_eq 37 dX9_kindHere_32 rfl (fun c3 => ?_) (fun c3 => ?_)
    · have c4 := of_decide_eq_false (b2_eq.mp c3)
      refine x_aload_n dX9_kindHere_37 rfl ?_
      refine x_iconst dX9_kindHere_38 2 rfl ?_
      refine x_iconst dX9_kindHere_39 5 rfl ?_
      refine x_iconst dX9_kindHere_40 1 rfl ?_
      refine x_bipush dX9_kindHere_41 13 (by decide) ?_
      refine x_iconst dX9_kindHere_43 0 rfl ?_
      refine x_iconst dX9_kindHere_44 0 rfl ?_
      refine xiV6 dX9_kindHere_45 v_X9_141_27 tw_get0 (Nat.le_of_ble_eq_true rfl) (w3) ?_
      refine x_at 48 rfl ?_
      refine x_if_eq 55 dX9_kindHere_48 rfl (fun c5 => ?_) (fun c5 => ?_)
      · have c6 := of_decide_eq_false (b2_eq.mp c5)
        refine x_iconst dX9_kindHere_55 (-1) rfl ?_
        exact x_ireturn dX9_kindHere_56 rfl (xrv (by rw [kH, if_neg c2, if_neg c4, if_neg c6]))
      · have c6 := of_decide_eq_true (b2_ne.mp c5)
        refine x_iconst dX9_kindHere_51 2 rfl ?_
        refine x_goto 56 dX9_kindHere_52 rfl ?_
        exact x_ireturn dX9_kindHere_56 rfl (xrv (by rw [kH, if_neg c2, if_neg c4, if_pos c6]))
    · have c4 := of_decide_eq_true (b2_ne.mp c3)
      refine x_iconst dX9_kindHere_35 1 rfl ?_
      exact x_ireturn dX9_kindHere_36 rfl (xrv (by rw [kH, if_neg c2, if_pos c4]))
  · have c2 := of_decide_eq_true (b2_ne.mp c1)
    refine x_iconst dX9_kindHere_18 0 rfl ?_
    exact x_ireturn dX9_kindHere_19 rfl (xrv (by rw [kH, if_pos c2]))
theorem c_mostOf (k : Int32) : xMet G d 0 0 m_X9_mostOf [.int k] h (xI (.int (if k = 0 then 8 else 10)) h) := by
  refine xMet.of [some (.int k)] pl_X9 rfl (Nat.le_of_ble_eq_true rfl) ?_
  refine x_iload_n dX9_mostOf_0 rfl ?_
  refine x_if_ne 9 dX9_mostOf_1 rfl (fun c1 => ?_) (fun c1 => ?_)
  · refine x_bipush dX9_mostOf_9 10 (by decide) ?_
    exact x_ireturn dX9_mostOf_11 rfl (xrv (by rw [if_neg c1]))
  · refine x_bipush dX9_mostOf_4 8 (by decide) ?_
    refine x_goto 11 dX9_mostOf_6 rfl ?_
    exact x_ireturn dX9_mostOf_11 rfl (xrv (by rw [if_pos c1]))
theorem nE_B {t : List Nat} {k : Nat} {lo hi : Int32} : nE t (sc isB t k) lo hi = nE t k lo hi := by unfold nE nV; rw [sc_idem]
theorem nV_B {t : List Nat} {k : Nat} : nV t (sc isB t k) = nV t k := by unfold nV; rw [sc_idem]
theorem nK_B {t : List Nat} {k : Nat} : nK t (sc isB t k) = nK t k := by unfold nK; rw [sc_idem]
/-- another thing than a, below m -/
def oE (t : List Nat) (k : Nat) (a m : Int32) : Option (Nat × Nat) := if nE t k 0 (m - 1) = none ∧ a = nI (nV t k) then some (1, sc isB t k) else nE t k 0 (m - 1)
theorem c_otherThing (hs : tOK s) (ht : tTx s t) (hb : G.2.2.1 ≤ T0) (k : Nat) (hk : k ≤ t.length) (a m : Int32) : xMet G (d + 3) 0 0 m_X9_otherThing [.ref T0, .int a, .int m] (tw T0 h (pst s k none)) (xI (.int (if nE t k 0 (m - 1) = none then nI (nV t k) else 0)) (tw T0 h (pst s (nK t k) (oE t k a m)))) := by
  refine xMet.of [some (.ref T0), some (.int a), some (.int m), none, none] pl_X9 rfl (Nat.le_of_ble_eq_true rfl) ?_
  have h6 := ht.2.1
  have hb6 : sc isB t k ≤ t.length := sc_le hk
  have w1 := c_number (G := G) (d := d) (h := h) (T0 := T0) (s := s) hs ht hb (sc isB t k) hb6 0 (m - 1)
  rw [nE_B, nV_B, nK_B] at w1
  refine x_aload_n dX9_otherThing_0 rfl ?_
  refine xuV0 dX9_otherThing_1 v_X9_114_27 tw_get0 (Nat.le_of_ble_eq_true rfl) (c_blanks hs ht hb k (by omega)) ?_
  refine x_aload_n dX9_otherThing_4 rfl ?_
  refine t_gi dX9_otherThing_5 f_X9_101_27 (by decide) rfl (by decide) pst4 ?_
  refine xsi3 dX9_otherThing_8 (by decide) rfl ?_
  refine x_aload_n dX9_otherThing_9 rfl ?_
  refine x_iconst dX9_otherThing_10 0 rfl ?_
  refine x_iload_n dX9_otherThing_11 rfl ?_
  refine x_at 12 rfl ?_
  refine x_iconst dX9_otherThing_12 1 rfl ?_
  refine x_isub dX9_otherThing_13 ?_
  refine xiV2 dX9_otherThing_14 v_X9_154_27 tw_get0 (Nat.le_of_ble_eq_true rfl) (w1) ?_
  refine xsi4 dX9_otherThing_17 (by decide) rfl ?_
  refine x_aload_n dX9_otherThing_19 rfl ?_
  refine t_gi dX9_otherThing_20 f_X9_108_27 (by decide) rfl (by decide) pst5 ?_
  refine x_if_ne 38 dX9_otherThing_23 rfl (fun c1 => ?_) (fun c1 => ?_)
  · have c2 : ¬ nE t k 0 (m - 1) = none := fun q => c1 (pf_iff.mpr q)
    rw [show oE t k a m = nE t k 0 (m - 1) from if_neg (fun q => c2 q.1)]
    refine x_iload dX9_otherThing_38 rfl ?_
    exact x_ireturn dX9_otherThing_40 rfl ⟨rfl, rfl⟩
  · have c2 : nE t k 0 (m - 1) = none := pf_iff.mp c1
    rw [oE]
    simp only [c2, if_true, true_and]
    refine x_iload_n dX9_otherThing_26 rfl ?_
    refine x_iload dX9_otherThing_27 rfl ?_
    refine x_icmp_ne 38 dX9_otherThing_29 rfl (fun c3 => ?_) (fun c3 => ?_)
    · rw [if_neg c3]
      refine x_iload dX9_otherThing_38 rfl ?_
      exact x_ireturn dX9_otherThing_40 rfl ⟨rfl, rfl⟩
    · rw [if_pos c3]
      refine x_aload_n dX9_otherThing_32 rfl ?_
      refine x_iconst dX9_otherThing_33 2 rfl ?_
      refine x_iload_n dX9_otherThing_34 rfl ?_
      refine xuV2 dX9_otherThing_35 v_X9_121_27 tw_get0 (Nat.le_of_ble_eq_true rfl) (c_wrongP hb (e := none) 1 (sc isB t k)) ?_
      refine x_iload dX9_otherThing_38 rfl ?_
      exact x_ireturn dX9_otherThing_40 rfl ⟨rfl, rfl⟩
theorem c_otherThingF (hs : tOK s) (ht : tTx s t) (hb : G.2.2.1 ≤ T0) (k : Nat) (hk : k ≤ t.length) (q : Nat × Nat) (a m : Int32) : xMet G (d + 2) 0 0 m_X9_otherThing [.ref T0, .int a, .int m] (tw T0 h (pst s k (some q))) (xI (.int 0) (tw T0 h (pst s (sc isB t k) (some q)))) := by
  refine xMet.of [some (.ref T0), some (.int a), some (.int m), none, none] pl_X9 rfl (Nat.le_of_ble_eq_true rfl) ?_
  have h6 := ht.2.1
  refine x_aload_n dX9_otherThing_0 rfl ?_
  refine xuV0 dX9_otherThing_1 v_X9_114_27 tw_get0 (Nat.le_of_ble_eq_true rfl) (c_blanks hs ht hb k (by omega)) ?_
  refine x_aload_n dX9_otherThing_4 rfl ?_
  refine t_gi dX9_otherThing_5 f_X9_101_27 (by decide) rfl (by decide) pst4 ?_
  refine xsi3 dX9_otherThing_8 (by decide) rfl ?_
  refine x_aload_n dX9_otherThing_9 rfl ?_
  refine x_iconst dX9_otherThing_10 0 rfl ?_
  refine x_iload_n dX9_otherThing_11 rfl ?_
  refine x_at 12 rfl ?_
  refine x_iconst dX9_otherThing_12 1 rfl ?_
  refine x_isub dX9_otherThing_13 ?_
  refine xiV2 dX9_otherThing_14 v_X9_154_27 tw_get0 (Nat.le_of_ble_eq_true rfl) (c_numberF q _ _) ?_
  refine xsi4 dX9_otherThing_17 (by decide) rfl ?_
  refine x_aload_n dX9_otherThing_19 rfl ?_
  refine t_gi dX9_otherThing_20 f_X9_108_27 (by decide) rfl (by decide) pst5 ?_
  refine x_if_ne 38 dX9_otherThing_23 rfl (fun _ => ?_) (fun hc9 => absurd hc9 (pf_ne q))
  refine x_iload dX9_otherThing_38 rfl ?_
  exact x_ireturn dX9_otherThing_40 rfl ⟨rfl, rfl⟩
end TS
