set_option maxRecDepth 100000
/-! ===== the twin, 22: a law is read ===== -/
/-- codes noted so far, how many are open -/
def sLw (s : tS) (cs : Cds) (o : Int32) : tS := (fun k => if k = 18 then nI cs.length else if k = 8 then o else s.1 k, s.2.1, fun j => if 191 ≤ j ∧ j < 191 + cs.length then [nI (cd cs (j - 191)).1, nI (cd cs (j - 191)).2] else s.2.2 j)
theorem ln_rl : ∀ i, i < 160 → tlen (190 + 1 + i) = 2 := by decide +kernel
theorem ar_rl : ∀ i, i < 160 → (190 + 1 + i < 475 ∧ ¬ 190 + 1 + i = 0 ∧ tgrid (190 + 1 + i) = 0 ∧ ¬ 190 + 1 + i = 472) := by decide +kernel
theorem sLw_ok {s : tS} {cs : Cds} {o : Int32} (hs : tOK s) (hl : cs.length ≤ 160) : tOK (sLw s cs o) := by
  intro j
  show (if 191 ≤ j ∧ j < 191 + cs.length then _ else s.2.2 j).length = tlen j
  by_cases h : 191 ≤ j ∧ j < 191 + cs.length
  · rw [if_pos h]
    have := ln_rl (j - 191) (by omega)
    rw [show 190 + 1 + (j - 191) = j by omega] at this
    rw [this]
    rfl
  · rw [if_neg h]; exact hs j
theorem sLw_tx {s : tS} {cs : Cds} {o : Int32} {t : List Nat} (h : tTx s t) : tTx (sLw s cs o) t := h
theorem sLw_a {s : tS} {cs : Cds} {o : Int32} {j : Nat} (h : ¬ (191 ≤ j ∧ j < 191 + cs.length)) : (sLw s cs o).2.2 j = s.2.2 j := if_neg h
theorem cd_snoc {cs : Cds} {q : Nat × Nat} {i : Nat} : cd (cs ++ [q]) i = if i < cs.length then cd cs i else if i = cs.length then q else (0, 0) := getD_snoc
theorem sLw_note {s : tS} {cs : Cds} {o : Int32} {k a b : Nat} (hs : tOK s) (hl : cs.length < 160) (r : List Int32) (hr : r = [nI a, nI b]) : seti (seta (pst (sLw s cs o) k none) (190 + 1 + cs.length) r) 18 (nI (cs.length + 1)) = pst (sLw s (cs ++ [(a, b)]) o) k none := by
  subst hr
  refine Prod.ext ?_ (Prod.ext rfl ?_)
  · funext j
    show (if j = 18 then _ else if j = 6 then _ else if j = 5 then _ else if j = 4 then _ else if j = 18 then _ else if j = 8 then _ else s.1 j) = (if j = 6 then _ else if j = 5 then _ else if j = 4 then _ else if j = 18 then nI (cs ++ [(a, b)]).length else if j = 8 then _ else s.1 j)
    by_cases h : j = 18
    · subst h
      rw [List.length_append]
      rfl
    · rw [if_neg h, if_neg h, if_neg h]
  · funext j
    show (if j = 190 + 1 + cs.length then _ else if 191 ≤ j ∧ j < 191 + cs.length then _ else s.2.2 j) = (if 191 ≤ j ∧ j < 191 + (cs ++ [(a, b)]).length then [nI (cd (cs ++ [(a, b)]) (j - 191)).1, nI (cd (cs ++ [(a, b)]) (j - 191)).2] else s.2.2 j)
    rw [List.length_append, cd_snoc]
    by_cases h : j = 190 + 1 + cs.length
    · rw [if_pos h, if_pos (by show _ ∧ _ < 191 + (_ + 1); omega), if_neg (by omega), if_pos (by omega)]
    · rw [if_neg h]
      by_cases h2 : 191 ≤ j ∧ j < 191 + cs.length
      · rw [if_pos h2, if_pos (by show _ ∧ _ < 191 + (_ + 1); omega), if_pos (by omega)]
      · rw [if_neg h2, if_neg (by show ¬ (_ ∧ _ < 191 + (_ + 1)); omega)]
theorem sLw_open {s : tS} {cs : Cds} {o o2 : Int32} {k : Nat} {e : Option (Nat × Nat)} : seti (pst (sLw s cs o) k e) 8 o2 = pst (sLw s cs o2) k e := by
  refine Prod.ext ?_ rfl
  funext j
  show (if j = 8 then _ else if j = 6 then _ else if j = 5 then _ else if j = 4 then _ else if j = 18 then _ else if j = 8 then _ else s.1 j) = (if j = 6 then _ else if j = 5 then _ else if j = 4 then _ else if j = 18 then _ else if j = 8 then _ else s.1 j)
  by_cases h : j = 8
  · subst h; rfl
  · rw [if_neg h, if_neg h, if_neg h]
/-- how a reading of codes ends -/
def lwR (T0 : Nat) (h : xH) (s : tS) (cs : Cds) (o : Int32) (r : PR Cds) (h' : xH) : Prop := match r with
  | .inl e => ∃ cs' o' k', cs'.length ≤ 160 ∧ k' ≤ 600 ∧ h' = tw T0 h (pst (sLw s cs' o') k' (some e))
  | .inr q => h' = tw T0 h (pst (sLw s (cs ++ q.1) o) q.2 none)
section TX2
variable {G : xG} {d : Nat} {h : xH} {T0 : Nat} {s : tS} {t : List Nat}
theorem f18 {cs : Cds} {o : Int32} {k : Nat} {e : Option (Nat × Nat)} : (pst (sLw s cs o) k e).1 18 = nI cs.length := rfl
theorem f8 {cs : Cds} {o : Int32} {k : Nat} {e : Option (Nat × Nat)} : (pst (sLw s cs o) k e).1 8 = o := rfl
theorem c_notes (hs : tOK s) (hb : G.2.2.1 ≤ T0) {cs : Cds} {o : Int32} {k : Nat} (hl : cs.length < 160) (a b : Nat) : xMet G d 0 0 m_X9_notes [.ref T0, .int (nI a), .int (nI b)] (tw T0 h (pst (sLw s cs o) k none)) (xU (tw T0 h (pst (sLw s (cs ++ [(a, b)]) o) k none))) := by
  refine xMet.of [some (.ref T0), some (.int (nI a)), some (.int (nI b))] pl_X9 rfl (Nat.le_of_ble_eq_true rfl) ?_
  have ok1 : tOK (pst (sLw s cs o) k none) := sLw_ok (o := o) hs (by omega)
  have l2 : ((pst (sLw s cs o) k none).2.2 (190 + 1 + cs.length)).length = 2 := by rw [ok1, ln_rl _ hl]
  generalize hr0 : (pst (sLw s cs o) k none).2.2 (190 + 1 + cs.length) = r0 at l2
  have ok2 : tOK (seta (pst (sLw s cs o) k none) (190 + 1 + cs.length) (r0.set 0 (nI a))) := seta_ok ok1 (by rw [List.length_set, l2, ln_rl _ hl])
  have er : (r0.set 0 (nI a)).set 1 (nI b) = [nI a, nI b] := by
    match r0, l2 with
    | [x, y], _ => rfl
  have g1 : (seta (pst (sLw s cs o) k none) (190 + 1 + cs.length) (r0.set 0 (nI a))).1 18 = nI cs.length := rfl
  have g2 : (seta (pst (sLw s cs o) k none) (190 + 1 + cs.length) ((r0.set 0 (nI a)).set 1 (nI b))).1 18 = nI cs.length := rfl
  refine x_aload_n dX9_notes_0 rfl ?_
  refine t_gi dX9_notes_1 f_X9_108_27 (by decide) rfl (by decide) pst5 ?_
  refine x_if_eq 8 dX9_notes_4 rfl (fun _ => ?_) (fun hc9 => absurd (rfl) hc9)
  refine x_aload_n dX9_notes_8 rfl ?_
  refine t_ga 190 dX9_notes_9 f_X9_43_27 (by decide) rfl (by decide) ?_
  refine x_aload_n dX9_notes_12 rfl ?_
  refine t_gi dX9_notes_13 f_X9_203_27 (by decide) rfl (by decide) f18 ?_
  refine t_aa cs.length dX9_notes_16 (by decide) rfl (show _ < 160 from hl) ?_
  refine x_at 17 rfl ?_
  refine x_iconst dX9_notes_17 0 rfl ?_
  refine x_iload_n dX9_notes_18 rfl ?_
  refine t_is 0 dX9_notes_19 ok1 (ar_rl _ hl) rfl (by rw [ln_rl _ hl]; decide) hb ?_
  rw [hr0]
  refine x_aload_n dX9_notes_20 rfl ?_
  refine t_ga 190 dX9_notes_21 f_X9_43_27 (by decide) rfl (by decide) ?_
  refine x_aload_n dX9_notes_24 rfl ?_
  refine t_gi dX9_notes_25 f_X9_203_27 (by decide) rfl (by decide) g1 ?_
  refine t_aa cs.length dX9_notes_28 (by decide) rfl (show _ < 160 from hl) ?_
  refine x_iconst dX9_notes_29 1 rfl ?_
  refine x_iload_n dX9_notes_30 rfl ?_
  refine t_is 1 dX9_notes_31 ok2 (ar_rl _ hl) rfl (by rw [ln_rl _ hl]; decide) hb ?_
  rw [seta_get, seta_seta]
  refine x_aload_n dX9_notes_32 rfl ?_
  refine x_dup dX9_notes_33 rfl ?_
  refine t_gi dX9_notes_34 f_X9_203_27 (by decide) rfl (by decide) g2 ?_
  refine x_iconst dX9_notes_37 1 rfl ?_
  refine x_iadd dX9_notes_38 ?_
  rw [nI_1]
  refine t_pi dX9_notes_39 p_X9_203_27 rfl (by decide) hb ?_
  rw [sLw_note hs hl _ er]
  exact x_return dX9_notes_42 rfl ⟨rfl, rfl⟩
theorem c_notesF {s1 : tS} {k : Nat} (q : Nat × Nat) (a b : Int32) : xMet G d 0 0 m_X9_notes [.ref T0, .int a, .int b] (tw T0 h (pst s1 k (some q))) (xU (tw T0 h (pst s1 k (some q)))) := by
  refine xMet.of [some (.ref T0), some (.int a), some (.int b)] pl_X9 rfl (Nat.le_of_ble_eq_true rfl) ?_
  refine x_aload_n dX9_notes_0 rfl ?_
  refine t_gi dX9_notes_1 f_X9_108_27 (by decide) rfl (by decide) pst5 ?_
  refine x_if_eq 8 dX9_notes_4 rfl (fun hc9 => absurd hc9 (pf_ne q)) (fun _ => ?_)
  exact x_return dX9_notes_7 rfl ⟨rfl, rfl⟩
theorem c_opensOne (hb : G.2.2.1 ≤ T0) {cs : Cds} {k : Nat} (o : Nat) (ho : o < 6) : xMet G (d + 1) 0 0 m_X9_opensOne [.ref T0] (tw T0 h (pst (sLw s cs (nI o)) k none)) (xI (.int 1) (tw T0 h (pst (sLw s cs (nI (o + 1))) k none))) := by
  refine xMet.of [some (.ref T0)] pl_X9 rfl (Nat.le_of_ble_eq_true rfl) ?_
  refine x_aload_n dX9_opensOne_0 rfl ?_
  refine t_gi dX9_opensOne_1 f_X9_108_27 (by decide) rfl (by decide) pst5 ?_
  refine x_if_ne 28 dX9_opensOne_4 rfl (fun hc9 => absurd (rfl) hc9) (fun _ => ?_)
  refine x_aload_n dX9_opensOne_7 rfl ?_
  refine t_gi dX9_opensOne_8 f_X9_151_27 (by decide) rfl (by decide) f8 ?_
  refine x_bipush dX9_opensOne_11 6 (by decide) ?_
  refine x_icmp_ne 28 dX9_opensOne_13 rfl (fun _ => ?_) (fun hc9 => absurd hc9 (fun z => absurd ((nI_eq (by omega) (b := 6) (by decide)).mp z) (by omega)))
  refine x_aload_n dX9_opensOne_28 rfl ?_
  refine x_at 29 rfl ?_
  refine t_gi dX9_opensOne_29 f_X9_108_27 (by decide) rfl (by decide) pst5 ?_
  refine x_if_ne 45 dX9_opensOne_32 rfl (fun hc9 => absurd (rfl) hc9) (fun _ => ?_)
  refine x_aload_n dX9_opensOne_35 rfl ?_
  refine x_dup dX9_opensOne_36 rfl ?_
  refine t_gi dX9_opensOne_37 f_X9_151_27 (by decide) rfl (by decide) f8 ?_
  refine x_iconst dX9_opensOne_40 1 rfl ?_
  refine x_iadd dX9_opensOne_41 ?_
  rw [nI_1]
  refine t_pi dX9_opensOne_42 p_X9_151_27 rfl (by decide) hb ?_
  rw [sLw_open]
  refine x_aload_n dX9_opensOne_45 rfl ?_
  refine t_gi dX9_opensOne_46 f_X9_108_27 (by decide) rfl (by decide) pst5 ?_
  refine x_if_ne 56 dX9_opensOne_49 rfl (fun hc9 => absurd (rfl) hc9) (fun _ => ?_)
  refine x_iconst dX9_opensOne_52 1 rfl ?_
  refine x_goto 57 dX9_opensOne_53 rfl ?_
  exact x_zreturn dX9_opensOne_57 rfl rfl ⟨rfl, rfl⟩
theorem c_opensFull (hb : G.2.2.1 ≤ T0) {cs : Cds} {k : Nat} : xMet G (d + 1) 0 0 m_X9_opensOne [.ref T0] (tw T0 h (pst (sLw s cs (nI 6)) k none)) (xI (.int 0) (tw T0 h (pst (sLw s cs (nI 6)) k (some (2, k))))) := by
  refine xMet.of [some (.ref T0)] pl_X9 rfl (Nat.le_of_ble_eq_true rfl) ?_
  refine x_aload_n dX9_opensOne_0 rfl ?_
  refine t_gi dX9_opensOne_1 f_X9_108_27 (by decide) rfl (by decide) pst5 ?_
  refine x_if_ne 28 dX9_opensOne_4 rfl (fun hc9 => absurd (rfl) hc9) (fun _ => ?_)
  refine x_aload_n dX9_opensOne_7 rfl ?_
  refine t_gi dX9_opensOne_8 f_X9_151_27 (by decide) rfl (by decide) f8 ?_
  refine x_bipush dX9_opensOne_11 6 (by decide) ?_
  refine x_icmp_ne 28 dX9_opensOne_13 rfl (fun hc9 => absurd (rfl) hc9) (fun _ => ?_)
  refine x_aload_n dX9_opensOne_16 rfl ?_
  refine x_at 17 rfl ?_
  refine x_iconst dX9_opensOne_17 3 rfl ?_
  refine x_aload_n dX9_opensOne_18 rfl ?_
  refine t_gi dX9_opensOne_19 f_X9_101_27 (by decide) rfl (by decide) pst4 ?_
  refine xuV2 dX9_opensOne_22 v_X9_121_27 tw_get0 (Nat.le_of_ble_eq_true rfl) (c_wrongP hb (e := none) 2 k) ?_
  refine x_goto 45 dX9_opensOne_25 rfl ?_
  refine x_aload_n dX9_opensOne_45 rfl ?_
  refine t_gi dX9_opensOne_46 f_X9_108_27 (by decide) rfl (by decide) pst5 ?_
  refine x_if_ne 56 dX9_opensOne_49 rfl (fun _ => ?_) (fun hc9 => absurd hc9 (pf_ne (2, k)))
  refine x_iconst dX9_opensOne_56 0 rfl ?_
  exact x_zreturn dX9_opensOne_57 rfl rfl ⟨rfl, rfl⟩
/-- with a fault nothing more is read -/
theorem c_oneF {s1 : tS} {k : Nat} (q : Nat × Nat) : xMet G d 0 0 m_X9_one [.ref T0] (tw T0 h (pst s1 k (some q))) (xU (tw T0 h (pst s1 k (some q)))) := by
  refine xMet.of [some (.ref T0), none, none] pl_X9 rfl (Nat.le_of_ble_eq_true rfl) ?_
  refine x_aload_n dX9_one_0 rfl ?_
  refine t_gi dX9_one_1 f_X9_108_27 (by decide) rfl (by decide) pst5 ?_
  refine x_if_eq 8 dX9_one_4 rfl (fun hc9 => absurd hc9 (pf_ne q)) (fun _ => ?_)
  exact x_return dX9_one_7 rfl ⟨rfl, rfl⟩
theorem c_productF {s1 : tS} {k : Nat} (q : Nat × Nat) : xMet G (d + 1) 0 0 m_X9_product [.ref T0] (tw T0 h (pst s1 k (some q))) (xU (tw T0 h (pst s1 k (some q)))) := by
  refine xMet.of [some (.ref T0), none] pl_X9 rfl (Nat.le_of_ble_eq_true rfl) ?_
  refine x_aload_n dX9_product_0 rfl ?_
  refine xuV0 dX9_product_1 v_X9_215_27 tw_get0 (Nat.le_of_ble_eq_true rfl) (c_oneF q) ?_
  refine x_aload_n dX9_product_4 rfl ?_
  refine t_gi dX9_product_5 f_X9_108_27 (by decide) rfl (by decide) pst5 ?_
  refine x_if_ne 72 dX9_product_8 rfl (fun _ => ?_) (fun hc9 => absurd hc9 (pf_ne q))
  exact x_return dX9_product_72 rfl ⟨rfl, rfl⟩
theorem c_sumF {s1 : tS} {k : Nat} (q : Nat × Nat) : xMet G (d + 2) 0 0 m_X9_sum [.ref T0] (tw T0 h (pst s1 k (some q))) (xU (tw T0 h (pst s1 k (some q)))) := by
  refine xMet.of [some (.ref T0), none] pl_X9 rfl (Nat.le_of_ble_eq_true rfl) ?_
  refine x_aload_n dX9_sum_0 rfl ?_
  refine xuV0 dX9_sum_1 v_X9_206_27 tw_get0 (Nat.le_of_ble_eq_true rfl) (c_productF q) ?_
  refine x_aload_n dX9_sum_4 rfl ?_
  refine t_gi dX9_sum_5 f_X9_108_27 (by decide) rfl (by decide) pst5 ?_
  refine x_if_ne 58 dX9_sum_8 rfl (fun _ => ?_) (fun hc9 => absurd hc9 (pf_ne q))
  exact x_return dX9_sum_58 rfl ⟨rfl, rfl⟩
/-- the contract of a reader of codes -/
def rdC (G : xG) (T0 : Nat) (h : xH) (s : tS) (t : List Nat) (n : Nat) (m : xM) (o : Int32) (P : Nat → PR Cds) : Prop := ∀ (k : Nat) (cs : Cds), k ≤ t.length → cs.length ≤ k → xMet G n 0 0 m [.ref T0] (tw T0 h (pst (sLw s cs o) k none)) (xV (lwR T0 h s cs o (P k)))
theorem c_product (hs : tOK s) (ht : tTx s t) (hb : G.2.2.1 ≤ T0) (h150 : t.length ≤ 150) {o : Int32} {u : Nat → PR Cds} (hu : pG t u) (hC : rdC G T0 h s t (d + 2) m_X9_one o u) : rdC G T0 h s t (d + 3) m_X9_product o (pProd t u) := by
  intro k cs hk hcs
  refine xMet.of [some (.ref T0), none] pl_X9 rfl (Nat.le_of_ble_eq_true rfl) ?_
  have err : ∀ e cs' o' k' x1, cs'.length ≤ 160 → k' ≤ 600 → xRun G m_X9_product (d + 3) 0 0 4 [some (.ref T0), x1] [] (tw T0 h (pst (sLw s cs' o') k' (some e))) (xV (lwR T0 h s cs o (.inl e))) := by
    intro e cs' o' k' x1 h1 h2
    refine x_aload_n dX9_product_4 rfl ?_
    refine t_gi dX9_product_5 f_X9_108_27 (by decide) rfl (by decide) pst5 ?_
    refine x_if_ne 72 dX9_product_8 rfl (fun _ => ?_) (fun hc9 => absurd hc9 (pf_ne e))
    exact x_return dX9_product_72 rfl ⟨rfl, cs', o', k', h1, h2, rfl⟩
  have loop : ∀ (f k1 : Nat) (c1 : Cds) x1, k ≤ k1 → k1 ≤ t.length → c1.length ≤ k1 - k → cwf c1 → t.length < k1 + f → xRun G m_X9_product (d + 3) 0 0 4 [some (.ref T0), x1] [] (tw T0 h (pst (sLw s (cs ++ c1) o) k1 none)) (xV (lwR T0 h s cs o (pLoop (opsM t) u t f c1 k1))) := by
    intro f
    induction f with
    | zero => intro k1 c1 x1 _ h2 _ _ h5; omega
    | succ f ih =>
      intro k1 c1 x1 h1 h2 h3 h4 h5
      have hl : (cs ++ c1).length ≤ 150 := by rw [List.length_append]; omega
      have ok1 : tOK (sLw s (cs ++ c1) o) := sLw_ok hs (by omega)
      have hb6 : sc isB t k1 ≤ t.length := sc_le h2
      have hge := @sc_ge isB t k1
      have w1 := c_takesSign (G := G) (d := d) (h := h) (T0 := T0) ok1 (sLw_tx ht) hb k1 h2 42 (by decide) (ci := 42) rfl
      have w2 := c_takesSign (G := G) (d := d) (h := h) (T0 := T0) ok1 (sLw_tx ht) hb (sc isB t k1) hb6 47 (by decide) (ci := 47) rfl
      have w3 := c_takesSign (G := G) (d := d) (h := h) (T0 := T0) ok1 (sLw_tx ht) hb (sc isB t k1) hb6 37 (by decide) (ci := 37) rfl
      rw [sc_idem] at w2 w3
      have go : ∀ how, opsM t (sc isB t k1) = some how → xRun G m_X9_product (d + 3) 0 0 52 [some (.ref T0), x1] [.int (nI how)] (tw T0 h (pst (sLw s (cs ++ c1) o) (sc isB t k1 + 1) none)) (xV (lwR T0 h s cs o (pLoop (opsM t) u t (f + 1) c1 k1))) := by
        intro how ho
        have hok := opsM_ok _ _ ho
        have e1 : pLoop (opsM t) u t (f + 1) c1 k1 = (match u (sc isB t k1 + 1) with | .inl e => .inl e | .inr q => pLoop (opsM t) u t f (c1 ++ (q.1 ++ [(how, 0)])) q.2) := by
          show (match opsM t (sc isB t k1) with | none => _ | some how => _) = _
          rw [ho]
          rfl
        rw [e1]
        have key := hC (sc isB t k1 + 1) (cs ++ c1) (by omega) (by rw [List.length_append]; omega)
        refine xsi1 dX9_product_52 (by decide) rfl ?_
        refine x_iload_n dX9_product_53 rfl ?_
        refine x_iconst dX9_product_54 (-1) rfl ?_
        refine x_icmp_ne 59 dX9_product_55 rfl (fun _ => ?_) (fun hc9 => absurd hc9 (fun z => absurd (show nI how < 0 by rw [z]; decide) (nI_pos (by omega))))
        refine x_aload_n dX9_product_59 rfl ?_
        refine xvV0 dX9_product_60 v_X9_215_27 tw_get0 (Nat.le_of_ble_eq_true rfl) (key) (by omega) (by omega) (fun h1 hF => ?_)
        cases hq : u (sc isB t k1 + 1) with
        | inl e =>
          rw [hq] at hF
          obtain ⟨cs', o', k', g1, g2, rfl⟩ := hF
          refine x_aload_n dX9_product_63 rfl ?_
          refine x_iload_n dX9_product_64 rfl ?_
          refine x_iconst dX9_product_65 0 rfl ?_
          refine xuV2 dX9_product_66 v_X9_212_27 tw_get0 (Nat.le_of_ble_eq_true rfl) (c_notesF e _ _) ?_
          refine x_goto 4 dX9_product_69 rfl ?_
          exact err e cs' o' k' _ g1 g2
        | inr q =>
          rw [hq] at hF
          have hF2 : h1 = tw T0 h (pst (sLw s (cs ++ c1 ++ q.1) o) q.2 none) := hF
          subst hF2
          have hg := hu _ (by omega) q.1 q.2 hq
          have hl2 : (cs ++ c1 ++ q.1).length < 160 := by rw [List.length_append, List.length_append]; omega
          refine x_aload_n dX9_product_63 rfl ?_
          refine x_iload_n dX9_product_64 rfl ?_
          refine x_iconst dX9_product_65 0 rfl ?_
          refine xuV2 dX9_product_66 v_X9_212_27 tw_get0 (Nat.le_of_ble_eq_true rfl) (c_notes hs hb hl2 how 0) ?_
          refine x_goto 4 dX9_product_69 rfl ?_
          rw [List.append_assoc, List.append_assoc]
          exact ih q.2 (c1 ++ (q.1 ++ [(how, 0)])) _ (by omega) hg.2.1 (by simp only [List.length_append, List.length_cons, List.length_nil]; omega) (cwf_op h4 hg.2.2.2 hok.2.1 hok.2.2) (by omega)
      refine x_aload_n dX9_product_4 rfl ?_
      refine t_gi dX9_product_5 f_X9_108_27 (by decide) rfl (by decide) pst5 ?_
      refine x_if_ne 72 dX9_product_8 rfl (fun hc9 => absurd (rfl) hc9) (fun _ => ?_)
      refine x_aload_n dX9_product_11 rfl ?_
      refine x_bipush dX9_product_12 42 (by decide) ?_
      refine xiV1 dX9_product_14 v_X9_209_27 tw_get0 (Nat.le_of_ble_eq_true rfl) (w1) ?_
      refine x_if_eq 24 dX9_product_17 rfl (fun z1 => ?_) (fun z1 => ?_)
      · have c2 := b2_eq.mp z1
        rw [if_neg (by rw [c2]; decide)]
        refine x_aload_n dX9_product_24 rfl ?_
        refine x_bipush dX9_product_25 47 (by decide) ?_
        refine xiV1 dX9_product_27 v_X9_209_27 tw_get0 (Nat.le_of_ble_eq_true rfl) (w2) ?_
        refine x_if_eq 37 dX9_product_30 rfl (fun c3 => ?_) (fun c3 => ?_)
        · have c4 := b2_eq.mp c3
          rw [if_neg (by rw [c4]; decide)]
          refine x_aload_n dX9_product_37 rfl ?_
          refine x_bipush dX9_product_38 37 (by decide) ?_
          refine xiV1 dX9_product_40 v_X9_209_27 tw_get0 (Nat.le_of_ble_eq_true rfl) (w3) ?_
          refine x_if_eq 51 dX9_product_43 rfl (fun c5 => ?_) (fun c5 => ?_)
          · have c6 := b2_eq.mp c5
            rw [if_neg (by rw [c6]; decide)]
            have e1 : pLoop (opsM t) u t (f + 1) c1 k1 = .inr (c1, sc isB t k1) := by
              show (match opsM t (sc isB t k1) with | none => _ | some how => _) = _
              rw [opsM, if_neg (by rw [c2]; decide), if_neg (by rw [c4]; decide), if_neg (by rw [c6]; decide)]
            rw [e1]
            refine x_iconst dX9_product_51 (-1) rfl ?_
            refine xsi1 dX9_product_52 (by decide) rfl ?_
            refine x_iload_n dX9_product_53 rfl ?_
            refine x_iconst dX9_product_54 (-1) rfl ?_
            refine x_icmp_ne 59 dX9_product_55 rfl (fun hc9 => absurd (rfl) hc9) (fun _ => ?_)
            exact x_return dX9_product_58 rfl ⟨rfl, rfl⟩
          · have c6 := b2_ne.mp c5
            rw [if_pos c6]
            refine x_bipush dX9_product_46 6 (by decide) ?_
            refine x_goto 52 dX9_product_48 rfl ?_
            exact go 6 (by rw [opsM, if_neg (by rw [c2]; decide), if_neg (by rw [c4]; decide), if_pos c6])
        · have c4 := b2_ne.mp c3
          rw [if_pos c4]
          refine x_iconst dX9_product_33 5 rfl ?_
          refine x_goto 52 dX9_product_34 rfl ?_
          exact go 5 (by rw [opsM, if_neg (by rw [c2]; decide), if_pos c4])
      · have c2 := b2_ne.mp z1
        rw [if_pos c2]
        refine x_iconst dX9_product_20 4 rfl ?_
        refine x_goto 52 dX9_product_21 rfl ?_
        exact go 4 (by rw [opsM, if_pos c2])
  have key := hC k cs hk hcs
  unfold pProd
  refine x_aload_n dX9_product_0 rfl ?_
  refine xvV0 dX9_product_1 v_X9_215_27 tw_get0 (Nat.le_of_ble_eq_true rfl) (key) (by omega) (by omega) (fun h1 hF => ?_)
  cases hq : u k with
  | inl e =>
    rw [hq] at hF
    obtain ⟨cs', o', k', g1, g2, rfl⟩ := hF
    exact err e cs' o' k' _ g1 g2
  | inr q =>
    rw [hq] at hF
    have hF2 : h1 = tw T0 h (pst (sLw s (cs ++ q.1) o) q.2 none) := hF
    subst hF2
    have hg := hu _ hk q.1 q.2 hq
    exact loop (t.length + 1) q.2 q.1 _ hg.1 hg.2.1 hg.2.2.1 hg.2.2.2 (by omega)
theorem c_sum (hs : tOK s) (ht : tTx s t) (hb : G.2.2.1 ≤ T0) (h150 : t.length ≤ 150) {o : Int32} {u : Nat → PR Cds} (hu : pG t u) (hC : rdC G T0 h s t (d + 2) m_X9_product o (pProd t u)) : rdC G T0 h s t (d + 3) m_X9_sum o (pSum t u) := by
  intro k cs hk hcs
  have hv := pProd_G hu
  generalize hV : pProd t u = v at hC hv
  refine xMet.of [some (.ref T0), none] pl_X9 rfl (Nat.le_of_ble_eq_true rfl) ?_
  have err : ∀ e cs' o' k' x1, cs'.length ≤ 160 → k' ≤ 600 → xRun G m_X9_sum (d + 3) 0 0 4 [some (.ref T0), x1] [] (tw T0 h (pst (sLw s cs' o') k' (some e))) (xV (lwR T0 h s cs o (.inl e))) := by
    intro e cs' o' k' x1 h1 h2
    refine x_aload_n dX9_sum_4 rfl ?_
    refine t_gi dX9_sum_5 f_X9_108_27 (by decide) rfl (by decide) pst5 ?_
    refine x_if_ne 58 dX9_sum_8 rfl (fun _ => ?_) (fun hc9 => absurd hc9 (pf_ne e))
    exact x_return dX9_sum_58 rfl ⟨rfl, cs', o', k', h1, h2, rfl⟩
  have loop : ∀ (f k1 : Nat) (c1 : Cds) x1, k ≤ k1 → k1 ≤ t.length → c1.length ≤ k1 - k → cwf c1 → t.length < k1 + f → xRun G m_X9_sum (d + 3) 0 0 4 [some (.ref T0), x1] [] (tw T0 h (pst (sLw s (cs ++ c1) o) k1 none)) (xV (lwR T0 h s cs o (pLoop (opsA t) v t f c1 k1))) := by
    intro f
    induction f with
    | zero => intro k1 c1 x1 _ h2 _ _ h5; omega
    | succ f ih =>
      intro k1 c1 x1 h1 h2 h3 h4 h5
      have hl : (cs ++ c1).length ≤ 150 := by rw [List.length_append]; omega
      have ok1 : tOK (sLw s (cs ++ c1) o) := sLw_ok hs (by omega)
      have hb6 : sc isB t k1 ≤ t.length := sc_le h2
      have hge := @sc_ge isB t k1
      have w1 := c_takesSign (G := G) (d := d) (h := h) (T0 := T0) ok1 (sLw_tx ht) hb k1 h2 43 (by decide) (ci := 43) rfl
      have w2 := c_takesSign (G := G) (d := d) (h := h) (T0 := T0) ok1 (sLw_tx ht) hb (sc isB t k1) hb6 45 (by decide) (ci := 45) rfl
      rw [sc_idem] at w2
      have go : ∀ how, opsA t (sc isB t k1) = some how → xRun G m_X9_sum (d + 3) 0 0 38 [some (.ref T0), x1] [.int (nI how)] (tw T0 h (pst (sLw s (cs ++ c1) o) (sc isB t k1 + 1) none)) (xV (lwR T0 h s cs o (pLoop (opsA t) v t (f + 1) c1 k1))) := by
        intro how ho
        have hok := opsA_ok _ _ ho
        have e1 : pLoop (opsA t) v t (f + 1) c1 k1 = (match v (sc isB t k1 + 1) with | .inl e => .inl e | .inr q => pLoop (opsA t) v t f (c1 ++ (q.1 ++ [(how, 0)])) q.2) := by
          show (match opsA t (sc isB t k1) with | none => _ | some how => _) = _
          rw [ho]
          rfl
        rw [e1]
        have key := hC (sc isB t k1 + 1) (cs ++ c1) (by omega) (by rw [List.length_append]; omega)
        refine xsi1 dX9_sum_38 (by decide) rfl ?_
        refine x_iload_n dX9_sum_39 rfl ?_
        refine x_iconst dX9_sum_40 (-1) rfl ?_
        refine x_icmp_ne 45 dX9_sum_41 rfl (fun _ => ?_) (fun hc9 => absurd hc9 (fun z => absurd (show nI how < 0 by rw [z]; decide) (nI_pos (by omega))))
        refine x_aload_n dX9_sum_45 rfl ?_
        refine xvV0 dX9_sum_46 v_X9_206_27 tw_get0 (Nat.le_of_ble_eq_true rfl) (key) (by omega) (by omega) (fun h1 hF => ?_)
        cases hq : v (sc isB t k1 + 1) with
        | inl e =>
          rw [hq] at hF
          obtain ⟨cs', o', k', g1, g2, rfl⟩ := hF
          refine x_aload_n dX9_sum_49 rfl ?_
          refine x_iload_n dX9_sum_50 rfl ?_
          refine x_iconst dX9_sum_51 0 rfl ?_
          refine xuV2 dX9_sum_52 v_X9_212_27 tw_get0 (Nat.le_of_ble_eq_true rfl) (c_notesF e _ _) ?_
          refine x_goto 4 dX9_sum_55 rfl ?_
          exact err e cs' o' k' _ g1 g2
        | inr q =>
          rw [hq] at hF
          have hF2 : h1 = tw T0 h (pst (sLw s (cs ++ c1 ++ q.1) o) q.2 none) := hF
          subst hF2
          have hg := hv _ (by omega) q.1 q.2 hq
          have hl2 : (cs ++ c1 ++ q.1).length < 160 := by rw [List.length_append, List.length_append]; omega
          refine x_aload_n dX9_sum_49 rfl ?_
          refine x_iload_n dX9_sum_50 rfl ?_
          refine x_iconst dX9_sum_51 0 rfl ?_
          refine xuV2 dX9_sum_52 v_X9_212_27 tw_get0 (Nat.le_of_ble_eq_true rfl) (c_notes hs hb hl2 how 0) ?_
          refine x_goto 4 dX9_sum_55 rfl ?_
          rw [List.append_assoc, List.append_assoc]
          exact ih q.2 (c1 ++ (q.1 ++ [(how, 0)])) _ (by omega) hg.2.1 (by simp only [List.length_append, List.length_cons, List.length_nil]; omega) (cwf_op h4 hg.2.2.2 hok.2.1 hok.2.2) (by omega)
      refine x_aload_n dX9_sum_4 rfl ?_
      refine t_gi dX9_sum_5 f_X9_108_27 (by decide) rfl (by decide) pst5 ?_
      refine x_if_ne 58 dX9_sum_8 rfl (fun hc9 => absurd (rfl) hc9) (fun _ => ?_)
      refine x_aload_n dX9_sum_11 rfl ?_
      refine x_bipush dX9_sum_12 43 (by decide) ?_
      refine xiV1 dX9_sum_14 v_X9_209_27 tw_get0 (Nat.le_of_ble_eq_true rfl) (w1) ?_
      refine x_if_eq 24 dX9_sum_17 rfl (fun z1 => ?_) (fun z1 => ?_)
      · have c2 := b2_eq.mp z1
        rw [if_neg (by rw [c2]; decide)]
        refine x_aload_n dX9_sum_24 rfl ?_
        refine x_bipush dX9_sum_25 45 (by decide) ?_
        refine xiV1 dX9_sum_27 v_X9_209_27 tw_get0 (Nat.le_of_ble_eq_true rfl) (w2) ?_
        refine x_if_eq 37 dX9_sum_30 rfl (fun z3 => ?_) (fun z3 => ?_)
        · have c4 := b2_eq.mp z3
          rw [if_neg (by rw [c4]; decide)]
          have e1 : pLoop (opsA t) v t (f + 1) c1 k1 = .inr (c1, sc isB t k1) := by
            show (match opsA t (sc isB t k1) with | none => _ | some how => _) = _
            rw [opsA, if_neg (by rw [c2]; decide), if_neg (by rw [c4]; decide)]
          rw [e1]
          refine x_iconst dX9_sum_37 (-1) rfl ?_
          refine xsi1 dX9_sum_38 (by decide) rfl ?_
          refine x_iload_n dX9_sum_39 rfl ?_
          refine x_iconst dX9_sum_40 (-1) rfl ?_
          refine x_icmp_ne 45 dX9_sum_41 rfl (fun hc9 => absurd (rfl) hc9) (fun _ => ?_)
          exact x_return dX9_sum_44 rfl ⟨rfl, rfl⟩
        · have c4 := b2_ne.mp z3
          rw [if_pos c4]
          refine x_iconst dX9_sum_33 3 rfl ?_
          refine x_goto 38 dX9_sum_34 rfl ?_
          exact go 3 (by rw [opsA, if_neg (by rw [c2]; decide), if_pos c4])
      · have c2 := b2_ne.mp z1
        rw [if_pos c2]
        refine x_iconst dX9_sum_20 2 rfl ?_
        refine x_goto 38 dX9_sum_21 rfl ?_
        exact go 2 (by rw [opsA, if_pos c2])
  have key := hC k cs hk hcs
  unfold pSum
  rw [hV]
  refine x_aload_n dX9_sum_0 rfl ?_
  refine xvV0 dX9_sum_1 v_X9_206_27 tw_get0 (Nat.le_of_ble_eq_true rfl) (key) (by omega) (by omega) (fun h1 hF => ?_)
  cases hq : v k with
  | inl e =>
    rw [hq] at hF
    obtain ⟨cs', o', k', g1, g2, rfl⟩ := hF
    exact err e cs' o' k' _ g1 g2
  | inr q =>
    rw [hq] at hF
    have hF2 : h1 = tw T0 h (pst (sLw s (cs ++ q.1) o) q.2 none) := hF
    subst hF2
    have hg := hv _ hk q.1 q.2 hq
    exact loop (t.length + 1) q.2 q.1 _ hg.1 hg.2.1 hg.2.2.1 hg.2.2.2 (by omega)
theorem c_one (hs : tOK s) (ht : tTx s t) (hb : G.2.2.1 ≤ T0) (h150 : t.length ≤ 150) (n : Nat) (D : Nat) (hD : D ≤ 6) (S : Option (Nat → PR Cds)) (hS0 : D = 0 ↔ S = none) (hSG : ∀ P, S = some P → pG t P) (hSC : ∀ P, S = some P → rdC G T0 h s t (d + 5 + n) m_X9_sum (nI (6 - D + 1)) P) : rdC G T0 h s t (d + 6 + n) m_X9_one (nI (6 - D)) (pUnitG t S) := by
  intro k cs hk hcs
  refine xMet.of [some (.ref T0), none, none] pl_X9 rfl (Nat.le_of_ble_eq_true rfl) ?_
  have h66 := ht.2.1
  have hb6 : sc isB t k ≤ t.length := sc_le hk
  have hge := @sc_ge isB t k
  have ok1 : tOK (sLw s cs (nI (6 - D))) := sLw_ok hs (by omega)
  have w1 := c_isWord (G := G) (d := d + 2 + n) (h := h) (T0 := T0) ok1 (sLw_tx ht) hb (sc isB t k) hb6 (a := 12) (b := 5) (c := 1) (e := 19) (f := 20) (g := 0) [108, 101, 97, 115, 116] rfl rfl (by decide)
  have w2 := c_isWord (G := G) (d := d + 2 + n) (h := h) (T0 := T0) ok1 (sLw_tx ht) hb (sc isB t k) hb6 (a := 13) (b := 15) (c := 19) (e := 20) (f := 0) (g := 0) [109, 111, 115, 116] rfl rfl (by decide)
  have w3 := c_knownHere (G := G) (d := d + n) (h := h) (T0 := T0) ok1 (sLw_tx ht) hb (sc isB t k) hb6
  have w4 := c_number (G := G) (d := d + 3 + n) (h := h) (T0 := T0) ok1 (sLw_tx ht) hb (sc isB t k) hb6 0 999
  rw [sc_idem, wl_B] at w1 w2 w3
  rw [nE_B, nV_B, nK_B] at w4
  rw [show d + 2 + n + 3 = d + 5 + n by omega] at w1 w2
  rw [show d + n + 5 = d + 5 + n by omega] at w3
  rw [show d + 3 + n + 2 = d + 5 + n by omega] at w4
  rw [show d + 6 + n = d + 5 + n + 1 by omega]
  generalize hQ : xV (lwR T0 h s cs (nI (6 - D)) (pUnitG t S k)) = Q
  -- faults on the way through least[ , ]
  have e106 : ∀ e cs' o' k' x1 x2, pUnitG t S k = .inl e → cs'.length ≤ 160 → k' ≤ 600 → xRun G m_X9_one (d + 5 + n + 1) 0 0 106 [some (.ref T0), x1, x2] [] (tw T0 h (pst (sLw s cs' o') k' (some e))) Q := by
    intro e cs' o' k' x1 x2 hr g1 g2
    refine x_aload_n dX9_one_106 rfl ?_
    refine x_dup dX9_one_107 rfl ?_
    refine t_gi dX9_one_108 f_X9_151_27 (by decide) rfl (by decide) f8 ?_
    refine x_iconst dX9_one_111 1 rfl ?_
    refine x_isub dX9_one_112 ?_
    refine t_pi dX9_one_113 p_X9_151_27 rfl (by decide) hb ?_
    rw [sLw_open, ← hQ, hr]
    exact x_return dX9_one_116 rfl ⟨rfl, cs', _, k', g1, g2, rfl⟩
  have e94 : ∀ e cs' o' k' how x2, pUnitG t S k = .inl e → cs'.length ≤ 160 → k' ≤ 600 → xRun G m_X9_one (d + 5 + n + 1) 0 0 94 [some (.ref T0), some (.int how), x2] [] (tw T0 h (pst (sLw s cs' o') k' (some e))) Q := by
    intro e cs' o' k' how x2 hr g1 g2
    refine x_aload_n dX9_one_94 rfl ?_
    refine x_bipush dX9_one_95 93 (by decide) ?_
    refine xuV1 dX9_one_97 v_X9_167_27 tw_get0 (Nat.le_of_ble_eq_true rfl) (c_signF e _) ?_
    refine x_aload_n dX9_one_100 rfl ?_
    refine x_iload_n dX9_one_101 rfl ?_
    refine x_iconst dX9_one_102 0 rfl ?_
    refine xuV2 dX9_one_103 v_X9_212_27 tw_get0 (Nat.le_of_ble_eq_true rfl) (c_notesF e _ _) ?_
    exact e106 e cs' o' k' _ _ hr g1 g2
  have e84 : ∀ e cs' o' k' how x2, pUnitG t S k = .inl e → cs'.length ≤ 160 → k' ≤ 600 → xRun G m_X9_one (d + 5 + n + 1) 0 0 84 [some (.ref T0), some (.int how), x2] [] (tw T0 h (pst (sLw s cs' o') k' (some e))) Q := by
    intro e cs' o' k' how x2 hr g1 g2
    have kk := c_sumF (G := G) (d := d + 3 + n) (h := h) (T0 := T0) (s1 := sLw s cs' o') (k := k') e
    rw [show d + 3 + n + 2 = d + 5 + n by omega] at kk
    refine x_aload_n dX9_one_84 rfl ?_
    refine x_bipush dX9_one_85 44 (by decide) ?_
    refine xuV1 dX9_one_87 v_X9_167_27 tw_get0 (Nat.le_of_ble_eq_true rfl) (c_signF e _) ?_
    refine x_aload_n dX9_one_90 rfl ?_
    refine xuV0 dX9_one_91 v_X9_229_27 tw_get0 (Nat.le_of_ble_eq_true rfl) (kk) ?_
    exact e94 e cs' o' k' _ _ hr g1 g2
  have e80 : ∀ e cs' o' k' how x2, pUnitG t S k = .inl e → cs'.length ≤ 160 → k' ≤ 600 → xRun G m_X9_one (d + 5 + n + 1) 0 0 80 [some (.ref T0), some (.int how), x2] [] (tw T0 h (pst (sLw s cs' o') k' (some e))) Q := by
    intro e cs' o' k' how x2 hr g1 g2
    have kk := c_sumF (G := G) (d := d + 3 + n) (h := h) (T0 := T0) (s1 := sLw s cs' o') (k := k') e
    rw [show d + 3 + n + 2 = d + 5 + n by omega] at kk
    refine x_aload_n dX9_one_80 rfl ?_
    refine xuV0 dX9_one_81 v_X9_229_27 tw_get0 (Nat.le_of_ble_eq_true rfl) (kk) ?_
    exact e84 e cs' o' k' _ _ hr g1 g2
  have two : ∀ how, hwW (wl t k) = some how → ∀ x1 x2, xnl x1 = true → xRun G m_X9_one (d + 5 + n + 1) 0 0 56 [some (.ref T0), x1, x2] [.int (nI how)] (tw T0 h (pst (sLw s cs (nI (6 - D))) (sc isB t k) none)) Q := by
    intro how ho x1 x2 _
    have hok := hwW_ok ho
    have h2 := @sc_le isSmN t (sc isB t k) hb6
    have h3 := @wl_len t k
    have eU : pUnitG t S k = (match S with | none => .inl (2, sc isB t k) | some S => pTwo t S how (sc isSmN t (sc isB t k))) := by
      unfold pUnitG
      rw [ho]
      rfl
    by_cases hD0 : D = 0
    · have hS : S = none := hS0.mp hD0
      subst hS
      subst hD0
      have kk := c_opensFull (G := G) (d := d + 4 + n) (h := h) (T0 := T0) (s := s) hb (cs := cs) (k := sc isB t k)
      rw [show d + 4 + n + 1 = d + 5 + n by omega] at kk
      refine xsi1 dX9_one_56 (by decide) rfl ?_
      refine x_iload_n dX9_one_57 rfl ?_
      refine x_iconst dX9_one_58 (-1) rfl ?_
      refine x_icmp_eq 117 dX9_one_59 rfl (fun hc9 => absurd hc9 (fun z => absurd (show nI how < 0 by rw [z]; decide) (nI_pos (by omega)))) (fun _ => ?_)
      refine x_aload_n dX9_one_62 rfl ?_
      refine xiV0 dX9_one_63 v_X9_225_27 tw_get0 (Nat.le_of_ble_eq_true rfl) (kk) ?_
      refine x_if_ne 70 dX9_one_66 rfl (fun hc9 => absurd (rfl) hc9) (fun _ => ?_)
      rw [← hQ, eU]
      exact x_return dX9_one_69 rfl ⟨rfl, cs, _, _, by omega, by omega, rfl⟩
    · obtain ⟨P, hP⟩ : ∃ P, S = some P := by
        cases S with
        | none => exact absurd (hS0.mpr rfl) hD0
        | some P => exact ⟨P, rfl⟩
      subst hP
      have hG := hSG P rfl
      have hC := hSC P rfl
      have kk := c_opensOne (G := G) (d := d + 4 + n) (h := h) (T0 := T0) (s := s) hb (cs := cs) (k := sc isB t k) (6 - D) (by omega)
      rw [show d + 4 + n + 1 = d + 5 + n by omega] at kk
      have ok2 : ∀ cs2 : Cds, cs2.length ≤ 150 → tOK (sLw s cs2 (nI (6 - D + 1))) := fun cs2 hl => sLw_ok hs (by omega)
      have ks := c_skipWord (G := G) (d := d + 4 + n) (h := h) (T0 := T0) (ok2 cs (by omega)) (sLw_tx ht) hb (e := none) (sc isB t k) (by omega)
      rw [show d + 4 + n + 1 = d + 5 + n by omega] at ks
      generalize hk1 : sc isSmN t (sc isB t k) = k1 at *
      have sg := c_sign (G := G) (d := d + 3 + n) (h := h) (T0 := T0) (ok2 cs (by omega)) (sLw_tx ht) hb k1 (by omega) 91 (by decide) (ci := 91) rfl
      rw [show d + 3 + n + 2 = d + 5 + n by omega] at sg
      have g1 := @sc_ge isB t k1
      have l1 := @sc_le isB t k1 (by omega)
      have eU2 : pUnitG t (some P) k = pTwo t P how k1 := eU
      unfold pTwo at eU2
      refine xsi1 dX9_one_56 (by decide) rfl ?_
      refine x_iload_n dX9_one_57 rfl ?_
      refine x_iconst dX9_one_58 (-1) rfl ?_
      refine x_icmp_eq 117 dX9_one_59 rfl (fun hc9 => absurd hc9 (fun z => absurd (show nI how < 0 by rw [z]; decide) (nI_pos (by omega)))) (fun _ => ?_)
      refine x_aload_n dX9_one_62 rfl ?_
      refine xiV0 dX9_one_63 v_X9_225_27 tw_get0 (Nat.le_of_ble_eq_true rfl) (kk) ?_
      refine x_if_ne 70 dX9_one_66 rfl (fun _ => ?_) (fun hc9 => absurd hc9 (by decide))
      refine x_aload_n dX9_one_70 rfl ?_
      refine x_at 71 rfl ?_
      refine xuV0 dX9_one_71 v_X9_145_27 tw_get0 (Nat.le_of_ble_eq_true rfl) (ks) ?_
      refine x_aload_n dX9_one_74 rfl ?_
      refine x_bipush dX9_one_75 91 (by decide) ?_
      refine xuV1 dX9_one_77 v_X9_167_27 tw_get0 (Nat.le_of_ble_eq_true rfl) (sg) ?_
      by_cases ch1 : ch t (sc isB t k1) 91 = true
      · rw [if_pos ch1]
        rw [if_neg (by rw [ch1]; decide)] at eU2
        have q1 := ch_lt ch1
        have kc := hC (sc isB t k1 + 1) cs (by omega) (by omega)
        refine x_aload_n dX9_one_80 rfl ?_
        refine xvV0 dX9_one_81 v_X9_229_27 tw_get0 (Nat.le_of_ble_eq_true rfl) (kc) (by omega) (by omega) (fun h1 hF => ?_)
        cases ha : P (sc isB t k1 + 1) with
        | inl e =>
          rw [ha] at hF eU2
          obtain ⟨cs', o', k', z1, z2, rfl⟩ := hF
          exact e84 e cs' o' k' _ _ eU2 z1 z2
        | inr a =>
          rw [ha] at hF
          have eU3 := eU2
          rw [ha] at eU3
          have hF2 : h1 = tw T0 h (pst (sLw s (cs ++ a.1) (nI (6 - D + 1))) a.2 none) := hF
          subst hF2
          have ga := hG _ (by omega) a.1 a.2 ha
          have la : (cs ++ a.1).length ≤ 150 := by rw [List.length_append]; omega
          have sg2 := c_sign (G := G) (d := d + 3 + n) (h := h) (T0 := T0) (ok2 (cs ++ a.1) la) (sLw_tx ht) hb a.2 ga.2.1 44 (by decide) (ci := 44) rfl
          rw [show d + 3 + n + 2 = d + 5 + n by omega] at sg2
          have g2 := @sc_ge isB t a.2
          have l2 := @sc_le isB t a.2 ga.2.1
          refine x_at 84 rfl ?_
          refine x_aload_n dX9_one_84 rfl ?_
          refine x_bipush dX9_one_85 44 (by decide) ?_
          refine xuV1 dX9_one_87 v_X9_167_27 tw_get0 (Nat.le_of_ble_eq_true rfl) (sg2) ?_
          by_cases ch2 : ch t (sc isB t a.2) 44 = true
          · rw [if_pos ch2]
            have eU4 : pUnitG t (some P) k = (match P (sc isB t a.2 + 1) with | .inl e => .inl e | .inr b => if ch t (sc isB t b.2) 93 = false then .inl (0, sc isB t b.2) else .inr (a.1 ++ (b.1 ++ [(how, 0)]), sc isB t b.2 + 1)) := by
              rw [eU3]
              show (if _ then _ else _) = _
              rw [if_neg (by rw [ch2]; decide)]
              rfl
            have q2 := ch_lt ch2
            have kc2 := hC (sc isB t a.2 + 1) (cs ++ a.1) (by omega) (by rw [List.length_append]; omega)
            refine x_aload_n dX9_one_90 rfl ?_
            refine xvV0 dX9_one_91 v_X9_229_27 tw_get0 (Nat.le_of_ble_eq_true rfl) (kc2) (by omega) (by omega) (fun h1 hF => ?_)
            cases hb9 : P (sc isB t a.2 + 1) with
            | inl e =>
              rw [hb9] at hF eU4
              obtain ⟨cs', o', k', z1, z2, rfl⟩ := hF
              exact e94 e cs' o' k' _ _ eU4 z1 z2
            | inr b =>
              rw [hb9] at hF
              have eU5 := eU4
              rw [hb9] at eU5
              have hF2 : h1 = tw T0 h (pst (sLw s (cs ++ a.1 ++ b.1) (nI (6 - D + 1))) b.2 none) := hF
              subst hF2
              have gb := hG _ (by omega) b.1 b.2 hb9
              have lb : (cs ++ a.1 ++ b.1).length ≤ 150 := by rw [List.length_append, List.length_append]; omega
              have sg3 := c_sign (G := G) (d := d + 3 + n) (h := h) (T0 := T0) (ok2 (cs ++ a.1 ++ b.1) lb) (sLw_tx ht) hb b.2 gb.2.1 93 (by decide) (ci := 93) rfl
              rw [show d + 3 + n + 2 = d + 5 + n by omega] at sg3
              have g3 := @sc_ge isB t b.2
              have l3 := @sc_le isB t b.2 gb.2.1
              refine x_at 94 rfl ?_
              refine x_aload_n dX9_one_94 rfl ?_
              refine x_bipush dX9_one_95 93 (by decide) ?_
              refine xuV1 dX9_one_97 v_X9_167_27 tw_get0 (Nat.le_of_ble_eq_true rfl) (sg3) ?_
              by_cases ch3 : ch t (sc isB t b.2) 93 = true
              · rw [if_pos ch3]
                have eU6 : pUnitG t (some P) k = .inr (a.1 ++ (b.1 ++ [(how, 0)]), sc isB t b.2 + 1) := by
                  rw [eU5]
                  show (if _ then _ else _) = _
                  rw [if_neg (by rw [ch3]; decide)]
                refine x_aload_n dX9_one_100 rfl ?_
                refine x_iload_n dX9_one_101 rfl ?_
                refine x_iconst dX9_one_102 0 rfl ?_
                refine xuV2 dX9_one_103 v_X9_212_27 tw_get0 (Nat.le_of_ble_eq_true rfl) (c_notes hs hb (by omega) how 0) ?_
                refine x_aload_n dX9_one_106 rfl ?_
                refine x_dup dX9_one_107 rfl ?_
                refine t_gi dX9_one_108 f_X9_151_27 (by decide) rfl (by decide) f8 ?_
                refine x_iconst dX9_one_111 1 rfl ?_
                refine x_isub dX9_one_112 ?_
                rw [show nI (6 - D + 1) - 1 = nI (6 - D) from nI_pred _]
                refine t_pi dX9_one_113 p_X9_151_27 rfl (by decide) hb ?_
                rw [sLw_open, ← hQ, eU6]
                refine x_return dX9_one_116 rfl ⟨rfl, ?_⟩
                show _ = tw T0 h (pst (sLw s (cs ++ (a.1 ++ (b.1 ++ [(how, 0)]))) (nI (6 - D))) (sc isB t b.2 + 1) none)
                rw [List.append_assoc, List.append_assoc]
              · rw [if_neg ch3]
                have eU6 : pUnitG t (some P) k = .inl (0, sc isB t b.2) := by
                  rw [eU5]
                  show (if _ then _ else _) = _
                  rw [if_pos (ch_f ch3)]
                refine x_aload_n dX9_one_100 rfl ?_
                refine x_iload_n dX9_one_101 rfl ?_
                refine x_iconst dX9_one_102 0 rfl ?_
                refine xuV2 dX9_one_103 v_X9_212_27 tw_get0 (Nat.le_of_ble_eq_true rfl) (c_notesF (0, sc isB t b.2) _ _) ?_
                exact e106 _ _ _ _ _ _ eU6 (by omega) (by omega)
          · rw [if_neg ch2]
            have eU4 : pUnitG t (some P) k = .inl (0, sc isB t a.2) := by
              rw [eU3]
              show (if _ then _ else _) = _
              rw [if_pos (ch_f ch2)]
            have kk2 := c_sumF (G := G) (d := d + 3 + n) (h := h) (T0 := T0) (s1 := sLw s (cs ++ a.1) (nI (6 - D + 1))) (k := sc isB t a.2) (0, sc isB t a.2)
            rw [show d + 3 + n + 2 = d + 5 + n by omega] at kk2
            refine x_aload_n dX9_one_90 rfl ?_
            refine xuV0 dX9_one_91 v_X9_229_27 tw_get0 (Nat.le_of_ble_eq_true rfl) (kk2) ?_
            exact e94 _ _ _ _ _ _ eU4 (by omega) (by omega)
      · rw [if_neg ch1]
        rw [if_pos (ch_f ch1)] at eU2
        exact e80 _ _ _ _ _ _ eU2 (by omega) (by omega)
  have rest : hwW (wl t k) = none → ∀ x1 x2, xnl x1 = true → xRun G m_X9_one (d + 5 + n + 1) 0 0 55 [some (.ref T0), x1, x2] [] (tw T0 h (pst (sLw s cs (nI (6 - D))) (sc isB t k) none)) Q := by
    intro ho x1 x2 _
    have eU : pUnitG t S k = (if ch t (sc isB t k) 40 = true then (match S with | none => .inl (2, sc isB t k) | some S => pPar t S (sc isB t k + 1)) else pLeaf t k) := by
      unfold pUnitG
      rw [ho]
      rfl
    refine x_iconst dX9_one_55 (-1) rfl ?_
    refine xsi1 dX9_one_56 (by decide) rfl ?_
    refine x_iload_n dX9_one_57 rfl ?_
    refine x_iconst dX9_one_58 (-1) rfl ?_
    refine x_icmp_eq 117 dX9_one_59 rfl (fun _ => ?_) (fun hc9 => absurd (rfl) hc9)
    refine x_aload_n dX9_one_117 rfl ?_
    refine x_aload_n dX9_one_118 rfl ?_
    refine t_gi dX9_one_119 f_X9_101_27 (by decide) rfl (by decide) pst4 ?_
    refine xiV1 dX9_one_122 v_X9_104_27 tw_get0 (Nat.le_of_ble_eq_true rfl) (c_byteAt (pst_ok ok1) (pst_tx (sLw_tx ht)) (sc isB t k) (by omega)) ?_
    refine x_bipush dX9_one_125 40 (by decide) ?_
    refine x_icmp_ne 169 dX9_one_127 rfl (fun z1 => ?_) (fun z1 => ?_)
    · have c2 : ¬ ch t (sc isB t k) 40 = true := fun z => z1 ((tb_ch ht.2.2.2 (by decide)).mpr z)
      rw [if_neg c2] at eU
      unfold pLeaf at eU
      refine x_aload_n dX9_one_169 rfl ?_
      refine xiV0 dX9_one_170 v_X9_232_27 tw_get0 (Nat.le_of_ble_eq_true rfl) (w3) ?_
      cases hkn : knW (wl t k) with
      | some q =>
        rw [hkn] at eU
        have hq7 : q < 7 := by
          unfold knW at hkn
          split at hkn
          · cases hkn; decide
          · split at hkn
            · cases hkn; decide
            · split at hkn
              · cases hkn; decide
              · split at hkn
                · cases hkn; decide
                · split at hkn
                  · cases hkn; decide
                  · split at hkn
                    · cases hkn; decide
                    · split at hkn
                      · cases hkn; decide
                      · cases hkn
        refine xsi2 dX9_one_173 (by decide) rfl ?_
        refine x_iload_n dX9_one_174 rfl ?_
        refine x_iconst dX9_one_175 (-1) rfl ?_
        refine x_icmp_eq 188 dX9_one_176 rfl (fun hc9 => absurd hc9 (oN_ne (by omega))) (fun _ => ?_)
        refine x_aload_n dX9_one_179 rfl ?_
        refine x_iconst dX9_one_180 1 rfl ?_
        refine x_iload_n dX9_one_181 rfl ?_
        refine xuV2 dX9_one_182 v_X9_212_27 tw_get0 (Nat.le_of_ble_eq_true rfl) (c_notes hs hb (by omega) 1 q) ?_
        refine x_at 185 rfl ?_
        refine x_goto 201 dX9_one_185 rfl ?_
        rw [← hQ, eU]
        exact x_return dX9_one_201 rfl ⟨rfl, rfl⟩
      | none =>
        rw [hkn] at eU
        cases hn9 : nE t k 0 999 with
        | some e =>
          rw [hn9] at eU w4
          have l9 : nK t k ≤ t.length := sc_le hb6
          refine xsi2 dX9_one_173 (by decide) rfl ?_
          refine x_iload_n dX9_one_174 rfl ?_
          refine x_iconst dX9_one_175 (-1) rfl ?_
          refine x_icmp_eq 188 dX9_one_176 rfl (fun _ => ?_) (fun hc9 => absurd (rfl) hc9)
          refine x_aload_n dX9_one_188 rfl ?_
          refine x_iconst dX9_one_189 0 rfl ?_
          refine x_aload_n dX9_one_190 rfl ?_
          refine x_iconst dX9_one_191 0 rfl ?_
          refine x_at 192 rfl ?_
          refine x_sipush dX9_one_192 999 (by decide) ?_
          refine xiV2 dX9_one_195 v_X9_154_27 tw_get0 (Nat.le_of_ble_eq_true rfl) (w4) ?_
          refine xuV2 dX9_one_198 v_X9_212_27 tw_get0 (Nat.le_of_ble_eq_true rfl) (c_notesF e _ _) ?_
          rw [← hQ, eU]
          exact x_return dX9_one_201 rfl ⟨rfl, cs, _, _, by omega, by omega, rfl⟩
        | none =>
          rw [hn9] at eU w4
          refine xsi2 dX9_one_173 (by decide) rfl ?_
          refine x_iload_n dX9_one_174 rfl ?_
          refine x_iconst dX9_one_175 (-1) rfl ?_
          refine x_icmp_eq 188 dX9_one_176 rfl (fun _ => ?_) (fun hc9 => absurd (rfl) hc9)
          refine x_aload_n dX9_one_188 rfl ?_
          refine x_iconst dX9_one_189 0 rfl ?_
          refine x_aload_n dX9_one_190 rfl ?_
          refine x_iconst dX9_one_191 0 rfl ?_
          refine x_at 192 rfl ?_
          refine x_sipush dX9_one_192 999 (by decide) ?_
          refine xiV2 dX9_one_195 v_X9_154_27 tw_get0 (Nat.le_of_ble_eq_true rfl) (w4) ?_
          rw [if_pos rfl]
          refine xuV2 dX9_one_198 v_X9_212_27 tw_get0 (Nat.le_of_ble_eq_true rfl) (c_notes hs hb (by omega) 0 (nV t k)) ?_
          rw [← hQ, eU]
          exact x_return dX9_one_201 rfl ⟨rfl, rfl⟩
    · have c2 : ch t (sc isB t k) 40 = true := (tb_ch ht.2.2.2 (by decide)).mp z1
      rw [if_pos c2] at eU
      have q1 := ch_lt c2
      by_cases hD0 : D = 0
      · have hS : S = none := hS0.mp hD0
        subst hS
        subst hD0
        have kk := c_opensFull (G := G) (d := d + 4 + n) (h := h) (T0 := T0) (s := s) hb (cs := cs) (k := sc isB t k)
        rw [show d + 4 + n + 1 = d + 5 + n by omega] at kk
        refine x_aload_n dX9_one_130 rfl ?_
        refine xiV0 dX9_one_131 v_X9_225_27 tw_get0 (Nat.le_of_ble_eq_true rfl) (kk) ?_
        refine x_if_ne 138 dX9_one_134 rfl (fun hc9 => absurd (rfl) hc9) (fun _ => ?_)
        rw [← hQ, eU]
        exact x_return dX9_one_137 rfl ⟨rfl, cs, _, _, by omega, by omega, rfl⟩
      · obtain ⟨P, hP⟩ : ∃ P, S = some P := by
          cases S with
          | none => exact absurd (hS0.mpr rfl) hD0
          | some P => exact ⟨P, rfl⟩
        subst hP
        have hG := hSG P rfl
        have hC := hSC P rfl
        have kk := c_opensOne (G := G) (d := d + 4 + n) (h := h) (T0 := T0) (s := s) hb (cs := cs) (k := sc isB t k) (6 - D) (by omega)
        rw [show d + 4 + n + 1 = d + 5 + n by omega] at kk
        have eU2 : pUnitG t (some P) k = pPar t P (sc isB t k + 1) := eU
        unfold pPar at eU2
        have kc := hC (sc isB t k + 1) cs (by omega) (by omega)
        have e158 : ∀ e cs' o' k' x1 x2, pUnitG t (some P) k = .inl e → cs'.length ≤ 160 → k' ≤ 600 → xRun G m_X9_one (d + 5 + n + 1) 0 0 158 [some (.ref T0), x1, x2] [] (tw T0 h (pst (sLw s cs' o') k' (some e))) Q := by
          intro e cs' o' k' x1 x2 hr g1 g2
          refine x_aload_n dX9_one_158 rfl ?_
          refine x_dup dX9_one_159 rfl ?_
          refine t_gi dX9_one_160 f_X9_151_27 (by decide) rfl (by decide) f8 ?_
          refine x_iconst dX9_one_163 1 rfl ?_
          refine x_isub dX9_one_164 ?_
          refine t_pi dX9_one_165 p_X9_151_27 rfl (by decide) hb ?_
          rw [sLw_open, ← hQ, hr]
          exact x_return dX9_one_168 rfl ⟨rfl, cs', _, k', g1, g2, rfl⟩
        refine x_aload_n dX9_one_130 rfl ?_
        refine xiV0 dX9_one_131 v_X9_225_27 tw_get0 (Nat.le_of_ble_eq_true rfl) (kk) ?_
        refine x_if_ne 138 dX9_one_134 rfl (fun _ => ?_) (fun hc9 => absurd hc9 (by decide))
        refine x_aload_n dX9_one_138 rfl ?_
        refine x_dup dX9_one_139 rfl ?_
        refine t_gi dX9_one_140 f_X9_101_27 (by decide) rfl (by decide) pst4 ?_
        refine x_iconst dX9_one_143 1 rfl ?_
        refine x_iadd dX9_one_144 ?_
        rw [nI_1]
        refine t_pi dX9_one_145 p_X9_101_27 rfl (by decide) hb ?_
        rw [pst_at]
        refine x_aload_n dX9_one_148 rfl ?_
        refine xvV0 dX9_one_149 v_X9_229_27 tw_get0 (Nat.le_of_ble_eq_true rfl) (kc) (by omega) (by omega) (fun h1 hF => ?_)
        cases ha : P (sc isB t k + 1) with
        | inl e =>
          rw [ha] at hF eU2
          obtain ⟨cs', o', k', z1, z2, rfl⟩ := hF
          refine x_aload_n dX9_one_152 rfl ?_
          refine x_bipush dX9_one_153 41 (by decide) ?_
          refine xuV1 dX9_one_155 v_X9_167_27 tw_get0 (Nat.le_of_ble_eq_true rfl) (c_signF e _) ?_
          exact e158 e cs' o' k' _ _ eU2 z1 z2
        | inr a =>
          rw [ha] at hF
          have eU3 := eU2
          rw [ha] at eU3
          have hF2 : h1 = tw T0 h (pst (sLw s (cs ++ a.1) (nI (6 - D + 1))) a.2 none) := hF
          subst hF2
          have ga := hG _ (by omega) a.1 a.2 ha
          have la : (cs ++ a.1).length ≤ 150 := by rw [List.length_append]; omega
          have sg2 := c_sign (G := G) (d := d + 3 + n) (h := h) (T0 := T0) (s := sLw s (cs ++ a.1) (nI (6 - D + 1))) (sLw_ok hs (by omega)) (sLw_tx ht) hb a.2 ga.2.1 41 (by decide) (ci := 41) rfl
          rw [show d + 3 + n + 2 = d + 5 + n by omega] at sg2
          have g2 := @sc_ge isB t a.2
          have l2 := @sc_le isB t a.2 ga.2.1
          refine x_aload_n dX9_one_152 rfl ?_
          refine x_bipush dX9_one_153 41 (by decide) ?_
          refine xuV1 dX9_one_155 v_X9_167_27 tw_get0 (Nat.le_of_ble_eq_true rfl) (sg2) ?_
          by_cases ch2 : ch t (sc isB t a.2) 41 = true
          · rw [if_pos ch2]
            have eU4 : pUnitG t (some P) k = .inr (a.1, sc isB t a.2 + 1) := by
              rw [eU3]
              show (if _ then _ else _) = _
              rw [if_neg (by rw [ch2]; decide)]
            refine x_aload_n dX9_one_158 rfl ?_
            refine x_dup dX9_one_159 rfl ?_
            refine t_gi dX9_one_160 f_X9_151_27 (by decide) rfl (by decide) f8 ?_
            refine x_iconst dX9_one_163 1 rfl ?_
            refine x_isub dX9_one_164 ?_
            rw [show nI (6 - D + 1) - 1 = nI (6 - D) from nI_pred _]
            refine t_pi dX9_one_165 p_X9_151_27 rfl (by decide) hb ?_
            rw [sLw_open, ← hQ, eU4]
            exact x_return dX9_one_168 rfl ⟨rfl, rfl⟩
          · rw [if_neg ch2]
            have eU4 : pUnitG t (some P) k = .inl (0, sc isB t a.2) := by
              rw [eU3]
              show (if _ then _ else _) = _
              rw [if_pos (ch_f ch2)]
            exact e158 _ _ _ _ _ _ eU4 (by omega) (by omega)
  have kb := c_blanks (G := G) (d := d + 4 + n) (h := h) (T0 := T0) ok1 (sLw_tx ht) hb (e := none) k (by omega)
  rw [show d + 4 + n + 1 = d + 5 + n by omega] at kb
  refine x_aload_n dX9_one_0 rfl ?_
  refine t_gi dX9_one_1 f_X9_108_27 (by decide) rfl (by decide) pst5 ?_
  refine x_if_eq 8 dX9_one_4 rfl (fun _ => ?_) (fun hc9 => absurd (rfl) hc9)
  refine x_aload_n dX9_one_8 rfl ?_
  refine xuV0 dX9_one_9 v_X9_114_27 tw_get0 (Nat.le_of_ble_eq_true rfl) (kb) ?_
  refine x_aload_n dX9_one_12 rfl ?_
  refine x_bipush dX9_one_13 12 (by decide) ?_
  refine x_iconst dX9_one_15 5 rfl ?_
  refine x_at 16 rfl ?_
  refine x_iconst dX9_one_16 1 rfl ?_
  refine x_bipush dX9_one_17 19 (by decide) ?_
  refine x_bipush dX9_one_19 20 (by decide) ?_
  refine x_iconst dX9_one_21 0 rfl ?_
  refine xiV6 dX9_one_22 v_X9_141_27 tw_get0 (Nat.le_of_ble_eq_true rfl) (w1) ?_
  refine x_if_eq 33 dX9_one_25 rfl (fun z1 => ?_) (fun z1 => ?_)
  · have d1 := of_decide_eq_false (b2_eq.mp z1)
    refine x_aload_n dX9_one_33 rfl ?_
    refine x_bipush dX9_one_34 13 (by decide) ?_
    refine x_bipush dX9_one_36 15 (by decide) ?_
    refine x_bipush dX9_one_38 19 (by decide) ?_
    refine x_bipush dX9_one_40 20 (by decide) ?_
    refine x_iconst dX9_one_42 0 rfl ?_
    refine x_iconst dX9_one_43 0 rfl ?_
    refine xiV6 dX9_one_44 v_X9_141_27 tw_get0 (Nat.le_of_ble_eq_true rfl) (w2) ?_
    refine x_at 47 rfl ?_
    refine x_if_eq 55 dX9_one_47 rfl (fun z2 => ?_) (fun z2 => ?_)
    · have d2 := of_decide_eq_false (b2_eq.mp z2)
      exact rest (by rw [hwW, if_neg d1, if_neg d2]) _ _ rfl
    · have d2 := of_decide_eq_true (b2_ne.mp z2)
      refine x_bipush dX9_one_50 8 (by decide) ?_
      refine x_goto 56 dX9_one_52 rfl ?_
      exact two 8 (by rw [hwW, if_neg d1, if_pos d2]) _ _ rfl
  · have d1 := of_decide_eq_true (b2_ne.mp z1)
    refine x_bipush dX9_one_28 7 (by decide) ?_
    refine x_goto 56 dX9_one_30 rfl ?_
    exact two 7 (by rw [hwW, if_pos d1]) _ _ rfl
end TX2
