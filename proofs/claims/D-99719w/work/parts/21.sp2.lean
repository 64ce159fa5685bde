set_option maxRecDepth 100000
/-! ===== plain: a market, and its row of sixty numbers ===== -/
/-- a cry: so many (2) of a thing (1) as so many (4) of another (3) -/
abbrev Cr : Type := Nat × Nat × Nat × Nat
/-- weights, how often weighed, cries, lean, weighings, day -/
abbrev Mk : Type := List Nat × List Int32 × List Cr × Nat × Int32 × Nat
def cr4 (c : Cr) : List Int32 := [nI c.1, nI c.2.1, nI c.2.2.1, nI c.2.2.2]
def crow (cs : List Cr) : List Int32 := cs.flatMap cr4 ++ List.replicate (40 - 4 * cs.length) 0
def mrow (M : Mk) : List Int32 := M.1.map nI ++ (M.2.1 ++ (crow M.2.2.1 ++ [nI M.2.2.1.length, nI M.2.2.2.1, M.2.2.2.2.1, nI M.2.2.2.2.2]))
def mOK (M : Mk) : Prop := M.1.length = 8 ∧ M.2.1.length = 8 ∧ M.2.2.1.length ≤ 10
theorem fm_len (cs : List Cr) : (cs.flatMap cr4).length = 4 * cs.length := by
  induction cs with
  | nil => rfl
  | cons c cs ih =>
    rw [List.flatMap_cons, List.length_append, ih, List.length_cons]
    show 4 + 4 * cs.length = 4 * (cs.length + 1)
    omega
theorem crow_len {cs : List Cr} (h : cs.length ≤ 10) : (crow cs).length = 40 := by
  unfold crow
  rw [List.length_append, fm_len, List.length_replicate]
  omega
theorem mrow_len {M : Mk} (h : mOK M) : (mrow M).length = 60 := by
  unfold mrow
  simp only [List.length_append, List.length_map, h.1, h.2.1, crow_len h.2.2, List.length_cons, List.length_nil]
theorem fm_get (cs : List Cr) : ∀ (c i : Nat), i < 4 → c < cs.length → (cs.flatMap cr4)[4 * c + i]? = (cr4 (cs.getD c (0, 0, 0, 0)))[i]? := by
  induction cs with
  | nil => intro c i _ h; exact absurd h (Nat.not_lt_zero _)
  | cons x cs ih =>
    intro c i hi hc
    rw [List.flatMap_cons]
    cases c with
    | zero =>
      rw [List.getElem?_append_left (by show _ < 4; omega)]
      simp
    | succ c =>
      rw [List.getElem?_append_right (by show 4 ≤ _; omega)]
      show (cs.flatMap cr4)[4 * (c + 1) + i - 4]? = _
      rw [show 4 * (c + 1) + i - 4 = 4 * c + i by omega, ih c i hi (by simpa using hc)]
      rfl
theorem gD {α : Type} {l : List α} {k : Nat} {v d : α} (h : l[k]? = some v) : l.getD k d = v := by
  rw [List.getD_eq_getElem?_getD, h]
  rfl
theorem mrow_w? {M : Mk} (h : mOK M) {t : Nat} (ht : t < 8) : (mrow M)[t]? = some (nI (M.1.getD t 0)) := by
  unfold mrow
  rw [List.getElem?_append_left (by rw [List.length_map, h.1]; exact ht), List.getElem?_map, List.getD_eq_getElem?_getD, List.getElem?_eq_getElem (by rw [h.1]; exact ht)]
  rfl
theorem mrow_o? {M : Mk} (h : mOK M) {t : Nat} (ht : t < 8) : (mrow M)[8 + t]? = some (M.2.1.getD t 0) := by
  unfold mrow
  rw [List.getElem?_append_right (by rw [List.length_map, h.1]; omega), List.length_map, h.1, Nat.add_sub_cancel_left, List.getElem?_append_left (by rw [h.2.1]; exact ht), List.getD_eq_getElem?_getD, List.getElem?_eq_getElem (by rw [h.2.1]; exact ht)]
  rfl
theorem mrow_r? {M : Mk} (h : mOK M) {j : Nat} : (mrow M)[16 + j]? = (crow M.2.2.1 ++ [nI M.2.2.1.length, nI M.2.2.2.1, M.2.2.2.2.1, nI M.2.2.2.2.2])[j]? := by
  unfold mrow
  rw [List.getElem?_append_right (by rw [List.length_map, h.1]; omega), List.length_map, h.1, List.getElem?_append_right (by rw [h.2.1]; omega), h.2.1]
  congr 1
  omega
theorem mrow_c? {M : Mk} (h : mOK M) {c i : Nat} (hc : c < M.2.2.1.length) (hi : i < 4) : (mrow M)[16 + 4 * c + i]? = (cr4 (M.2.2.1.getD c (0, 0, 0, 0)))[i]? := by
  have h10 := h.2.2
  rw [Nat.add_assoc, mrow_r? h, List.getElem?_append_left (by rw [crow_len h10]; omega)]
  unfold crow
  rw [List.getElem?_append_left (by rw [fm_len]; omega), fm_get _ _ _ hi hc]
theorem mrow_e? {M : Mk} (h : mOK M) {i : Nat} : (mrow M)[56 + i]? = [nI M.2.2.1.length, nI M.2.2.2.1, M.2.2.2.2.1, nI M.2.2.2.2.2][i]? := by
  rw [show 56 + i = 16 + (40 + i) by omega, mrow_r? h, List.getElem?_append_right (by rw [crow_len h.2.2]; omega), crow_len h.2.2]
  congr 1
  omega
theorem mrow_w {M : Mk} (h : mOK M) {t : Nat} (ht : t < 8) : (mrow M).getD t 0 = nI (M.1.getD t 0) := gD (mrow_w? h ht)
theorem mrow_o {M : Mk} (h : mOK M) {t : Nat} (ht : t < 8) : (mrow M).getD (8 + t) 0 = M.2.1.getD t 0 := gD (mrow_o? h ht)
theorem mrow_ca {M : Mk} (h : mOK M) {c : Nat} (hc : c < M.2.2.1.length) : (mrow M).getD (16 + 4 * c) 0 = nI (M.2.2.1.getD c (0, 0, 0, 0)).1 := gD (mrow_c? h hc (i := 0) (by decide))
theorem mrow_cn {M : Mk} (h : mOK M) {c : Nat} (hc : c < M.2.2.1.length) : (mrow M).getD (16 + 4 * c + 1) 0 = nI (M.2.2.1.getD c (0, 0, 0, 0)).2.1 := gD (mrow_c? h hc (i := 1) (by decide))
theorem mrow_cb {M : Mk} (h : mOK M) {c : Nat} (hc : c < M.2.2.1.length) : (mrow M).getD (16 + 4 * c + 2) 0 = nI (M.2.2.1.getD c (0, 0, 0, 0)).2.2.1 := gD (mrow_c? h hc (i := 2) (by decide))
theorem mrow_cm {M : Mk} (h : mOK M) {c : Nat} (hc : c < M.2.2.1.length) : (mrow M).getD (16 + 4 * c + 3) 0 = nI (M.2.2.1.getD c (0, 0, 0, 0)).2.2.2 := gD (mrow_c? h hc (i := 3) (by decide))
theorem mrow_n {M : Mk} (h : mOK M) : (mrow M).getD 56 0 = nI M.2.2.1.length := gD (mrow_e? h (i := 0))
theorem mrow_l {M : Mk} (h : mOK M) : (mrow M).getD 57 0 = nI M.2.2.2.1 := gD (mrow_e? h (i := 1))
theorem mrow_g {M : Mk} (h : mOK M) : (mrow M).getD 58 0 = M.2.2.2.2.1 := gD (mrow_e? h (i := 2))
theorem mrow_d {M : Mk} (h : mOK M) : (mrow M).getD 59 0 = nI M.2.2.2.2.2 := gD (mrow_e? h (i := 3))
/-- what is written into a row -/
def mW (M : Mk) (w : List Nat) : Mk := (w, M.2)
def mO (M : Mk) (o : List Int32) : Mk := (M.1, o, M.2.2)
def mC (M : Mk) (cs : List Cr) : Mk := (M.1, M.2.1, cs, M.2.2.2)
def mL (M : Mk) (l : Nat) : Mk := (M.1, M.2.1, M.2.2.1, l, M.2.2.2.2)
def mG (M : Mk) (g : Int32) : Mk := (M.1, M.2.1, M.2.2.1, M.2.2.2.1, g, M.2.2.2.2.2)
def mD (M : Mk) (d : Nat) : Mk := (M.1, M.2.1, M.2.2.1, M.2.2.2.1, M.2.2.2.2.1, d)
theorem mrow_setw {M : Mk} (h : mOK M) {t v : Nat} (ht : t < 8) : (mrow M).set t (nI v) = mrow (mW M (M.1.set t v)) := by
  unfold mrow mW
  rw [List.set_append, if_pos (by rw [List.length_map, h.1]; exact ht), ← List.map_set]
theorem mrow_seto {M : Mk} (h : mOK M) {t : Nat} {v : Int32} (ht : t < 8) : (mrow M).set (8 + t) v = mrow (mO M (M.2.1.set t v)) := by
  unfold mrow mO
  rw [List.set_append, if_neg (by rw [List.length_map, h.1]; omega), List.length_map, h.1, Nat.add_sub_cancel_left, List.set_append, if_pos (by rw [h.2.1]; exact ht)]
theorem mrow_sete {M : Mk} (h : mOK M) {i : Nat} {v : Int32} : (mrow M).set (56 + i) v = M.1.map nI ++ (M.2.1 ++ (crow M.2.2.1 ++ [nI M.2.2.1.length, nI M.2.2.2.1, M.2.2.2.2.1, nI M.2.2.2.2.2].set i v)) := by
  unfold mrow
  rw [List.set_append, if_neg (by rw [List.length_map, h.1]; omega), List.length_map, h.1, List.set_append, if_neg (by rw [h.2.1]; omega), h.2.1, List.set_append, if_neg (by rw [crow_len h.2.2]; omega), crow_len h.2.2]
  congr 4
  omega
theorem mrow_setl {M : Mk} (h : mOK M) {v : Nat} : (mrow M).set 57 (nI v) = mrow (mL M v) := mrow_sete h (i := 1)
theorem mrow_setg {M : Mk} (h : mOK M) {v : Int32} : (mrow M).set 58 v = mrow (mG M v) := mrow_sete h (i := 2)
theorem mrow_setd {M : Mk} (h : mOK M) {v : Nat} : (mrow M).set 59 (nI v) = mrow (mD M v) := mrow_sete h (i := 3)
/-- a cry more -/
theorem crow_snoc {cs : List Cr} (h : cs.length < 10) (x : Cr) : ((((crow cs).set (4 * cs.length) (nI x.1)).set (4 * cs.length + 1) (nI x.2.1)).set (4 * cs.length + 2) (nI x.2.2.1)).set (4 * cs.length + 3) (nI x.2.2.2) = crow (cs ++ [x]) := by
  unfold crow
  rw [List.flatMap_append, List.length_append]
  have e : 40 - 4 * cs.length = (40 - 4 * (cs.length + 1)) + 4 := by omega
  rw [e, List.replicate_succ, List.replicate_succ, List.replicate_succ, List.replicate_succ]
  have s0 : ∀ (r : List Int32) (j : Nat) (v : Int32), (cs.flatMap cr4 ++ r).set (4 * cs.length + j) v = cs.flatMap cr4 ++ r.set j v := by
    intro r j v
    rw [List.set_append, if_neg (by rw [fm_len]; omega), fm_len, Nat.add_sub_cancel_left]
  have s1 : ∀ (r : List Int32) (v : Int32), (cs.flatMap cr4 ++ r).set (4 * cs.length) v = cs.flatMap cr4 ++ r.set 0 v := fun r v => s0 r 0 v
  rw [s1, s0, s0, s0, List.append_assoc]
  rfl
theorem mrow_snoc {M : Mk} (h : mOK M) (h9 : M.2.2.1.length < 10) (x : Cr) : (((((mrow M).set (16 + 4 * M.2.2.1.length) (nI x.1)).set (16 + 4 * M.2.2.1.length + 1) (nI x.2.1)).set (16 + 4 * M.2.2.1.length + 2) (nI x.2.2.1)).set (16 + 4 * M.2.2.1.length + 3) (nI x.2.2.2)).set 56 (nI (M.2.2.1.length + 1)) = mrow (mC M (M.2.2.1 ++ [x])) := by
  have s0 : ∀ (r e : List Int32) (j : Nat) (v : Int32), j < r.length → (M.1.map nI ++ (M.2.1 ++ (r ++ e))).set (16 + j) v = M.1.map nI ++ (M.2.1 ++ (r.set j v ++ e)) := by
    intro r e j v hj
    rw [List.set_append, if_neg (by rw [List.length_map, h.1]; omega), List.length_map, h.1, List.set_append, if_neg (by rw [h.2.1]; omega), h.2.1, show 16 + j - 8 - 8 = j by omega, List.set_append, if_pos hj]
  have hl := crow_len h.2.2
  unfold mrow
  rw [s0 _ _ _ _ (by omega), show 16 + 4 * M.2.2.1.length + 1 = 16 + (4 * M.2.2.1.length + 1) by omega, s0 _ _ _ _ (by rw [List.length_set]; omega), show 16 + 4 * M.2.2.1.length + 2 = 16 + (4 * M.2.2.1.length + 2) by omega, s0 _ _ _ _ (by rw [List.length_set, List.length_set]; omega), show 16 + 4 * M.2.2.1.length + 3 = 16 + (4 * M.2.2.1.length + 3) by omega, s0 _ _ _ _ (by rw [List.length_set, List.length_set, List.length_set]; omega), crow_snoc h9]
  have hl2 : (crow (M.2.2.1 ++ [x])).length = 40 := crow_len (by rw [List.length_append]; show _ + 1 ≤ 10; omega)
  rw [List.set_append, if_neg (by rw [List.length_map, h.1]; omega), List.length_map, h.1, List.set_append, if_neg (by rw [h.2.1]; omega), h.2.1, List.set_append, if_neg (by rw [hl2]; omega), hl2]
  unfold mC
  simp only [List.length_append, List.length_cons, List.length_nil]
  rfl
