set_option maxRecDepth 100000
/-! ===== the twin's own world: one object and its arrays, 475 cells behind each other ===== -/
/-- int fields, long fields, arrays by their places -/
abbrev tS : Type := (Nat → Int32) × (Nat → Int64) × (Nat → List Int32)
/-- where a field's array lies, 0: no array -/
def tref (k : Nat) : Nat := match k with
  | 9 => 1 | 10 => 2 | 11 => 3 | 12 => 4 | 13 => 5 | 14 => 6 | 15 => 7 | 16 => 18 | 19 => 29 | 20 => 190 | 21 => 351 | 22 => 358 | 23 => 365 | 24 => 366 | 25 => 367 | 27 => 448 | 28 => 449 | 29 => 450 | 30 => 451 | 31 => 468 | 41 => 472 | 43 => 473 | 44 => 474
  | _ => 0
/-- how many rows a grid has, 0: no grid -/
def tgrid (j : Nat) : Nat := match j with
  | 7 => 10 | 18 => 10 | 29 => 160 | 190 => 160 | 351 => 6 | 358 => 6 | 367 => 80 | 451 => 16 | 468 => 3
  | _ => 0
def tlen (j : Nat) : Nat := if j < 8 then (match j with | 1 => 600 | 2 => 2 | 3 => 4 | 4 => 4 | 5 => 8 | 6 => 8 | _ => 0) else if j < 29 then 4 else if j < 351 then 2 else if j < 365 then 3 else if j = 365 then 160 else if j = 366 then 7 else if j < 448 then 6 else if j < 450 then 60 else if j = 450 then 8 else if j < 468 then 60 else if j < 472 then 1021 else if j = 472 then 1024 else if j = 473 then 481 else 3
def tf (T0 : Nat) (s : tS) (k : Nat) : Value := if tref k = 0 then (if k = 39 ∨ k = 40 then .long (s.2.1 k) else .int (s.1 k)) else .ref (T0 + tref k)
def tfs (T0 : Nat) (s : tS) : List Value := (List.range 46).map (tf T0 s)
def tcell (T0 : Nat) (s : tS) (j : Nat) : xE := if j = 0 then (27, tfs T0 s) else if tgrid j = 0 then (if j = 472 then (102, (s.2.2 j).map .int) else (100, (s.2.2 j).map .int)) else (104, (List.range (tgrid j)).map (fun i => Value.ref (T0 + (j + 1 + i))))
def tw (T0 : Nat) (h : xH) (s : tS) : xH := (fun q => if T0 ≤ q ∧ q < T0 + 475 then some (tcell T0 s (q - T0)) else h.1 q, h.2)
/-- the arrays have their lengths -/
def tOK (s : tS) : Prop := ∀ j, (s.2.2 j).length = tlen j
def seti (s : tS) (k : Nat) (v : Int32) : tS := (fun j => if j = k then v else s.1 j, s.2)
def setl (s : tS) (k : Nat) (v : Int64) : tS := (s.1, fun j => if j = k then v else s.2.1 j, s.2.2)
def seta (s : tS) (k : Nat) (xs : List Int32) : tS := (s.1, s.2.1, fun j => if j = k then xs else s.2.2 j)
theorem seta_ok {s : tS} {k : Nat} {xs : List Int32} (h : tOK s) (hx : xs.length = tlen k) : tOK (seta s k xs) := by
  intro j
  show (if j = k then xs else s.2.2 j).length = tlen j
  by_cases e : j = k
  · rw [if_pos e, e]; exact hx
  · rw [if_neg e]; exact h j
theorem seti_ok {s : tS} {k : Nat} {v : Int32} (h : tOK s) : tOK (seti s k v) := h
theorem setl_ok {s : tS} {k : Nat} {v : Int64} (h : tOK s) : tOK (setl s k v) := h
theorem tw_get {T0 j : Nat} {h : xH} {s : tS} (hj : j < 475) : (tw T0 h s).1 (T0 + j) = some (tcell T0 s j) := by
  show (if T0 ≤ T0 + j ∧ T0 + j < T0 + 475 then some (tcell T0 s (T0 + j - T0)) else h.1 (T0 + j)) = _
  rw [if_pos ⟨by omega, by omega⟩, Nat.add_sub_cancel_left]
theorem tw_get0 {T0 : Nat} {h : xH} {s : tS} : (tw T0 h s).1 T0 = some (27, tfs T0 s) := tw_get (j := 0) (by decide)
theorem tw_up {T0 j : Nat} {h : xH} {s s' : tS} (hj : j < 475) (e : xE) (he : tcell T0 s' j = e) (ho : ∀ i, i ≠ j → tcell T0 s' i = tcell T0 s i) : xup (tw T0 h s) (T0 + j) e = tw T0 h s' := by
  subst he
  refine Prod.ext ?_ rfl
  funext q
  show (if q = T0 + j then some (tcell T0 s' j) else if T0 ≤ q ∧ q < T0 + 475 then some (tcell T0 s (q - T0)) else h.1 q) = (if T0 ≤ q ∧ q < T0 + 475 then some (tcell T0 s' (q - T0)) else h.1 q)
  by_cases e1 : q = T0 + j
  · rw [if_pos e1, if_pos ⟨by omega, by omega⟩, e1, Nat.add_sub_cancel_left]
  · rw [if_neg e1]
    by_cases e2 : T0 ≤ q ∧ q < T0 + 475
    · rw [if_pos e2, if_pos e2, ho (q - T0) (by omega)]
    · rw [if_neg e2, if_neg e2]
theorem tfs_get {T0 k : Nat} {s : tS} (hk : k < 46) : (tfs T0 s)[k]? = some (tf T0 s k) := by
  unfold tfs
  rw [List.getElem?_map, List.getElem?_range hk]
  rfl
theorem tfs_set {T0 k : Nat} {s s' : tS} (v : Value) (hv : tf T0 s' k = v) (ho : ∀ i, i ≠ k → tf T0 s' i = tf T0 s i) : (tfs T0 s).set k v = tfs T0 s' := by
  subst hv
  unfold tfs
  apply List.ext_getElem?
  intro i
  rw [List.getElem?_set]
  by_cases e : k = i
  · subst e
    rw [if_pos rfl]
    by_cases hk : k < 46
    · simp [hk]
    · simp [hk]
  · rw [if_neg e]
    simp only [List.getElem?_map]
    by_cases hi : i < 46
    · rw [List.getElem?_range hi]
      simp [ho i (Ne.symm e)]
    · rw [List.getElem?_eq_none (by simp; omega)]
      rfl
section TW
variable {G : xG} {y : xM} {d C S pc : Nat} {L : List (Option Value)} {st : List Value} {h : xH} {Q : xQ} {T0 : Nat} {s : tS}
/-- a field's reading: a number, a long, an array -/
theorem t_gi {idx k : Nat} {v : Int32} (hd : decode y.2.1 pc = .ok (.getfield idx, 3)) (hf : xFld y.1.cls idx 27 k) (h46 : k < 46) (h0 : tref k = 0) (hl : ¬ (k = 39 ∨ k = 40)) (hv : s.1 k = v) (kk : xRun G y d C S (pc + 3) L (.int v :: st) (tw T0 h s) Q) : xRun G y d C S pc L (.ref T0 :: st) (tw T0 h s) Q :=
  x_getf hd hf tw_get0 (by rw [tfs_get h46, tf, if_pos h0, if_neg hl, hv]) kk
theorem t_gl {idx k : Nat} {v : Int64} (hd : decode y.2.1 pc = .ok (.getfield idx, 3)) (hf : xFld y.1.cls idx 27 k) (h46 : k < 46) (h0 : tref k = 0) (hl : k = 39 ∨ k = 40) (hv : s.2.1 k = v) (kk : xRun G y d C S (pc + 3) L (.long v :: st) (tw T0 h s) Q) : xRun G y d C S pc L (.ref T0 :: st) (tw T0 h s) Q :=
  x_getf hd hf tw_get0 (by rw [tfs_get h46, tf, if_pos h0, if_pos hl, hv]) kk
theorem t_ga {idx k : Nat} (j : Nat) (hd : decode y.2.1 pc = .ok (.getfield idx, 3)) (hf : xFld y.1.cls idx 27 k) (h46 : k < 46) (h0 : tref k = j) (hj : ¬ j = 0) (kk : xRun G y d C S (pc + 3) L (.ref (T0 + j) :: st) (tw T0 h s) Q) : xRun G y d C S pc L (.ref T0 :: st) (tw T0 h s) Q :=
  x_getf hd hf tw_get0 (by rw [tfs_get h46, tf, h0, if_neg hj]) kk
theorem tcell_i {T0 k : Nat} {s : tS} {v : Int32} : ∀ i, i ≠ 0 → tcell T0 (seti s k v) i = tcell T0 s i := by
  intro i hi
  unfold tcell
  rw [if_neg hi, if_neg hi]
  rfl
theorem tcell_l {T0 k : Nat} {s : tS} {v : Int64} : ∀ i, i ≠ 0 → tcell T0 (setl s k v) i = tcell T0 s i := by
  intro i hi
  unfold tcell
  rw [if_neg hi, if_neg hi]
  rfl
theorem t_pi {idx k : Nat} {v : Int32} (hd : decode y.2.1 pc = .ok (.putfield idx, 3)) (hf : xFldP y.1.cls idx 27 k .int false) (h0 : tref k = 0) (hl : ¬ (k = 39 ∨ k = 40)) (hb : G.2.2.1 ≤ T0) (kk : xRun G y d C S (pc + 3) L st (tw T0 h (seti s k v)) Q) : xRun G y d C S pc L (.int v :: .ref T0 :: st) (tw T0 h s) Q := by
  refine x_putf hd hf (fun h => nomatch h) tw_get0 (vp_nar_int v) rfl hb ?_
  rw [show xup (tw T0 h s) T0 (27, (tfs T0 s).set k (.int v)) = tw T0 h (seti s k v) from tw_up (j := 0) (by decide) _ (by
    show (27, tfs T0 (seti s k v)) = _
    rw [tfs_set (s' := seti s k v) (.int v) ?_ ?_]
    · show (if tref k = 0 then (if k = 39 ∨ k = 40 then _ else Value.int (if k = k then v else s.1 k)) else _) = _
      rw [if_pos h0, if_neg hl, if_pos rfl]
    · intro i hi
      show (if tref i = 0 then (if i = 39 ∨ i = 40 then _ else Value.int (if i = k then v else s.1 i)) else _) = _
      rw [if_neg hi]
      rfl) tcell_i]
  exact kk
theorem t_pl {idx k : Nat} {v : Int64} (hd : decode y.2.1 pc = .ok (.putfield idx, 3)) (hf : xFldP y.1.cls idx 27 k .long false) (h0 : tref k = 0) (hl : k = 39 ∨ k = 40) (hb : G.2.2.1 ≤ T0) (kk : xRun G y d C S (pc + 3) L st (tw T0 h (setl s k v)) Q) : xRun G y d C S pc L (.long v :: .ref T0 :: st) (tw T0 h s) Q := by
  refine x_putf hd hf (fun h => nomatch h) tw_get0 rfl rfl hb ?_
  rw [show xup (tw T0 h s) T0 (27, (tfs T0 s).set k (.long v)) = tw T0 h (setl s k v) from tw_up (j := 0) (by decide) _ (by
    show (27, tfs T0 (setl s k v)) = _
    rw [tfs_set (s' := setl s k v) (.long v) ?_ ?_]
    · show (if tref k = 0 then (if k = 39 ∨ k = 40 then Value.long (if k = k then v else s.2.1 k) else _) else _) = _
      rw [if_pos h0, if_pos hl, if_pos rfl]
    · intro i hi
      show (if tref i = 0 then (if i = 39 ∨ i = 40 then Value.long (if i = k then v else s.2.1 i) else _) else _) = _
      rw [if_neg hi]
      rfl) tcell_l]
  exact kk
theorem tw_arr {T0 j : Nat} {h : xH} {s : tS} (hj : j < 475) (h0 : ¬ j = 0) (hg : tgrid j = 0) (hz : ¬ j = 472) : (tw T0 h s).1 (T0 + j) = some (100, (s.2.2 j).map .int) := by
  rw [tw_get hj, tcell, if_neg h0, if_pos hg, if_neg hz]
theorem tget {xs : List Int32} {n : Nat} (hn : n < xs.length) : (xs.map Value.int)[n]? = some (.int (xs.getD n 0)) := by
  rw [List.getElem?_map, List.getElem?_eq_getElem hn, List.getD_eq_getElem?_getD, List.getElem?_eq_getElem hn]
  rfl
theorem t_ia {i : Int32} {j : Nat} {v : Int32} (n : Nat) (hd : decode y.2.1 pc = .ok (.iaload, 1)) (hs : tOK s) (hj : j < 475 ∧ ¬ j = 0 ∧ tgrid j = 0 ∧ ¬ j = 472) (hi : i = nI n) (hn : n < tlen j) (hv : (s.2.2 j).getD n 0 = v) (kk : xRun G y d C S (pc + 1) L (.int v :: st) (tw T0 h s) Q) : xRun G y d C S pc L (.int i :: .ref (T0 + j) :: st) (tw T0 h s) Q :=
  x_iaload n hd (tw_arr hj.1 hj.2.1 hj.2.2.1 hj.2.2.2) hi (by rw [tget (by rw [hs j]; exact hn), hv]) kk
theorem tcell_a {T0 k : Nat} {s : tS} {xs : List Int32} : ∀ i, i ≠ k → tcell T0 (seta s k xs) i = tcell T0 s i := by
  intro i hi
  unfold tcell
  have e : (seta s k xs).2.2 i = s.2.2 i := if_neg hi
  rw [e]
  rfl
theorem tup_a {T0 j : Nat} {h : xH} {s : tS} {xs : List Int32} (hj : j < 475 ∧ ¬ j = 0 ∧ tgrid j = 0 ∧ ¬ j = 472) (e : xE) (he : e = (100, xs.map .int)) : xup (tw T0 h s) (T0 + j) e = tw T0 h (seta s j xs) := by
  refine tw_up hj.1 e ?_ tcell_a
  subst he
  have e : (seta s j xs).2.2 j = xs := if_pos rfl
  unfold tcell
  rw [if_neg hj.2.1, if_pos hj.2.2.1, if_neg hj.2.2.2, e]
theorem t_is {i x : Int32} {j : Nat} (n : Nat) (hd : decode y.2.1 pc = .ok (.iastore, 1)) (hs : tOK s) (hj : j < 475 ∧ ¬ j = 0 ∧ tgrid j = 0 ∧ ¬ j = 472) (hi : i = nI n) (hn : n < tlen j) (hb : G.2.2.1 ≤ T0) (kk : xRun G y d C S (pc + 1) L st (tw T0 h (seta s j ((s.2.2 j).set n x))) Q) : xRun G y d C S pc L (.int x :: .int i :: .ref (T0 + j) :: st) (tw T0 h s) Q := by
  refine x_iastore n hd (tw_arr hj.1 hj.2.1 hj.2.2.1 hj.2.2.2) hi (by rw [List.length_map, hs j]; exact hn) (by omega) ?_
  rw [tup_a hj _ (show _ = (100, ((s.2.2 j).set n x).map Value.int) by rw [List.map_set])]
  exact kk
/-- a row of a grid -/
theorem t_aa {i : Int32} {j : Nat} (n : Nat) (hd : decode y.2.1 pc = .ok (.aaload, 1)) (hj : j < 475 ∧ ¬ j = 0 ∧ ¬ tgrid j = 0) (hi : i = nI n) (hn : n < tgrid j) (kk : xRun G y d C S (pc + 1) L (.ref (T0 + (j + 1 + n)) :: st) (tw T0 h s) Q) : xRun G y d C S pc L (.int i :: .ref (T0 + j) :: st) (tw T0 h s) Q := by
  refine x_aaload4 (vs := (List.range (tgrid j)).map (fun i => Value.ref (T0 + (j + 1 + i)))) n hd ?_ hi ?_ kk
  · rw [tw_get hj.1, tcell, if_neg hj.2.1, if_neg hj.2.2]
  · rw [List.getElem?_map, List.getElem?_range hn]
    rfl
end TW
