set_option maxRecDepth 100000
/-! ===== plain: a market's bounds are kept; fairs ===== -/
theorem getD_setN {l : List Nat} {n i x : Nat} : (l.set n x).getD i 0 = if i = n ∧ n < l.length then x else l.getD i 0 := by
  rw [List.getD_eq_getElem?_getD, List.getD_eq_getElem?_getD, List.getElem?_set]
  by_cases e : n = i
  · rw [if_pos e]
    by_cases h : i < l.length
    · rw [if_pos (by omega), if_pos ⟨e.symm, by omega⟩]; rfl
    · rw [if_neg (by omega), if_neg (by omega), List.getElem?_eq_none (by omega)]
  · rw [if_neg e, if_neg (fun q => e q.1.symm)]
theorem getD_mem {α : Type} {l : List α} {i : Nat} {x : α} (h : i < l.length) : l.getD i x ∈ l := by
  rw [List.getD_eq_getElem?_getD, List.getElem?_eq_getElem h]
  exact List.getElem_mem h
theorem mB_cs {n D : Nat} {M : Mk} (h : mB n D M) {c : Cr} (hc : c ∈ M.2.2.1) : c.1 < n ∧ c.2.1 < 10 ∧ 0 < c.2.1 ∧ c.2.2.1 < n ∧ c.2.2.2 < 10 ∧ 0 < c.2.2.2 ∧ ¬ c.1 = c.2.2.1 := by
  obtain ⟨i, hi, rfl⟩ := List.getElem_of_mem hc
  have := h.2.2.1 i hi
  have e : cAt M i = M.2.2.1[i] := by
    show M.2.2.1.getD i _ = _
    rw [List.getD_eq_getElem?_getD, List.getElem?_eq_getElem hi]
    rfl
  rw [e] at this
  exact this
theorem mB_of {n D : Nat} {M : Mk} (h1 : mOK M) (h2 : ∀ a, M.1.getD a 0 ≤ 60) (h3 : ∀ c ∈ M.2.2.1, c.1 < n ∧ c.2.1 < 10 ∧ 0 < c.2.1 ∧ c.2.2.1 < n ∧ c.2.2.2 < 10 ∧ 0 < c.2.2.2 ∧ ¬ c.1 = c.2.2.1) (h4 : M.2.2.2.1 ≤ 18) (h5 : M.2.2.2.2.2 ≤ D) : mB n D M :=
  ⟨h1, h2, fun c hc => h3 _ (getD_mem hc), h4, h5⟩
theorem mWeigh_B {n D : Nat} {play : Int32} {M : Mk} (h : mB n D M) {a x b y : Nat} (ha : a < n) (hb : b < n) (hx : x < 10 ∧ 0 < x) (hy : y < 10 ∧ 0 < y) : mB n D ((mWeigh play M a x b y).getD M) := by
  have ok := mWeigh_ok (play := play) h.1 (a := a) (n := x) (b := b) (m := y)
  unfold mWeigh at ok ⊢
  split at ok
  · next q => rw [if_pos q]; exact h
  · next q =>
    rw [if_neg q]
    have hab : ¬ a = b := fun z => q (Or.inl z)
    refine mB_of ok h.2.1 (fun c hc => ?_) h.2.2.2.1 h.2.2.2.2
    have hc2 : c ∈ M.2.2.1 ++ _ := hc
    rcases List.mem_append.mp hc2 with z | z
    · exact mB_cs h z
    · split at z
      · rw [List.mem_singleton.mp z]
        exact ⟨ha, hx.1, hx.2, hb, hy.1, hy.2, hab⟩
      · split at z
        · rw [List.mem_singleton.mp z]
          exact ⟨hb, hy.1, hy.2, ha, hx.1, hx.2, fun q => hab q.symm⟩
        · cases z
theorem mTip_B {n D : Nat} {M : Mk} (h : mB n D M) {c : Nat} : mB n D ((mTip M c).getD M) := by
  have ok := mTip_ok h.1 (c := c)
  unfold mTip at ok ⊢
  split at ok
  · next q => rw [if_pos q]; exact h
  · next q =>
    rw [if_neg q]
    exact mB_of ok h.2.1 (fun x hx => mB_cs h (List.mem_of_mem_eraseIdx hx)) h.2.2.2.1 h.2.2.2.2
theorem mFeed_B {n D : Nat} {M : Mk} (h : mB n D M) {a x : Nat} : mB n D ((mFeed M a x).getD M) := by
  have ok := mFeed_ok h.1 (a := a) (n := x)
  unfold mFeed at ok ⊢
  split at ok
  · next q => rw [if_pos q]; exact h
  · next q =>
    rw [if_neg q]
    refine mB_of ok (fun i => ?_) (fun c hc => mB_cs h hc) h.2.2.2.1 h.2.2.2.2
    show (M.1.set a _).getD i 0 ≤ 60
    rw [getD_setN]
    split
    · omega
    · exact h.2.1 i
theorem mTurn_B {n D : Nat} {M : Mk} (h : mB n D M) : mB n D ((mTurn M).getD M) := by
  unfold mTurn
  split
  · exact h
  · exact mB_of h.1 h.2.1 (fun c hc => mB_cs h hc) (by show 18 - _ ≤ 18; omega) h.2.2.2.2
theorem dWk_le {w : List Nat} {f : Nat → Nat} (h : ∀ a, w.getD a 0 ≤ 60) : ∀ c i, (dWk w f c).getD i 0 ≤ 60
  | 0, i => h i
  | c + 1, i => by
    unfold dWk
    rw [getD_setN]
    split
    · have := h c; omega
    · exact dWk_le h c i
theorem mDay_B {n D : Nat} {cds : List (Nat × Nat)} {play : Int32} {M : Mk} {k : Nat} (h : mB n D M) : mB n (D + 1) (mDay k cds play M) := by
  refine mB_of ⟨?_, h.1.2⟩ (dWk_le h.2.1 k) (fun c hc => mB_cs h hc) h.2.2.2.1 ?_
  · show (dWk _ _ _).length = 8
    rw [dWk_len]
    exact h.1.1
  · show M.2.2.2.2.2 + 1 ≤ D + 1
    have := h.2.2.2.2
    omega
theorem mDays_B {n D : Nat} {cds : List (Nat × Nat)} {play : Int32} {M : Mk} {m : Nat} (h : mB n D M) : ∀ k, mB n (D + k) (mDays m cds play M k)
  | 0 => h
  | k + 1 => mDay_B (mDays_B h k)
/-- lots -/
def lot (l : Int32) : Int32 := l * 1103515245 + 12345
def drw (l : Int32) (m : Nat) : Nat := ((l >>> 16).toBitVec.toNat % 2 ^ 15) % m
/-- a fair's day: who weighs what, who tips -/
def frS (n : Nat) (cds : List (Nat × Nat)) (play : Int32) (q : Nat) (x : Mk × Int32) : Mk × Int32 :=
  if n = 0 then (mDay n cds play x.1, x.2) else
  let l1 := lot x.2
  let l2 := lot l1
  let l3 := lot l2
  let l4 := lot l3
  let M1 := (mWeigh play x.1 (drw l1 n) (1 + drw l3 3) (drw l2 n) 1).getD x.1
  let M2 := if drw l4 16 < q then (mTip M1 0).getD M1 else M1
  (mDay n cds play M2, l4)
def frF (n : Nat) (cds : List (Nat × Nat)) (play : Int32) (q : Nat) (x : Mk × Int32) : Nat → Mk × Int32
  | 0 => x
  | k + 1 => frS n cds play q (frF n cds play q x k)
theorem frS_B {n D : Nat} {cds : List (Nat × Nat)} {play : Int32} {q : Nat} {x : Mk × Int32} (h : mB n D x.1) : mB n (D + 1) (frS n cds play q x).1 := by
  unfold frS
  by_cases hn : n = 0
  · rw [if_pos hn]
    exact mDay_B h
  · rw [if_neg hn]
    have h1 : mB n D ((mWeigh play x.1 (drw (lot x.2) n) (1 + drw (lot (lot (lot x.2))) 3) (drw (lot (lot x.2)) n) 1).getD x.1) := by
      refine mWeigh_B h (Nat.mod_lt _ (by omega)) (Nat.mod_lt _ (by omega)) ?_ (by decide)
      have : drw (lot (lot (lot x.2))) 3 < 3 := Nat.mod_lt _ (by decide)
      omega
    refine mDay_B ?_
    show mB n D (if _ then _ else _)
    split
    · exact mTip_B h1
    · exact h1
theorem frF_B {n D : Nat} {cds : List (Nat × Nat)} {play : Int32} {q : Nat} {x : Mk × Int32} (h : mB n D x.1) : ∀ k, mB n (D + k) (frF n cds play q x k).1
  | 0 => h
  | k + 1 => frS_B (frF_B h k)
def wFr (W : Wd) (seed : Int32) (days q : Nat) : Mk := (frF (wN W) (wLw W) (nI (wPy W)) q (wM W, seed) days).1
abbrev isFr (days q : Int32) : Prop := (1 ≤ days ∧ days ≤ 96) ∧ 0 ≤ q ∧ q ≤ 16
def frV (W : Wd) (M : Mk) (x : Int32) : Int32 := if x = 0 then wSk M (wN W) else if x = 1 then nI M.2.2.1.length else if x = 2 then M.2.2.2.2.1 - (wM W).2.2.2.2.1 else nSo M
def oFair (W : Wd) (seed days q x : Int32) : oR := if isFr days q ∧ 0 ≤ x ∧ x ≤ 3 then (0, frV W (wFr W seed (iN days) (iN q)) x, W) else (1, 0, wRef W 1)
/-- lightest (-1 none), heaviest, how often cried -/
def spF (W : Wd) (seed : Int32) (days q a : Nat) : Nat → Int32 × Int32 × Nat
  | 0 => (-1, 0, 0)
  | k + 1 =>
    let p := spF W seed days q a k
    let M := wFr W (seed + nI k) days q
    ((if p.1 = -1 then wSk M (wN W) else mn p.1 (wSk M (wN W))), mx p.2.1 (wSk M (wN W)), p.2.2 + (if cOf M a = 0 then 0 else 1))
def spV (p : Int32 × Int32 × Nat) (x : Int32) : Int32 := if x = 0 then p.1 else if x = 1 then p.2.1 else nI p.2.2
def oSpan (W : Wd) (seed many days q x a : Int32) : oR := if (1 ≤ many ∧ many ≤ 20) ∧ isFr days q ∧ (0 ≤ x ∧ x ≤ 2) ∧ isT W a then (0, spV (spF W seed (iN days) (iN q) (iN a) (iN many)) x, W) else (1, 0, wRef W 1)
