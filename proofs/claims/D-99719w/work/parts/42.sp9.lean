set_option maxRecDepth 100000
/-! ===== plain: feeding, images ===== -/
/-- a byte of an int: 0 the highest -/
def byN (v : Int32) (k : Nat) : Nat := (v >>> nI (24 - 8 * (k % 4))).toBitVec.toNat % 2 ^ 8
def fdV (a b c d e : Int32) (k : Nat) : Int32 := if k < 4 then a else if k < 8 then b else if k < 12 then c else if k < 16 then d else e
def fdL (a b c d e : Int32) : List Nat := (List.range 20).map (fun k => byN (fdV a b c d e k) k)
def oFeed (W : Wd) (a b c d e : Int32) : oR := if 600 < (wTp W).length + 20 then (0, -1, W) else (0, nI ((wTp W).length + 20), wsT W (wTp W ++ fdL a b c d e))
def oImage (W : Wd) : oR := if (wIm W).length = 3 then (0, -1, W) else (0, nI ((wIm W).length + 1), wsI W (wIm W ++ [(wM W, wPs W)]))
def imL (W : Wd) : Mk × List Mk := (wIm W).getD ((wIm W).length - 1) (wM W, [])
def oRestore (W : Wd) : oR := if (wIm W).length = 0 then (0, -1, W) else (0, nI ((wIm W).length - 1), wsR (wsQ (wsM (wsI W ((wIm W).take ((wIm W).length - 1))) (imL W).1) (imL W).2) 0)
theorem shN : ∀ k, k < 20 → ((24 : Int32) - 8 * (nI k - nI k / 4 * 4)) &&& 31 = nI (24 - 8 * (k % 4)) := by decide +kernel
theorem byN_lt (v : Int32) (k : Nat) : byN v k < 256 := Nat.mod_lt _ (by decide)
theorem fdL_len {a b c d e : Int32} : (fdL a b c d e).length = 20 := by unfold fdL; rw [List.length_map, List.length_range]
theorem fdL_get {a b c d e : Int32} {k : Nat} (h : k < 20) : (fdL a b c d e).getD k 0 = byN (fdV a b c d e k) k := by
  unfold fdL
  rw [List.getD_eq_getElem?_getD, List.getElem?_map, List.getElem?_range h]
  rfl
theorem getD_app {l m : List Nat} {i : Nat} : (l ++ m).getD i 0 = if i < l.length then l.getD i 0 else m.getD (i - l.length) 0 := by
  rw [List.getD_eq_getElem?_getD, List.getElem?_append]
  split
  · rw [List.getD_eq_getElem?_getD]
  · rw [List.getD_eq_getElem?_getD]
theorem getD_snoc {α : Type} {l : List α} {x d : α} {i : Nat} : (l ++ [x]).getD i d = if i < l.length then l.getD i d else if i = l.length then x else d := by
  rw [List.getD_eq_getElem?_getD, List.getElem?_append]
  split
  · rw [List.getD_eq_getElem?_getD]
  · next h =>
    by_cases e : i = l.length
    · rw [if_pos e, e, Nat.sub_self]; rfl
    · rw [if_neg e, List.getElem?_eq_none (by simp; omega)]; rfl
