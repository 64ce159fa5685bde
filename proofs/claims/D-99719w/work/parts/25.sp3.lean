set_option maxRecDepth 100000
/-! ===== plain: the world of both ===== -/
/-- tape, place of a fault, told (things, weights, play), law, market, past, images, lines, refused steps, refusals -/
abbrev Wd : Type := List Nat × Int32 × (Nat × List Nat × Nat) × List (Nat × Nat) × Mk × List Mk × List (Mk × List Mk) × List (Nat × Nat × Nat) × Nat × (Int32 × Int32)
abbrev wTp (W : Wd) : List Nat := W.1
abbrev wPl (W : Wd) : Int32 := W.2.1
abbrev wN (W : Wd) : Nat := W.2.2.1.1
abbrev wW (W : Wd) : List Nat := W.2.2.1.2.1
abbrev wPy (W : Wd) : Nat := W.2.2.1.2.2
abbrev wLw (W : Wd) : List (Nat × Nat) := W.2.2.2.1
abbrev wM (W : Wd) : Mk := W.2.2.2.2.1
abbrev wPs (W : Wd) : List Mk := W.2.2.2.2.2.1
abbrev wIm (W : Wd) : List (Mk × List Mk) := W.2.2.2.2.2.2.1
abbrev wLn (W : Wd) : List (Nat × Nat × Nat) := W.2.2.2.2.2.2.2.1
abbrev wRS (W : Wd) : Nat := W.2.2.2.2.2.2.2.2.1
abbrev wRf (W : Wd) : Int32 × Int32 := W.2.2.2.2.2.2.2.2.2
def wsT (W : Wd) (t : List Nat) : Wd := (t, W.2)
def wsP (W : Wd) (p : Int32) : Wd := (W.1, p, W.2.2)
def wsL (W : Wd) (c : List (Nat × Nat)) : Wd := (W.1, W.2.1, W.2.2.1, c, W.2.2.2.2)
def wsM (W : Wd) (m : Mk) : Wd := (W.1, W.2.1, W.2.2.1, W.2.2.2.1, m, W.2.2.2.2.2)
def wsQ (W : Wd) (q : List Mk) : Wd := (W.1, W.2.1, W.2.2.1, W.2.2.2.1, W.2.2.2.2.1, q, W.2.2.2.2.2.2)
def wsI (W : Wd) (i : List (Mk × List Mk)) : Wd := (W.1, W.2.1, W.2.2.1, W.2.2.2.1, W.2.2.2.2.1, W.2.2.2.2.2.1, i, W.2.2.2.2.2.2.2)
def wsN (W : Wd) (l : List (Nat × Nat × Nat)) : Wd := (W.1, W.2.1, W.2.2.1, W.2.2.2.1, W.2.2.2.2.1, W.2.2.2.2.2.1, W.2.2.2.2.2.2.1, l, W.2.2.2.2.2.2.2.2)
def wsR (W : Wd) (r : Nat) : Wd := (W.1, W.2.1, W.2.2.1, W.2.2.2.1, W.2.2.2.2.1, W.2.2.2.2.2.1, W.2.2.2.2.2.2.1, W.2.2.2.2.2.2.2.1, r, W.2.2.2.2.2.2.2.2.2)
def wsF (W : Wd) (r : Int32 × Int32) : Wd := (W.1, W.2.1, W.2.2.1, W.2.2.2.1, W.2.2.2.2.1, W.2.2.2.2.2.1, W.2.2.2.2.2.2.1, W.2.2.2.2.2.2.2.1, W.2.2.2.2.2.2.2.2.1, r)
/-- refused: 0 no such element, 1 argument -/
def wRef (W : Wd) (r : Nat) : Wd := wsF W (if r = 0 then ((wRf W).1 + 1, (wRf W).2) else ((wRf W).1, (wRf W).2 + 1))
/-- the bounds of a market: things, the last day -/
def mB (n D : Nat) (M : Mk) : Prop := mOK M ∧ (∀ a, M.1.getD a 0 ≤ 60) ∧ (∀ c, c < M.2.2.1.length → (cAt M c).1 < n ∧ (cAt M c).2.1 < 10 ∧ 0 < (cAt M c).2.1 ∧ (cAt M c).2.2.1 < n ∧ (cAt M c).2.2.2 < 10 ∧ 0 < (cAt M c).2.2.2 ∧ ¬ (cAt M c).1 = (cAt M c).2.2.1) ∧ M.2.2.2.1 ≤ 18 ∧ M.2.2.2.2.2 ≤ D
/-- a law that stands -/
def lwOK (cds : List (Nat × Nat)) : Prop := cds.length ≤ 160 ∧ wfL cds 0 ∧ ∀ i, i < cds.length → (cd cds i).1 ≤ 8 ∧ ((cd cds i).1 = 1 → (cd cds i).2 < 7)
def wOK (W : Wd) : Prop := (wTp W).length ≤ 600 ∧ (∀ i, (wTp W).getD i 0 < 256) ∧ wN W ≤ 8 ∧ wPy W ≤ 9 ∧ lwOK (wLw W) ∧ mB (wN W) 300 (wM W) ∧ ((wPs W).length ≤ 16 ∧ ∀ m ∈ wPs W, mB (wN W) 300 m) ∧ ((wIm W).length ≤ 3 ∧ ∀ q ∈ wIm W, mB (wN W) 300 q.1 ∧ q.2.length ≤ 16 ∧ ∀ m ∈ q.2, mB (wN W) 300 m) ∧ ((wLn W).length ≤ 6 ∧ ∀ q ∈ wLn W, q.1 < wN W ∧ q.2.1 < wN W ∧ q.2.2 < 3) ∧ wRS W < 1000
theorem mB.sm {n D : Nat} {M : Mk} (h : mB n D M) (h8 : n ≤ 8) : mSm M := fun c hc => by
  have := h.2.2.1 c hc
  exact ⟨by omega, by omega, by omega, by omega⟩
/-! the steps of the world: what is thrown (0 nothing), the answer, the world then -/
abbrev oR : Type := Nat × Int32 × Wd
abbrev isT (W : Wd) (a : Int32) : Prop := 0 ≤ a ∧ a ≤ nI (wN W) - 1
def iN (a : Int32) : Nat := a.toInt.toNat
theorem iN_nI {k : Nat} (h : k < 2 ^ 31) : iN (nI k) = k := by unfold iN; rw [nI_toInt h]; rfl
def oFault (W : Wd) : oR := (0, wPl W, W)
def oStatus (W : Wd) (x : Int32) : oR := (0, if x = 0 then (wRf W).1 else if x = 1 then (wRf W).2 else -1, W)
def oCount (W : Wd) (x : Int32) : oR := (0, if x = 0 then nI (wIm W).length else if x = 1 then nI (wTp W).length else if x = 2 then nI (wPs W).length else -1, W)
def tldV (W : Wd) (k : Nat) : Int32 := match k with
  | 0 => nI (wN W)
  | 1 => nI (wM W).2.2.1.length
  | 2 => nI (wM W).2.2.2.2.2
  | 3 => nI (wM W).2.2.2.1
  | 4 => nI (wPy W)
  | 5 => wSk (wM W) (wN W)
  | 6 => nSo (wM W)
  | 7 => cIk (wM W) (wN W)
  | 8 => nI (wLn W).length
  | 9 => nI (wRS W)
  | _ => (wM W).2.2.2.2.1
def oTold (W : Wd) (x : Int32) : oR := if 0 ≤ x ∧ x ≤ 10 then (0, tldV W (iN x), W) else (1, 0, wRef W 1)
def thV (W : Wd) (a k : Nat) : Int32 := match k with
  | 0 => wAt (wM W) a
  | 1 => nI ((wW W).getD a 0)
  | 2 => (wM W).2.1.getD a 0
  | 3 => cOf (wM W) a
  | _ => nI (wrN (wLw W) (fcM (nI (wPy W)) (wM W) a))
def oThing (W : Wd) (a x : Int32) : oR := if ¬ isT W a then (1, 0, wRef W 0) else if 0 ≤ x ∧ x ≤ 4 then (0, thV W (iN a) (iN x), W) else (2, 0, wRef W 1)
def crV (c : Cr) (k : Nat) : Int32 := match k with
  | 0 => nI c.1
  | 1 => nI c.2.1
  | 2 => nI c.2.2.1
  | _ => nI c.2.2.2
def oCry (W : Wd) (c x : Int32) : oR := if ¬ (0 ≤ c ∧ c ≤ nI (wM W).2.2.1.length - 1) then (1, 0, wRef W 0) else if 0 ≤ x ∧ x ≤ 3 then (0, crV (cAt (wM W) (iN c)) (iN x), W) else (2, 0, wRef W 1)
def oStands (W : Wd) (a n b m : Int32) : oR := if ¬ (isT W a ∧ isT W b) then (1, 0, wRef W 0) else if (1 ≤ n ∧ n ≤ 9) ∧ 1 ≤ m ∧ m ≤ 9 then (0, nI (stM (nI (wPy W)) (wM W) (iN a) (iN n) (iN b) (iN m)), W) else (2, 0, wRef W 1)
def oWould (W : Wd) (a1 a2 a3 a4 a5 a6 a7 : Int32) : oR := if (1 ≤ a1 ∧ a1 ≤ 60) ∧ (0 ≤ a2 ∧ a2 ≤ 999) ∧ (0 ≤ a3 ∧ a3 ≤ 10) ∧ (0 ≤ a4 ∧ a4 ≤ 7) ∧ (0 ≤ a5 ∧ a5 ≤ 300) ∧ (0 ≤ a6 ∧ a6 ≤ 18) ∧ 0 ≤ a7 ∧ a7 ≤ 9 then (0, nI (wrN (wLw W) [a1, a2, a3, a4, a5, a6, a7]), W) else (1, 0, wRef W 1)
def oHeaviest (W : Wd) (x : Int32) : oR := if 0 ≤ x ∧ x ≤ 1 then (0, (match hvk (wM W) (wN W) with | none => -1 | some b => if x = 0 then nI b else wAt (wM W) b), W) else (1, 0, wRef W 1)
/-- things alike: so many, the first two -/
def alJ (M : Mk) (a : Nat) (p : Nat × Option Nat) (b : Nat) : Nat × Option Nat := if M.1.getD a 0 = M.1.getD b 0 then (p.1 + 1, if p.1 = 0 then some (10 * a + b) else p.2) else p
def alI (M : Mk) (n a : Nat) (p : Nat × Option Nat) : Nat → Nat × Option Nat
  | 0 => p
  | k + 1 => alJ M a (alI M n a p k) (a + 1 + k)
def alO (M : Mk) (n : Nat) : Nat → Nat × Option Nat
  | 0 => (0, none)
  | a + 1 => alI M n a (alO M n a) (n - (a + 1))
def oAlike (W : Wd) (x : Int32) : oR := if 0 ≤ x ∧ x ≤ 1 then (0, if x = 0 then nI (alO (wM W) (wN W) (wN W)).1 else oN (alO (wM W) (wN W) (wN W)).2, W) else (1, 0, wRef W 1)
/-- how many against another one, from n on, 10 none -/
def agF (M : Mk) (a b : Nat) : Nat → Nat → Nat
  | 0, n => n
  | k + 1, n => if nI n * wAt M a < wAt M b then agF M a b k (n + 1) else n
def oAgainst (W : Wd) (a b : Int32) : oR := if ¬ (isT W a ∧ isT W b) then (1, 0, wRef W 0) else (0, (if agF (wM W) (iN a) (iN b) 9 1 = 10 then -1 else nI (agF (wM W) (iN a) (iN b) 9 1)), W)
def oUndo (W : Wd) : oR := if (wPs W).length = 0 then (0, -1, W) else (0, nI ((wPs W).length - 1), wsR (wsQ (wsM W ((wPs W).getD ((wPs W).length - 1) (wM W))) ((wPs W).take ((wPs W).length - 1))) 0)
/-- days on -/
def mDays (n : Nat) (cds : List (Nat × Nat)) (play : Int32) (M : Mk) : Nat → Mk
  | 0 => M
  | k + 1 => mDay n cds play (mDays n cds play M k)
def ahV (W : Wd) (M : Mk) (x : Int32) : Int32 := if x = 0 then wSk M (wN W) else if x = 1 then oN (hvk M (wN W)) else nSo M
def oAhead (W : Wd) (n x : Int32) : oR := if (0 ≤ n ∧ n ≤ 99) ∧ 0 ≤ x ∧ x ≤ 2 then (0, ahV W (mDays (wN W) (wLw W) (nI (wPy W)) (wM W) (iN n)) x, W) else (1, 0, wRef W 1)
