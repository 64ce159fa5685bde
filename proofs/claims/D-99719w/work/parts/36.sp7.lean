set_option maxRecDepth 100000
/-! ===== plain: the beam, a false one, sellers, level, shares ===== -/
abbrev Ln : Type := List (Nat × Nat × Nat)
def isBm (M : Mk) (l : Ln) (lean play : Int32) : Bool := l.all (fun q => decide (stN (wAt M q.1) (wAt M q.2.1) lean play = q.2.2))
abbrev bmK (M : Mk) (l : Ln) (k : Nat) : Bool := isBm M l (nI (k / 10)) (nI (k % 10))
def ftF (M : Mk) (l : Ln) : Nat → Nat × Option Nat
  | 0 => (0, none)
  | k + 1 => if bmK M l k = true then ((ftF M l k).1 + 1, if (ftF M l k).1 = 0 then some k else (ftF M l k).2) else ftF M l k
theorem ftF_le {M : Mk} {l : Ln} : ∀ k, (ftF M l k).1 ≤ k
  | 0 => Nat.le_refl _
  | k + 1 => by
    have := ftF_le (M := M) (l := l) k
    unfold ftF
    split
    · show _ + 1 ≤ _; omega
    · omega
def oFits (W : Wd) (x : Int32) : oR := if 0 ≤ x ∧ x ≤ 1 then (0, if x = 0 then nI (ftF (wM W) (wLn W) 190).1 else oN (ftF (wM W) (wLn W) 190).2, W) else (1, 0, wRef W 1)
/-- how often it would stand so, so and so -/
def bmp (r : Nat) (p : Nat × Nat × Nat) : Nat × Nat × Nat := if r = 0 then (p.1 + 1, p.2) else if r = 1 then (p.1, p.2.1 + 1, p.2.2) else (p.1, p.2.1, p.2.2 + 1)
def wcF (M : Mk) (l : Ln) (a b : Nat) : Nat → Nat × Nat × Nat
  | 0 => (0, 0, 0)
  | k + 1 => if bmK M l k = true then bmp (stN (wAt M a) (wAt M b) (nI (k / 10)) (nI (k % 10))) (wcF M l a b k) else wcF M l a b k
theorem wcF_le {M : Mk} {l : Ln} {a b : Nat} : ∀ k, (wcF M l a b k).1 ≤ k ∧ (wcF M l a b k).2.1 ≤ k ∧ (wcF M l a b k).2.2 ≤ k
  | 0 => ⟨Nat.le_refl _, Nat.le_refl _, Nat.le_refl _⟩
  | k + 1 => by
    have h := wcF_le (M := M) (l := l) (a := a) (b := b) k
    unfold wcF
    split
    · unfold bmp
      split
      · exact ⟨by show _ + 1 ≤ _; omega, by show (wcF M l a b k).2.1 ≤ _; omega, by show (wcF M l a b k).2.2 ≤ _; omega⟩
      · split
        · exact ⟨by show (wcF M l a b k).1 ≤ _; omega, by show _ + 1 ≤ _; omega, by show (wcF M l a b k).2.2 ≤ _; omega⟩
        · exact ⟨by show (wcF M l a b k).1 ≤ _; omega, by show (wcF M l a b k).2.1 ≤ _; omega, by show _ + 1 ≤ _; omega⟩
    · omega
def wst (M : Mk) (l : Ln) (a b : Nat) : Nat := max (wcF M l a b 190).1 (max (wcF M l a b 190).2.1 (wcF M l a b 190).2.2)
theorem wst_le {M : Mk} {l : Ln} {a b : Nat} : wst M l a b ≤ 190 := by
  have := wcF_le (M := M) (l := l) (a := a) (b := b) 190
  unfold wst
  omega
def lkJ (M : Mk) (l : Ln) (a : Nat) (p : Option (Nat × Nat)) (b : Nat) : Option (Nat × Nat) := match p with
  | none => some (10 * a + b, wst M l a b)
  | some q => if q.2 ≤ wst M l a b then some q else some (10 * a + b, wst M l a b)
def lkI (M : Mk) (l : Ln) (a : Nat) (p : Option (Nat × Nat)) : Nat → Option (Nat × Nat)
  | 0 => p
  | k + 1 => lkJ M l a (lkI M l a p k) (a + 1 + k)
def lkO (M : Mk) (l : Ln) (n : Nat) : Nat → Option (Nat × Nat)
  | 0 => none
  | a + 1 => lkI M l a (lkO M l n a) (n - (a + 1))
def oN1 (o : Option (Nat × Nat)) : Int32 := match o with | none => -1 | some q => nI q.1
def oN2 (o : Option (Nat × Nat)) : Int32 := match o with | none => -1 | some q => nI q.2
def oLook (W : Wd) (x : Int32) : oR := if 0 ≤ x ∧ x ≤ 1 then (0, if x = 0 then oN1 (lkO (wM W) (wLn W) (wN W) (wN W)) else oN2 (lkO (wM W) (wLn W) (wN W) (wN W)), W) else (1, 0, wRef W 1)
/-- a false one -/
def flN (n : Nat) : Nat → Nat → Nat → Nat
  | 0, w, _ => w
  | f + 1, w, p => if (p - 3) / 2 < n then flN n f (w + 1) (p * 3) else w
def oFalsely (W : Wd) (x : Int32) : oR := if 1 ≤ x ∧ x ≤ 9999 then (0, if iN x < 3 then -1 else nI (flN (iN x) 9 2 9), W) else (1, 0, wRef W 1)
/-- sellers -/
def hbI (own other : Nat) (v w : Int32) : Int32 := if own = 0 then (if other = 0 then v else 0) else if other = 0 then w else -1
def isBs (own other : Nat) (v w : Int32) : Bool := decide (hbI (1 - own) other v w ≤ hbI own other v w)
abbrev Sl : Type := Nat × Int32 × Int32
def slS (v w : Int32) (p : Sl) (a b : Nat) : Sl := if isBs a b v w = true ∧ isBs b a v w = true then (p.1 + 1, (if p.1 = 0 then nI (10 * a + b) else p.2.1), if p.1 = 0 then hbI a b v w + hbI b a v w else p.2.2) else p
def slF (v w : Int32) : Sl := slS v w (slS v w (slS v w (slS v w (0, -1, 0) 0 0) 0 1) 1 0) 1 1
def oSellers (W : Wd) (v w x : Int32) : oR := if (0 ≤ v ∧ v ≤ 99) ∧ (0 ≤ w ∧ w ≤ 99) ∧ 0 ≤ x ∧ x ≤ 2 then (0, if x = 0 then nI (slF v w).1 else if x = 1 then (slF v w).2.1 else (slF v w).2.2, W) else (1, 0, wRef W 1)
/-- how likely it is level -/
def evC (u half : Nat) : Nat → Nat
  | 0 => u
  | k + 1 => evC u half k * (half + (k + 1)) / (k + 1)
theorem evC_b : ∀ u, u < 2 → ∀ half, half < 7 → ∀ k, k < half + 1 → evC u half k < 1000 := by decide +kernel
def evP (u m : Nat) : Nat → Nat
  | 0 => u
  | k + 1 => evP u m k * m
theorem evP_b {u m : Nat} (hm : m ≤ 64) : ∀ k, evP u m k ≤ u * 64 ^ k
  | 0 => by simp [evP]
  | k + 1 => by
    unfold evP
    rw [Nat.pow_succ, ← Nat.mul_assoc]
    exact Nat.mul_le_mul (evP_b hm k) hm
def evU (n q : Nat) : Nat := evP (evC (if n % 2 = 0 then 1 else 0) (n / 2) (n / 2)) (q * (16 - q)) (n / 2)
def oEven (W : Wd) (n q x : Int32) : oL := if (0 ≤ n ∧ n ≤ 12) ∧ (0 ≤ q ∧ q ≤ 16) ∧ 0 ≤ x ∧ x ≤ 1 then (0, lN (redN (evU (iN n) (iN q), 16 ^ iN n) x), W) else (1, 0, wRef W 1)
/-- shares -/
def gvk (M : Mk) (th bound : Int32) : Nat → Int32
  | 0 => 0
  | a + 1 => gvk M th bound a + (if bt th (nI a) = true then mn bound (wAt M a) else 0)
def shF (M : Mk) (n : Nat) (th x : Int32) : Nat → Nat → Nat
  | 0, b => b
  | k + 1, b => if gvk M th (nI (b + 1)) n ≤ x then shF M n th x k (b + 1) else b
abbrev isS (W : Wd) (x : Int32) : Prop := 0 ≤ x ∧ x ≤ nI (2 ^ wN W - 1)
def oShare (W : Wd) (a th x : Int32) : oR := if ¬ isT W a then (1, 0, wRef W 0) else if isS W th ∧ 0 ≤ x ∧ x ≤ 999 then (0, if bt th a = true then mn (nI (shF (wM W) (wN W) th x 60 0)) (wAt (wM W) (iN a)) else 0, W) else (2, 0, wRef W 1)
