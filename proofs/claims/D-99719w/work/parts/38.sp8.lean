set_option maxRecDepth 100000
/-! ===== plain: sets weighed, amounts ===== -/
def nt (t : Nat) : Nat := t ^^^ 4294967295
theorem nI_nt (t : Nat) : nI t ^^^ (-1) = nI (nt t) := by
  apply Int32.toBitVec_inj.mp
  show BitVec.ofNat 32 t ^^^ BitVec.ofNat 32 4294967295 = BitVec.ofNat 32 (t ^^^ 4294967295)
  rw [BitVec.ofNat_xor]
def lowN (t : Nat) : Nat := ((List.range 8).find? (fun k => t.testBit k)).elim 0 (fun k => 2 ^ k)
theorem low_eq : ∀ t, t < 256 → nI t &&& -(nI t) = nI (lowN t) := by decide +kernel
def hvN (M : Mk) (set : Nat) : Nat → Nat
  | 0 => 0
  | a + 1 => hvN M set a + (if set.testBit a = true then M.1.getD a 0 else 0)
theorem hvN_le {M : Mk} (h : ∀ a, M.1.getD a 0 ≤ 60) {set : Nat} : ∀ k, hvN M set k ≤ 60 * k
  | 0 => Nat.le_refl _
  | k + 1 => by
    have := hvN_le h (set := set) k
    have := h k
    unfold hvN
    split <;> omega
def apN (l r : Nat) : Nat := max (l - r) (r - l)
theorem ap_eq {l r : Nat} (hl : l < 1000) (hr : r < 1000) : mx (nI l - nI r) (nI r - nI l) = nI (apN l r) := by
  unfold mx apN
  by_cases h : r < l
  · have e1 := pk_sneg (a := r) (b := l) (by omega) h
    rw [pk_sub (a := l) (b := r) (by omega)]
    have e2 : nI r - nI l < nI (l - r) := Int32.lt_of_lt_of_le e1 (nI_le (a := 0) (Nat.zero_le _) (by omega))
    rw [if_pos e2]
    congr 1
    omega
  · rw [pk_sub (a := r) (b := l) (by omega)]
    by_cases e : l = r
    · subst e
      rw [Nat.sub_self, pk_sub (Nat.le_refl _), Nat.sub_self]
      rw [if_neg (by decide)]
      rfl
    · have e1 := pk_sneg (a := l) (b := r) (by omega) (by omega)
      have e2 : nI l - nI r < nI (r - l) := Int32.lt_of_lt_of_le e1 (nI_le (a := 0) (Nat.zero_le _) (by omega))
      rw [if_neg (fun q => Int32.lt_irrefl (Int32.lt_trans q e2))]
      congr 1
      omega
def lvA (M : Mk) (n th pan : Nat) : Nat := apN (hvN M pan n) (hvN M (th &&& nt pan) n)
def lvS (M : Mk) (n th : Nat) (p : Nat × Option Nat) (pan : Nat) : Nat × Option Nat :=
  if ¬ pan &&& nt th = 0 ∨ pan &&& lowN th = 0 then p else match p.2 with
    | none => (pan, some (lvA M n th pan))
    | some l => if l ≤ lvA M n th pan then p else (pan, some (lvA M n th pan))
def lvF (M : Mk) (n th : Nat) : Nat → Nat × Option Nat
  | 0 => (0, none)
  | k + 1 => lvS M n th (lvF M n th k) (k + 1)
def oLevel (W : Wd) (th x : Int32) : oR := if isS W th ∧ 0 ≤ x ∧ x ≤ 1 then (0, if x = 1 then nI (lvF (wM W) (wN W) (iN th) (iN th)).1 else nI ((lvF (wM W) (wN W) (iN th) (iN th)).2.getD 0), W) else (1, 0, wRef W 1)
/-- all ways to lay: what is used, left, right -/
def ly (M : Mk) (th : Nat) : Nat → Nat → Nat → Nat → Nat → List (Nat × Nat × Nat)
  | 0, _, u, l, r => [(u, l, r)]
  | k + 1, a, u, l, r => ly M th k (a + 1) u l r ++ (if th.testBit a = true then ly M th k (a + 1) (u ||| 2 ^ a) (l + M.1.getD a 0) r ++ ly M th k (a + 1) (u ||| 2 ^ a) l (r + M.1.getD a 0) else [])
def btr (u : Nat) (o : Option Nat) : Bool := match o with
  | none => true
  | some v => decide (pc u < pc v ∨ (pc u = pc v ∧ u < v))
def byS (B : Nat → Option Nat) (q : Nat × Nat × Nat) : Nat → Option Nat := if q.2.2 < q.2.1 ∧ btr q.1 (B (q.2.1 - q.2.2)) = true then (fun j => if j = q.2.1 - q.2.2 then some q.1 else B j) else B
def byF (B : Nat → Option Nat) (L : List (Nat × Nat × Nat)) : Nat → Option Nat := L.foldl byS B
def byA (M : Mk) (n th : Nat) : Nat → Option Nat := byF (fun _ => none) (ly M th n 0 0 0 0)
def mtM (B : Nat → Option Nat) : Nat → Nat
  | 0 => 0
  | k + 1 => mtM B k + (if B (k + 1) = none then 0 else 1)
def mtG (B : Nat → Option Nat) : Nat → Nat → Nat
  | 0, g => g
  | k + 1, g => if B g = none then g else mtG B k (g + 1)
def oMatch (W : Wd) (th x : Int32) : oR := if isS W th ∧ 0 ≤ x ∧ x ≤ 1 then (0, if x = 0 then nI (mtM (byA (wM W) (wN W) (iN th)) 480) else nI (mtG (byA (wM W) (wN W) (iN th)) 480 1), W) else (1, 0, wRef W 1)
def oFewest (W : Wd) (x : Int32) : oR := if 1 ≤ x ∧ x ≤ 480 then (0, oN (byA (wM W) (wN W) (2 ^ wN W - 1) (iN x)), W) else (1, 0, wRef W 1)
