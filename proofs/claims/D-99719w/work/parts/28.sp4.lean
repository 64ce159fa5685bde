set_option maxRecDepth 100000
/-! ===== plain: sets as bits; chains of cries ===== -/
theorem nI31 : ∀ k, k < 32 → nI k &&& 31 = nI k := by decide +kernel
theorem smod32 : ∀ k, k < 32 → (nI k).toBitVec.smod 32 = BitVec.ofNat 32 k := by decide +kernel
theorem bt_lsb {b : Int32} {k : Nat} (hk : k < 32) : bt b (nI k) = b.toBitVec.getLsbD k := by
  unfold bt
  rw [nI31 k hk]
  have e1 : ((b >>> nI k) &&& 1 = 1) ↔ (b.toBitVec.sshiftRight k) &&& 1#32 = 1#32 := by
    rw [← Int32.toBitVec_inj]
    show (b >>> nI k).toBitVec &&& 1#32 = 1#32 ↔ _
    rw [Int32.toBitVec_shiftRight, smod32 k hk]
    show (b.toBitVec.sshiftRight (BitVec.ofNat 32 k).toNat) &&& 1#32 = 1#32 ↔ _
    rw [BitVec.toNat_ofNat, Nat.mod_eq_of_lt (by omega)]
  have e0 : ∀ v : BitVec 32, decide (v &&& 1#32 = 1#32) = v.getLsbD 0 := by
    intro v
    cases hv : v.getLsbD 0 with
    | true =>
      refine decide_eq_true ?_
      apply BitVec.eq_of_getLsbD_eq
      intro i hi
      rw [BitVec.getLsbD_and]
      cases i with
      | zero => rw [hv]; rfl
      | succ i =>
        have : (1#32).getLsbD (i + 1) = false := by simp [BitVec.getLsbD_one]
        rw [this, Bool.and_false]
    | false =>
      refine decide_eq_false (fun q => ?_)
      have := congrArg (fun w : BitVec 32 => w.getLsbD 0) q
      simp only [BitVec.getLsbD_and, hv, Bool.false_and] at this
      exact absurd this (by decide)
  rw [decide_eq_decide.mpr e1, e0]
  have e2 : (b.toBitVec.sshiftRight k).getLsbD 0 = b.toBitVec.getLsbD k := by
    rw [BitVec.getLsbD_sshiftRight]
    simp [hk]
  exact e2
theorem bt_or {a b : Int32} {k : Nat} (hk : k < 32) : bt (a ||| b) (nI k) = (bt a (nI k) || bt b (nI k)) := by
  rw [bt_lsb hk, bt_lsb hk, bt_lsb hk]
  show (a.toBitVec ||| b.toBitVec).getLsbD k = _
  rw [BitVec.getLsbD_or]
theorem bt_sh1 : ∀ c, c < 32 → ∀ k, k < 32 → bt (sh1 c) (nI k) = decide (k = c) := by decide +kernel
theorem bt_nI {m k : Nat} (hk : k < 32) : bt (nI m) (nI k) = m.testBit k := by
  rw [bt_lsb hk]
  show (BitVec.ofNat 32 m).getLsbD k = _
  rw [BitVec.getLsbD_ofNat]
  simp [hk]
theorem sh1_nI : ∀ c, c < 31 → sh1 c = nI (1 <<< c) := by decide +kernel
theorem nI_or (a b : Nat) : nI a ||| nI b = nI (a ||| b) := by
  apply Int32.toBitVec_inj.mp
  show BitVec.ofNat 32 a ||| BitVec.ofNat 32 b = BitVec.ofNat 32 (a ||| b)
  rw [BitVec.ofNat_or]
/-- a set's ones, of ten -/
def pc (m : Nat) : Nat := (List.range 10).foldl (fun n k => if m.testBit k then n + 1 else n) 0
theorem on_pc : ∀ m, m < 1024 → on (nI m) = nI (pc m) := by decide +kernel
theorem pc_le : ∀ m, m < 1024 → pc m ≤ 10 := by decide +kernel
/-- a path's cries as a set; its worth above and below -/
def pS (p : List Nat) : Nat := p.foldl (fun s c => s ||| (1 <<< c)) 0
def pU (M : Mk) (p : List Nat) : Int64 := p.foldl (fun u c => u * (nI (cAt M c).2.2.2).toInt64) 1
def pD (M : Mk) (p : List Nat) : Int64 := p.foldl (fun u c => u * (nI (cAt M c).2.1).toInt64) 1
theorem pS_snoc {p : List Nat} {c : Nat} : pS (p ++ [c]) = pS p ||| (1 <<< c) := by unfold pS; rw [List.foldl_append]; rfl
theorem pU_snoc {M : Mk} {p : List Nat} {c : Nat} : pU M (p ++ [c]) = pU M p * (nI (cAt M c).2.2.2).toInt64 := by unfold pU; rw [List.foldl_append]; rfl
theorem pD_snoc {M : Mk} {p : List Nat} {c : Nat} : pD M (p ++ [c]) = pD M p * (nI (cAt M c).2.1).toInt64 := by unfold pD; rw [List.foldl_append]; rfl
/-- the greater worth -/
def kp (b q : Int64 × Int64) : Int64 × Int64 := if q.1 * b.2 ≤ b.1 * q.2 then b else q
def bst (M : Mk) (b : Int64 × Int64) (ps : List (List Nat)) : Int64 × Int64 := ps.foldl (fun b p => kp b (pU M p, pD M p)) b
theorem bst_app {M : Mk} {b : Int64 × Int64} {ps qs : List (List Nat)} : bst M b (ps ++ qs) = bst M (bst M b ps) qs := List.foldl_append
/-- all ways on by cries that are ok, to an end, no thing twice -/
def pthC (ok : Nat → Bool) (M : Mk) (fin : Nat) (rec : Nat → List (List Nat)) (at' : Nat) (seen : List Nat) (c : Nat) : List (List Nat) :=
  if ok c = false ∨ ¬ (cAt M c).1 = at' then [] else if (cAt M c).2.2.1 = fin then [[c]] else if (cAt M c).2.2.1 ∈ seen then [] else (rec (cAt M c).2.2.1).map (fun p => c :: p)
def pth (ok : Nat → Bool) (M : Mk) (fin : Nat) : Nat → Nat → List Nat → List (List Nat)
  | 0, _, _ => []
  | f + 1, at', seen => (List.range M.2.2.1.length).flatMap (pthC ok M fin (fun b => pth ok M fin f b (b :: seen)) at' seen)
/-- the bits are the list's -/
def mk8 (been : Int32) (seen : List Nat) : Prop := (∀ k, k < 8 → bt been (nI k) = decide (k ∈ seen)) ∧ seen.Nodup ∧ ∀ k ∈ seen, k < 8
theorem mk8.cons {been : Int32} {seen : List Nat} (h : mk8 been seen) {k : Nat} (hk : k < 8) (hn : ¬ k ∈ seen) : mk8 (been ||| sh1 k) (k :: seen) := by
  refine ⟨fun i hi => ?_, List.nodup_cons.mpr ⟨hn, h.2.1⟩, fun i hi => ?_⟩
  · rw [bt_or (by omega), h.1 i hi, bt_sh1 k (by omega) i (by omega)]
    by_cases e : i = k
    · subst e; simp
    · simp [e]
  · rcases List.mem_cons.mp hi with rfl | q
    · exact hk
    · exact h.2.2 i q
theorem mk8.one {k : Nat} (hk : k < 8) : mk8 (sh1 k) [k] := by
  refine ⟨fun i hi => ?_, by simp, fun i hi => ?_⟩
  · rw [bt_sh1 k (by omega) i (by omega)]
    simp
  · rw [List.mem_singleton.mp hi]; exact hk
theorem mk8.len {been : Int32} {seen : List Nat} (h : mk8 been seen) : seen.length ≤ 8 := by
  have := h.2.1.length_le_of_subset (l₂ := List.range 8) (fun k hk => List.mem_range.mpr (h.2.2 k hk))
  simpa using this
/-- of rings: the greatest worth, the fat sets, the fewest cries of a fat one -/
abbrev Rg : Type := (Int64 × Int64) × List Nat × Option Nat
def pL (p : List Nat) : Nat := pc (pS p.dropLast) + 1
def omin (o : Option Nat) (k : Nat) : Option Nat := match o with | none => some k | some j => some (if j < k then j else k)
def rgS (M : Mk) (r : Rg) (p : List Nat) : Rg := (kp r.1 (pU M p, pD M p), if pD M p < pU M p then pS p :: r.2.1 else r.2.1, if pD M p < pU M p then omin r.2.2 (pL p) else r.2.2)
def rgF (M : Mk) (r : Rg) (ps : List (List Nat)) : Rg := ps.foldl (rgS M) r
theorem rgF_app {M : Mk} {b : Rg} {ps qs : List (List Nat)} : rgF M b (ps ++ qs) = rgF M (rgF M b ps) qs := List.foldl_append
/-- the rings whose least thing is t -/
def rngs (M : Mk) (t : Nat) : List (List Nat) := pth (fun c => decide (t ≤ (cAt M c).2.2.1)) M t 8 t [t]
def rgA (M : Mk) : Nat → Rg
  | 0 => ((0, 1), [], none)
  | t + 1 => rgF M (rgA M t) (rngs M t)
theorem pS_lt {p : List Nat} (h : ∀ c ∈ p, c < 10) : pS p < 1024 := by
  unfold pS
  suffices hh : ∀ s, s < 1024 → p.foldl (fun s c => s ||| (1 <<< c)) s < 1024 from hh 0 (by decide)
  induction p with
  | nil => intro s hs; exact hs
  | cons c p ih =>
    intro s hs
    refine ih (fun x hx => h x (List.mem_cons_of_mem _ hx)) _ ?_
    refine Nat.or_lt_two_pow (n := 10) hs ?_
    have := h c List.mem_cons_self
    rw [Nat.one_shiftLeft]
    exact Nat.pow_lt_pow_right (by decide) this
