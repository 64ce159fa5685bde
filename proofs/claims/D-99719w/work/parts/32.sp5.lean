set_option maxRecDepth 100000
/-! ===== plain: chains in whole numbers ===== -/
def uN (M : Mk) (p : List Nat) : Nat := p.foldl (fun u c => u * (cAt M c).2.2.2) 1
def dN (M : Mk) (p : List Nat) : Nat := p.foldl (fun u c => u * (cAt M c).2.1) 1
def kpN (b q : Nat × Nat) : Nat × Nat := if q.1 * b.2 ≤ b.1 * q.2 then b else q
def bstN (M : Mk) (b : Nat × Nat) (ps : List (List Nat)) : Nat × Nat := ps.foldl (fun b p => kpN b (uN M p, dN M p)) b
/-- in least terms -/
def redN (q : Nat × Nat) (part : Int32) : Nat := if part = 0 then q.1 / Nat.gcd q.1 q.2 else q.2 / Nat.gcd q.1 q.2
/-- a path's cries are cries, of counts 1 to 9, at most 8 of them -/
def pOK (M : Mk) (p : List Nat) : Prop := p.length ≤ 8 ∧ ∀ c ∈ p, c < M.2.2.1.length
def cB (M : Mk) : Prop := ∀ c, c < M.2.2.1.length → ((cAt M c).2.1 < 10 ∧ 0 < (cAt M c).2.1) ∧ (cAt M c).2.2.2 < 10 ∧ 0 < (cAt M c).2.2.2
theorem prod_le {f : Nat → Nat} : ∀ (p : List Nat) (u : Nat), (∀ c ∈ p, f c < 10 ∧ 0 < f c) → p.foldl (fun u c => u * f c) u ≤ u * 9 ^ p.length ∧ (0 < u → 0 < p.foldl (fun u c => u * f c) u)
  | [], u, _ => ⟨by simp, fun h => h⟩
  | c :: p, u, h => by
    have h1 := prod_le p (u * f c) (fun x hx => h x (List.mem_cons_of_mem _ hx))
    have h2 := h c List.mem_cons_self
    rw [List.foldl_cons, List.length_cons]
    refine ⟨Nat.le_trans h1.1 ?_, fun hu => h1.2 (Nat.mul_pos hu h2.2)⟩
    rw [Nat.pow_succ, Nat.mul_assoc, Nat.mul_comm (9 ^ p.length) 9]
    exact Nat.mul_le_mul_left _ (Nat.mul_le_mul_right _ (by omega))
theorem p9 {n : Nat} (h : n ≤ 8) : 9 ^ n ≤ 43046721 := Nat.le_trans (Nat.pow_le_pow_right (by decide) h) (by decide)
theorem uN_b {M : Mk} (hc : cB M) {p : List Nat} (h : pOK M p) : uN M p ≤ 43046721 ∧ 0 < uN M p := by
  have := prod_le (f := fun c => (cAt M c).2.2.2) p 1 (fun c q => (hc c (h.2 c q)).2)
  exact ⟨Nat.le_trans this.1 (by rw [Nat.one_mul]; exact p9 h.1), this.2 (by decide)⟩
theorem dN_b {M : Mk} (hc : cB M) {p : List Nat} (h : pOK M p) : dN M p ≤ 43046721 ∧ 0 < dN M p := by
  have := prod_le (f := fun c => (cAt M c).2.1) p 1 (fun c q => (hc c (h.2 c q)).1)
  exact ⟨Nat.le_trans this.1 (by rw [Nat.one_mul]; exact p9 h.1), this.2 (by decide)⟩
theorem prod_l {f : Nat → Nat} : ∀ (p : List Nat) (u : Nat), (∀ c ∈ p, f c < 10) → p.foldl (fun (u : Int64) c => u * (nI (f c)).toInt64) (lN u) = lN (p.foldl (fun u c => u * f c) u)
  | [], _, _ => rfl
  | c :: p, u, h => by
    rw [List.foldl_cons, List.foldl_cons, nI_l (by have := h c List.mem_cons_self; omega), lN_mul]
    exact prod_l p _ (fun x hx => h x (List.mem_cons_of_mem _ hx))
theorem pU_N {M : Mk} (hc : cB M) {p : List Nat} (h : pOK M p) : pU M p = lN (uN M p) := prod_l (f := fun c => (cAt M c).2.2.2) p 1 (fun c q => (hc c (h.2 c q)).2.1)
theorem pD_N {M : Mk} (hc : cB M) {p : List Nat} (h : pOK M p) : pD M p = lN (dN M p) := prod_l (f := fun c => (cAt M c).2.1) p 1 (fun c q => (hc c (h.2 c q)).1.1)
theorem pth_ok {ok : Nat → Bool} {M : Mk} {fin : Nat} : ∀ (f at' : Nat) (seen p : List Nat), p ∈ pth ok M fin f at' seen → p.length ≤ f ∧ ∀ c ∈ p, c < M.2.2.1.length
  | 0, _, _, _, h => nomatch h
  | f + 1, at', seen, p, h => by
    unfold pth at h
    obtain ⟨c, hc, hp⟩ := List.mem_flatMap.mp h
    have hc := List.mem_range.mp hc
    unfold pthC at hp
    split at hp
    · cases hp
    · split at hp
      · rw [List.mem_singleton.mp hp]
        exact ⟨by simp, fun x hx => by rw [List.mem_singleton.mp hx]; exact hc⟩
      · split at hp
        · cases hp
        · obtain ⟨q, hq, rfl⟩ := List.mem_map.mp hp
          have := pth_ok f _ _ q hq
          refine ⟨by rw [List.length_cons]; omega, fun x hx => ?_⟩
          rcases List.mem_cons.mp hx with rfl | h9
          · exact hc
          · exact this.2 x h9
theorem bst_N {M : Mk} (hc : cB M) : ∀ (ps : List (List Nat)) (b : Nat × Nat), (∀ p ∈ ps, pOK M p) → b.1 ≤ 43046721 → b.2 ≤ 43046721 → bst M (lN b.1, lN b.2) ps = (lN (bstN M b ps).1, lN (bstN M b ps).2)
  | [], _, _, _, _ => rfl
  | p :: ps, b, h, h1, h2 => by
    have hp := h p List.mem_cons_self
    have u := uN_b hc hp
    have l := dN_b hc hp
    have e : kp (lN b.1, lN b.2) (pU M p, pD M p) = (lN (kpN b (uN M p, dN M p)).1, lN (kpN b (uN M p, dN M p)).2) := by
      unfold kp kpN
      rw [pU_N hc hp, pD_N hc hp, lN_mul, lN_mul]
      have b1 : uN M p * b.2 ≤ 43046721 * 43046721 := Nat.mul_le_mul u.1 h2
      have b2 : b.1 * dN M p ≤ 43046721 * 43046721 := Nat.mul_le_mul h1 l.1
      have := pk_lLE (a := uN M p * b.2) (b := b.1 * dN M p) (by omega) (by omega)
      by_cases q : uN M p * b.2 ≤ b.1 * dN M p
      · rw [if_pos (this.mpr q), if_pos q]
      · rw [if_neg (fun z => q (this.mp z)), if_neg q]
    show bst M (kp (lN b.1, lN b.2) (pU M p, pD M p)) ps = (lN (bstN M (kpN b (uN M p, dN M p)) ps).1, lN (bstN M (kpN b (uN M p, dN M p)) ps).2)
    rw [e]
    refine bst_N hc ps _ (fun x hx => h x (List.mem_cons_of_mem _ hx)) ?_ ?_
    · unfold kpN; split
      · exact h1
      · exact u.1
    · unfold kpN; split
      · exact h2
      · exact l.1
theorem bstN_b {M : Mk} (hc : cB M) : ∀ (ps : List (List Nat)) (b : Nat × Nat), (∀ p ∈ ps, pOK M p) → b.1 ≤ 43046721 → b.2 ≤ 43046721 → 0 < b.2 → (bstN M b ps).1 ≤ 43046721 ∧ (bstN M b ps).2 ≤ 43046721 ∧ 0 < (bstN M b ps).2
  | [], _, _, h1, h2, h3 => ⟨h1, h2, h3⟩
  | p :: ps, b, h, h1, h2, h3 => by
    have hp := h p List.mem_cons_self
    have u := uN_b hc hp
    have l := dN_b hc hp
    show (bstN M (kpN b (uN M p, dN M p)) ps).1 ≤ 43046721 ∧ (bstN M (kpN b (uN M p, dN M p)) ps).2 ≤ 43046721 ∧ 0 < (bstN M (kpN b (uN M p, dN M p)) ps).2
    refine bstN_b hc ps _ (fun x hx => h x (List.mem_cons_of_mem _ hx)) ?_ ?_ ?_
    · unfold kpN; split
      · exact h1
      · exact u.1
    · unfold kpN; split
      · exact h2
      · exact l.1
    · unfold kpN; split
      · exact h3
      · exact l.2
/-- Euclid's way is right -/
theorem gcL_N : ∀ (f a b : Nat), b < f → a < 2 ^ 63 → b < 2 ^ 63 → gOK f (lN a) (lN b) ∧ gcL f (lN a) (lN b) = lN (Nat.gcd a b)
  | 0, _, _, h, _, _ => absurd h (Nat.not_lt_zero _)
  | f + 1, a, b, h, ha, hb => by
    unfold gOK gcL
    by_cases e : b = 0
    · subst e
      exact ⟨Or.inl rfl, by rw [if_pos (show lN 0 = 0 from rfl), Nat.gcd_zero_right]⟩
    · have e2 : ¬ lN b = 0 := fun q => e ((pk_lEQ (b := 0) hb (by decide)).mp q)
      have hm := Nat.mod_lt a (Nat.pos_of_ne_zero e)
      have ih := gcL_N f b (a % b) (by omega) hb (by omega)
      rw [if_neg e2, pk_lRem ha (Nat.pos_of_ne_zero e) hb]
      refine ⟨Or.inr ih.1, ?_⟩
      rw [ih.2, Nat.gcd_comm b, ← Nat.gcd_rec, Nat.gcd_comm]
theorem ptL_N {u l : Nat} {part : Int32} (hu : u < 2 ^ 63) (hl : l < 2 ^ 63) (h0 : 0 < l) : gOK (u + 1) (lN l) (lN u) ∧ ¬ gcL (u + 1) (lN l) (lN u) = 0 ∧ ptL (u + 1) (lN u) (lN l) part = lN (redN (u, l) part) := by
  have h1 := gcL_N (u + 1) l u (by omega) hl hu
  have g0 : 0 < Nat.gcd u l := Nat.gcd_pos_of_pos_right _ h0
  have g1 : Nat.gcd u l ≤ l := Nat.gcd_le_right _ h0
  have eg : Nat.gcd l u = Nat.gcd u l := Nat.gcd_comm _ _
  refine ⟨h1.1, ?_, ?_⟩
  · rw [h1.2, eg]
    exact fun q => absurd ((pk_lEQ (b := 0) (by omega) (by decide)).mp q) (by omega)
  · unfold ptL redN
    rw [h1.2, eg]
    by_cases e : part = 0
    · rw [if_pos e, if_pos e, pk_lDiv hu g0 (by omega)]
    · rw [if_neg e, if_neg e, pk_lDiv hl g0 (by omega)]
/-- all rings of a market, each from its least thing on -/
def allR (M : Mk) (n : Nat) : List (List Nat) := (List.range n).flatMap (rngs M)
theorem rgA_all {M : Mk} : ∀ n, rgA M n = rgF M ((0, 1), [], none) (allR M n)
  | 0 => rfl
  | n + 1 => by
    unfold rgA allR
    rw [List.range_succ, List.flatMap_append, rgF_app, rgA_all n]
    unfold allR
    congr 1
    simp
def isFt (M : Mk) (p : List Nat) : Bool := decide (dN M p < uN M p)
theorem rgF_best {M : Mk} : ∀ (ps : List (List Nat)) (r : Rg), (rgF M r ps).1 = bst M r.1 ps
  | [], _ => rfl
  | p :: ps, r => by
    show (rgF M (rgS M r p) ps).1 = bst M (kp r.1 _) ps
    rw [rgF_best ps]
    rfl
theorem allR_ok {M : Mk} {n : Nat} : ∀ p ∈ allR M n, pOK M p := by
  intro p hp
  obtain ⟨t, _, h⟩ := List.mem_flatMap.mp hp
  exact pth_ok 8 t [t] p h
theorem fat_N {M : Mk} (hc : cB M) {p : List Nat} (h : pOK M p) : pD M p < pU M p ↔ isFt M p = true := by
  have u := uN_b hc h
  have l := dN_b hc h
  rw [pU_N hc h, pD_N hc h, pk_lLT (by omega) (by omega)]
  unfold isFt
  simp
/-- the fewest cries of a fat one -/
def fewN (M : Mk) (ps : List (List Nat)) : Option Nat := (ps.filter (isFt M)).foldl (fun o p => omin o (pL p)) none
theorem rgF_few {M : Mk} (hc : cB M) : ∀ (ps : List (List Nat)) (r : Rg), (∀ p ∈ ps, pOK M p) → (rgF M r ps).2.2 = (ps.filter (isFt M)).foldl (fun o p => omin o (pL p)) r.2.2 ∧ ∀ x, x ∈ (rgF M r ps).2.1 ↔ x ∈ r.2.1 ∨ ∃ p ∈ ps, isFt M p = true ∧ pS p = x
  | [], r, _ => ⟨rfl, fun x => ⟨Or.inl, fun q => q.elim id (fun ⟨_, q, _⟩ => nomatch q)⟩⟩
  | p :: ps, r, h => by
    have ih := rgF_few hc ps (rgS M r p) (fun x hx => h x (List.mem_cons_of_mem _ hx))
    have hf := fat_N hc (h p List.mem_cons_self)
    show (rgF M (rgS M r p) ps).2.2 = _ ∧ ∀ x, x ∈ (rgF M (rgS M r p) ps).2.1 ↔ _
    rw [List.filter_cons]
    by_cases c : isFt M p = true
    · have c2 := hf.mpr c
      have e : rgS M r p = (kp r.1 (pU M p, pD M p), pS p :: r.2.1, omin r.2.2 (pL p)) := by unfold rgS; rw [if_pos c2, if_pos c2]
      rw [if_pos c]
      refine ⟨by rw [ih.1, e]; rfl, fun x => ?_⟩
      rw [ih.2 x, e]
      constructor
      · rintro (q | ⟨y, hy, q⟩)
        · rcases List.mem_cons.mp q with q | q
          · exact Or.inr ⟨p, List.mem_cons_self, c, q.symm⟩
          · exact Or.inl q
        · exact Or.inr ⟨y, List.mem_cons_of_mem _ hy, q⟩
      · rintro (q | ⟨y, hy, q⟩)
        · exact Or.inl (List.mem_cons_of_mem _ q)
        · rcases List.mem_cons.mp hy with rfl | hy
          · exact Or.inl (by rw [q.2]; exact List.mem_cons_self)
          · exact Or.inr ⟨y, hy, q⟩
    · have c2 : ¬ pD M p < pU M p := fun q => c (hf.mp q)
      have e : rgS M r p = (kp r.1 (pU M p, pD M p), r.2.1, r.2.2) := by unfold rgS; rw [if_neg c2, if_neg c2]
      rw [if_neg c]
      refine ⟨by rw [ih.1, e], fun x => ?_⟩
      rw [ih.2 x, e]
      constructor
      · rintro (q | ⟨y, hy, q⟩)
        · exact Or.inl q
        · exact Or.inr ⟨y, List.mem_cons_of_mem _ hy, q⟩
      · rintro (q | ⟨y, hy, q⟩)
        · exact Or.inl q
        · rcases List.mem_cons.mp hy with rfl | hy
          · exact absurd q.1 c
          · exact Or.inr ⟨y, hy, q⟩
/-- no fat ring is left when these are gone -/
def isMd (M : Mk) (n g : Nat) : Bool := decide (∀ p ∈ allR M n, isFt M p = true → ¬ pS p &&& g = 0)
/-- the fewest to be gone, from the greatest set down -/
def mdT (ok : Nat → Bool) : Nat → Nat → Nat
  | 0, b => b
  | g + 1, b => mdT ok g (if pc g ≤ pc b ∧ ok g = true then g else b)
/-! the steps of the world -/
abbrev oL : Type := Nat × Int64 × Wd
theorem mB.cB {n D : Nat} {M : Mk} (h : mB n D M) : cB M := fun c hc => by
  have := h.2.2.1 c hc
  exact ⟨⟨this.2.1, this.2.2.1⟩, this.2.2.2.2.1, this.2.2.2.2.2.1⟩
def wtN (M : Mk) (a b : Nat) : Nat × Nat := bstN M (0, 1) (pth (fun _ => true) M b 8 a [a])
def oWorth (W : Wd) (a b x : Int32) : oL := if ¬ (isT W a ∧ isT W b) then (1, 0, wRef W 0) else if a = b ∨ ¬ (0 ≤ x ∧ x ≤ 1) then (2, 0, wRef W 1) else (0, lN (redN (wtN (wM W) (iN a) (iN b)) x), W)
def oFattest (W : Wd) (x : Int32) : oL := if 0 ≤ x ∧ x ≤ 1 then (0, lN (redN (bstN (wM W) (0, 1) (allR (wM W) (wN W))) x), W) else (1, 0, wRef W 1)
def oFat (W : Wd) : oR := (0, oN (fewN (wM W) (allR (wM W) (wN W))), W)
def oMend (W : Wd) : oR := (0, nI (mdT (isMd (wM W) (wN W)) (2 ^ (wM W).2.2.1.length) (2 ^ (wM W).2.2.1.length - 1)), W)
/-- things worth no less than a -/
def abk (M : Mk) (a : Nat) : Nat → Int32
  | 0 => 0
  | b + 1 => if a = b then abk M a b else abk M a b ||| (if (wtN M b a).2 ≤ (wtN M b a).1 then sh1 b else 0)
def oAbove (W : Wd) (a : Int32) : oR := if ¬ isT W a then (1, 0, wRef W 0) else (0, abk (wM W) (iN a) (wN W), W)
