set_option maxRecDepth 100000
/-! ===== plain: scanning a text (bytes as numbers) ===== -/
def tk (p : Nat → Bool) (t : List Nat) (k : Nat) : List Nat := (t.drop k).takeWhile p
def sc (p : Nat → Bool) (t : List Nat) (k : Nat) : Nat := k + (tk p t k).length
theorem drop_at {t : List Nat} {k : Nat} (h : k < t.length) : t.drop k = t.getD k 0 :: t.drop (k + 1) := by
  rw [List.drop_eq_getElem_cons h, List.getD_eq_getElem?_getD, List.getElem?_eq_getElem h]
  rfl
theorem tk_y {p : Nat → Bool} {t : List Nat} {k : Nat} (h : k < t.length) (hp : p (t.getD k 0) = true) : tk p t k = t.getD k 0 :: tk p t (k + 1) := by
  unfold tk
  rw [drop_at h, List.takeWhile_cons, if_pos hp]
theorem tk_n {p : Nat → Bool} {t : List Nat} {k : Nat} (hp : k < t.length → p (t.getD k 0) = false) : tk p t k = [] := by
  unfold tk
  by_cases h : k < t.length
  · rw [drop_at h, List.takeWhile_cons, if_neg (by rw [hp h]; decide)]
  · rw [List.drop_eq_nil_of_le (by omega)]
    rfl
theorem sc_y {p : Nat → Bool} {t : List Nat} {k : Nat} (h : k < t.length) (hp : p (t.getD k 0) = true) : sc p t k = sc p t (k + 1) := by
  unfold sc
  rw [tk_y h hp, List.length_cons]
  omega
theorem sc_n {p : Nat → Bool} {t : List Nat} {k : Nat} (hp : k < t.length → p (t.getD k 0) = false) : sc p t k = k := by
  unfold sc
  rw [tk_n hp]
  rfl
theorem scan_ind (P : Nat → Prop) (p : Nat → Bool) (t : List Nat) (hy : ∀ k, k < t.length → p (t.getD k 0) = true → P (k + 1) → P k) (hn : ∀ k, (k < t.length → p (t.getD k 0) = false) → P k) : ∀ k, P k := by
  have key : ∀ n k, t.length - k ≤ n → P k := by
    intro n
    induction n with
    | zero => intro k h; exact hn k (fun h1 => by omega)
    | succ n ih =>
      intro k h
      by_cases h1 : k < t.length
      · cases h2 : p (t.getD k 0) with
        | true => exact hy k h1 h2 (ih (k + 1) (by omega))
        | false => exact hn k (fun _ => h2)
      · exact hn k (fun h2 => absurd h2 h1)
  intro k
  exact key _ k (Nat.le_refl _)
theorem sc_ge {p : Nat → Bool} {t : List Nat} {k : Nat} : k ≤ sc p t k := Nat.le_add_right _ _
theorem tk_len {p : Nat → Bool} {t : List Nat} {k : Nat} : (tk p t k).length ≤ t.length - k := by
  unfold tk
  exact Nat.le_trans ((List.takeWhile_sublist p).length_le) (by simp)
theorem sc_le {p : Nat → Bool} {t : List Nat} {k : Nat} (h : k ≤ t.length) : sc p t k ≤ t.length := by
  have := @tk_len p t k
  unfold sc
  omega
theorem sc_stop {p : Nat → Bool} {t : List Nat} : ∀ k, sc p t k < t.length → p (t.getD (sc p t k) 0) = false := by
  refine scan_ind _ p t ?_ ?_
  · intro k h1 h2 ih
    rw [sc_y h1 h2]
    exact ih
  · intro k h
    rw [sc_n h]
    exact h
theorem sc_idem {p : Nat → Bool} {t : List Nat} {k : Nat} : sc p t (sc p t k) = sc p t k := sc_n (sc_stop k)
def isB (c : Nat) : Bool := decide (c = 32)
def isDgN (c : Nat) : Bool := decide (48 ≤ c ∧ c ≤ 57)
def isSmN (c : Nat) : Bool := decide (97 ≤ c ∧ c ≤ 122)
/-- the number read from k on, capped -/
def vF (t : List Nat) (k v : Nat) : Nat := (tk isDgN t k).foldl (fun v c => min (10 * v + (c - 48)) 100000) v
theorem vF_y {t : List Nat} {k v : Nat} (h : k < t.length) (hp : isDgN (t.getD k 0) = true) : vF t k v = vF t (k + 1) (min (10 * v + (t.getD k 0 - 48)) 100000) := by
  unfold vF
  rw [tk_y h hp, List.foldl_cons]
theorem vF_n {t : List Nat} {k v : Nat} (hp : k < t.length → isDgN (t.getD k 0) = false) : vF t k v = v := by
  unfold vF
  rw [tk_n hp]
  rfl
/-- a number's reading: its fault (0 form, 1 value; where), its end, its value -/
def nK (t : List Nat) (k : Nat) : Nat := sc isDgN t (sc isB t k)
def nV (t : List Nat) (k : Nat) : Nat := vF t (sc isB t k) 0
def nE (t : List Nat) (k : Nat) (lo hi : Int32) : Option (Nat × Nat) := if sc isB t k < t.length ∧ isDgN (t.getD (sc isB t k) 0) = true then (if lo ≤ nI (nV t k) ∧ nI (nV t k) ≤ hi then none else some (1, sc isB t k)) else some (0, sc isB t k)
theorem vF_le {t : List Nat} : ∀ k v, v ≤ 100000 → vF t k v ≤ 100000 := by
  refine scan_ind _ isDgN t ?_ ?_
  · intro k h1 h2 ih v hv
    rw [vF_y h1 h2]
    exact ih _ (Nat.min_le_right _ _)
  · intro k h v hv
    rw [vF_n h]
    exact hv
/-- words by 27s -/
def wpk (l : List Nat) : Nat := l.foldl (fun v c => 27 * v + (c - 96)) 0
theorem wpk_app (l : List Nat) (c : Nat) : wpk (l ++ [c]) = 27 * wpk l + (c - 96) := by
  unfold wpk
  rw [List.foldl_append]
  rfl
theorem wpk_snoc (l : List Nat) (c : Nat) : wpk (l.concat c) = 27 * wpk l + (c - 96) := by
  rw [List.concat_eq_append, wpk_app]
theorem wpk_inj : ∀ (n : Nat) (l m : List Nat), l.length ≤ n → (∀ c ∈ l, isSmN c = true) → (∀ c ∈ m, isSmN c = true) → wpk l = wpk m → l = m := by
  intro n
  induction n with
  | zero =>
    intro l m hn hl hm he
    have : l = [] := List.eq_nil_of_length_eq_zero (by omega)
    subst this
    rcases List.eq_nil_or_concat m with rfl | ⟨m', c, rfl⟩
    · rfl
    · have h1 := hm c (by simp)
      simp only [isSmN, decide_eq_true_eq] at h1
      rw [wpk_snoc] at he
      have : wpk ([] : List Nat) = 0 := rfl
      omega
  | succ n ih =>
    intro l m hn hl hm he
    rcases List.eq_nil_or_concat l with rfl | ⟨l', c, rfl⟩
    · rcases List.eq_nil_or_concat m with rfl | ⟨m', c, rfl⟩
      · rfl
      · have h1 := hm c (by simp)
        simp only [isSmN, decide_eq_true_eq] at h1
        rw [wpk_snoc] at he
        have : wpk ([] : List Nat) = 0 := rfl
        omega
    · have hc := hl c (by simp)
      simp only [isSmN, decide_eq_true_eq] at hc
      rcases List.eq_nil_or_concat m with rfl | ⟨m', c', rfl⟩
      · rw [wpk_snoc] at he
        have : wpk ([] : List Nat) = 0 := rfl
        omega
      · have hc' := hm c' (by simp)
        simp only [isSmN, decide_eq_true_eq] at hc'
        rw [wpk_snoc, wpk_snoc] at he
        have e1 : wpk l' = wpk m' := by omega
        have e2 : c = c' := by omega
        rw [ih l' m' (by simp at hn; omega) (fun x hx => hl x (by simp [hx])) (fun x hx => hm x (by simp [hx])) e1, e2]
theorem tk_all {p : Nat → Bool} {t : List Nat} {k : Nat} : ∀ c ∈ tk p t k, p c = true := by
  intro c hc
  unfold tk at hc
  exact List.all_eq_true.mp (List.all_takeWhile (p := p) (l := t.drop k)) c hc
theorem wpk_lt : ∀ (n : Nat) (l : List Nat), (∀ c ∈ l, isSmN c = true) → l.length ≤ n → wpk l < 27 ^ n := by
  intro n
  induction n with
  | zero =>
    intro l _ hl
    have : l = [] := List.eq_nil_of_length_eq_zero (by omega)
    subst this
    decide
  | succ n ih =>
    intro l ha hl
    rcases List.eq_nil_or_concat l with rfl | ⟨l', c, rfl⟩
    · show 0 < 27 ^ (n + 1)
      exact Nat.pow_pos (by decide)
    · have hc := ha c (by simp)
      simp only [isSmN, decide_eq_true_eq] at hc
      have h1 := ih l' (fun x hx => ha x (by simp [hx])) (by simp at hl; omega)
      rw [wpk_snoc, Nat.pow_succ]
      omega
