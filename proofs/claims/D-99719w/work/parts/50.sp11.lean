set_option maxRecDepth 100000
/-! ===== plain: a book is read ===== -/
def bkL (t : List Nat) (n : Nat) : Nat → Ln → Nat → PR Ln
  | 0, ls, k => .inr (ls, k)
  | f + 1, ls, k => if ¬ k < t.length then .inr (ls, k) else match nE t k 0 (nI n - 1) with
    | some e => .inl e
    | none => if ls.length = 6 then .inl (2, k) else match oE t (nK t k) (nI (nV t k)) (nI n) with
      | some e => .inl e
      | none => match nE t (nK t (nK t k)) 0 2 with
        | some e => .inl e
        | none => if ch t (sc isB t (nK t (nK t (nK t k)))) 59 = false then .inl (0, sc isB t (nK t (nK t (nK t k)))) else bkL t n f (ls ++ [(nV t k, nV t (nK t k), nV t (nK t (nK t k)))]) (sc isB t (sc isB t (nK t (nK t (nK t k))) + 1))
def pBook (t : List Nat) (n : Nat) : PR Ln := bkL t n (t.length + 1) [] (sc isB t 0)
def oBook (W : Wd) (x : Int32) : oR := if (0 ≤ x ∧ x ≤ nI (wTp W).length) ∧ x ≤ 60 then (match pBook ((wTp W).take (iN x)) (wN W) with
  | .inl e => (0, kd e.1 - 10, wsP (wsT W []) (nI e.2))
  | .inr q => (0, nI q.1.length, wsN (wsP (wsT W []) (-1)) q.1)) else (1, 0, wRef W 1)
theorem nV_le {t : List Nat} {k : Nat} : nV t k ≤ 100000 := vF_le _ _ (by decide)
/-- a number within its bounds -/
theorem nE_in {t : List Nat} {k : Nat} {lo hi : Int32} (h : nE t k lo hi = none) : lo ≤ nI (nV t k) ∧ nI (nV t k) ≤ hi ∧ sc isB t k < t.length ∧ sc isB t k < nK t k := by
  by_cases c : sc isB t k < t.length ∧ isDgN (t.getD (sc isB t k) 0) = true
  · rw [nE_dg c] at h
    split at h
    · next z =>
      refine ⟨z.1, z.2, c.1, ?_⟩
      unfold nK
      rw [sc_y c.1 c.2]
      exact sc_ge
    · cases h
  · rw [nE_nd c] at h
    cases h
theorem nK_le {t : List Nat} {k : Nat} (h : k ≤ t.length) : nK t k ≤ t.length := sc_le (sc_le h)
theorem lt_of_le_pred {a n : Nat} (hn : n ≤ 100) (ha : a ≤ 100000) (h0 : 0 ≤ nI a) (h : nI a ≤ nI n - 1) : a < n := by
  cases n with
  | zero => exact absurd (Int32.le_trans h0 h) (by decide)
  | succ m =>
    rw [nI_pred] at h
    have := (nI_leI (by omega) (by omega)).mp h
    omega
theorem oE_in {t : List Nat} {k a n : Nat} (hn : n ≤ 100) (h : oE t k (nI a) (nI n) = none) (ha : a < 1000) : nE t k 0 (nI n - 1) = none ∧ nV t k < n ∧ ¬ a = nV t k := by
  unfold oE at h
  split at h
  · cases h
  · next z =>
    have h1 := nE_in h
    refine ⟨h, lt_of_le_pred hn nV_le h1.1 h1.2.1, fun e => z ⟨h, by rw [e]⟩⟩
def lnB (n : Nat) (ls : Ln) : Prop := ls.length ≤ 6 ∧ ∀ q ∈ ls, q.1 < n ∧ q.2.1 < n ∧ q.2.2 < 3
theorem bkL_B {t : List Nat} {n : Nat} (hn : n ≤ 8) : ∀ (f : Nat) (ls : Ln) (k : Nat), lnB n ls → ∀ c k2, bkL t n f ls k = .inr (c, k2) → lnB n c
  | 0, ls, k, hb, c, k2, h => by cases h; exact hb
  | f + 1, ls, k, hb, c, k2, h => by
    unfold bkL at h
    split at h
    · cases h; exact hb
    · split at h
      · cases h
      · next h1 =>
        split at h
        · cases h
        · next h6 =>
          split at h
          · cases h
          · next h2 =>
            split at h
            · cases h
            · next h3 =>
              split at h
              · cases h
              · have a1 := nE_in h1
                have ha := lt_of_le_pred (n := n) (a := nV t k) (by omega) nV_le a1.1 a1.2.1
                have a2 := oE_in (n := n) (a := nV t k) (k := nK t k) (t := t) (by omega) h2 (by omega)
                have a3 := nE_in h3
                have hr := (nI_leI (b := 2) (by have := @nV_le t (nK t (nK t k)); omega) (by decide)).mp a3.2.1
                have hr3 : nV t (nK t (nK t k)) < 3 := Nat.lt_succ_of_le hr
                generalize nV t (nK t (nK t k)) = v3 at hr3 h
                generalize nV t (nK t k) = v2 at a2 h
                generalize nV t k = v1 at ha h
                refine bkL_B hn f _ _ ⟨?_, fun q hq => ?_⟩ c k2 h
                · rw [List.length_append]
                  have := hb.1
                  show _ + 1 ≤ 6
                  omega
                · rcases List.mem_append.mp hq with z | z
                  · exact hb.2 q z
                  · have hz := List.mem_singleton.mp z
                    rw [hz]
                    exact And.intro ha (And.intro a2.2.1 hr3)
