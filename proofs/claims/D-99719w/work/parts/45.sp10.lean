set_option maxRecDepth 100000
/-! ===== plain: a law is read; a fault (kind 0 form, 1 value, 2 many; place) or codes and where they end ===== -/
abbrev PR (α : Type) : Type := (Nat × Nat) ⊕ (α × Nat)
abbrev Cds : Type := List (Nat × Nat)
def pLoop (ops : Nat → Option Nat) (u : Nat → PR Cds) (t : List Nat) : Nat → Cds → Nat → PR Cds
  | 0, cs, k => .inr (cs, sc isB t k)
  | f + 1, cs, k => match ops (sc isB t k) with
    | none => .inr (cs, sc isB t k)
    | some how => match u (sc isB t k + 1) with
      | .inl e => .inl e
      | .inr q => pLoop ops u t f (cs ++ (q.1 ++ [(how, 0)])) q.2
def opsM (t : List Nat) (b : Nat) : Option Nat := if ch t b 42 = true then some 4 else if ch t b 47 = true then some 5 else if ch t b 37 = true then some 6 else none
def opsA (t : List Nat) (b : Nat) : Option Nat := if ch t b 43 = true then some 2 else if ch t b 45 = true then some 3 else none
def pProd (t : List Nat) (u : Nat → PR Cds) (k : Nat) : PR Cds := match u k with
  | .inl e => .inl e
  | .inr q => pLoop (opsM t) u t (t.length + 1) q.1 q.2
def pSum (t : List Nat) (u : Nat → PR Cds) (k : Nat) : PR Cds := match pProd t u k with
  | .inl e => .inl e
  | .inr q => pLoop (opsA t) (pProd t u) t (t.length + 1) q.1 q.2
def pTwo (t : List Nat) (S : Nat → PR Cds) (how k : Nat) : PR Cds :=
  if ch t (sc isB t k) 91 = false then .inl (0, sc isB t k) else match S (sc isB t k + 1) with
  | .inl e => .inl e
  | .inr a => if ch t (sc isB t a.2) 44 = false then .inl (0, sc isB t a.2) else match S (sc isB t a.2 + 1) with
    | .inl e => .inl e
    | .inr b => if ch t (sc isB t b.2) 93 = false then .inl (0, sc isB t b.2) else .inr (a.1 ++ (b.1 ++ [(how, 0)]), sc isB t b.2 + 1)
def pPar (t : List Nat) (S : Nat → PR Cds) (k : Nat) : PR Cds := match S k with
  | .inl e => .inl e
  | .inr a => if ch t (sc isB t a.2) 41 = false then .inl (0, sc isB t a.2) else .inr (a.1, sc isB t a.2 + 1)
def hwW (w : List Nat) : Option Nat := if w = [108, 101, 97, 115, 116] then some 7 else if w = [109, 111, 115, 116] then some 8 else none
def knW (w : List Nat) : Option Nat := if w = [119, 101, 105, 103, 104, 116] then some 0 else if w = [119, 101, 105, 103, 104, 101, 100] then some 1 else if w = [99, 114, 105, 101, 100] then some 2 else if w = [116, 104, 105, 110, 103] then some 3 else if w = [100, 97, 121] then some 4 else if w = [108, 101, 97, 110] then some 5 else if w = [112, 108, 97, 121] then some 6 else none
def pLeaf (t : List Nat) (k : Nat) : PR Cds := match knW (wl t k) with
  | some q => .inr ([(1, q)], sc isSmN t (sc isB t k))
  | none => match nE t k 0 999 with
    | some e => .inl e
    | none => .inr ([(0, nV t k)], nK t k)
def pUnitG (t : List Nat) (S : Option (Nat → PR Cds)) (k : Nat) : PR Cds := match hwW (wl t k) with
  | some how => match S with
    | none => .inl (2, sc isB t k)
    | some S => pTwo t S how (sc isSmN t (sc isB t k))
  | none => if ch t (sc isB t k) 40 = true then (match S with
    | none => .inl (2, sc isB t k)
    | some S => pPar t S (sc isB t k + 1)) else pLeaf t k
def pUnit (t : List Nat) : Nat → Nat → PR Cds
  | 0, k => pUnitG t none k
  | D + 1, k => pUnitG t (some (pSum t (pUnit t D))) k
/-- codes put one number on the stack -/
def cwf (c : Cds) : Prop := (∀ rest n, wfL rest (n + 1) → wfL (c ++ rest) n) ∧ ∀ q ∈ c, q.1 ≤ 8 ∧ (q.1 = 1 → q.2 < 7)
/-- a reader that goes on, and not beyond the end -/
def pG (t : List Nat) (P : Nat → PR Cds) : Prop := ∀ k, k ≤ t.length → ∀ c k2, P k = .inr (c, k2) → k ≤ k2 ∧ k2 ≤ t.length ∧ c.length ≤ k2 - k ∧ cwf c
theorem cwf_op {a b : Cds} {how : Nat} (ha : cwf a) (hb : cwf b) (h1 : 2 ≤ how) (h2 : how ≤ 8) : cwf (a ++ (b ++ [(how, 0)])) := by
  refine ⟨fun rest n h => ?_, fun q hq => ?_⟩
  · rw [List.append_assoc, List.append_assoc]
    refine ha.1 _ _ (hb.1 _ _ ?_)
    show (if how < 2 then _ else _)
    rw [if_neg (by omega)]
    exact ⟨by omega, h⟩
  · rcases List.mem_append.mp hq with z | z
    · exact ha.2 q z
    · rcases List.mem_append.mp z with z | z
      · exact hb.2 q z
      · rw [List.mem_singleton.mp z]
        exact ⟨h2, fun z => by have : how = 1 := z; omega⟩
theorem nfT {b : Bool} (h : ¬ b = false) : b = true := by cases b with | true => rfl | false => exact absurd rfl h
theorem ch_lt {t : List Nat} {b c : Nat} (h : ch t b c = true) : b < t.length := (of_decide_eq_true h).1
theorem pLoop_G {t : List Nat} {ops : Nat → Option Nat} {u : Nat → PR Cds} (hops : ∀ b how, ops b = some how → b < t.length ∧ 2 ≤ how ∧ how ≤ 8) (hu : pG t u) : ∀ (f : Nat) (cs : Cds) (k0 k : Nat), k0 ≤ k → k ≤ t.length → cs.length ≤ k - k0 → cwf cs → ∀ c k2, pLoop ops u t f cs k = .inr (c, k2) → k ≤ k2 ∧ k2 ≤ t.length ∧ c.length ≤ k2 - k0 ∧ cwf c
  | 0, cs, k0, k, h0, hk, hl, hw, c, k2, h => by
    cases h
    have h1 := @sc_ge isB t k
    exact ⟨h1, sc_le hk, by omega, hw⟩
  | f + 1, cs, k0, k, h0, hk, hl, hw, c, k2, h => by
    have h1 := @sc_ge isB t k
    unfold pLoop at h
    split at h
    · cases h
      exact ⟨h1, sc_le hk, by omega, hw⟩
    · next how ho =>
      have h2 := hops _ _ ho
      split at h
      · cases h
      · next q hq =>
        have h3 := hu _ (by omega) q.1 q.2 hq
        have h4 := pLoop_G hops hu f _ k0 q.2 (by omega) h3.2.1 (by simp only [List.length_append, List.length_cons, List.length_nil]; omega) (cwf_op hw h3.2.2.2 h2.2.1 h2.2.2) c k2 h
        exact ⟨by omega, h4.2.1, h4.2.2.1, h4.2.2.2⟩
theorem opsM_ok {t : List Nat} : ∀ b how, opsM t b = some how → b < t.length ∧ 2 ≤ how ∧ how ≤ 8 := by
  intro b how h
  unfold opsM at h
  split at h
  · next z => cases h; exact ⟨ch_lt z, by decide, by decide⟩
  · split at h
    · next z => cases h; exact ⟨ch_lt z, by decide, by decide⟩
    · split at h
      · next z => cases h; exact ⟨ch_lt z, by decide, by decide⟩
      · cases h
theorem opsA_ok {t : List Nat} : ∀ b how, opsA t b = some how → b < t.length ∧ 2 ≤ how ∧ how ≤ 8 := by
  intro b how h
  unfold opsA at h
  split at h
  · next z => cases h; exact ⟨ch_lt z, by decide, by decide⟩
  · split at h
    · next z => cases h; exact ⟨ch_lt z, by decide, by decide⟩
    · cases h
theorem pProd_G {t : List Nat} {u : Nat → PR Cds} (hu : pG t u) : pG t (pProd t u) := by
  intro k hk c k2 h
  unfold pProd at h
  split at h
  · cases h
  · next q hq =>
    have h1 := hu k hk q.1 q.2 hq
    have h2 := pLoop_G opsM_ok hu _ q.1 k q.2 h1.1 h1.2.1 h1.2.2.1 h1.2.2.2 c k2 h
    exact ⟨by omega, h2.2.1, h2.2.2.1, h2.2.2.2⟩
theorem pSum_G {t : List Nat} {u : Nat → PR Cds} (hu : pG t u) : pG t (pSum t u) := by
  intro k hk c k2 h
  unfold pSum at h
  split at h
  · cases h
  · next q hq =>
    have h1 := pProd_G hu k hk q.1 q.2 hq
    have h2 := pLoop_G opsA_ok (pProd_G hu) _ q.1 k q.2 h1.1 h1.2.1 h1.2.2.1 h1.2.2.2 c k2 h
    exact ⟨by omega, h2.2.1, h2.2.2.1, h2.2.2.2⟩
theorem wl_len {t : List Nat} {k : Nat} : sc isSmN t (sc isB t k) = sc isB t k + (wl t k).length := rfl
theorem pLeaf_G {t : List Nat} : pG t (pLeaf t) := by
  intro k hk c k2 h
  have h1 := @sc_ge isB t k
  have hb := @sc_le isB t k hk
  unfold pLeaf at h
  split at h
  · next q hq =>
    cases h
    have hw : 1 ≤ (wl t k).length ∧ q < 7 := by
      unfold knW at hq
      split at hq
      · next z => cases hq; rw [z]; decide
      · split at hq
        · next z => cases hq; rw [z]; decide
        · split at hq
          · next z => cases hq; rw [z]; decide
          · split at hq
            · next z => cases hq; rw [z]; decide
            · split at hq
              · next z => cases hq; rw [z]; decide
              · split at hq
                · next z => cases hq; rw [z]; decide
                · split at hq
                  · next z => cases hq; rw [z]; decide
                  · cases hq
    have h2 := @sc_le isSmN t (sc isB t k) hb
    have h3 := @wl_len t k
    refine ⟨by omega, h2, by show 1 ≤ _; omega, fun rest n h => h, fun p hp => ?_⟩
    rw [List.mem_singleton.mp hp]
    exact ⟨show 1 ≤ 8 by decide, fun _ => hw.2⟩
  · split at h
    · cases h
    · next hn =>
      cases h
      have hd : sc isB t k < t.length ∧ isDgN (t.getD (sc isB t k) 0) = true := by
        refine Decidable.byContradiction (fun z => ?_)
        rw [nE_nd z] at hn
        cases hn
      have h2 : nK t k ≤ t.length := sc_le hb
      have h3 : sc isB t k + 1 ≤ nK t k := by
        unfold nK
        rw [sc_y hd.1 hd.2]
        exact sc_ge
      refine ⟨by omega, h2, by show 1 ≤ _; omega, fun rest n h => h, fun p hp => ?_⟩
      rw [List.mem_singleton.mp hp]
      exact ⟨show 0 ≤ 8 by decide, fun z => nomatch z⟩
theorem pTwo_G {t : List Nat} {S : Nat → PR Cds} {how : Nat} (hS : pG t S) (h1 : 2 ≤ how) (h2 : how ≤ 8) : pG t (pTwo t S how) := by
  intro k hk c k2 h
  have a1 := @sc_ge isB t k
  unfold pTwo at h
  split at h
  · cases h
  · next c1 =>
    have c2 := ch_lt (nfT c1)
    split at h
    · cases h
    · next a ha =>
      have h3 := hS _ (by omega) a.1 a.2 ha
      have a2 := @sc_ge isB t a.2
      split at h
      · cases h
      · next c3 =>
        have c4 := ch_lt (nfT c3)
        split at h
        · cases h
        · next b hb =>
          have h4 := hS _ (by omega) b.1 b.2 hb
          have a3 := @sc_ge isB t b.2
          split at h
          · cases h
          · next c5 =>
            have c6 := ch_lt (nfT c5)
            cases h
            exact ⟨by omega, by omega, by simp only [List.length_append, List.length_cons, List.length_nil]; omega, cwf_op h3.2.2.2 h4.2.2.2 h1 h2⟩
theorem pPar_G {t : List Nat} {S : Nat → PR Cds} (hS : pG t S) : pG t (pPar t S) := by
  intro k hk c k2 h
  unfold pPar at h
  split at h
  · cases h
  · next a ha =>
    have h3 := hS _ (by omega) a.1 a.2 ha
    have a2 := @sc_ge isB t a.2
    split at h
    · cases h
    · next c3 =>
      have c4 := ch_lt (nfT c3)
      cases h
      exact ⟨by omega, by omega, by omega, h3.2.2.2⟩
theorem hwW_ok {w : List Nat} {how : Nat} (h : hwW w = some how) : 2 ≤ how ∧ how ≤ 8 ∧ 4 ≤ w.length := by
  unfold hwW at h
  split at h
  · next z => cases h; rw [z]; decide
  · split at h
    · next z => cases h; rw [z]; decide
    · cases h
theorem pUnitG_G {t : List Nat} {S : Option (Nat → PR Cds)} (hS : ∀ P, S = some P → pG t P) : pG t (pUnitG t S) := by
  intro k hk c k2 h
  have a1 := @sc_ge isB t k
  have hb := @sc_le isB t k hk
  unfold pUnitG at h
  split at h
  · next how ho =>
    have h1 := hwW_ok ho
    cases S with
    | none => cases h
    | some P =>
      have h2 := @sc_le isSmN t (sc isB t k) hb
      have h3 := @wl_len t k
      have h4 := pTwo_G (hS P rfl) h1.1 h1.2.1 _ h2 c k2 h
      exact ⟨by omega, h4.2.1, by omega, h4.2.2.2⟩
  · split at h
    · next c1 =>
      cases S with
      | none => cases h
      | some P =>
        have c2 := ch_lt c1
        have h4 := pPar_G (hS P rfl) _ (by omega) c k2 h
        exact ⟨by omega, h4.2.1, by omega, h4.2.2.2⟩
    · exact pLeaf_G k hk c k2 h
theorem pUnit_G {t : List Nat} : ∀ D, pG t (pUnit t D)
  | 0 => pUnitG_G (S := none) (fun P h => nomatch h)
  | D + 1 => pUnitG_G (S := some (pSum t (pUnit t D))) (fun P h => by cases h; exact pSum_G (pUnit_G D))
/-- a law's whole text -/
def pLaw (t : List Nat) : PR Cds := match pSum t (pUnit t 6) (sc isB t 0) with
  | .inl e => .inl e
  | .inr q => if sc isB t q.2 < t.length then .inl (0, sc isB t q.2) else .inr (q.1, sc isB t q.2)
def oLaw (W : Wd) (x : Int32) : oR := if (0 ≤ x ∧ x ≤ nI (wTp W).length) ∧ x ≤ 150 then (match pLaw ((wTp W).take (iN x)) with
  | .inl e => (0, kd e.1 - 10, wsP (wsT W []) (nI e.2))
  | .inr q => (0, 1, wsL (wsP (wsT W []) (-1)) q.1)) else (1, 0, wRef W 1)
