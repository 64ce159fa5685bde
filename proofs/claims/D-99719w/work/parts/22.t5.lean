set_option maxRecDepth 100000
/-! ===== the twin, 5: a market's row is read ===== -/
def tRow (j : Nat) : Prop := j = 448 ∨ j = 449
theorem tRow.arr {j : Nat} (h : tRow j) : j < 475 ∧ ¬ j = 0 ∧ tgrid j = 0 ∧ ¬ j = 472 := by
  rcases h with h | h <;> subst h <;> decide
theorem tRow.len {j : Nat} (h : tRow j) : tlen j = 60 := by
  rcases h with h | h <;> subst h <;> rfl
theorem seta_seta {s : tS} {j : Nat} {a b : List Int32} : seta (seta s j a) j b = seta s j b := by
  refine Prod.ext rfl (Prod.ext rfl ?_)
  funext i
  show (if i = j then b else if i = j then a else s.2.2 i) = (if i = j then b else s.2.2 i)
  by_cases e : i = j
  · rw [if_pos e, if_pos e]
  · rw [if_neg e, if_neg e, if_neg e]
theorem seta_get {s : tS} {j : Nat} {a : List Int32} : (seta s j a).2.2 j = a := if_pos rfl
theorem seta_ne {s : tS} {i j : Nat} {a : List Int32} (h : ¬ i = j) : (seta s j a).2.2 i = s.2.2 i := if_neg h
theorem seta_id {s : tS} {j : Nat} {a : List Int32} (h : s.2.2 j = a) : seta s j a = s := by
  refine Prod.ext rfl (Prod.ext rfl ?_)
  funext i
  show (if i = j then a else s.2.2 i) = s.2.2 i
  by_cases e : i = j
  · rw [if_pos e, e, h]
  · rw [if_neg e]
theorem ix_w (t : Nat) : (0 : Int32) + nI t = nI t := by
  rw [show (0 : Int32) = nI 0 from rfl, nI_add, Nat.zero_add]
theorem ix_o (t : Nat) : (8 : Int32) + nI t = nI (8 + t) := nI_add 8 t
theorem ix_c (c : Nat) : (16 : Int32) + 4 * nI c = nI (16 + 4 * c) := by
  rw [show (4 : Int32) * nI c = nI (4 * c) from pk_mul 4 c]
  exact nI_add 16 _
theorem ix_ck (c k : Nat) : (16 : Int32) + 4 * nI c + nI k = nI (16 + 4 * c + k) := by rw [ix_c, nI_add]
/-- a set's ones -/
def onk (b : Int32) : Nat → Int32
  | 0 => 0
  | k + 1 => onk b k + ((b >>> (nI k &&& 31)) &&& 1)
def on (b : Int32) : Int32 := onk b 10
def sh1 (c : Nat) : Int32 := 1 <<< (nI c &&& 31)
abbrev cAt (M : Mk) (c : Nat) : Cr := M.2.2.1.getD c (0, 0, 0, 0)
abbrev wAt (M : Mk) (t : Nat) : Int32 := nI (M.1.getD t 0)
theorem mr_a {M : Mk} (h : mOK M) {c : Nat} (hc : c < M.2.2.1.length) : (mrow M).getD (16 + 4 * c) 0 = nI (cAt M c).1 := mrow_ca h hc
theorem mr_n {M : Mk} (h : mOK M) {c : Nat} (hc : c < M.2.2.1.length) : (mrow M).getD (16 + 4 * c + 1) 0 = nI (cAt M c).2.1 := mrow_cn h hc
theorem mr_b {M : Mk} (h : mOK M) {c : Nat} (hc : c < M.2.2.1.length) : (mrow M).getD (16 + 4 * c + 2) 0 = nI (cAt M c).2.2.1 := mrow_cb h hc
theorem mr_m {M : Mk} (h : mOK M) {c : Nat} (hc : c < M.2.2.1.length) : (mrow M).getD (16 + 4 * c + 3) 0 = nI (cAt M c).2.2.2 := mrow_cm h hc
theorem mr_w {M : Mk} (h : mOK M) {t : Nat} (ht : t < 8) : (mrow M).getD t 0 = wAt M t := mrow_w h ht
/-- the cries in which a thing is -/
def cOk (M : Mk) (a : Nat) : Nat → Int32
  | 0 => 0
  | c + 1 => cOk M a c ||| (if (cAt M c).1 = a ∨ (cAt M c).2.2.1 = a then sh1 c else 0)
def cOf (M : Mk) (a : Nat) : Int32 := cOk M a M.2.2.1.length
/-- the cries that aren't so -/
def nSk (M : Mk) : Nat → Int32
  | 0 => 0
  | c + 1 => nSk M c ||| (if wAt M (cAt M c).1 * nI (cAt M c).2.1 < wAt M (cAt M c).2.2.1 * nI (cAt M c).2.2.2 then sh1 c else 0)
def nSo (M : Mk) : Int32 := nSk M M.2.2.1.length
/-- numbers of a market are small: things below 8, counts below 100 -/
def mSm (M : Mk) : Prop := ∀ c, c < M.2.2.1.length → (cAt M c).1 < 8 ∧ (cAt M c).2.1 < 100 ∧ (cAt M c).2.2.1 < 8 ∧ (cAt M c).2.2.2 < 100
/-- 0 level, 1 left, 2 right -/
def stN (l r lean play : Int32) : Nat := if play < l + lean - 9 - r then 1 else if play < -(l + lean - 9 - r) then 2 else 0
/-- is it cried within the first c -/
def isCk (M : Mk) (x : Cr) (c : Nat) : Bool := decide (∃ i, i < c ∧ cAt M i = x)
section TM
variable {G : xG} {d : Nat} {h : xH} {T0 : Nat} {s : tS} {M : Mk} {j : Nat}
theorem t_rj {y : xM} {d C S pc : Nat} {L : List (Option Value)} {st : List Value} {Q : xQ} {i v : Int32} (n : Nat) (hd : decode y.2.1 pc = .ok (.iaload, 1)) (hs : tOK s) (hj : tRow j) (hm : s.2.2 j = mrow M) (hi : i = nI n) (hn : n < 60) (hv : (mrow M).getD n 0 = v) (kk : xRun G y d C S (pc + 1) L (.int v :: st) (tw T0 h s) Q) : xRun G y d C S pc L (.int i :: .ref (T0 + j) :: st) (tw T0 h s) Q :=
  t_ia n hd hs hj.arr hi (by rw [hj.len]; exact hn) (by rw [hm]; exact hv) kk
theorem t_rs {y : xM} {d C S pc : Nat} {L : List (Option Value)} {st : List Value} {Q : xQ} {i x : Int32} (n : Nat) (r : List Int32) (hd : decode y.2.1 pc = .ok (.iastore, 1)) (hs : tOK s) (hj : tRow j) (hi : i = nI n) (hn : n < 60) (hb : G.2.2.1 ≤ T0) (hr : (s.2.2 j).set n x = r) (kk : xRun G y d C S (pc + 1) L st (tw T0 h (seta s j r)) Q) : xRun G y d C S pc L (.int x :: .int i :: .ref (T0 + j) :: st) (tw T0 h s) Q := by
  subst hr
  exact t_is n hd hs hj.arr hi (by rw [hj.len]; exact hn) hb kk
theorem c_ones (b : Int32) : xMet G d 0 0 m_X9_ones [.int b] h (xI (.int (on b)) h) := by
  refine xMet.of [some (.int b), none, none] pl_X9 rfl (Nat.le_of_ble_eq_true rfl) ?_
  refine x_iconst dX9_ones_0 0 rfl ?_
  refine xsi1 dX9_ones_1 (by decide) rfl ?_
  refine x_iconst dX9_ones_2 0 rfl ?_
  refine xsi2 dX9_ones_3 (by decide) rfl ?_
  refine xfor (fun c => xRun G m_X9_ones d 0 0 4 [some (.int b), some (.int (onk b c)), some (.int (nI c))] [] h (xI (.int (on b)) h)) 10 ?_ ?_
  · intro c hc ih
    refine x_iload_n dX9_ones_4 rfl ?_
    refine x_bipush dX9_ones_5 10 (by decide) ?_
    refine x_icmp_ge 24 dX9_ones_7 rfl (fun hc9 => absurd hc9 (nI_ge hc (by decide))) (fun _ => ?_)
    refine x_iload_n dX9_ones_10 rfl ?_
    refine x_iload_n dX9_ones_11 rfl ?_
    refine x_iload_n dX9_ones_12 rfl ?_
    refine x_ishr dX9_ones_13 ?_
    refine x_iconst dX9_ones_14 1 rfl ?_
    refine x_at 15 rfl ?_
    refine x_iand dX9_ones_15 ?_
    refine x_iadd dX9_ones_16 ?_
    refine xsi1 dX9_ones_17 (by decide) rfl ?_
    refine xinc2 _ dX9_ones_18 (by decide) rfl (nI_1 c) ?_
    refine x_goto 4 dX9_ones_21 rfl ?_
    exact ih
  · refine x_iload_n dX9_ones_4 rfl ?_
    refine x_bipush dX9_ones_5 10 (by decide) ?_
    refine x_icmp_ge 24 dX9_ones_7 rfl (fun _ => ?_) (fun hc9 => absurd (Int32.le_refl _) hc9)
    refine x_iload_n dX9_ones_24 rfl ?_
    exact x_ireturn dX9_ones_25 rfl ⟨rfl, rfl⟩
theorem c_criesOf (hs : tOK s) (hj : tRow j) (hm : s.2.2 j = mrow M) (hM : mOK M) (hS : mSm M) (a : Nat) (ha : a < 100) : xMet G d 0 0 m_X9_criesOf [.ref (T0 + j), .int (nI a)] (tw T0 h s) (xI (.int (cOf M a)) (tw T0 h s)) := by
  refine xMet.of [some (.ref (T0 + j)), some (.int (nI a)), none, none] pl_X9 rfl (Nat.le_of_ble_eq_true rfl) ?_
  have h10 := hM.2.2
  refine x_iconst dX9_criesOf_0 0 rfl ?_
  refine xsi2 dX9_criesOf_1 (by decide) rfl ?_
  refine x_iconst dX9_criesOf_2 0 rfl ?_
  refine xsi3 dX9_criesOf_3 (by decide) rfl ?_
  refine xfor (fun c => xRun G m_X9_criesOf d 0 0 4 [some (.ref (T0 + j)), some (.int (nI a)), some (.int (cOk M a c)), some (.int (nI c))] [] (tw T0 h s) (xI (.int (cOf M a)) (tw T0 h s))) M.2.2.1.length ?_ ?_
  · intro c hc ih
    have hq := hS c hc
    have fin : ∀ v, v = (if (cAt M c).1 = a ∨ (cAt M c).2.2.1 = a then sh1 c else 0) → xRun G m_X9_criesOf d 0 0 46 [some (.ref (T0 + j)), some (.int (nI a)), some (.int (cOk M a c)), some (.int (nI c))] [.int v, .int (cOk M a c)] (tw T0 h s) (xI (.int (cOf M a)) (tw T0 h s)) := by
      intro v hv
      subst hv
      refine x_ior dX9_criesOf_46 ?_
      refine xsi2 dX9_criesOf_47 (by decide) rfl ?_
      refine xinc3 _ dX9_criesOf_48 (by decide) rfl (nI_1 c) ?_
      refine x_goto 4 dX9_criesOf_51 rfl ?_
      exact ih
    refine x_iload_n dX9_criesOf_4 rfl ?_
    refine x_aload_n dX9_criesOf_5 rfl ?_
    refine x_bipush dX9_criesOf_6 56 (by decide) ?_
    refine t_rj 56 dX9_criesOf_8 hs hj hm rfl (by decide) (mrow_n hM) ?_
    refine x_icmp_ge 54 dX9_criesOf_9 rfl (fun hc9 => absurd hc9 (nI_ge hc (by omega))) (fun _ => ?_)
    refine x_iload_n dX9_criesOf_12 rfl ?_
    refine x_aload_n dX9_criesOf_13 rfl ?_
    refine x_bipush dX9_criesOf_14 16 (by decide) ?_
    refine x_at 16 rfl ?_
    refine x_iconst dX9_criesOf_16 4 rfl ?_
    refine x_iload_n dX9_criesOf_17 rfl ?_
    refine x_imul dX9_criesOf_18 ?_
    refine x_iadd dX9_criesOf_19 ?_
    refine t_rj (16 + 4 * c) dX9_criesOf_20 hs hj hm (ix_c c) (by omega) (mr_a hM hc) ?_
    refine x_iload_n dX9_criesOf_21 rfl ?_
    refine x_icmp_eq 39 dX9_criesOf_22 rfl (fun c1 => ?_) (fun c1 => ?_)
    · have c2 := (nI_eq (by omega) (by omega)).mp c1
      refine x_iconst dX9_criesOf_39 1 rfl ?_
      refine x_iload_n dX9_criesOf_40 rfl ?_
      refine x_ishl dX9_criesOf_41 ?_
      refine x_goto 46 dX9_criesOf_42 rfl ?_
      exact fin _ (by rw [if_pos (Or.inl c2)]; rfl)
    · have c2 : ¬ _ = a := fun q => c1 ((nI_eq (by omega) (by omega)).mpr q)
      refine x_aload_n dX9_criesOf_25 rfl ?_
      refine x_bipush dX9_criesOf_26 16 (by decide) ?_
      refine x_iconst dX9_criesOf_28 4 rfl ?_
      refine x_iload_n dX9_criesOf_29 rfl ?_
      refine x_imul dX9_criesOf_30 ?_
      refine x_iadd dX9_criesOf_31 ?_
      refine x_iconst dX9_criesOf_32 2 rfl ?_
      refine x_iadd dX9_criesOf_33 ?_
      refine x_at 34 rfl ?_
      refine t_rj (16 + 4 * c + 2) dX9_criesOf_34 hs hj hm (ix_ck c 2) (by omega) (mr_b hM hc) ?_
      refine x_iload_n dX9_criesOf_35 rfl ?_
      refine x_icmp_ne 45 dX9_criesOf_36 rfl (fun c3 => ?_) (fun c3 => ?_)
      · have c4 : ¬ _ = a := fun q => c3 ((nI_eq (by omega) (by omega)).mpr q)
        refine x_iconst dX9_criesOf_45 0 rfl ?_
        exact fin _ (by rw [if_neg (fun q => q.elim c2 c4)])
      · have c4 := (nI_eq (by omega) (by omega)).mp c3
        refine x_iconst dX9_criesOf_39 1 rfl ?_
        refine x_iload_n dX9_criesOf_40 rfl ?_
        refine x_ishl dX9_criesOf_41 ?_
        refine x_goto 46 dX9_criesOf_42 rfl ?_
        exact fin _ (by rw [if_pos (Or.inr c4)]; rfl)
  · refine x_iload_n dX9_criesOf_4 rfl ?_
    refine x_aload_n dX9_criesOf_5 rfl ?_
    refine x_bipush dX9_criesOf_6 56 (by decide) ?_
    refine t_rj 56 dX9_criesOf_8 hs hj hm rfl (by decide) (mrow_n hM) ?_
    refine x_icmp_ge 54 dX9_criesOf_9 rfl (fun _ => ?_) (fun hc9 => absurd (Int32.le_refl _) hc9)
    refine x_iload_n dX9_criesOf_54 rfl ?_
    exact x_ireturn dX9_criesOf_55 rfl ⟨rfl, rfl⟩
theorem c_standsBy (l r lean play : Int32) : xMet G d 0 0 m_X9_standsBy [.int l, .int r, .int lean, .int play] h (xI (.int (nI (stN l r lean play))) h) := by
  refine xMet.of [some (.int l), some (.int r), some (.int lean), some (.int play), none] pl_X9 rfl (Nat.le_of_ble_eq_true rfl) ?_
  refine x_iload_n dX9_standsBy_0 rfl ?_
  refine x_iload_n dX9_standsBy_1 rfl ?_
  refine x_iadd dX9_standsBy_2 ?_
  refine x_bipush dX9_standsBy_3 9 (by decide) ?_
  refine x_isub dX9_standsBy_5 ?_
  refine x_iload_n dX9_standsBy_6 rfl ?_
  refine x_isub dX9_standsBy_7 ?_
  refine xsi4 dX9_standsBy_8 (by decide) rfl ?_
  refine x_at 10 rfl ?_
  refine x_iload dX9_standsBy_10 rfl ?_
  refine x_iload_n dX9_standsBy_12 rfl ?_
  refine x_icmp_le 20 dX9_standsBy_13 rfl (fun c1 => ?_) (fun c1 => ?_)
  · refine x_iload dX9_standsBy_20 rfl ?_
    refine x_ineg dX9_standsBy_22 ?_
    refine x_iload_n dX9_standsBy_23 rfl ?_
    refine x_icmp_le 31 dX9_standsBy_24 rfl (fun c2 => ?_) (fun c2 => ?_)
    · refine x_iconst dX9_standsBy_31 0 rfl ?_
      exact x_ireturn dX9_standsBy_32 rfl (xrv (by rw [stN, if_neg (Int32.not_lt.mpr c1), if_neg (Int32.not_lt.mpr c2)]; rfl))
    · refine x_iconst dX9_standsBy_27 2 rfl ?_
      refine x_goto 32 dX9_standsBy_28 rfl ?_
      exact x_ireturn dX9_standsBy_32 rfl (xrv (by rw [stN, if_neg (Int32.not_lt.mpr c1), if_pos (nle c2)]; rfl))
  · refine x_iconst dX9_standsBy_16 1 rfl ?_
    refine x_goto 32 dX9_standsBy_17 rfl ?_
    exact x_ireturn dX9_standsBy_32 rfl (xrv (by rw [stN, if_pos (nle c1)]; rfl))
/-- how it stands in a market -/
def stM (play : Int32) (M : Mk) (a n b m : Nat) : Nat := stN (wAt M a * nI n) (wAt M b * nI m) (nI M.2.2.2.1) play
theorem c_standsIn (hs : tOK s) (hj : tRow j) (hm : s.2.2 j = mrow M) (hM : mOK M) {play : Int32} (hp : (s.2.2 4).getD 3 0 = play) (a n b m : Nat) (ha : a < 8) (hb : b < 8) : xMet G (d + 1) 0 0 m_X9_standsIn [.ref T0, .ref (T0 + j), .int (nI a), .int (nI n), .int (nI b), .int (nI m)] (tw T0 h s) (xI (.int (nI (stM play M a n b m))) (tw T0 h s)) := by
  refine xMet.of [some (.ref T0), some (.ref (T0 + j)), some (.int (nI a)), some (.int (nI n)), some (.int (nI b)), some (.int (nI m))] pl_X9 rfl (Nat.le_of_ble_eq_true rfl) ?_
  subst hp
  refine x_aload_n dX9_standsIn_0 rfl ?_
  refine x_iconst dX9_standsIn_1 0 rfl ?_
  refine x_iload_n dX9_standsIn_2 rfl ?_
  refine x_iadd dX9_standsIn_3 ?_
  refine t_rj a dX9_standsIn_4 hs hj hm (ix_w a) (by omega) (mr_w hM ha) ?_
  refine x_iload_n dX9_standsIn_5 rfl ?_
  refine x_imul dX9_standsIn_6 ?_
  refine x_aload_n dX9_standsIn_7 rfl ?_
  refine x_at 8 rfl ?_
  refine x_iconst dX9_standsIn_8 0 rfl ?_
  refine x_iload dX9_standsIn_9 rfl ?_
  refine x_iadd dX9_standsIn_11 ?_
  refine t_rj b dX9_standsIn_12 hs hj hm (ix_w b) (by omega) (mr_w hM hb) ?_
  refine x_iload dX9_standsIn_13 rfl ?_
  refine x_imul dX9_standsIn_15 ?_
  refine x_aload_n dX9_standsIn_16 rfl ?_
  refine x_bipush dX9_standsIn_17 57 (by decide) ?_
  refine x_at 19 rfl ?_
  refine t_rj 57 dX9_standsIn_19 hs hj hm rfl (by omega) (mrow_l hM) ?_
  refine x_aload_n dX9_standsIn_20 rfl ?_
  refine t_ga 4 dX9_standsIn_21 f_X9_23_27 (by decide) rfl (by decide) ?_
  refine x_iconst dX9_standsIn_24 3 rfl ?_
  refine t_ia 3 dX9_standsIn_25 hs (by decide) rfl (by decide) rfl ?_
  refine xiS4 dX9_standsIn_26 s_X9_267 (Nat.le_of_ble_eq_true rfl) (c_standsBy _ _ _ _) ?_
  exact x_ireturn dX9_standsIn_29 rfl ⟨rfl, rfl⟩
theorem isCk_0 {x : Cr} : isCk M x 0 = false := decide_eq_false (fun ⟨_, q, _⟩ => absurd q (Nat.not_lt_zero _))
theorem isCk_s {x : Cr} {c : Nat} (h : ¬ cAt M c = x) : isCk M x (c + 1) = isCk M x c := by
  unfold isCk
  refine decide_eq_decide.mpr ⟨fun ⟨i, q, r⟩ => ?_, fun ⟨i, q, r⟩ => ⟨i, by omega, r⟩⟩
  by_cases e : i = c
  · subst e; exact absurd r h
  · exact ⟨i, by omega, r⟩
theorem isCk_t {x : Cr} {c n : Nat} (hc : c < n) (h : cAt M c = x) : isCk M x n = true := decide_eq_true ⟨c, hc, h⟩
theorem c_isCry (hs : tOK s) (hj : tRow j) (hm : s.2.2 j = mrow M) (hM : mOK M) (hS : mSm M) (x : Cr) (h1 : x.1 < 100) (h2 : x.2.1 < 100) (h3 : x.2.2.1 < 100) (h4 : x.2.2.2 < 100) : xMet G d 0 0 m_X9_isCry [.ref (T0 + j), .int (nI x.1), .int (nI x.2.1), .int (nI x.2.2.1), .int (nI x.2.2.2)] (tw T0 h s) (xI (.int (b2 (isCk M x M.2.2.1.length))) (tw T0 h s)) := by
  refine xMet.of [some (.ref (T0 + j)), some (.int (nI x.1)), some (.int (nI x.2.1)), some (.int (nI x.2.2.1)), some (.int (nI x.2.2.2)), none] pl_X9 rfl (Nat.le_of_ble_eq_true rfl) ?_
  have h10 := hM.2.2
  refine x_iconst dX9_isCry_0 0 rfl ?_
  refine xsi5 dX9_isCry_1 (by decide) rfl ?_
  suffices hh : isCk M x 0 = false → xRun G m_X9_isCry d 0 0 3 [some (.ref (T0 + j)), some (.int (nI x.1)), some (.int (nI x.2.1)), some (.int (nI x.2.2.1)), some (.int (nI x.2.2.2)), some (.int (nI 0))] [] (tw T0 h s) (xI (.int (b2 (isCk M x M.2.2.1.length))) (tw T0 h s)) from hh isCk_0
  refine xfor (fun c => isCk M x c = false → xRun G m_X9_isCry d 0 0 3 [some (.ref (T0 + j)), some (.int (nI x.1)), some (.int (nI x.2.1)), some (.int (nI x.2.2.1)), some (.int (nI x.2.2.2)), some (.int (nI c))] [] (tw T0 h s) (xI (.int (b2 (isCk M x M.2.2.1.length))) (tw T0 h s))) M.2.2.1.length ?_ ?_
  · intro c hc ih hf
    have hq := hS c hc
    have fin : ¬ cAt M c = x → xRun G m_X9_isCry d 0 0 73 [some (.ref (T0 + j)), some (.int (nI x.1)), some (.int (nI x.2.1)), some (.int (nI x.2.2.1)), some (.int (nI x.2.2.2)), some (.int (nI c))] [] (tw T0 h s) (xI (.int (b2 (isCk M x M.2.2.1.length))) (tw T0 h s)) := by
      intro hv
      refine xinc5 _ dX9_isCry_73 (by decide) rfl (nI_1 c) ?_
      refine x_goto 3 dX9_isCry_76 rfl ?_
      exact ih (by rw [isCk_s hv]; exact hf)
    refine x_iload dX9_isCry_3 rfl ?_
    refine x_aload_n dX9_isCry_5 rfl ?_
    refine x_bipush dX9_isCry_6 56 (by decide) ?_
    refine t_rj 56 dX9_isCry_8 hs hj hm rfl (by decide) (mrow_n hM) ?_
    refine x_icmp_ge 79 dX9_isCry_9 rfl (fun hc9 => absurd hc9 (nI_ge hc (by omega))) (fun _ => ?_)
    refine x_aload_n dX9_isCry_12 rfl ?_
    refine x_bipush dX9_isCry_13 16 (by decide) ?_
    refine x_iconst dX9_isCry_15 4 rfl ?_
    refine x_at 16 rfl ?_
    refine x_iload dX9_isCry_16 rfl ?_
    refine x_imul dX9_isCry_18 ?_
    refine x_iadd dX9_isCry_19 ?_
    refine t_rj (16 + 4 * c) dX9_isCry_20 hs hj hm (ix_c c) (by omega) (mr_a hM hc) ?_
    refine x_iload_n dX9_isCry_21 rfl ?_
    refine x_icmp_ne 73 dX9_isCry_22 rfl (fun c1 => ?_) (fun c1 => ?_)
    · exact fin (fun q => c1 (by rw [q]))
    · have e1 := (nI_eq (by omega) (by omega)).mp c1
      refine x_aload_n dX9_isCry_25 rfl ?_
      refine x_bipush dX9_isCry_26 16 (by decide) ?_
      refine x_iconst dX9_isCry_28 4 rfl ?_
      refine x_iload dX9_isCry_29 rfl ?_
      refine x_imul dX9_isCry_31 ?_
      refine x_iadd dX9_isCry_32 ?_
      refine x_iconst dX9_isCry_33 1 rfl ?_
      refine x_iadd dX9_isCry_34 ?_
      refine x_at 35 rfl ?_
      refine t_rj (16 + 4 * c + 1) dX9_isCry_35 hs hj hm (ix_ck c 1) (by omega) (mr_n hM hc) ?_
      refine x_iload_n dX9_isCry_36 rfl ?_
      refine x_icmp_ne 73 dX9_isCry_37 rfl (fun c2 => ?_) (fun c2 => ?_)
      · exact fin (fun q => c2 (by rw [q]))
      · have e2 := (nI_eq (by omega) (by omega)).mp c2
        refine x_aload_n dX9_isCry_40 rfl ?_
        refine x_bipush dX9_isCry_41 16 (by decide) ?_
        refine x_iconst dX9_isCry_43 4 rfl ?_
        refine x_iload dX9_isCry_44 rfl ?_
        refine x_imul dX9_isCry_46 ?_
        refine x_iadd dX9_isCry_47 ?_
        refine x_iconst dX9_isCry_48 2 rfl ?_
        refine x_iadd dX9_isCry_49 ?_
        refine x_at 50 rfl ?_
        refine t_rj (16 + 4 * c + 2) dX9_isCry_50 hs hj hm (ix_ck c 2) (by omega) (mr_b hM hc) ?_
        refine x_iload_n dX9_isCry_51 rfl ?_
        refine x_icmp_ne 73 dX9_isCry_52 rfl (fun c3 => ?_) (fun c3 => ?_)
        · exact fin (fun q => c3 (by rw [q]))
        · have e3 := (nI_eq (by omega) (by omega)).mp c3
          refine x_aload_n dX9_isCry_55 rfl ?_
          refine x_bipush dX9_isCry_56 16 (by decide) ?_
          refine x_iconst dX9_isCry_58 4 rfl ?_
          refine x_iload dX9_isCry_59 rfl ?_
          refine x_imul dX9_isCry_61 ?_
          refine x_iadd dX9_isCry_62 ?_
          refine x_iconst dX9_isCry_63 3 rfl ?_
          refine x_iadd dX9_isCry_64 ?_
          refine x_at 65 rfl ?_
          refine t_rj (16 + 4 * c + 3) dX9_isCry_65 hs hj hm (ix_ck c 3) (by omega) (mr_m hM hc) ?_
          refine x_iload dX9_isCry_66 rfl ?_
          refine x_icmp_ne 73 dX9_isCry_68 rfl (fun c4 => ?_) (fun c4 => ?_)
          · exact fin (fun q => c4 (by rw [q]))
          · have e4 := (nI_eq (by omega) (by omega)).mp c4
            refine x_iconst dX9_isCry_71 1 rfl ?_
            exact x_zreturn dX9_isCry_72 rfl rfl (xr1 (isCk_t hc (Prod.ext e1 (Prod.ext e2 (Prod.ext e3 e4)))))
  · intro hf
    refine x_iload dX9_isCry_3 rfl ?_
    refine x_aload_n dX9_isCry_5 rfl ?_
    refine x_bipush dX9_isCry_6 56 (by decide) ?_
    refine t_rj 56 dX9_isCry_8 hs hj hm rfl (by decide) (mrow_n hM) ?_
    refine x_icmp_ge 79 dX9_isCry_9 rfl (fun _ => ?_) (fun hc9 => absurd (Int32.le_refl _) hc9)
    refine x_iconst dX9_isCry_79 0 rfl ?_
    exact x_zreturn dX9_isCry_80 rfl rfl (xr0 hf)
theorem c_notSo (hs : tOK s) (hj : tRow j) (hm : s.2.2 j = mrow M) (hM : mOK M) (hS : mSm M) : xMet G d 0 0 m_X9_notSo [.ref (T0 + j)] (tw T0 h s) (xI (.int (nSo M)) (tw T0 h s)) := by
  refine xMet.of [some (.ref (T0 + j)), none, none, none] pl_X9 rfl (Nat.le_of_ble_eq_true rfl) ?_
  have h10 := hM.2.2
  refine x_iconst dX9_notSo_0 0 rfl ?_
  refine xsi1 dX9_notSo_1 (by decide) rfl ?_
  refine x_iconst dX9_notSo_2 0 rfl ?_
  refine xsi2 dX9_notSo_3 (by decide) rfl ?_
  suffices hh : ∀ x3, xRun G m_X9_notSo d 0 0 4 [some (.ref (T0 + j)), some (.int (nSk M 0)), some (.int (nI 0)), x3] [] (tw T0 h s) (xI (.int (nSo M)) (tw T0 h s)) from hh _
  refine xfor (fun c => ∀ x3, xRun G m_X9_notSo d 0 0 4 [some (.ref (T0 + j)), some (.int (nSk M c)), some (.int (nI c)), x3] [] (tw T0 h s) (xI (.int (nSo M)) (tw T0 h s))) M.2.2.1.length ?_ ?_
  · intro c hc ih x3
    have hq := hS c hc
    have fin : ∀ v, v = (if wAt M (cAt M c).1 * nI (cAt M c).2.1 < wAt M (cAt M c).2.2.1 * nI (cAt M c).2.2.2 then sh1 c else 0) → xRun G m_X9_notSo d 0 0 58 [some (.ref (T0 + j)), some (.int (nSk M c)), some (.int (nI c)), some (.int (nI (16 + 4 * c)))] [.int v, .int (nSk M c)] (tw T0 h s) (xI (.int (nSo M)) (tw T0 h s)) := by
      intro v hv
      subst hv
      refine x_ior dX9_notSo_58 ?_
      refine xsi1 dX9_notSo_59 (by decide) rfl ?_
      refine xinc2 _ dX9_notSo_60 (by decide) rfl (nI_1 c) ?_
      refine x_goto 4 dX9_notSo_63 rfl ?_
      exact ih _
    refine x_iload_n dX9_notSo_4 rfl ?_
    refine x_aload_n dX9_notSo_5 rfl ?_
    refine x_bipush dX9_notSo_6 56 (by decide) ?_
    refine t_rj 56 dX9_notSo_8 hs hj hm rfl (by decide) (mrow_n hM) ?_
    refine x_icmp_ge 66 dX9_notSo_9 rfl (fun hc9 => absurd hc9 (nI_ge hc (by omega))) (fun _ => ?_)
    refine x_bipush dX9_notSo_12 16 (by decide) ?_
    refine x_iconst dX9_notSo_14 4 rfl ?_
    refine x_iload_n dX9_notSo_15 rfl ?_
    refine x_at 16 rfl ?_
    refine x_imul dX9_notSo_16 ?_
    refine x_iadd dX9_notSo_17 ?_
    rw [ix_c c]
    refine xsi3 dX9_notSo_18 (by decide) rfl ?_
    refine x_iload_n dX9_notSo_19 rfl ?_
    refine x_aload_n dX9_notSo_20 rfl ?_
    refine x_iconst dX9_notSo_21 0 rfl ?_
    refine x_aload_n dX9_notSo_22 rfl ?_
    refine x_iload_n dX9_notSo_23 rfl ?_
    refine t_rj (16 + 4 * c) dX9_notSo_24 hs hj hm rfl (by omega) (mr_a hM hc) ?_
    refine x_iadd dX9_notSo_25 ?_
    refine x_at 26 rfl ?_
    refine t_rj (cAt M c).1 dX9_notSo_26 hs hj hm (ix_w _) (by omega) (mr_w hM hq.1) ?_
    refine x_aload_n dX9_notSo_27 rfl ?_
    refine x_iload_n dX9_notSo_28 rfl ?_
    refine x_iconst dX9_notSo_29 1 rfl ?_
    refine x_iadd dX9_notSo_30 ?_
    refine t_rj (16 + 4 * c + 1) dX9_notSo_31 hs hj hm (nI_add _ 1) (by omega) (mr_n hM hc) ?_
    refine x_imul dX9_notSo_32 ?_
    refine x_aload_n dX9_notSo_33 rfl ?_
    refine x_at 34 rfl ?_
    refine x_iconst dX9_notSo_34 0 rfl ?_
    refine x_aload_n dX9_notSo_35 rfl ?_
    refine x_iload_n dX9_notSo_36 rfl ?_
    refine x_iconst dX9_notSo_37 2 rfl ?_
    refine x_iadd dX9_notSo_38 ?_
    refine t_rj (16 + 4 * c + 2) dX9_notSo_39 hs hj hm (nI_add _ 2) (by omega) (mr_b hM hc) ?_
    refine x_iadd dX9_notSo_40 ?_
    refine t_rj (cAt M c).2.2.1 dX9_notSo_41 hs hj hm (ix_w _) (by omega) (mr_w hM hq.2.2.1) ?_
    refine x_at 42 rfl ?_
    refine x_aload_n dX9_notSo_42 rfl ?_
    refine x_iload_n dX9_notSo_43 rfl ?_
    refine x_iconst dX9_notSo_44 3 rfl ?_
    refine x_iadd dX9_notSo_45 ?_
    refine t_rj (16 + 4 * c + 3) dX9_notSo_46 hs hj hm (nI_add _ 3) (by omega) (mr_m hM hc) ?_
    refine x_imul dX9_notSo_47 ?_
    refine x_icmp_ge 57 dX9_notSo_48 rfl (fun c1 => ?_) (fun c1 => ?_)
    · refine x_iconst dX9_notSo_57 0 rfl ?_
      exact fin _ (by rw [if_neg (Int32.not_lt.mpr c1)])
    · refine x_iconst dX9_notSo_51 1 rfl ?_
      refine x_iload_n dX9_notSo_52 rfl ?_
      refine x_ishl dX9_notSo_53 ?_
      refine x_goto 58 dX9_notSo_54 rfl ?_
      exact fin _ (by rw [if_pos (nle c1)]; rfl)
  · intro x3
    refine x_iload_n dX9_notSo_4 rfl ?_
    refine x_aload_n dX9_notSo_5 rfl ?_
    refine x_bipush dX9_notSo_6 56 (by decide) ?_
    refine t_rj 56 dX9_notSo_8 hs hj hm rfl (by decide) (mrow_n hM) ?_
    refine x_icmp_ge 66 dX9_notSo_9 rfl (fun _ => ?_) (fun hc9 => absurd (Int32.le_refl _) hc9)
    refine x_iload_n dX9_notSo_66 rfl ?_
    exact x_ireturn dX9_notSo_67 rfl ⟨rfl, rfl⟩
/-- the weights of the first things together -/
def wSk (M : Mk) : Nat → Int32
  | 0 => 0
  | a + 1 => wSk M a + wAt M a
theorem c_weightIn (hs : tOK s) (hj : tRow j) (hm : s.2.2 j = mrow M) (hM : mOK M) {n : Nat} (hn : (s.2.2 4).getD 0 0 = nI n) (h8 : n ≤ 8) : xMet G d 0 0 m_X9_weightIn [.ref T0, .ref (T0 + j)] (tw T0 h s) (xI (.int (wSk M n)) (tw T0 h s)) := by
  refine xMet.of [some (.ref T0), some (.ref (T0 + j)), none, none] pl_X9 rfl (Nat.le_of_ble_eq_true rfl) ?_
  refine x_iconst dX9_weightIn_0 0 rfl ?_
  refine xsi2 dX9_weightIn_1 (by decide) rfl ?_
  refine x_iconst dX9_weightIn_2 0 rfl ?_
  refine xsi3 dX9_weightIn_3 (by decide) rfl ?_
  refine xfor (fun c => xRun G m_X9_weightIn d 0 0 4 [some (.ref T0), some (.ref (T0 + j)), some (.int (wSk M c)), some (.int (nI c))] [] (tw T0 h s) (xI (.int (wSk M n)) (tw T0 h s))) n ?_ ?_
  · intro c hc ih
    refine x_iload_n dX9_weightIn_4 rfl ?_
    refine x_aload_n dX9_weightIn_5 rfl ?_
    refine t_ga 4 dX9_weightIn_6 f_X9_23_27 (by decide) rfl (by decide) ?_
    refine x_iconst dX9_weightIn_9 0 rfl ?_
    refine t_ia 0 dX9_weightIn_10 hs (by decide) rfl (by decide) hn ?_
    refine x_icmp_ge 28 dX9_weightIn_11 rfl (fun hc9 => absurd hc9 (nI_ge hc (by omega))) (fun _ => ?_)
    refine x_iload_n dX9_weightIn_14 rfl ?_
    refine x_aload_n dX9_weightIn_15 rfl ?_
    refine x_at 16 rfl ?_
    refine x_iconst dX9_weightIn_16 0 rfl ?_
    refine x_iload_n dX9_weightIn_17 rfl ?_
    refine x_iadd dX9_weightIn_18 ?_
    refine t_rj c dX9_weightIn_19 hs hj hm (ix_w _) (by omega) (mr_w hM (by omega)) ?_
    refine x_iadd dX9_weightIn_20 ?_
    refine xsi2 dX9_weightIn_21 (by decide) rfl ?_
    refine xinc3 _ dX9_weightIn_22 (by decide) rfl (nI_1 c) ?_
    refine x_goto 4 dX9_weightIn_25 rfl ?_
    exact ih
  · refine x_iload_n dX9_weightIn_4 rfl ?_
    refine x_aload_n dX9_weightIn_5 rfl ?_
    refine t_ga 4 dX9_weightIn_6 f_X9_23_27 (by decide) rfl (by decide) ?_
    refine x_iconst dX9_weightIn_9 0 rfl ?_
    refine t_ia 0 dX9_weightIn_10 hs (by decide) rfl (by decide) hn ?_
    refine x_icmp_ge 28 dX9_weightIn_11 rfl (fun _ => ?_) (fun hc9 => absurd (Int32.le_refl _) hc9)
    refine x_iload_n dX9_weightIn_28 rfl ?_
    exact x_ireturn dX9_weightIn_29 rfl ⟨rfl, rfl⟩
/-- the things that are cried -/
def cIk (M : Mk) : Nat → Int32
  | 0 => 0
  | a + 1 => cIk M a ||| (if cOf M a = 0 then 0 else sh1 a)
theorem c_criedIn (hs : tOK s) (hj : tRow j) (hm : s.2.2 j = mrow M) (hM : mOK M) (hS : mSm M) {n : Nat} (hn : (s.2.2 4).getD 0 0 = nI n) (h8 : n ≤ 8) : xMet G (d + 1) 0 0 m_X9_criedIn [.ref T0, .ref (T0 + j)] (tw T0 h s) (xI (.int (cIk M n)) (tw T0 h s)) := by
  refine xMet.of [some (.ref T0), some (.ref (T0 + j)), none, none] pl_X9 rfl (Nat.le_of_ble_eq_true rfl) ?_
  refine x_iconst dX9_criedIn_0 0 rfl ?_
  refine xsi2 dX9_criedIn_1 (by decide) rfl ?_
  refine x_iconst dX9_criedIn_2 0 rfl ?_
  refine xsi3 dX9_criedIn_3 (by decide) rfl ?_
  refine xfor (fun c => xRun G m_X9_criedIn (d + 1) 0 0 4 [some (.ref T0), some (.ref (T0 + j)), some (.int (cIk M c)), some (.int (nI c))] [] (tw T0 h s) (xI (.int (cIk M n)) (tw T0 h s))) n ?_ ?_
  · intro c hc ih
    have fin : ∀ v, v = (if cOf M c = 0 then 0 else sh1 c) → xRun G m_X9_criedIn (d + 1) 0 0 30 [some (.ref T0), some (.ref (T0 + j)), some (.int (cIk M c)), some (.int (nI c))] [.int v, .int (cIk M c)] (tw T0 h s) (xI (.int (cIk M n)) (tw T0 h s)) := by
      intro v hv
      subst hv
      refine x_ior dX9_criedIn_30 ?_
      refine xsi2 dX9_criedIn_31 (by decide) rfl ?_
      refine xinc3 _ dX9_criedIn_32 (by decide) rfl (nI_1 c) ?_
      refine x_goto 4 dX9_criedIn_35 rfl ?_
      exact ih
    refine x_iload_n dX9_criedIn_4 rfl ?_
    refine x_aload_n dX9_criedIn_5 rfl ?_
    refine t_ga 4 dX9_criedIn_6 f_X9_23_27 (by decide) rfl (by decide) ?_
    refine x_iconst dX9_criedIn_9 0 rfl ?_
    refine t_ia 0 dX9_criedIn_10 hs (by decide) rfl (by decide) hn ?_
    refine x_icmp_ge 38 dX9_criedIn_11 rfl (fun hc9 => absurd hc9 (nI_ge hc (by omega))) (fun _ => ?_)
    refine x_iload_n dX9_criedIn_14 rfl ?_
    refine x_aload_n dX9_criedIn_15 rfl ?_
    refine x_at 16 rfl ?_
    refine x_iload_n dX9_criedIn_16 rfl ?_
    refine xiS2 dX9_criedIn_17 s_X9_256 (Nat.le_of_ble_eq_true rfl) (c_criesOf hs hj hm hM hS c (by omega)) ?_
    refine x_if_ne 27 dX9_criedIn_20 rfl (fun c1 => ?_) (fun c1 => ?_)
    · refine x_iconst dX9_criedIn_27 1 rfl ?_
      refine x_iload_n dX9_criedIn_28 rfl ?_
      refine x_ishl dX9_criedIn_29 ?_
      exact fin _ (by rw [if_neg c1]; rfl)
    · refine x_iconst dX9_criedIn_23 0 rfl ?_
      refine x_goto 30 dX9_criedIn_24 rfl ?_
      exact fin _ (by rw [if_pos c1])
  · refine x_iload_n dX9_criedIn_4 rfl ?_
    refine x_aload_n dX9_criedIn_5 rfl ?_
    refine t_ga 4 dX9_criedIn_6 f_X9_23_27 (by decide) rfl (by decide) ?_
    refine x_iconst dX9_criedIn_9 0 rfl ?_
    refine t_ia 0 dX9_criedIn_10 hs (by decide) rfl (by decide) hn ?_
    refine x_icmp_ge 38 dX9_criedIn_11 rfl (fun _ => ?_) (fun hc9 => absurd (Int32.le_refl _) hc9)
    refine x_iload_n dX9_criedIn_38 rfl ?_
    exact x_ireturn dX9_criedIn_39 rfl ⟨rfl, rfl⟩
/-- the heaviest of the first things, the first of such -/
def hvk (M : Mk) : Nat → Option Nat
  | 0 => none
  | a + 1 => match hvk M a with
    | none => some a
    | some b => if wAt M b < wAt M a then some a else some b
def oN (o : Option Nat) : Int32 := match o with | none => -1 | some a => nI a
theorem oN_ne {b : Nat} (hb : b < 2 ^ 31) : ¬ oN (some b) = -1 := fun q => absurd (show nI b < 0 from (show nI b = -1 from q) ▸ (by decide)) (nI_pos hb)
theorem hvk_lt : ∀ (n b : Nat), hvk M n = some b → b < n
  | 0, b, h => by cases h
  | n + 1, b, h => by
    unfold hvk at h
    split at h
    · cases h; omega
    · next b' hb' =>
      have := hvk_lt n b' hb'
      split at h <;> cases h <;> omega
theorem c_heaviestIn (hs : tOK s) (hj : tRow j) (hm : s.2.2 j = mrow M) (hM : mOK M) {n : Nat} (hn : (s.2.2 4).getD 0 0 = nI n) (h8 : n ≤ 8) : xMet G d 0 0 m_X9_heaviestIn [.ref T0, .ref (T0 + j)] (tw T0 h s) (xI (.int (oN (hvk M n))) (tw T0 h s)) := by
  refine xMet.of [some (.ref T0), some (.ref (T0 + j)), none, none] pl_X9 rfl (Nat.le_of_ble_eq_true rfl) ?_
  refine x_iconst dX9_heaviestIn_0 (-1) rfl ?_
  refine xsi2 dX9_heaviestIn_1 (by decide) rfl ?_
  refine x_iconst dX9_heaviestIn_2 0 rfl ?_
  refine xsi3 dX9_heaviestIn_3 (by decide) rfl ?_
  refine xfor (fun c => xRun G m_X9_heaviestIn d 0 0 4 [some (.ref T0), some (.ref (T0 + j)), some (.int (oN (hvk M c))), some (.int (nI c))] [] (tw T0 h s) (xI (.int (oN (hvk M n))) (tw T0 h s))) n ?_ ?_
  · intro c hc ih
    have fin : ∀ v, v = oN (hvk M (c + 1)) → xRun G m_X9_heaviestIn d 0 0 37 [some (.ref T0), some (.ref (T0 + j)), some (.int (oN (hvk M c))), some (.int (nI c))] [.int v] (tw T0 h s) (xI (.int (oN (hvk M n))) (tw T0 h s)) := by
      intro v hv
      subst hv
      refine xsi2 dX9_heaviestIn_37 (by decide) rfl ?_
      refine xinc3 _ dX9_heaviestIn_38 (by decide) rfl (nI_1 c) ?_
      refine x_goto 4 dX9_heaviestIn_41 rfl ?_
      exact ih
    refine x_iload_n dX9_heaviestIn_4 rfl ?_
    refine x_aload_n dX9_heaviestIn_5 rfl ?_
    refine t_ga 4 dX9_heaviestIn_6 f_X9_23_27 (by decide) rfl (by decide) ?_
    refine x_iconst dX9_heaviestIn_9 0 rfl ?_
    refine t_ia 0 dX9_heaviestIn_10 hs (by decide) rfl (by decide) hn ?_
    refine x_icmp_ge 44 dX9_heaviestIn_11 rfl (fun hc9 => absurd hc9 (nI_ge hc (by omega))) (fun _ => ?_)
    refine x_iload_n dX9_heaviestIn_14 rfl ?_
    refine x_iconst dX9_heaviestIn_15 (-1) rfl ?_
    cases hk : hvk M c with
    | none =>
      rw [hk] at fin
      refine x_icmp_eq 32 dX9_heaviestIn_16 rfl (fun _ => ?_) (fun hc9 => absurd (rfl) hc9)
      refine x_iload_n dX9_heaviestIn_32 rfl ?_
      refine x_goto 37 dX9_heaviestIn_33 rfl ?_
      exact fin _ (by unfold hvk; rw [hk]; rfl)
    | some b =>
      rw [hk] at fin
      have hb := hvk_lt c b hk
      refine x_icmp_eq 32 dX9_heaviestIn_16 rfl (fun hc9 => absurd hc9 (oN_ne (by omega))) (fun _ => ?_)
      refine x_aload_n dX9_heaviestIn_19 rfl ?_
      refine x_iconst dX9_heaviestIn_20 0 rfl ?_
      refine x_iload_n dX9_heaviestIn_21 rfl ?_
      refine x_iadd dX9_heaviestIn_22 ?_
      refine t_rj c dX9_heaviestIn_23 hs hj hm (ix_w _) (by omega) (mr_w hM (by omega)) ?_
      refine x_aload_n dX9_heaviestIn_24 rfl ?_
      refine x_iconst dX9_heaviestIn_25 0 rfl ?_
      refine x_at 26 rfl ?_
      refine x_iload_n dX9_heaviestIn_26 rfl ?_
      refine x_iadd dX9_heaviestIn_27 ?_
      refine t_rj b dX9_heaviestIn_28 hs hj hm (ix_w _) (by omega) (mr_w hM (by omega)) ?_
      refine x_icmp_le 36 dX9_heaviestIn_29 rfl (fun c1 => ?_) (fun c1 => ?_)
      · refine x_iload_n dX9_heaviestIn_36 rfl ?_
        exact fin _ (by simp only [hvk, hk]; rw [if_neg (Int32.not_lt.mpr c1)])
      · refine x_iload_n dX9_heaviestIn_32 rfl ?_
        refine x_goto 37 dX9_heaviestIn_33 rfl ?_
        exact fin _ (by simp only [hvk, hk]; rw [if_pos (nle c1)]; rfl)
  · refine x_iload_n dX9_heaviestIn_4 rfl ?_
    refine x_aload_n dX9_heaviestIn_5 rfl ?_
    refine t_ga 4 dX9_heaviestIn_6 f_X9_23_27 (by decide) rfl (by decide) ?_
    refine x_iconst dX9_heaviestIn_9 0 rfl ?_
    refine t_ia 0 dX9_heaviestIn_10 hs (by decide) rfl (by decide) hn ?_
    refine x_icmp_ge 44 dX9_heaviestIn_11 rfl (fun _ => ?_) (fun hc9 => absurd (Int32.le_refl _) hc9)
    refine x_iload_n dX9_heaviestIn_44 rfl ?_
    exact x_ireturn dX9_heaviestIn_45 rfl ⟨rfl, rfl⟩
theorem c_isThing (hs : tOK s) {n : Nat} (hn : (s.2.2 4).getD 0 0 = nI n) (a : Int32) : xMet G (d + 1) 0 0 m_X9_isThing [.ref T0, .int a] (tw T0 h s) (xI (.int (b2 (decide (0 ≤ a ∧ a ≤ nI n - 1)))) (tw T0 h s)) := by
  refine xMet.of [some (.ref T0), some (.int a)] pl_X9 rfl (Nat.le_of_ble_eq_true rfl) ?_
  refine x_iload_n dX9_isThing_0 rfl ?_
  refine x_iconst dX9_isThing_1 0 rfl ?_
  refine x_aload_n dX9_isThing_2 rfl ?_
  refine t_ga 4 dX9_isThing_3 f_X9_23_27 (by decide) rfl (by decide) ?_
  refine x_iconst dX9_isThing_6 0 rfl ?_
  refine t_ia 0 dX9_isThing_7 hs (by decide) rfl (by decide) hn ?_
  refine x_iconst dX9_isThing_8 1 rfl ?_
  refine x_isub dX9_isThing_9 ?_
  refine x_at 10 rfl ?_
  refine xiS3 dX9_isThing_10 s_X9_126 (Nat.le_of_ble_eq_true rfl) (c_in _ _ _) ?_
  exact x_zreturn dX9_isThing_13 rfl (by cases decide (0 ≤ a ∧ a ≤ nI n - 1) <;> rfl) ⟨rfl, rfl⟩
end TM
