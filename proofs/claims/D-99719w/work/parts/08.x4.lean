set_option maxRecDepth 100000
/-! ===== the x layer, 4: rows of the heap ===== -/
section XH
variable {G : xG} {y : xM} {d C S pc : Nat} {L : List (Option Value)} {st : List Value} {h : xH} {Q : xQ}
/-- the pool's entry idx of own is the field k of the objects of number ci -/
def xFld (own : String) (idx ci k : Nat) : Prop := ∃ (Cn : String) (T : u_T) (N : Nat) (ref : String), xcl[ci]? = some (Cn, T, N) ∧ ci < 50 ∧ k < N ∧ (∀ w ∈ u_ws Cn T N, w ∈ lw_all) ∧ (Cond.fieldLink own idx ref (T k).2.1 (T k).2.2.1 ∈ lw_all ∨ ∃ host, Cond.fieldLinkNest own idx ref (T k).2.1 (T k).2.2.1 host ∈ xnws) ∧ (ref = (T k).1 ∨ Cond.sameField ref (T k).1 (T k).2.1 (T k).2.2.1 ∈ lw_all)
theorem xFld.same {args : Array Value} {s : State} (hts : ∀ w ∈ lw_all, w.before args s = true) {ref owner name desc : String} (h : ref = owner ∨ Cond.sameField ref owner name desc ∈ lw_all) : ∀ x, s.fieldFound? owner name desc = some x → s.fieldFound? ref name desc = some x := by
  intro x hx
  rcases h with rfl | h
  · exact hx
  · exact u_same (hts _ h) x hx
theorem x_getf {idx ci k a : Nat} {fs : List Value} {v : Value} (hd : decode y.2.1 pc = .ok (.getfield idx, 3)) (hf : xFld y.1.cls idx ci k) (hq : h.1 a = some (ci, fs)) (hv : fs[k]? = some v) (kk : xRun G y d C S (pc + 3) L (v :: st) h Q) : xRun G y d C S pc L (.ref a :: st) h Q := by
  intro p e s m args below meth c ls H locs cells slots mc ms X A
  have K := kk p e s m args below meth c ls H locs cells slots mc ms X A
  obtain ⟨Cn, T, N, ref, hc, h100, hk, hin, hl, hs⟩ := hf
  obtain ⟨hx, hb, hr, hlk, hml, hown, hts, htab, hnm, hkn⟩ := X
  have hP : va_P G.2.1 xcl [(a, .inr (ci, fs))] H := by
    intro k q hk
    match k, hk with
    | 0, hk =>
      cases hk
      obtain ⟨r, h1, -, h2⟩ := (A.2.1.2 a _ hq).1 h100
      exact ⟨r, h1, h2⟩
  rcases hl with hl | ⟨host, hl⟩
  · exact va_get hx hb hts hin hown hkn.1 hP 0 rfl hc k hk (hts _ hl) (xFld.same hts hs) hv hd K
  · exact va_getN hx hb hts hin hown hkn.1 hP 0 rfl hc k hk (va_Nw.use rfl (hkn.2.1 _ hl)) (xFld.same hts hs) hv hd K
/-- .. and it may be written: not final, or by the constructor of the declaring one -/
def xFldP (own : String) (idx ci k : Nat) (ty : FieldType) (fin : Bool) : Prop := ∃ (Cn : String) (T : u_T) (N : Nat) (ref : String) (ty0 : Nat → FieldType), xcl[ci]? = some (Cn, T, N) ∧ ci < 50 ∧ k < N ∧ (∀ w ∈ u_ws Cn T N, w ∈ lw_all) ∧ (Cond.fieldLink own idx ref (T k).2.1 (T k).2.2.1 ∈ lw_all ∨ (fin = false ∧ ∃ host, Cond.fieldLinkNest own idx ref (T k).2.1 (T k).2.2.1 host ∈ xnws)) ∧ (ref = (T k).1 ∨ Cond.sameField ref (T k).1 (T k).2.1 (T k).2.2.1 ∈ lw_all) ∧
  (∀ k, k < N → parseFieldDescriptor (T k).2.2.1 = some (ty0 k)) ∧ (∀ a, a < N → ∀ b, b < N → a ≠ b → (T a).2.1 ≠ (T b).2.1) ∧ (T k).2.2.2 = fin ∧ (fin = true → (T k).1 = own) ∧ ty0 k = ty
theorem x_putf {idx ci k a : Nat} {fs : List Value} {v : Value} {ty : FieldType} {fin : Bool} (hd : decode y.2.1 pc = .ok (.putfield idx, 3)) (hf : xFldP y.1.cls idx ci k ty fin) (hi : fin = true → y.1.name = "<init>") (hq : h.1 a = some (ci, fs)) (hn : narrow ty v = v) (hfit : fits ty v = true) (hba : G.2.2.1 ≤ a)
    (kk : xRun G y d C S (pc + 3) L st (xup h a (ci, fs.set k v)) Q) : xRun G y d C S pc L (v :: .ref a :: st) h Q := by
  intro p e s m args below meth c ls H locs cells slots mc ms X A
  obtain ⟨Cn, T, N, ref, ty0, hc, h100, hk, hin, hl, hs, hty, hnm9, hfin, hdecl, hty0⟩ := hf
  have X9 := X
  obtain ⟨hx, hb, hr, hlk, hml, hown, hts, htab, hnm, hkn⟩ := X
  have hap := va_apart (own := y.1.cls) hts hin ty0 hty hnm9 hkn.1 hc
  obtain ⟨r, h1, hlen, cell, q1, q2, q3, q4⟩ := (A.2.1.2 a _ hq).1 h100
  have hr9 : r = (Cn, T, N) := Option.some.inj (h1.symm.trans hc)
  subst hr9
  obtain ⟨hS, hfc, kC, hkC, hkind⟩ := hkn.1.1 ci _ hc
  obtain ⟨cf, kf, fi, f, hif, hsl⟩ := hS k hk
  have hst := (u_facts hfc hkC (u_lays hts hin hk) hif).1
  have hdesc : parseFieldDescriptor (T k).2.2.1 = some ty := by rw [hty k hk, hty0]
  have hlt : f.slot < cell.slots.size := by rw [hsl]; exact k2_hasslot (q4 k hk)
  have hl9 : k < fs.length := by rw [hlen]; exact hk
  have fin9 : ∀ H' : Heap, H'[a]? = some (cell.setSlot f.slot v) → H'.size = H.size → (∀ q, q ≠ a → H'[q]? = H[q]?) → W p G.1 e (xroom d mc ms) s m args below meth c H' (locs ++ [⟨a, f.slot⟩]) cells slots (xMQ G below args s mc ms Q) (F0 m (pc + 3) ls st) := by
    intro H' e1 e2 e3
    rw [hsl] at e1 ⊢
    refine kk p e s m args below meth c ls H' _ cells slots mc ms X9 ⟨A.1, A.2.1.up e2 e3 ⟨fun _ => ⟨_, hc, by rw [List.length_set]; exact hlen, t_OB.to (V := updV (vp_V fs) k v) ⟨_, e1, q2, q3, t_set q4 hap hk v⟩ (fun j _ => vp_updV_set hl9 v j)⟩, fun h9 => absurd (show (ci, fs.set k v).1 < 100 from Nat.lt_trans h100 (by decide)) h9, fun h9 _ => absurd h9 (Nat.not_le.mpr h100)⟩, A.2.2.1.put e2 e3 hba, A.2.2.2⟩
  cases fin with
  | false =>
    have hlay := hts _ (hin _ (u_in_lay hk))
    unfold u_lay at hlay
    rw [if_neg (by rw [hfin]; decide)] at hlay
    have h6 := u_store hfc hkC hkind hlay hif hdesc hn hfit
    rcases hl with hl | ⟨-, host, hl⟩
    · exact W.putK hx hb (f := f) ⟨hown, hts _ hl, ⟨_, _, _, xFld.same hts hs _ hif⟩, hst⟩ (by rw [q2]; exact h6) q1 q3 hlt rfl rfl hd fin9
    · exact va_WputK hx hb (f := f) hown (va_Nw.use rfl (hkn.2.1 _ hl)) (xFld.same hts hs _ hif) hst (by rw [q2]; exact h6) q1 q3 hlt rfl rfl hd fin9
  | true =>
    rcases hl with hl | ⟨h9, -⟩
    · have hlay := hts _ (hin _ (u_in_lay hk))
      unfold u_lay at hlay
      rw [if_pos hfin] at hlay
      have h6 := u_fits hfc hkC hkind (Or.inr hlay) hif hdesc hn hfit
      have hcf : m.cls = cf := by
        have h7 := hdecl rfl
        have h8 := State.fieldFound?_type hif hdesc
        obtain ⟨c9, k9, cf', kf', fi', fd', r1, r2, hi', hst9, hfin9, hcast9, hown9, hty9, -⟩ := Cond.laysFinal_spec hlay
        cases hif.symm.trans hi'
        rw [h7] at hown9
        exact Option.some.inj (hown.symm.trans hown9)
      exact W.putFinK hx hb hown (hts _ hl) (xFld.same hts hs _ hif) hst hcf (by rw [hnm]; exact hi rfl) (by rw [q2]; exact h6) q1 q3 hlt rfl rfl hd fin9
    · cases h9
/-- arrays -/
def xaty : List FieldType := [.int, .byte, .boolean, .long, .array .int, .object "java/lang/Object", .object "LeaningMarket$Market"]
theorem xarr {G : xG} {s : State} {H : Heap} {h : xH} {a t : Nat} {vs : List Value} {ty : FieldType} (hK : va_K G.2.1 xcl (xtys G.2.1) s) (hR : xRel G.2.1 h H) (hq : h.1 a = some (100 + t, vs)) (ht : xaty[t]? = some ty) :
    vs.length < 2147483648 ∧ H[a]? = some (arrV (G.2.1.1 (100 + t)) vs.length (fun j => vs.getD j .null)) ∧ s.isArrayOf (arrV (G.2.1.1 (100 + t)) vs.length (fun j => vs.getD j .null)) ty ∧ va_RA s (G.2.1.1 (100 + t)) ty := by
  obtain ⟨h1, h2⟩ := (hR.2 a _ hq).2.1 (show ¬ 100 + t < 100 by omega)
  have h3 : (xtys G.2.1)[t]? = some (G.2.1.1 (100 + t), ty) := by
    match t, ht with
    | 0, ht => cases ht; rfl
    | 1, ht => cases ht; rfl
    | 2, ht => cases ht; rfl
    | 3, ht => cases ht; rfl
    | 4, ht => cases ht; rfl
    | 5, ht => cases ht; rfl
    | 6, ht => cases ht; rfl
    | t + 7, ht => simp [xaty] at ht
  have h4 := hK.2 t _ h3
  exact ⟨h1, h2, h4.1 _ _, h4.2⟩
theorem xidx {i : Int32} {n : Nat} {vs : List Value} (hi : i = nI n) (hn : n < vs.length) (hl : vs.length < 2147483648) (cA : ClassId) (f : Nat → Value) : ¬ (i < 0 ∨ (arrV cA vs.length f).slots.size ≤ i.toNatClampNeg) ∧ i.toNatClampNeg = n := by
  have h1 : n < 2 ^ 31 := by omega
  rw [hi, arrV_size, nI_clamp h1]
  refine ⟨fun h => ?_, rfl⟩
  rcases h with h | h
  · exact nI_pos h1 h
  · omega
theorem xread {n : Nat} {vs : List Value} {v : Value} (hv : vs[n]? = some v) (cA : ClassId) : n < vs.length ∧ (arrV cA vs.length (fun j => vs.getD j .null)).slots[n]? = some v := by
  have hn := (List.getElem?_eq_some_iff.mp hv).1
  refine ⟨hn, ?_⟩
  rw [arrV_read cA _ hn, List.getD_eq_getElem?_getD, hv]
  rfl
theorem xarrset {n : Nat} {vs : List Value} (v : Value) (hn : n < vs.length) (cA : ClassId) : (arrV cA vs.length (fun j => vs.getD j .null)).setSlot n v = arrV cA (vs.set n v).length (fun j => (vs.set n v).getD j .null) := by
  rw [arrV_store, List.length_set]
  unfold arrV
  congr 1
  apply Array.ext
  · simp
  · intro j h1 h2
    simp only [Array.getElem_ofFn, updV, List.getD_eq_getElem?_getD]
    by_cases e : j = n
    · subst e
      simp [hn]
    · have e' : ¬ n = j := fun q => e q.symm
      simp [e, e']
theorem xatA {D : va_G} {a t : Nat} {vs : List Value} {H : Heap} (hl : vs.length < 2147483648) (hh : H[a]? = some (arrV (D.1 (100 + t)) vs.length (fun j => vs.getD j .null))) : xat D a (100 + t, vs) H := ⟨fun h9 => absurd h9 (show ¬ 100 + t < 50 by omega), fun _ => ⟨hl, hh⟩, fun _ h9 => absurd h9 (show ¬ 100 + t < 100 by omega)⟩
theorem xastep {G : xG} {y : xM} {d C S pc : Nat} {L : List (Option Value)} {st : List Value} {h : xH} {Q : xQ} {a t n : Nat} {vs : List Value} {v : Value} (hba : G.2.2.1 ≤ a) (hn : n < vs.length) (kk : xRun G y d C S pc L st (xup h a (100 + t, vs.set n v)) Q)
    {p : Program} {e : Env} {s : State} {m : MethodId} {args : Array Value} {below : List Frame} {meth : Method} {c : Code} {ls : Array Slot} {H : Heap} {locs : List Loc} {cells slots mc ms : Nat} (X : xCtx G y p s m args meth c) (A : xAt G y C S L h s ls H locs cells slots mc ms) (hl : vs.length < 2147483648)
    (H' : Heap) (e1 : H'[a]? = some ((arrV (G.2.1.1 (100 + t)) vs.length (fun j => vs.getD j .null)).setSlot n v)) (e2 : H'.size = H.size) (e3 : ∀ q, q ≠ a → H'[q]? = H[q]?) :
    W p G.1 e (xroom d mc ms) s m args below meth c H' (locs ++ [⟨a, n⟩]) cells slots (xMQ G below args s mc ms Q) (F0 m pc ls st) := by
  rw [xarrset v hn] at e1
  exact kk p e s m args below meth c ls H' _ cells slots mc ms X ⟨A.1, A.2.1.up e2 e3 (xatA (by rw [List.length_set]; exact hl) e1), A.2.2.1.put e2 e3 hba, A.2.2.2⟩
theorem x_iaload {i : Int32} {a : Nat} {vs : List Value} {v : Value} (n : Nat) (hd : decode y.2.1 pc = .ok (.iaload, 1)) (hq : h.1 a = some (100, vs)) (hi : i = nI n) (hv : vs[n]? = some v) (kk : xRun G y d C S (pc + 1) L (v :: st) h Q) : xRun G y d C S pc L (.int i :: .ref a :: st) h Q := by
  intro p e s m args below meth c ls H locs cells slots mc ms X A
  obtain ⟨h1, h2, h3, h4⟩ := xarr (t := 0) X.2.2.2.2.2.2.2.2.2.1 A.2.1 hq rfl
  obtain ⟨h5, h6⟩ := xread hv (G.2.1.1 (100 + 0))
  obtain ⟨h7, h8⟩ := xidx hi h5 h1 (G.2.1.1 (100 + 0)) (fun j => vs.getD j .null)
  exact W.iald X.1 X.2.1 h2 h3 (fun h => by cases h) h7 (by rw [h8]; exact h6) rfl rfl hd (kk p e s m args below meth c ls H locs cells slots mc ms X A)
theorem x_baload {i : Int32} {a : Nat} {vs : List Value} {v : Value} (n : Nat) (hd : decode y.2.1 pc = .ok (.baload, 1)) (hq : h.1 a = some (101, vs)) (hi : i = nI n) (hv : vs[n]? = some v) (kk : xRun G y d C S (pc + 1) L (v :: st) h Q) : xRun G y d C S pc L (.int i :: .ref a :: st) h Q := by
  intro p e s m args below meth c ls H locs cells slots mc ms X A
  obtain ⟨h1, h2, h3, h4⟩ := xarr (t := 1) X.2.2.2.2.2.2.2.2.2.1 A.2.1 hq rfl
  obtain ⟨h5, h6⟩ := xread hv (G.2.1.1 (100 + 1))
  obtain ⟨h7, h8⟩ := xidx hi h5 h1 (G.2.1.1 (100 + 1)) (fun j => vs.getD j .null)
  exact W.bald X.1 X.2.1 h2 h3 (fun h => by cases h) h7 (by rw [h8]; exact h6) rfl rfl hd (kk p e s m args below meth c ls H locs cells slots mc ms X A)
theorem x_zaload {i : Int32} {a : Nat} {vs : List Value} {v : Value} (n : Nat) (hd : decode y.2.1 pc = .ok (.baload, 1)) (hq : h.1 a = some (102, vs)) (hi : i = nI n) (hv : vs[n]? = some v) (kk : xRun G y d C S (pc + 1) L (v :: st) h Q) : xRun G y d C S pc L (.int i :: .ref a :: st) h Q := by
  intro p e s m args below meth c ls H locs cells slots mc ms X A
  obtain ⟨h1, h2, h3, h4⟩ := xarr (t := 2) X.2.2.2.2.2.2.2.2.2.1 A.2.1 hq rfl
  obtain ⟨h5, h6⟩ := xread hv (G.2.1.1 (100 + 2))
  obtain ⟨h7, h8⟩ := xidx hi h5 h1 (G.2.1.1 (100 + 2)) (fun j => vs.getD j .null)
  exact W.zald X.1 X.2.1 h2 h3 (fun h => by cases h) h7 (by rw [h8]; exact h6) rfl rfl hd (kk p e s m args below meth c ls H locs cells slots mc ms X A)
theorem x_laload {i : Int32} {a : Nat} {vs : List Value} {v : Value} (n : Nat) (hd : decode y.2.1 pc = .ok (.laload, 1)) (hq : h.1 a = some (103, vs)) (hi : i = nI n) (hv : vs[n]? = some v) (kk : xRun G y d C S (pc + 1) L (v :: st) h Q) : xRun G y d C S pc L (.int i :: .ref a :: st) h Q := by
  intro p e s m args below meth c ls H locs cells slots mc ms X A
  obtain ⟨h1, h2, h3, h4⟩ := xarr (t := 3) X.2.2.2.2.2.2.2.2.2.1 A.2.1 hq rfl
  obtain ⟨h5, h6⟩ := xread hv (G.2.1.1 (100 + 3))
  obtain ⟨h7, h8⟩ := xidx hi h5 h1 (G.2.1.1 (100 + 3)) (fun j => vs.getD j .null)
  exact W.lald X.1 X.2.1 h2 h3 (fun h => by cases h) h7 (by rw [h8]; exact h6) rfl rfl hd (kk p e s m args below meth c ls H locs cells slots mc ms X A)
theorem x_aaload4 {i : Int32} {a : Nat} {vs : List Value} {v : Value} (n : Nat) (hd : decode y.2.1 pc = .ok (.aaload, 1)) (hq : h.1 a = some (104, vs)) (hi : i = nI n) (hv : vs[n]? = some v) (kk : xRun G y d C S (pc + 1) L (v :: st) h Q) : xRun G y d C S pc L (.int i :: .ref a :: st) h Q := by
  intro p e s m args below meth c ls H locs cells slots mc ms X A
  obtain ⟨h1, h2, h3, h4⟩ := xarr (t := 4) X.2.2.2.2.2.2.2.2.2.1 A.2.1 hq rfl
  obtain ⟨h5, h6⟩ := xread hv (G.2.1.1 (100 + 4))
  obtain ⟨h7, h8⟩ := xidx hi h5 h1 (G.2.1.1 (100 + 4)) (fun j => vs.getD j .null)
  exact W.aald X.1 X.2.1 h2 h3 rfl (fun h => by cases h) h7 (by rw [h8]; exact h6) rfl rfl hd (kk p e s m args below meth c ls H locs cells slots mc ms X A)
theorem x_aaload5 {i : Int32} {a : Nat} {vs : List Value} {v : Value} (n : Nat) (hd : decode y.2.1 pc = .ok (.aaload, 1)) (hq : h.1 a = some (105, vs)) (hi : i = nI n) (hv : vs[n]? = some v) (kk : xRun G y d C S (pc + 1) L (v :: st) h Q) : xRun G y d C S pc L (.int i :: .ref a :: st) h Q := by
  intro p e s m args below meth c ls H locs cells slots mc ms X A
  obtain ⟨h1, h2, h3, h4⟩ := xarr (t := 5) X.2.2.2.2.2.2.2.2.2.1 A.2.1 hq rfl
  obtain ⟨h5, h6⟩ := xread hv (G.2.1.1 (100 + 5))
  obtain ⟨h7, h8⟩ := xidx hi h5 h1 (G.2.1.1 (100 + 5)) (fun j => vs.getD j .null)
  exact W.aald X.1 X.2.1 h2 h3 rfl (fun h => by cases h) h7 (by rw [h8]; exact h6) rfl rfl hd (kk p e s m args below meth c ls H locs cells slots mc ms X A)
theorem x_aaload6 {i : Int32} {a : Nat} {vs : List Value} {v : Value} (n : Nat) (hd : decode y.2.1 pc = .ok (.aaload, 1)) (hq : h.1 a = some (106, vs)) (hi : i = nI n) (hv : vs[n]? = some v) (kk : xRun G y d C S (pc + 1) L (v :: st) h Q) : xRun G y d C S pc L (.int i :: .ref a :: st) h Q := by
  intro p e s m args below meth c ls H locs cells slots mc ms X A
  obtain ⟨h1, h2, h3, h4⟩ := xarr (t := 6) X.2.2.2.2.2.2.2.2.2.1 A.2.1 hq rfl
  obtain ⟨h5, h6⟩ := xread hv (G.2.1.1 (100 + 6))
  obtain ⟨h7, h8⟩ := xidx hi h5 h1 (G.2.1.1 (100 + 6)) (fun j => vs.getD j .null)
  exact W.aald X.1 X.2.1 h2 h3 rfl (fun h => by cases h) h7 (by rw [h8]; exact h6) rfl rfl hd (kk p e s m args below meth c ls H locs cells slots mc ms X A)
theorem x_iastore {i : Int32} {a : Nat} {vs : List Value} {x : Int32} (n : Nat) (hd : decode y.2.1 pc = .ok (.iastore, 1)) (hq : h.1 a = some (100, vs)) (hi : i = nI n) (hn : n < vs.length) (hba : G.2.2.1 ≤ a) (kk : xRun G y d C S (pc + 1) L st (xup h a (100, vs.set n (.int x))) Q) : xRun G y d C S pc L (.int x :: .int i :: .ref a :: st) h Q := by
  intro p e s m args below meth c ls H locs cells slots mc ms X A
  obtain ⟨h1, h2, h3, h4⟩ := xarr (t := 0) X.2.2.2.2.2.2.2.2.2.1 A.2.1 hq rfl
  obtain ⟨h7, h8⟩ := xidx hi hn h1 (G.2.1.1 (100 + 0)) (fun j => vs.getD j .null)
  refine W.iast X.1 X.2.1 h2 h3 (fun h => by cases h) h7 rfl rfl hd (fun H' e1 e2 e3 => ?_)
  rw [h8] at e1 ⊢
  exact xastep (t := 0) hba hn kk X A h1 H' e1 e2 e3
theorem x_bastore {i : Int32} {a : Nat} {vs : List Value} {x : Int32} (n : Nat) {x1 : Int32} (hw : narrow .byte (.int x) = .int x1) (hd : decode y.2.1 pc = .ok (.bastore, 1)) (hq : h.1 a = some (101, vs)) (hi : i = nI n) (hn : n < vs.length) (hba : G.2.2.1 ≤ a) (kk : xRun G y d C S (pc + 1) L st (xup h a (101, vs.set n (.int x1))) Q) : xRun G y d C S pc L (.int x :: .int i :: .ref a :: st) h Q := by
  intro p e s m args below meth c ls H locs cells slots mc ms X A
  obtain ⟨h1, h2, h3, h4⟩ := xarr (t := 1) X.2.2.2.2.2.2.2.2.2.1 A.2.1 hq rfl
  obtain ⟨h7, h8⟩ := xidx hi hn h1 (G.2.1.1 (100 + 1)) (fun j => vs.getD j .null)
  refine W.bast X.1 X.2.1 h2 h3 (fun h => by cases h) h7 rfl rfl hd (fun H' e1 e2 e3 => ?_)
  rw [h8] at e1 ⊢
  exact xastep (t := 1) hba hn kk X A h1 H' (by rw [← hw]; exact e1) e2 e3
theorem x_zastore {i : Int32} {a : Nat} {vs : List Value} {x : Int32} (n : Nat) {x1 : Int32} (hw : narrow .boolean (.int x) = .int x1) (hd : decode y.2.1 pc = .ok (.bastore, 1)) (hq : h.1 a = some (102, vs)) (hi : i = nI n) (hn : n < vs.length) (hba : G.2.2.1 ≤ a) (kk : xRun G y d C S (pc + 1) L st (xup h a (102, vs.set n (.int x1))) Q) : xRun G y d C S pc L (.int x :: .int i :: .ref a :: st) h Q := by
  intro p e s m args below meth c ls H locs cells slots mc ms X A
  obtain ⟨h1, h2, h3, h4⟩ := xarr (t := 2) X.2.2.2.2.2.2.2.2.2.1 A.2.1 hq rfl
  obtain ⟨h7, h8⟩ := xidx hi hn h1 (G.2.1.1 (100 + 2)) (fun j => vs.getD j .null)
  refine W.zast X.1 X.2.1 h2 h3 (fun h => by cases h) h7 rfl rfl hd (fun H' e1 e2 e3 => ?_)
  rw [h8] at e1 ⊢
  exact xastep (t := 2) hba hn kk X A h1 H' (by rw [← hw]; exact e1) e2 e3
theorem x_lastore {i : Int32} {a : Nat} {vs : List Value} {x : Int64} (n : Nat) (hd : decode y.2.1 pc = .ok (.lastore, 1)) (hq : h.1 a = some (103, vs)) (hi : i = nI n) (hn : n < vs.length) (hba : G.2.2.1 ≤ a) (kk : xRun G y d C S (pc + 1) L st (xup h a (103, vs.set n (.long x))) Q) : xRun G y d C S pc L (.long x :: .int i :: .ref a :: st) h Q := by
  intro p e s m args below meth c ls H locs cells slots mc ms X A
  obtain ⟨h1, h2, h3, h4⟩ := xarr (t := 3) X.2.2.2.2.2.2.2.2.2.1 A.2.1 hq rfl
  obtain ⟨h7, h8⟩ := xidx hi hn h1 (G.2.1.1 (100 + 3)) (fun j => vs.getD j .null)
  refine W.last X.1 X.2.1 h2 h3 (fun h => by cases h) h7 rfl rfl hd (fun H' e1 e2 e3 => ?_)
  rw [h8] at e1 ⊢
  exact xastep (t := 3) hba hn kk X A h1 H' e1 e2 e3
theorem x_alen {a t : Nat} {vs : List Value} {ty : FieldType} (hd : decode y.2.1 pc = .ok (.arraylength, 1)) (hq : h.1 a = some (100 + t, vs)) (ht : xaty[t]? = some ty) (kk : xRun G y d C S (pc + 1) L (.int (nI vs.length) :: st) h Q) : xRun G y d C S pc L (.ref a :: st) h Q := by
  intro p e s m args below meth c ls H locs cells slots mc ms X A
  obtain ⟨h1, h2, h3, h4⟩ := xarr X.2.2.2.2.2.2.2.2.2.1 A.2.1 hq ht
  exact W.alen X.1 X.2.1 h2 h3 (by rw [arrV_size]; rfl) rfl rfl hd (kk p e s m args below meth c ls H locs cells slots mc ms X A)
theorem x_aastoreN5 {i : Int32} {a : Nat} {vs : List Value} (n : Nat) (hd : decode y.2.1 pc = .ok (.aastore, 1)) (hq : h.1 a = some (105, vs)) (hi : i = nI n) (hn : n < vs.length) (hba : G.2.2.1 ≤ a) (kk : xRun G y d C S (pc + 1) L st (xup h a (105, vs.set n .null)) Q) : xRun G y d C S pc L (.null :: .int i :: .ref a :: st) h Q := by
  intro p e s m args below meth c ls H locs cells slots mc ms X A
  obtain ⟨h1, h2, h3, h4⟩ := xarr (t := 5) X.2.2.2.2.2.2.2.2.2.1 A.2.1 hq rfl
  obtain ⟨h7, h8⟩ := xidx hi hn h1 (G.2.1.1 (100 + 5)) (fun j => vs.getD j .null)
  refine va_WaastN X.1 X.2.1 h2 h3 (fun h => by cases h) h7 rfl rfl hd (fun H' e1 e2 e3 => ?_)
  rw [h8] at e1 ⊢
  exact xastep (t := 5) hba hn kk X A h1 H' e1 e2 e3
theorem x_aastore5 {i : Int32} {a b ci : Nat} {vs fs : List Value} {Cn : String} {T : u_T} {N : Nat} (n : Nat) (hd : decode y.2.1 pc = .ok (.aastore, 1)) (hq : h.1 a = some (105, vs)) (hi : i = nI n) (hn : n < vs.length) (hba : G.2.2.1 ≤ a) (hb : h.1 b = some (ci, fs)) (hc : xcl[xkind ci]? = some (Cn, T, N)) (h100 : ci < 100) (hcast : Cond.castable Cn "java/lang/Object" ∈ xnws) (kk : xRun G y d C S (pc + 1) L st (xup h a (105, vs.set n (.ref b))) Q) : xRun G y d C S pc L (.ref b :: .int i :: .ref a :: st) h Q := by
  intro p e s m args below meth c ls H locs cells slots mc ms X A
  obtain ⟨h1, h2, h3, h4⟩ := xarr (t := 5) X.2.2.2.2.2.2.2.2.2.1 A.2.1 hq rfl
  obtain ⟨h7, h8⟩ := xidx hi hn h1 (G.2.1.1 (100 + 5)) (fun j => vs.getD j .null)
  obtain ⟨kA, comp, g1, g2, g3, g4⟩ := h4
  obtain ⟨cell, q1, q2, q3⟩ := (A.2.1.2 b _ hb).kind h100
  obtain ⟨-, hfc, kC, hkC, -⟩ := X.2.2.2.2.2.2.2.2.2.1.1 (xkind ci) _ hc
  obtain ⟨c3, c4, hc3, hc4, hasg⟩ := Cond.castable_spec (va_Nw.use (A := args) rfl (X.2.2.2.2.2.2.2.2.2.2.1 _ hcast))
  cases Option.some.inj (hc3.symm.trans hfc)
  cases Option.some.inj (hc4.symm.trans g3)
  obtain ⟨kcomp, hkcomp, -⟩ := Vm.findClass_spec g3
  refine W.aast X.1 X.2.1 (cv := cell) h2 (fun q h => by cases h) (fun h => by cases h) g1 g2 rfl hkcomp ⟨fun h => h7 (Or.inl h), by have := fun h => h7 (Or.inr h); omega⟩ q1 (fun q h => by rw [q3] at h; cases h) (by rw [q2]; exact hkC) (by rw [q2]; exact hasg) rfl rfl hd (fun H' e1 e2 e3 => ?_)
  rw [h8] at e1 ⊢
  exact xastep (t := 5) hba hn kk X A h1 H' e1 e2 e3
theorem x_aastoreN6 {i : Int32} {a : Nat} {vs : List Value} (n : Nat) (hd : decode y.2.1 pc = .ok (.aastore, 1)) (hq : h.1 a = some (106, vs)) (hi : i = nI n) (hn : n < vs.length) (hba : G.2.2.1 ≤ a) (kk : xRun G y d C S (pc + 1) L st (xup h a (106, vs.set n .null)) Q) : xRun G y d C S pc L (.null :: .int i :: .ref a :: st) h Q := by
  intro p e s m args below meth c ls H locs cells slots mc ms X A
  obtain ⟨h1, h2, h3, h4⟩ := xarr (t := 6) X.2.2.2.2.2.2.2.2.2.1 A.2.1 hq rfl
  obtain ⟨h7, h8⟩ := xidx hi hn h1 (G.2.1.1 (100 + 6)) (fun j => vs.getD j .null)
  refine va_WaastN X.1 X.2.1 h2 h3 (fun h => by cases h) h7 rfl rfl hd (fun H' e1 e2 e3 => ?_)
  rw [h8] at e1 ⊢
  exact xastep (t := 6) hba hn kk X A h1 H' e1 e2 e3
theorem x_aastore6 {i : Int32} {a b ci : Nat} {vs fs : List Value} {Cn : String} {T : u_T} {N : Nat} (n : Nat) (hd : decode y.2.1 pc = .ok (.aastore, 1)) (hq : h.1 a = some (106, vs)) (hi : i = nI n) (hn : n < vs.length) (hba : G.2.2.1 ≤ a) (hb : h.1 b = some (ci, fs)) (hc : xcl[xkind ci]? = some (Cn, T, N)) (h100 : ci < 100) (hcast : Cond.castable Cn "LeaningMarket$Market" ∈ xnws) (kk : xRun G y d C S (pc + 1) L st (xup h a (106, vs.set n (.ref b))) Q) : xRun G y d C S pc L (.ref b :: .int i :: .ref a :: st) h Q := by
  intro p e s m args below meth c ls H locs cells slots mc ms X A
  obtain ⟨h1, h2, h3, h4⟩ := xarr (t := 6) X.2.2.2.2.2.2.2.2.2.1 A.2.1 hq rfl
  obtain ⟨h7, h8⟩ := xidx hi hn h1 (G.2.1.1 (100 + 6)) (fun j => vs.getD j .null)
  obtain ⟨kA, comp, g1, g2, g3, g4⟩ := h4
  obtain ⟨cell, q1, q2, q3⟩ := (A.2.1.2 b _ hb).kind h100
  obtain ⟨-, hfc, kC, hkC, -⟩ := X.2.2.2.2.2.2.2.2.2.1.1 (xkind ci) _ hc
  obtain ⟨c3, c4, hc3, hc4, hasg⟩ := Cond.castable_spec (va_Nw.use (A := args) rfl (X.2.2.2.2.2.2.2.2.2.2.1 _ hcast))
  cases Option.some.inj (hc3.symm.trans hfc)
  cases Option.some.inj (hc4.symm.trans g3)
  obtain ⟨kcomp, hkcomp, -⟩ := Vm.findClass_spec g3
  refine W.aast X.1 X.2.1 (cv := cell) h2 (fun q h => by cases h) (fun h => by cases h) g1 g2 rfl hkcomp ⟨fun h => h7 (Or.inl h), by have := fun h => h7 (Or.inr h); omega⟩ q1 (fun q h => by rw [q3] at h; cases h) (by rw [q2]; exact hkC) (by rw [q2]; exact hasg) rfl rfl hd (fun H' e1 e2 e3 => ?_)
  rw [h8] at e1 ⊢
  exact xastep (t := 6) hba hn kk X A h1 H' e1 e2 e3
end XH
