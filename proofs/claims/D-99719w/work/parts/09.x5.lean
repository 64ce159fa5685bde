set_option maxRecDepth 100000
/-! ===== the x layer, 5: new cells, casts, statics, what is thrown; the invoking instructions ===== -/
section XN
variable {G : xG} {y : xM} {d C S pc : Nat} {L : List (Option Value)} {st : List Value} {h : xH} {Q : xQ}
def xNew (own : String) (idx ci N : Nat) (fs : List Value) : Prop := ∃ (Cn : String) (T : u_T) (ty : Nat → FieldType), xcl[ci]? = some (Cn, T, N) ∧ ci < 50 ∧ (∀ w ∈ u_ws Cn T N, w ∈ lw_all) ∧ (∀ k, k < N → parseFieldDescriptor (T k).2.2.1 = some (ty k)) ∧ Cond.classLink own idx Cn ∈ lw_all ∧ Cond.instantiable Cn N ∈ lw_all ∧ Cond.initialized Cn ∈ lw_all ∧ fs.length = N ∧ ∀ j, j < N → defaultValue (ty j) = vp_V fs j
theorem xpushed {s : State} {H H1 : Heap} {locs : List Loc} {b : Nat} (hS : va_S (fun a => b ≤ a) s.heap H locs) (hz : H1.size = H.size + 1) (ho : ∀ q : Nat, q < H.size → H1[q]? = H[q]?) : va_S (fun a => b ≤ a) s.heap H1 locs :=
  ⟨Nat.le_trans hS.1 (by omega), fun q h1 h2 => (ho q (Nat.lt_of_lt_of_le h1 hS.1)).trans (hS.2.1 q h1 h2), hS.2.2⟩
theorem x_new {idx ci N : Nat} {fs : List Value} (hd : decode y.2.1 pc = .ok (.new idx, 3)) (hf : xNew y.1.cls idx ci N fs) (hC : 1 ≤ C) (hS : N ≤ S) (kk : xRun G y d (C - 1) (S - N) (pc + 3) L (.ref h.2 :: st) (xpu h (ci, fs)) Q) : xRun G y d C S pc L st h Q := by
  intro p e s m args below meth c ls H locs cells slots mc ms X A
  obtain ⟨Cn, T, ty, hc, h50, hin, hty, hcl, hinst, hini, hlen, hfs⟩ := hf
  have X9 := X
  obtain ⟨hx, hb, hr, hlk, hml, hown, hts, htab, hnm, hkn⟩ := X
  obtain ⟨hl, hR, hS0, hc0, hs0⟩ := A
  have hKn := hkn.1.1 ci _ hc
  refine W.newcK hx hb hown (hts _ hcl) (hts _ hinst) (hts _ hini) rfl hd (show cells + 1 ≤ mc by omega) (show slots + N ≤ ms by omega) hKn.2.1 rfl fun H1 kC hkC e1 z1 o1 => ?_
  rw [hR.1] at e1 z1 o1 ⊢
  have hb9 := u_born ty hts hin hKn hkC e1 hty
  refine kk p e s m args below meth c ls H1 locs (cells + 1) (slots + N) mc ms X9 ⟨hl, hR.push (by rw [hR.1]; exact z1) (by rw [hR.1]; exact o1) ?_, xpushed hS0 (by rw [hR.1]; exact z1) (by rw [hR.1]; exact o1), by omega, by omega⟩
  rw [hR.1]
  exact ⟨fun _ => ⟨_, hc, hlen, hb9.to hfs⟩, fun h9 => absurd (show (ci, fs).1 < 100 from Nat.lt_trans h50 (by decide)) h9, fun h9 _ => absurd h9 (Nat.not_le.mpr h50)⟩
theorem xrepl {cA : ClassId} {n : Nat} {v : Value} : arrV cA n (fun _ => v) = arrV cA (List.replicate n v).length (fun j => (List.replicate n v).getD j .null) := by
  rw [List.length_replicate]
  unfold arrV
  congr 1
  apply Array.ext
  · simp
  · intro j h1 h2
    have h3 : j < n := by simpa using h1
    simp [List.getD_eq_getElem?_getD, h3]
theorem x_newarray {atype : ArrayType} {i : Int32} (n t : Nat) (dv : Value) (hd : decode y.2.1 pc = .ok (.newarray atype, 2)) (hty : xaty[t]? = some (newarray.typeOf atype)) (hra : ∀ (s : State) (cA : ClassId), va_RA s cA (newarray.typeOf atype) → s.vm.findClass ("[" ++ (newarray.typeOf atype).toString) = some cA) (hdv : defaultValue (newarray.typeOf atype) = dv) (hw : Cond.arrayClass (newarray.typeOf atype) ∈ lw_all) (hi : i = nI n) (hn : n ≤ 60000) (hcb : componentBytes (newarray.typeOf atype) ≤ 8) (hC : 1 ≤ C) (hS : n ≤ S)
    (kk : xRun G y d (C - 1) (S - n) (pc + 2) L (.ref h.2 :: st) (xpu h (100 + t, List.replicate n dv)) Q) : xRun G y d C S pc L (.int i :: st) h Q := by
  intro p e s m args below meth c ls H locs cells slots mc ms X A
  have X9 := X
  obtain ⟨hx, hb, hr, hlk, hml, hown, hts, htab, hnm, hkn⟩ := X
  obtain ⟨hl, hR, hS0, hc0, hs0⟩ := A
  have h31 : n < 2 ^ 31 := by omega
  have hcl : i.toNatClampNeg = n := by rw [hi, nI_clamp h31]
  have hra9 : s.vm.findClass ("[" ++ (newarray.typeOf atype).toString) = some (G.2.1.1 (100 + t)) := by
    have h3 : (xtys G.2.1)[t]? = some (G.2.1.1 (100 + t), newarray.typeOf atype) := by
      generalize newarray.typeOf atype = ty9 at hty
      match t, hty with
      | 0, ht => cases ht; rfl
      | 1, ht => cases ht; rfl
      | 2, ht => cases ht; rfl
      | 3, ht => cases ht; rfl
      | 4, ht => cases ht; rfl
      | 5, ht => cases ht; rfl
      | 6, ht => cases ht; rfl
      | t + 7, ht => simp [xaty] at ht
    exact hra s _ (hkn.1.2 t _ h3).2
  refine W.newa hx hb (hts _ hw) rfl hd rfl (by rw [hi]; exact nI_pos h31) (by rw [hcl]; exact Nat.le_trans (Nat.mul_le_mul hn hcb) (by decide)) (show cells + 1 ≤ mc by omega) (by rw [hcl]; show slots + n ≤ ms; omega) fun cA kA comp g1 g2 g3 => ?_
  rw [hcl, hdv]
  cases Option.some.inj (g1.symm.trans hra9)
  have hz : (H.push { cls := G.2.1.1 (100 + t), slots := Array.replicate n dv, vm := .none }).size = H.size + 1 := by simp
  have ho : ∀ q : Nat, q < H.size → (H.push { cls := G.2.1.1 (100 + t), slots := Array.replicate n dv, vm := .none })[q]? = H[q]? := fun q hq => by
    rw [Array.getElem?_push_lt hq, Array.getElem?_eq_getElem hq]
  rw [hR.1]
  refine kk p e s m args below meth c ls _ locs (cells + 1) (slots + n) mc ms X9 ⟨hl, hR.push hz ho (xatA (by rw [List.length_replicate]; omega) ?_), xpushed hS0 hz ho, by omega, by omega⟩
  rw [Array.getElem?_push_size, arrV_new, xrepl]
theorem x_anew6 {idx : Nat} {i : Int32} (n : Nat) (hd : decode y.2.1 pc = .ok (.anewarray idx, 3)) (hw : Cond.classLink y.1.cls idx "LeaningMarket$Market" ∈ lw_all) (hi : i = nI n) (hn : n ≤ 60000) (hC : 1 ≤ C) (hS : n ≤ S)
    (kk : xRun G y d (C - 1) (S - n) (pc + 3) L (.ref h.2 :: st) (xpu h (106, List.replicate n .null)) Q) : xRun G y d C S pc L (.int i :: st) h Q := by
  intro p e s m args below meth c ls H locs cells slots mc ms X A
  have X9 := X
  obtain ⟨hx, hb, hr, hlk, hml, hown, hts, htab, hnm, hkn⟩ := X
  obtain ⟨hl, hR, hS0, hc0, hs0⟩ := A
  have h31 : n < 2 ^ 31 := by omega
  have hcl : i.toNatClampNeg = n := by rw [hi, nI_clamp h31]
  obtain ⟨kA9, comp9, r1, r2, r3, r4⟩ := (hkn.1.2 6 (G.2.1.1 106, .object "LeaningMarket$Market") rfl).2
  refine W.anew hx hb hown (hts _ hw) (va_AO.use (hkn.2.2.2.1 "LeaningMarket$Market" (by simp [xaos]))) rfl hd rfl (by rw [hi]; exact nI_pos h31) (by rw [hcl]; omega) (show cells + 1 ≤ mc by omega) (by rw [hcl]; show slots + n ≤ ms; omega) fun cA kA comp g1 g2 g3 g4 => ?_
  rw [hcl]
  cases Option.some.inj (g1.symm.trans r4)
  have hz : (H.push { cls := G.2.1.1 106, slots := Array.replicate n .null, vm := .none }).size = H.size + 1 := by simp
  have ho : ∀ q : Nat, q < H.size → (H.push { cls := G.2.1.1 106, slots := Array.replicate n .null, vm := .none })[q]? = H[q]? := fun q hq => by
    rw [Array.getElem?_push_lt hq, Array.getElem?_eq_getElem hq]
  rw [hR.1]
  refine kk p e s m args below meth c ls _ locs (cells + 1) (slots + n) mc ms X9 ⟨hl, hR.push hz ho (xatA (t := 6) (by rw [List.length_replicate]; omega) ?_), xpushed hS0 hz ho, by omega, by omega⟩
  rw [Array.getElem?_push_size, arrV_new, xrepl]
theorem x_anew5 {idx : Nat} {i : Int32} (n : Nat) (hd : decode y.2.1 pc = .ok (.anewarray idx, 3)) (hw : Cond.classLink y.1.cls idx "java/lang/Object" ∈ lw_all) (hi : i = nI n) (hn : n ≤ 60000) (hC : 1 ≤ C) (hS : n ≤ S)
    (kk : xRun G y d (C - 1) (S - n) (pc + 3) L (.ref h.2 :: st) (xpu h (105, List.replicate n .null)) Q) : xRun G y d C S pc L (.int i :: st) h Q := by
  intro p e s m args below meth c ls H locs cells slots mc ms X A
  have X9 := X
  obtain ⟨hx, hb, hr, hlk, hml, hown, hts, htab, hnm, hkn⟩ := X
  obtain ⟨hl, hR, hS0, hc0, hs0⟩ := A
  have h31 : n < 2 ^ 31 := by omega
  have hcl : i.toNatClampNeg = n := by rw [hi, nI_clamp h31]
  obtain ⟨kA9, comp9, r1, r2, r3, r4⟩ := (hkn.1.2 5 (G.2.1.1 105, .object "java/lang/Object") rfl).2
  refine W.anew hx hb hown (hts _ hw) (va_AO.use (hkn.2.2.2.1 "java/lang/Object" (by simp [xaos]))) rfl hd rfl (by rw [hi]; exact nI_pos h31) (by rw [hcl]; omega) (show cells + 1 ≤ mc by omega) (by rw [hcl]; show slots + n ≤ ms; omega) fun cA kA comp g1 g2 g3 g4 => ?_
  rw [hcl]
  cases Option.some.inj (g1.symm.trans r4)
  have hz : (H.push { cls := G.2.1.1 105, slots := Array.replicate n .null, vm := .none }).size = H.size + 1 := by simp
  have ho : ∀ q : Nat, q < H.size → (H.push { cls := G.2.1.1 105, slots := Array.replicate n .null, vm := .none })[q]? = H[q]? := fun q hq => by
    rw [Array.getElem?_push_lt hq, Array.getElem?_eq_getElem hq]
  rw [hR.1]
  refine kk p e s m args below meth c ls _ locs (cells + 1) (slots + n) mc ms X9 ⟨hl, hR.push hz ho (xatA (t := 5) (by rw [List.length_replicate]; omega) ?_), xpushed hS0 hz ho, by omega, by omega⟩
  rw [Array.getElem?_push_size, arrV_new, xrepl]
/-- casts -/
theorem x_cast {idx a ci : Nat} {fs : List Value} {Cn nm : String} {T : u_T} {N : Nat} (hd : decode y.2.1 pc = .ok (.checkcast idx, 3)) (hq : h.1 a = some (ci, fs)) (hc : xcl[xkind ci]? = some (Cn, T, N)) (h100 : ci < 100) (hl : Cond.classLink y.1.cls idx nm ∈ lw_all) (hcast : Cond.castable Cn nm ∈ xnws) (kk : xRun G y d C S (pc + 3) L (.ref a :: st) h Q) : xRun G y d C S pc L (.ref a :: st) h Q := by
  intro p e s m args below meth c ls H locs cells slots mc ms X A
  obtain ⟨cell, q1, q2, q3⟩ := (A.2.1.2 a _ hq).kind h100
  obtain ⟨-, hfc, -⟩ := X.2.2.2.2.2.2.2.2.2.1.1 _ _ hc
  exact va_castY X.1 X.2.1 X.2.2.2.2.2.1 (X.2.2.2.2.2.2.1 _ hl) (X.2.2.2.2.2.2.2.2.2.2.1 _ hcast) ⟨cell, q1, by rw [q3]; rfl, by rw [q2]; exact hfc⟩ hd (kk p e s m args below meth c ls H locs cells slots mc ms X A)
theorem x_castS {idx a ci : Nat} {fs : List Value} {Cn : String} {T : u_T} {N : Nat} (hd : decode y.2.1 pc = .ok (.checkcast idx, 3)) (hq : h.1 a = some (ci, fs)) (hc : xcl[xkind ci]? = some (Cn, T, N)) (h100 : ci < 100) (hl : Cond.classLink y.1.cls idx Cn ∈ lw_all) (kk : xRun G y d C S (pc + 3) L (.ref a :: st) h Q) : xRun G y d C S pc L (.ref a :: st) h Q := by
  intro p e s m args below meth c ls H locs cells slots mc ms X A
  obtain ⟨cell, q1, q2, q3⟩ := (A.2.1.2 a _ hq).kind h100
  have hca := (X.2.2.2.2.2.2.2.2.2.1.1 _ _ hc).2
  exact va_castS X.1 X.2.1 X.2.2.2.2.2.1 (X.2.2.2.2.2.2.1 _ hl) hca ⟨cell, q1, by rw [q3]; rfl, by rw [q2]; exact hca.1⟩ hd (kk p e s m args below meth c ls H locs cells slots mc ms X A)
theorem x_instS {idx a ci : Nat} {fs : List Value} {Cn : String} {T : u_T} {N : Nat} (hd : decode y.2.1 pc = .ok (.instanceof idx, 3)) (hq : h.1 a = some (ci, fs)) (hc : xcl[xkind ci]? = some (Cn, T, N)) (h100 : ci < 100) (hl : Cond.classLink y.1.cls idx Cn ∈ lw_all) (kk : xRun G y d C S (pc + 3) L (.int 1 :: st) h Q) : xRun G y d C S pc L (.ref a :: st) h Q := by
  intro p e s m args below meth c ls H locs cells slots mc ms X A
  obtain ⟨cell, q1, q2, q3⟩ := (A.2.1.2 a _ hq).kind h100
  have hca := (X.2.2.2.2.2.2.2.2.2.1.1 _ _ hc).2
  exact va_instS X.1 X.2.1 X.2.2.2.2.2.1 (X.2.2.2.2.2.2.1 _ hl) hca ⟨cell, q1, by rw [q3]; rfl, by rw [q2]; exact hca.1⟩ hd (kk p e s m args below meth c ls H locs cells slots mc ms X A)
theorem x_gets {idx : Nat} {Cn n ds ref : String} {v : Value} (hd : decode y.2.1 pc = .ok (.getstatic idx, 3)) (hz : (Cn, n, ds, v) ∈ G.2.2.2.1) (hl : Cond.fieldLink y.1.cls idx ref n ds ∈ lw_all) (hs : ref = Cn ∨ Cond.sameField ref Cn n ds ∈ lw_all) (kk : xRun G y d C S (pc + 3) L (v :: st) h Q) : xRun G y d C S pc L st h Q := by
  intro p e s m args below meth c ls H locs cells slots mc ms X A
  exact va_gets X.1 X.2.1 (X.2.2.2.2.2.2.2.2.2.2.2.2.2.1 _ hz) A.2.2.1 X.2.2.2.2.2.1 (X.2.2.2.2.2.2.1 _ hl) (xFld.same X.2.2.2.2.2.2.1 hs) hd (kk p e s m args below meth c ls H locs cells slots mc ms X A)
theorem x_athrow {q : Nat} (hd : decode y.2.1 pc = .ok (.athrow, 1)) (kk : xThr G y d C S pc L st h q Q) : xRun G y d C S pc L (.ref q :: st) h Q := by
  intro p e s m args below meth c ls H locs cells slots mc ms X A
  exact vx_athrow X.1 X.2.1 hd (kk p e s m args below meth c ls H locs cells slots mc ms X A)
theorem x_objInit {idx a : Nat} (hd : decode y.2.1 pc = .ok (.invokespecial idx, 3)) (hl : Cond.methodLink y.1.cls idx Lib.objectInit ∈ lw_all) (h2 : Cond.instanceMethod Lib.objectInit ∈ lw_all) (h3 : Cond.code Lib.objectInit ⟨#[0xb1]⟩ 1 none ∈ lw_all) (hdd : 1 ≤ d) (hs : (st.map fun v => v.category).sum ≤ 8) (kk : xRun G y d C S (pc + 3) L st h Q) : xRun G y d C S pc L (.ref a :: st) h Q := by
  intro p e s m args below meth c ls H locs cells slots mc ms X A
  refine W.objInit X.1 X.2.1 X.2.2.2.2.2.1 (X.2.2.2.2.2.2.1 _ hl) (X.2.2.2.2.2.2.1 _ h2) (X.2.2.2.2.2.2.1 _ h3) rfl (by rw [X.2.2.2.2.1]; exact A.1.1) rfl hd hdd ?_ (kk p e s m args below meth c ls H locs cells slots mc ms X A)
  show 2 * (F0 m pc ls (.ref a :: st)).monitorRoom + (st.map fun v => v.category).sum + 12 ≤ 64 * d
  have e0 : (F0 m pc ls (.ref a :: st)).monitorRoom = 0 := rfl
  omega
end XN
