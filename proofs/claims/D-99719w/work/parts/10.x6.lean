set_option maxRecDepth 100000
/-! ===== the x layer, 6: the invoking instructions; copies; grids; 'throw new E()' ===== -/
theorem xw_named {y : xM} {args : Array Value} {s : State} (h : (xw y).before args s = true) : ∃ (m : MethodId) (meth : Method), s.methodNamed? y.1 = some m ∧ s.vm.method? m = some meth ∧ parseMethodDescriptor y.1.desc = some meth.sig := by
  obtain ⟨n, cc, mL, rt, hh⟩ := y
  cases hh with
  | nil =>
    have h9 : (Cond.code n cc mL rt).before args s = true := h
    obtain ⟨mk, hnamed⟩ := Cond.code_named h9
    obtain ⟨meth, c, h1, h2, h3, h4, h5, h6, h7, h8⟩ := Cond.code_spec hnamed h9
    exact ⟨mk, meth, hnamed, h1, h8⟩
  | cons q qs =>
    have h9 : (Cond.codeWith n cc mL rt (q :: qs)).before args s = true := h
    obtain ⟨m9, meth, c, hn9, h1, h2, h3, h4, h6, h5, h7, h8⟩ := Cond.codeWith_spec h9
    exact ⟨m9, meth, hn9, h1, h8⟩
theorem xlen {z : MethodName} {sig : MethodDescriptor} {n : Nat} (hs : parseMethodDescriptor z.desc = some sig) (hn : (parseMethodDescriptor z.desc).map (fun d => d.parameters.length) = some n) : n = sig.parameters.length := by
  rw [hs] at hn
  exact (Option.some.inj hn).symm
def xMHV (z : MethodName) : Prop := z.cls ≠ "java/lang/invoke/MethodHandle" ∧ z.cls ≠ "java/lang/invoke/VarHandle"
section XD
variable {G : xG} {y z : xM} {pc idx : Nat} {h : xH} {as rest st0 : List Value}
theorem xd_S (hd : decode y.2.1 pc = .ok (.invokestatic idx, 3)) (hl : Cond.methodLink y.1.cls idx z.1 ∈ lw_all) (hs : Cond.static z.1 ∈ lw_all) (hini : Cond.initialized z.1.cls ∈ lw_all) (hz : xw z ∈ lw_all) (hy : xMHV z.1) (hn : (parseMethodDescriptor z.1.desc).map (fun d => d.parameters.length) = some as.length) (h0 : st0 = as.reverse ++ rest) : xDisp G y pc st0 h z.1 as rest 3 := by
  refine ⟨⟨_, hd⟩, ?_⟩
  intro p e R s m args below meth c ls H locs cells slots T hctx hrel hsz hT X
  obtain ⟨hx, hb, hr, hlk, hml, hown, hts, htab, hnm, hkn⟩ := hctx
  obtain ⟨mk, methM, hnamed, hmethM, hsigM⟩ := xw_named (hts _ hz)
  have hstatic : methM.isStatic = true := Cond.static_spec hnamed hmethM (hts _ hs)
  obtain ⟨kP, hkP, -⟩ := className_of_methodNamed hnamed
  have hinitP : kP.init = .initialized := Cond.initialized_spec (findClass_of_methodNamed hnamed) hkP (hts _ hini)
  obtain ⟨vm₁, X₁, hstep₁⟩ := X.invokestatic hx hown (hts _ hl) hnamed hmethM hstatic hkP hinitP hy (g := F0 m pc ls st0) rfl (argsL := as) (rest := rest) (xlen hsigM hn) h0 (by rw [hb]; exact hd)
  exact ⟨vm₁, mk, X₁, X₁.named hnamed, fun target h9 => hstep₁ _ fun acts => by rw [doInvoke_state]; exact h9⟩
theorem xd_SN {host : String} (hd : decode y.2.1 pc = .ok (.invokestatic idx, 3)) (hl : Cond.methodLinkNest y.1.cls idx z.1 host ∈ xnws) (hs : Cond.static z.1 ∈ lw_all) (hini : Cond.initialized z.1.cls ∈ lw_all) (hz : xw z ∈ lw_all) (hy : xMHV z.1) (hn : (parseMethodDescriptor z.1.desc).map (fun d => d.parameters.length) = some as.length) (h0 : st0 = as.reverse ++ rest) : xDisp G y pc st0 h z.1 as rest 3 := by
  refine ⟨⟨_, hd⟩, ?_⟩
  intro p e R s m args below meth c ls H locs cells slots T hctx hrel hsz hT X
  obtain ⟨hx, hb, hr, hlk, hml, hown, hts, htab, hnm, hkn⟩ := hctx
  obtain ⟨mk, methM, hnamed, hmethM, hsigM⟩ := xw_named (hts _ hz)
  have hstatic : methM.isStatic = true := Cond.static_spec hnamed hmethM (hts _ hs)
  obtain ⟨kP, hkP, -⟩ := className_of_methodNamed hnamed
  have hinitP : kP.init = .initialized := Cond.initialized_spec (findClass_of_methodNamed hnamed) hkP (hts _ hini)
  obtain ⟨vm₁, X₁, hstep₁⟩ := X.invokestaticNest hx hown (va_Nw.use rfl (hkn.2.1 _ hl)) hnamed hmethM hstatic hkP hinitP hy (g := F0 m pc ls st0) rfl (argsL := as) (rest := rest) (xlen hsigM hn) h0 (by rw [hb]; exact hd)
  exact ⟨vm₁, mk, X₁, X₁.named hnamed, fun target h9 => hstep₁ _ fun acts => by rw [doInvoke_state]; exact h9⟩
/-- the receiver: an object of number ci -/
theorem xrecv {G : xG} {s : State} {H : Heap} {h : xH} {b ci : Nat} {fs : List Value} {Cn : String} {T : u_T} {N : Nat} (hkn : xKn G s s.heap) (hR : xRel G.2.1 h H) (hb : h.1 b = some (ci, fs)) (hc : xcl[xkind ci]? = some (Cn, T, N)) (h100 : ci < 100) : ∃ cell : Cell, H[b]? = some cell ∧ cell.vm.isStatics = false ∧ s.vm.findClass Cn = some cell.cls ∧ ∃ kC : Class, s.vm.classes[cell.cls]? = some kC := by
  obtain ⟨cell, q1, q2, q3⟩ := (hR.2 b _ hb).kind h100
  obtain ⟨-, hfc, kC, hkC, -⟩ := hkn.1.1 _ _ hc
  exact ⟨cell, q1, by rw [q3]; rfl, by rw [q2]; exact hfc, kC, by rw [q2]; exact hkC⟩
theorem xd_V {b ci : Nat} {fs : List Value} {Cn : String} {T : u_T} {N : Nat} (hd : decode y.2.1 pc = .ok (.invokevirtual idx, 3)) (hl : Cond.methodLink y.1.cls idx z.1 ∈ lw_all) (hi : Cond.instanceMethod z.1 ∈ lw_all) (hs : Cond.selects Cn z.1 z.1 ∈ lw_all) (hz : xw z ∈ lw_all) (hy : xMHV z.1) (hn : (parseMethodDescriptor z.1.desc).map (fun d => d.parameters.length) = some as.length)
    (hb : h.1 b = some (ci, fs)) (hc : xcl[xkind ci]? = some (Cn, T, N)) (h100 : ci < 100) (h0 : st0 = as.reverse ++ .ref b :: rest) : xDisp G y pc st0 h z.1 (.ref b :: as) rest 3 := by
  refine ⟨⟨_, hd⟩, ?_⟩
  intro p e R s m args below meth c ls H locs cells slots T hctx hrel hsz hT X
  obtain ⟨hx, hb9, hr, hlk, hml, hown, hts, htab, hnm, hkn⟩ := hctx
  obtain ⟨cellB, hcB, hoB, hclB, kB, hkB⟩ := xrecv hkn hrel hb hc h100
  obtain ⟨mk, methM, hnamed, hmethM, hstM, habM⟩ := Cond.instanceMethod_spec (hts _ hi)
  obtain ⟨mk', methM', hnamed', hmethM', hsigM⟩ := xw_named (hts _ hz)
  cases hnamed.symm.trans hnamed'
  cases hmethM.symm.trans hmethM'
  obtain ⟨c2, r2, m2, q1, q2, q3, q4, kP, hkP, hkPi⟩ := Cond.selects_spec (hts _ hs)
  cases hclB.symm.trans q1
  cases (State.methodFound?_of_named hnamed hy).symm.trans q2
  cases hnamed.symm.trans q3
  have hselP : selectMethod e.platform s.vm cellB.cls mk = .method mk := by rw [Launch.admits_selectMethod X.admits]; exact q4
  obtain ⟨vm₁, X₁, hstep₁⟩ := X.invokevirtual hx hown (hts _ hl) hnamed hmethM hstM hkP hkPi hy (a := b) (cell := cellB) (by rw [hT]; exact hcB)
    (fun z h => by rw [h] at hoB; cases hoB) hselP hmethM habM hkP hkPi (g := F0 m pc ls st0) rfl (argsL := as) (rest := rest) (xlen hsigM hn) h0 (by rw [hb9]; exact hd)
  exact ⟨vm₁, mk, X₁, X₁.named hnamed, fun target h9 => hstep₁ _ fun acts => by rw [doInvoke_state]; exact h9⟩
theorem xd_VN {host : String} {b ci : Nat} {fs : List Value} {Cn : String} {T : u_T} {N : Nat} (hd : decode y.2.1 pc = .ok (.invokevirtual idx, 3)) (hl : Cond.methodLinkNest y.1.cls idx z.1 host ∈ xnws) (hi : Cond.instanceMethod z.1 ∈ lw_all) (hs : Cond.selects Cn z.1 z.1 ∈ lw_all) (hz : xw z ∈ lw_all) (hy : xMHV z.1) (hn : (parseMethodDescriptor z.1.desc).map (fun d => d.parameters.length) = some as.length)
    (hb : h.1 b = some (ci, fs)) (hc : xcl[xkind ci]? = some (Cn, T, N)) (h100 : ci < 100) (h0 : st0 = as.reverse ++ .ref b :: rest) : xDisp G y pc st0 h z.1 (.ref b :: as) rest 3 := by
  refine ⟨⟨_, hd⟩, ?_⟩
  intro p e R s m args below meth c ls H locs cells slots T hctx hrel hsz hT X
  obtain ⟨hx, hb9, hr, hlk, hml, hown, hts, htab, hnm, hkn⟩ := hctx
  obtain ⟨cellB, hcB, hoB, hclB, kB, hkB⟩ := xrecv hkn hrel hb hc h100
  obtain ⟨mk, methM, hnamed, hmethM, hstM, habM⟩ := Cond.instanceMethod_spec (hts _ hi)
  obtain ⟨mk', methM', hnamed', hmethM', hsigM⟩ := xw_named (hts _ hz)
  cases hnamed.symm.trans hnamed'
  cases hmethM.symm.trans hmethM'
  obtain ⟨c2, r2, m2, q1, q2, q3, q4, kP, hkP, hkPi⟩ := Cond.selects_spec (hts _ hs)
  cases hclB.symm.trans q1
  cases (State.methodFound?_of_named hnamed hy).symm.trans q2
  cases hnamed.symm.trans q3
  have hselP : selectMethod e.platform s.vm cellB.cls mk = .method mk := by rw [Launch.admits_selectMethod X.admits]; exact q4
  obtain ⟨vm₁, X₁, hstep₁⟩ := X.invokevirtualNest hx hown (va_Nw.use rfl (hkn.2.1 _ hl)) hnamed hmethM hstM hkP hkPi hy (a := b) (cell := cellB) (by rw [hT]; exact hcB)
    (fun z h => by rw [h] at hoB; cases hoB) hselP hmethM habM hkP hkPi (g := F0 m pc ls st0) rfl (argsL := as) (rest := rest) (xlen hsigM hn) h0 (by rw [hb9]; exact hd)
  exact ⟨vm₁, mk, X₁, X₁.named hnamed, fun target h9 => hstep₁ _ fun acts => by rw [doInvoke_state]; exact h9⟩
/-- an inherited, an overriding, or an abstract method's call: x is what the pool names, owner declares it, z is what runs -/
theorem xd_U {x : MethodName} {owner : String} {b ci : Nat} {fs : List Value} {Cn : String} {T : u_T} {N : Nat} (hd : decode y.2.1 pc = .ok (.invokevirtual idx, 3)) (hl : Cond.methodLink y.1.cls idx x ∈ lw_all) (hsm : Cond.sameMethod x.cls owner x.name x.desc ∈ lw_all) (hdec : (∃ zo : xM, zo.1 = ⟨owner, x.name, x.desc⟩ ∧ Cond.instanceMethod zo.1 ∈ lw_all ∧ xw zo ∈ lw_all) ∨ Cond.declares ⟨owner, x.name, x.desc⟩ ∈ xnws) (hi : Cond.instanceMethod z.1 ∈ lw_all) (hs : Cond.selects Cn x z.1 ∈ lw_all) (hz : xw z ∈ lw_all) (hy : owner ≠ "java/lang/invoke/MethodHandle" ∧ owner ≠ "java/lang/invoke/VarHandle") (hn : (parseMethodDescriptor x.desc).map (fun d => d.parameters.length) = some as.length)
    (hb : h.1 b = some (ci, fs)) (hc : xcl[xkind ci]? = some (Cn, T, N)) (h100 : ci < 100) (h0 : st0 = as.reverse ++ .ref b :: rest) : xDisp G y pc st0 h z.1 (.ref b :: as) rest 3 := by
  refine ⟨⟨_, hd⟩, ?_⟩
  intro p e R s m args below meth c ls H locs cells slots T hctx hrel hsz hT X
  obtain ⟨hx, hb9, hr, hlk, hml, hown, hts, htab, hnm, hkn⟩ := hctx
  obtain ⟨cellB, hcB, hoB, hclB, kB, hkB⟩ := xrecv hkn hrel hb hc h100
  have hdec9 : va_Decl s ⟨owner, x.name, x.desc⟩ := by
    rcases hdec with h9 | h9
    · obtain ⟨zo, e9, h10, h11⟩ := h9
      obtain ⟨mk, methM, hnamed, hmethM, hstM, habM⟩ := Cond.instanceMethod_spec (hts _ h10)
      obtain ⟨mk', methM', hnamed', hmethM', hsigM⟩ := xw_named (hts _ h11)
      cases hnamed.symm.trans hnamed'
      cases hmethM.symm.trans hmethM'
      rw [e9] at hnamed hsigM
      exact ⟨mk, methM, hnamed, hmethM, hstM, hsigM⟩
    · exact va_Decl.abs (hkn.2.1 _ h9)
  obtain ⟨r0, r, hn0, hrm, hstR, hsigR⟩ := hdec9
  obtain ⟨cn, ck, r1, hcn, hck, hni, hf, hn1⟩ := Cond.sameMethod_found (hts _ hsm)
  cases hn0.symm.trans hn1
  obtain ⟨mk, methM, hnamed, hmethM, -, habM⟩ := Cond.instanceMethod_spec (hts _ hi)
  obtain ⟨c2, r2, m2, q1, q2, q3, q4, kP, hkP, hkPi⟩ := Cond.selects_spec (hts _ hs)
  cases hclB.symm.trans q1
  cases hf.symm.trans q2
  cases hnamed.symm.trans q3
  have hselP : selectMethod e.platform s.vm cellB.cls r0 = .method mk := by rw [Launch.admits_selectMethod X.admits]; exact q4
  obtain ⟨vm₁, X₁, hstep₁⟩ := X.invokevirtualUp hx hown (hts _ hl) (hts _ hsm) hy hn0 hrm hstR (a := b) (cell := cellB) (by rw [hT]; exact hcB)
    (fun z h => by rw [h] at hoB; cases hoB) hselP hmethM habM hkP hkPi (g := F0 m pc ls st0) rfl (argsL := as) (rest := rest) (xlen (z := ⟨owner, x.name, x.desc⟩) hsigR hn) h0 (by rw [hb9]; exact hd)
  exact ⟨vm₁, mk, X₁, X₁.named hnamed, fun target h9 => hstep₁ _ fun acts => by rw [doInvoke_state]; exact h9⟩
theorem xd_I {b : Nat} (hd : decode y.2.1 pc = .ok (.invokespecial idx, 3)) (hl : Cond.methodLink y.1.cls idx z.1 ∈ lw_all) (hi : Cond.instanceMethod z.1 ∈ lw_all) (hz : Cond.code z.1 z.2.1 z.2.2.1 none ∈ lw_all) (hy : xMHV z.1) (hn1 : z.1.name = "<init>") (hn : (parseMethodDescriptor z.1.desc).map (fun d => d.parameters.length) = some as.length) (h0 : st0 = as.reverse ++ .ref b :: rest) : xDisp G y pc st0 h z.1 (.ref b :: as) rest 3 := by
  refine ⟨⟨_, hd⟩, ?_⟩
  intro p e R s m args below meth c ls H locs cells slots T hctx hrel hsz hT X
  obtain ⟨hx, hb9, hr, hlk, hml, hown, hts, htab, hnm, hkn⟩ := hctx
  have hpl : e.platform.magicAccessors = ({} : Platform).magicAccessors := by rw [X.admits.platform]
  obtain ⟨mk, methM, cM, kP, vm₁, hnamed, hmethM, hcodeM, -, hlocalsM, -, hkP, -, hW₁, hstep₁⟩ := Steps.initColdArgs (e := e) X.here hx X.warmed hpl hown hn1 hy (hts _ hl) (hts _ hi) (hts _ hz) (f := F0 m pc ls st0) rfl (argsL := as) (rest := rest) (fun sig hsig => xlen hsig hn) h0 (by rw [hb9]; exact hd)
  have X₁ := X.noted hW₁
  exact ⟨vm₁, mk, X₁, X₁.named hnamed, fun target h9 => hstep₁ _ fun acts => by rw [doInvoke_state]; exact h9⟩
theorem xd_IN {host : String} {b : Nat} (hd : decode y.2.1 pc = .ok (.invokespecial idx, 3)) (hl : Cond.methodLinkNest y.1.cls idx z.1 host ∈ xnws) (hi : Cond.instanceMethod z.1 ∈ lw_all) (hz : Cond.code z.1 z.2.1 z.2.2.1 none ∈ lw_all) (hy : xMHV z.1) (hn1 : z.1.name = "<init>") (hn : (parseMethodDescriptor z.1.desc).map (fun d => d.parameters.length) = some as.length) (h0 : st0 = as.reverse ++ .ref b :: rest) : xDisp G y pc st0 h z.1 (.ref b :: as) rest 3 := by
  refine ⟨⟨_, hd⟩, ?_⟩
  intro p e R s m args below meth c ls H locs cells slots T hctx hrel hsz hT X
  obtain ⟨hx, hb9, hr, hlk, hml, hown, hts, htab, hnm, hkn⟩ := hctx
  have hpl : e.platform.magicAccessors = ({} : Platform).magicAccessors := by rw [X.admits.platform]
  obtain ⟨mk, methM, cM, kP, vm₁, hnamed, hmethM, hcodeM, -, hlocalsM, -, hkP, -, hW₁, hstep₁⟩ := Steps.initColdArgsNest (e := e) X.here hx X.warmed hpl hown hn1 hy (va_Nw.use rfl (hkn.2.1 _ hl)) (hts _ hi) (hts _ hz) (f := F0 m pc ls st0) rfl (argsL := as) (rest := rest) (fun sig hsig => xlen hsig hn) h0 (by rw [hb9]; exact hd)
  have X₁ := X.noted hW₁
  exact ⟨vm₁, mk, X₁, X₁.named hnamed, fun target h9 => hstep₁ _ fun acts => by rw [doInvoke_state]; exact h9⟩
theorem xd_SU {b ci : Nat} {fs : List Value} {Cn : String} {T : u_T} {N : Nat} (hd : decode y.2.1 pc = .ok (.invokespecial idx, 3)) (hl : Cond.methodLink y.1.cls idx z.1 ∈ lw_all) (hsm : Cond.sameMethod z.1.cls z.1.cls z.1.name z.1.desc ∈ lw_all) (hsup : Cond.superclass y.1.cls z.1.cls ∈ lw_all) (hi : Cond.instanceMethod z.1 ∈ lw_all) (hz : xw z ∈ lw_all) (hno : z.1.name ≠ "<init>") (hn : (parseMethodDescriptor z.1.desc).map (fun d => d.parameters.length) = some as.length)
    (hb : h.1 b = some (ci, fs)) (hc : xcl[xkind ci]? = some (Cn, T, N)) (h100 : ci < 100) (h0 : st0 = as.reverse ++ .ref b :: rest) : xDisp G y pc st0 h z.1 (.ref b :: as) rest 3 := by
  refine ⟨⟨_, hd⟩, ?_⟩
  intro p e R s m args below meth c ls H locs cells slots T hctx hrel hsz hT X
  obtain ⟨hx, hb9, hr, hlk, hml, hown, hts, htab, hnm, hkn⟩ := hctx
  obtain ⟨cellB, hcB, hoB, hclB, kB, hkB⟩ := xrecv hkn hrel hb hc h100
  obtain ⟨mk, methM, hnamed, hmethM, hstM, habM⟩ := Cond.instanceMethod_spec (hts _ hi)
  obtain ⟨mk', methM', hnamed', hmethM', hsigM⟩ := xw_named (hts _ hz)
  cases hnamed.symm.trans hnamed'
  cases hmethM.symm.trans hmethM'
  obtain ⟨ps, dk, kp, hps, hdk, hkp, hsuper, -, -, hnid⟩ := Cond.superclass_spec hown (hts _ hsup)
  have hn0 : s.methodNamed? ⟨z.1.cls, z.1.name, z.1.desc⟩ = some mk := hnamed
  have hpm : ps = mk.cls := Option.some.inj (hps.symm.trans (findClass_of_methodNamed hnamed))
  have hsub : s.vm.isSubclass ps mk.cls = true := by rw [hpm]; simp [Vm.isSubclass, Vm.isSubclassAux]
  obtain ⟨vm₁, X₁, hstep₁⟩ := X.invokespecialUp hx hown (hts _ hl) (hts _ hsm) hn0 hmethM hstM habM hno hdk hnid hps hsuper hsub (a := b) (cell := cellB) (by rw [hT]; exact hcB)
    (fun z h => by rw [h] at hoB; cases hoB) hkB (g := F0 m pc ls st0) rfl (argsL := as) (rest := rest) (xlen hsigM hn) h0 (by rw [hb9]; exact hd)
  exact ⟨vm₁, mk, X₁, X₁.named hnamed, fun target h9 => hstep₁ _ (by rw [doInvoke_state]; exact h9)⟩
end XD
section XC
variable {G : xG} {y : xM} {d C S pc : Nat} {L : List (Option Value)} {st : List Value} {h : xH} {Q : xQ}
/-- the elements of an array behind a copy -/
def xcpy (vs ws : List Value) (sp dp n : Nat) : List Value := ws.take dp ++ ((vs.drop sp).take n ++ ws.drop (dp + n))
theorem xcpy_len {vs ws : List Value} {sp dp n : Nat} (h4 : sp + n ≤ vs.length) (h5 : dp + n ≤ ws.length) : (xcpy vs ws sp dp n).length = ws.length := by
  simp [xcpy]; omega
theorem xcpy_get {vs ws : List Value} {sp dp n j : Nat} (h4 : sp + n ≤ vs.length) (h5 : dp + n ≤ ws.length) : (xcpy vs ws sp dp n).getD j .null = va_cpy (fun j => vs.getD j .null) (fun j => ws.getD j .null) sp dp n j := by
  unfold xcpy va_cpy
  simp only [List.getD_eq_getElem?_getD]
  by_cases h1 : j < dp
  · rw [if_neg (by omega), List.getElem?_append_left (by simp; omega), List.getElem?_take, if_pos h1]
  · rw [List.getElem?_append_right (by simp; omega)]
    have e1 : (ws.take dp).length = dp := by simp; omega
    rw [e1]
    by_cases h2 : j < dp + n
    · rw [if_pos ⟨by omega, h2⟩, List.getElem?_append_left (by simp; omega), List.getElem?_take, if_pos (by omega), List.getElem?_drop]
    · rw [if_neg (by omega), List.getElem?_append_right (by simp; omega)]
      have e2 : ((vs.drop sp).take n).length = n := by simp; omega
      rw [e2, List.getElem?_drop]
      congr 2
      omega
set_option maxHeartbeats 1000000 in
theorem x_copy {idx a b t : Nat} {vs ws : List Value} {ty : FieldType} {sp dp n : Int32} (sp' dp' n' : Nat) (hd : decode y.2.1 pc = .ok (.invokestatic idx, 3)) (hl : Cond.methodLink y.1.cls idx arraycopyName ∈ lw_all) (hnat : Cond.native arraycopyName ∈ lw_all) (hstat : Cond.static arraycopyName ∈ lw_all) (hini : Cond.initialized "java/lang/System" ∈ lw_all)
    (ha : h.1 a = some (100 + t, vs)) (hb : h.1 b = some (100 + t, ws)) (ht : xaty[t]? = some ty) (e1 : sp = nI sp') (e2 : dp = nI dp') (e3 : n = nI n') (h4 : sp' + n' ≤ vs.length) (h5 : dp' + n' ≤ ws.length) (hba : G.2.2.1 ≤ b)
    (hv : ∀ i, i < n' → fits ty (vs.getD (sp' + i) .null) = true ∧ (refKind ty = true → ty = .object "java/lang/Object" ∧ (vs.getD (sp' + i) .null = .null ∨ ∃ (q ci : Nat) (fs : List Value) (Cn : String) (T : u_T) (N : Nat), vs.getD (sp' + i) .null = .ref q ∧ h.1 q = some (ci, fs) ∧ xcl[xkind ci]? = some (Cn, T, N) ∧ ci < 100 ∧ Cond.castable Cn "java/lang/Object" ∈ xnws)))
    (hdd : 1 ≤ d) (hst : (st.map fun v => v.category).sum ≤ 8) (kk : xRun G y d C S (pc + 3) L st (xup h b (100 + t, xcpy vs ws sp' dp' n')) Q) : xRun G y d C S pc L (.int n :: .int dp :: .ref b :: .int sp :: .ref a :: st) h Q := by
  intro p e s m args below meth c ls H locs cells slots mc ms X A
  have X9 := X
  obtain ⟨hx, hb9, hr, hlk, hml, hown, hts, htab, hnm, hkn⟩ := X
  obtain ⟨u1, u2, u3, u4⟩ := xarr hkn.1 A.2.1 ha ht
  obtain ⟨v1, v2, v3, v4⟩ := xarr hkn.1 A.2.1 hb ht
  have s31 : sp' < 2 ^ 31 := by omega
  have d31 : dp' < 2 ^ 31 := by omega
  have n31 : n' < 2 ^ 31 := by omega
  obtain ⟨-, k0, hk0, cm0, hkk0⟩ := u3
  obtain ⟨-, k1, hk1, cm1, hkk1⟩ := v3
  intro T hT X
  obtain ⟨vm', X', step⟩ := X.arraycopy hx hown (hts _ hl) (hts _ hnat) (hts _ hstat) (hts _ hini) (src := a) (dst := b) (cs := arrV (G.2.1.1 (100 + t)) vs.length (fun j => vs.getD j .null)) (cd := arrV (G.2.1.1 (100 + t)) ws.length (fun j => ws.getD j .null)) (srcPos := sp) (destPos := dp) (n := n) (by rw [hT]; exact u2) (by rw [hT]; exact v2)
    (fun _ h => by cases h) (fun _ h => by cases h) (fun h => by cases h) (fun h => by cases h) hk0 hk1 hkk0 hkk1 (by simp) (by rw [e1]; exact nI_pos s31) (by rw [e2]; exact nI_pos d31) (by rw [e3]; exact nI_pos n31)
    (by rw [e1, e3, nI_toInt s31, nI_toInt n31, arrV_size]; omega) (by rw [e2, e3, nI_toInt d31, nI_toInt n31, arrV_size]; omega)
    (fun vm₁ hal i hi => by
      rw [e3, nI_clamp n31] at hi
      rw [e1, nI_clamp s31]
      have e : (arrV (G.2.1.1 (100 + t)) vs.length (fun j => vs.getD j .null)).slots.getD (sp' + i) .null = vs.getD (sp' + i) .null := by
        rw [Array.getD_eq_getD_getElem?, arrV_read _ _ (by omega)]
        rfl
      rw [e]
      obtain ⟨w1, w2⟩ := hv i hi
      refine ⟨w1, ?_⟩
      by_cases hk : refKind ty = true
      · obtain ⟨hty, w3⟩ := w2 hk
        subst hty
        rcases w3 with w3 | ⟨q, ci, fs, Cn, T9, N, w3, w4, w5, w6, w7⟩
        · rw [w3]; exact trivial
        · rw [w3]
          obtain ⟨cellV, g1, g2, g3, kV, hkV⟩ := xrecv hkn A.2.1 w4 w5 w6
          obtain ⟨kA, comp, r1, r2, r3, -⟩ := v4
          cases hk1.symm.trans r1
          cases hkk1.symm.trans r2
          obtain ⟨kE, hkE, -⟩ := Vm.findClass_spec r3
          obtain ⟨kC', hkC', -⟩ := hal.2.2 _ _ hkV
          obtain ⟨kE', hkE', -⟩ := hal.2.2 _ _ hkE
          obtain ⟨c3, c4, hc3, hc4, hasg⟩ := Cond.castable_spec (va_Nw.use (A := args) rfl (hkn.2.1 _ w7))
          cases Option.some.inj (hc3.symm.trans g3)
          cases Option.some.inj (hc4.symm.trans r3)
          refine ⟨cellV, (show T.heap[q]? = some cellV by rw [hT]; exact g1), (fun q h => by rw [h] at g2; cases g2), ⟨kC', hkC'⟩, ⟨kE', hkE'⟩, ?_⟩
          show vm₁.assignable _ _ = true
          rw [hal.assignable]
          exact hasg
      · have hprim : ∀ v : Value, fits ty v = true → refKind ty = false → (T.setVm vm₁).takes cm1 v := by
          intro v h1 h2
          cases v <;> first | trivial | (cases ty <;> simp [fits, refKind] at h1 h2)
        exact hprim _ w1 (by simpa using hk))
    (g := F0 m pc ls (.int n :: .int dp :: .ref b :: .int sp :: .ref a :: st)) rfl (by rw [hml]; exact A.1.1) (rest := st) rfl (by rw [hb9]; exact hd) hdd (by show 2 * 0 + _ + (5 + 2 + 11) ≤ 64 * d; omega)
  have e9 : copied (arrV (G.2.1.1 (100 + t)) vs.length (fun j => vs.getD j .null)) (arrV (G.2.1.1 (100 + t)) ws.length (fun j => ws.getD j .null)) sp dp n = arrV (G.2.1.1 (100 + t)) (xcpy vs ws sp' dp' n').length (fun j => (xcpy vs ws sp' dp' n').getD j .null) := by
    have h9 := va_copied (fun z : Value => z) (G.2.1.1 (100 + t)) (G.2.1.1 (100 + t)) (n1 := ws.length) (dp := dp') (fun j => vs.getD j .null) (fun j => ws.getD j .null) h4
    unfold copied
    rw [e1, e2, e3, nI_clamp s31, nI_clamp d31, nI_clamp n31]
    rw [h9, xcpy_len h4 h5]
    congr 1
    funext j
    rw [xcpy_get h4 h5]
  rw [e9] at X' step
  have hlt : b < H.size := (Array.getElem?_eq_some_iff.mp v2).1
  have hheap : ((T.setVm vm').setCell b (arrV (G.2.1.1 (100 + t)) (xcpy vs ws sp' dp' n').length (fun j => (xcpy vs ws sp' dp' n').getD j .null))).heap = H.setIfInBounds b (arrV (G.2.1.1 (100 + t)) (xcpy vs ws sp' dp' n').length (fun j => (xcpy vs ws sp' dp' n').getD j .null)) := by rw [← hT]; rfl
  have oq : ∀ q : Nat, q ≠ b → (H.setIfInBounds b (arrV (G.2.1.1 (100 + t)) (xcpy vs ws sp' dp' n').length (fun j => (xcpy vs ws sp' dp' n').getD j .null)))[q]? = H[q]? := fun q hq => by simp [Array.getElem?_setIfInBounds, Ne.symm hq]
  have hz : (H.setIfInBounds b (arrV (G.2.1.1 (100 + t)) (xcpy vs ws sp' dp' n').length (fun j => (xcpy vs ws sp' dp' n').getD j .null))).size = H.size := by simp
  obtain ⟨t9, a1, b1⟩ := kk p e s m args below meth c ls _ _ cells slots mc ms X9 ⟨A.1, A.2.1.up hz oq (xatA (by rw [xcpy_len h4 h5]; exact v1) (by simp [Array.getElem?_setIfInBounds, hlt])), ⟨by rw [hz]; exact A.2.2.1.1, fun q g1 g2 => by
      rw [oq q (fun e => g2 (by rw [e]; exact hba))]
      exact A.2.2.1.2.1 q g1 g2, fun q hq => by
      rcases List.mem_append.mp hq with h | h
      · exact A.2.2.1.2.2 q h
      · obtain ⟨z, -, hz⟩ := List.mem_map.mp h
        rw [← hz]
        exact hba⟩, A.2.2.2⟩ _ hheap X'
  exact ⟨t9, step t9 a1, b1⟩
end XC
section XT
variable {G : xG} {y : xM} {d C S pc : Nat} {L : List (Option Value)} {st : List Value} {h : xH} {Q : xQ}
/-- a grid of n rows of m ints -/
def xgrid (h : xH) (n m : Nat) : xH := (fun q => if q = h.2 then some (104, (List.range n).map (fun j => Value.ref (h.2 + 1 + j))) else if h.2 < q ∧ q < h.2 + 1 + n then some (100, List.replicate m (.int 0)) else h.1 q, h.2 + 1 + n)
theorem xouter (c : ClassId) (N h0 : Nat) : ∀ i, Jvm.Free.Multi.outerC c N h0 i = { cls := c, slots := (Jvm.Free.Multi.outerC c N h0 i).slots, vm := .none }
  | 0 => rfl
  | i + 1 => by
    show (Jvm.Free.Multi.outerC c N h0 i).setSlot i (.ref (h0 + 1 + i)) = { cls := c, slots := ((Jvm.Free.Multi.outerC c N h0 i).setSlot i (.ref (h0 + 1 + i))).slots, vm := .none }
    rw [xouter c N h0 i]
    rfl
set_option maxHeartbeats 1000000 in
theorem x_grid {idx : Nat} {n k : Int32} (n' k' : Nat) (hd : decode y.2.1 pc = .ok (.multianewarray idx 2, 4)) (hl : Cond.classLink y.1.cls idx "[[I" ∈ lw_all) (hac : Cond.arrayClass .int ∈ lw_all) (e1 : n = nI n') (e2 : k = nI k') (hn : n' ≤ 60000) (hk : k' ≤ 60000) (hC : 1 + n' ≤ C) (hS : n' + n' * k' ≤ S)
    (kk : xRun G y d (C - (1 + n')) (S - (n' + n' * k')) (pc + 4) L (.ref h.2 :: st) (xgrid h n' k') Q) : xRun G y d C S pc L (.int k :: .int n :: st) h Q := by
  intro p e s m args below meth c ls H locs cells slots mc ms X A
  have X9 := X
  obtain ⟨hx, hb9, hr, hlk, hml, hown, hts, htab, hnm, hkn⟩ := X
  obtain ⟨hl0, hR, hS0, hc0, hs0⟩ := A
  have n31 : n' < 2 ^ 31 := by omega
  have k31 : k' < 2 ^ 31 := by omega
  have r0 : s.vm.findClass ("[" ++ (FieldType.int).toString) = some (G.2.1.1 100) := (hkn.1.2 0 (G.2.1.1 100, .int) rfl).2
  have r4 : s.vm.findClass ("[" ++ (FieldType.array .int).toString) = some (G.2.1.1 104) := (hkn.1.2 4 (G.2.1.1 104, .array .int) rfl).2
  intro T hT X
  have hcl : n.toNatClampNeg = n' := by rw [e1, nI_clamp n31]
  have hck : k.toNatClampNeg = k' := by rw [e2, nI_clamp k31]
  obtain ⟨vm₁, cA, comp, hW, hfA, hfC, hO, hI, X1, step⟩ := X.multianewarray2F hx (ty := .int) hown (hts _ hl) hkn.2.2.2.2.2.2.2.1 (hts _ hac) (g := F0 m pc ls (.int k :: .int n :: st)) rfl (by rw [hb9]; exact hd) (n := n) (k := k) (rest := st) rfl
    (by rw [e1]; exact nI_pos n31) (by rw [e2]; exact nI_pos k31) (by rw [hcl]; omega) (by rw [hck]; show k' * 4 ≤ _; omega) (by rw [hck]; omega) rfl rfl (by rw [hcl]; show cells + (1 + n') ≤ mc; omega) (by rw [hcl, hck]; show slots + (n' + n' * k') ≤ ms; omega)
  rw [hcl, hck] at X1 step
  have ecA : cA = G.2.1.1 104 := Option.some.inj (hfA.symm.trans r4)
  have ecC : comp = G.2.1.1 100 := Option.some.inj (hfC.symm.trans r0)
  subst ecA; subst ecC
  have hTs : (T.setVm vm₁).heap = H := hT
  obtain ⟨f1, f2, f3⟩ := Jvm.Free.Multi.fill_facts (T.setVm vm₁) (G.2.1.1 104) (G.2.1.1 100) n' k' (defaultValue .int) n'
  have fold : ∀ q : Nat, q < H.size → (Jvm.Free.Multi.fill (T.setVm vm₁) (G.2.1.1 104) (G.2.1.1 100) n' k' (defaultValue .int) n').heap[q]? = H[q]? := fun q hq => by
    rw [Jvm.Free.Multi.fill_old (T.setVm vm₁) _ _ _ _ _ (by rw [hTs]; exact hq), hTs]
  rw [hTs] at f1 f2
  have finner : ∀ j, j < n' → (Jvm.Free.Multi.fill (T.setVm vm₁) (G.2.1.1 104) (G.2.1.1 100) n' k' (defaultValue .int) n').heap[H.size + 1 + j]? = some (Jvm.Free.Multi.innerC (G.2.1.1 100) k' (defaultValue .int)) := fun j hj => by
    have := Jvm.Free.Multi.fill_inner (T.setVm vm₁) (G.2.1.1 104) (G.2.1.1 100) n' k' (defaultValue .int) n' j hj
    rw [hTs] at this
    exact this
  have hrel : xRel G.2.1 (xgrid h n' k') (Jvm.Free.Multi.fill (T.setVm vm₁) (G.2.1.1 104) (G.2.1.1 100) n' k' (defaultValue .int) n').heap := by
    refine ⟨by rw [f1, hR.1]; rfl, fun q f hf => ?_⟩
    by_cases q1 : q = h.2
    · have hf' : f = (104, (List.range n').map (fun j => Value.ref (h.2 + 1 + j))) := by simpa [xgrid, q1] using hf.symm
      subst hf'
      subst q1
      refine xatA (t := 4) (by simp; omega) ?_
      rw [← hR.1, f2]
      congr 1
      obtain ⟨o1, o2, o3⟩ := Jvm.Free.Multi.outerC_facts (G.2.1.1 104) n' H.size n'
      have o4 : (Jvm.Free.Multi.outerC (G.2.1.1 104) n' H.size n').slots = Array.ofFn (n := ((List.range n').map (fun j => Value.ref (H.size + 1 + j))).length) (fun j => ((List.range n').map (fun j => Value.ref (H.size + 1 + j))).getD j.val .null) := by
        apply Array.ext
        · rw [o3]; simp
        · intro j h1 h2
          have h3 : j < n' := by rw [o3] at h1; exact h1
          have h4 := Jvm.Free.Multi.outerC_slot (G.2.1.1 104) n' H.size n' j h3
          rw [if_pos h3, Array.getElem?_eq_getElem h1] at h4
          rw [Option.some.inj h4]
          simp [List.getD_eq_getElem?_getD, h3]
      refine (xouter (G.2.1.1 104) n' H.size n').trans ?_
      rw [o4]
      rfl
    · by_cases q2 : h.2 < q ∧ q < h.2 + 1 + n'
      · have hf' : f = (100, List.replicate k' (.int 0)) := by simpa [xgrid, q1, q2] using hf.symm
        subst hf'
        refine xatA (t := 0) (by rw [List.length_replicate]; omega) ?_
        have h9 := finner (q - (h.2 + 1)) (by omega)
        rw [hR.1] at h9
        have e9 : h.2 + 1 + (q - (h.2 + 1)) = q := by omega
        rw [e9] at h9
        rw [h9, ← xrepl, ← arrV_new]
        rfl
      · have hf' : h.1 q = some f := by simpa [xgrid, q1, q2] using hf
        have h9 := hR.2 q f hf'
        exact h9.kept (fold q h9.lt)
  obtain ⟨t9, a1, b1⟩ := kk p e s m args below meth c ls _ locs (cells + 1 + n') (slots + n' + n' * k') mc ms X9 ⟨hl0, hrel, ⟨Nat.le_trans hS0.1 (by rw [f1]; omega), fun q h1 h2 => (fold q (Nat.lt_of_lt_of_le h1 hS0.1)).trans (hS0.2.1 q h1 h2), hS0.2.2⟩, by omega, by omega⟩ _ rfl X1
  rw [hT, hR.1] at step
  exact ⟨t9, step t9 a1, b1⟩
set_option maxHeartbeats 1000000 in
/-- 'throw new E()', E of number ci, in a method whose table doesn't cover the place -/
theorem x_throw0 {ik ic ci N : Nat} {cls : String} {T9 : u_T} (names : List String) (hc9 : xcl[ci]? = some (cls, T9, N)) (hci : ci < 50) (hcls : Bundle.fit cls = true) (hnames : ∀ n ∈ names, Bundle.fit n = true) (hk : Cond.classLink y.1.cls ik cls ∈ lw_all) (hini : Cond.initialized cls ∈ lw_all) (hat : ∀ w ∈ vx_at0 y.1.cls ic cls names, w ∈ lw_all ∨ w ∈ xnws)
    (hgood : ∀ w ∈ Cond.classLink y.1.cls ik cls :: Cond.initialized cls :: vx_at0 y.1.cls ic cls names, vx_ot w = true)
    (d0 : decode y.2.1 pc = .ok (.new ik, 3)) (d3 : decode y.2.1 (pc + 3) = .ok (.dup, 1)) (d4 : decode y.2.1 (pc + 4) = .ok (.invokespecial ic, 3)) (d7 : decode y.2.1 (pc + 7) = .ok (.athrow, 1)) (hh : y.2.2.2.2 = []) (hst : (st.map fun v => v.category).sum ≤ 8) (hdd : names.length + 3 < d) (hC : 1 ≤ C) (hS : 6 ≤ S)
    (hQ : Q (.threw h.2) (xpu h (50 + ci, []))) : xRun G y d C S pc L st h Q := by
  intro p e s m args below meth c ls H locs cells slots mc ms XX A
  have X9 := XX
  obtain ⟨hexec, hb, hr, hlocks, hml, hown, hts, htab, hnm, hkn⟩ := XX
  obtain ⟨hl0, hR, hS0, hc0, hs0⟩ := A
  have hat9 : ∀ w ∈ vx_at0 y.1.cls ic cls names, w.before args s = true := fun w hw => by
    rcases hat w hw with h1 | h1
    · exact hts w h1
    · have h2 := hkn.2.1 w h1
      have h3 := (List.mem_filter.mp h1).2
      cases w <;> first | exact va_Nw.use rfl h2 | (exact absurd h3 (by simp [xnwk]))
  have hUs := hkn.2.2.2.2.2.1 ("java/lang/Throwable", "UNASSIGNED_STACK", "[Ljava/lang/StackTraceElement;") (by simp [xzqs])
  have hNs := hkn.2.2.2.2.2.1 ("java/lang/Throwable", "SUPPRESSED_SENTINEL", "Ljava/util/List;") (by simp [xzqs])
  intro T hT X
  have hsize : ls.size = c.maxLocals := hl0.1.trans hml.symm
  have htr : e.platform.stackTraces = false := (show e.platform.stackTraces = G.1.stackTraces by rw [X.admits.platform]).trans hkn.2.2.2.2.2.2.2.2
  have Y := vx_rebase X (R' := { frames := (xroom d mc ms).frames, locals := (xroom d mc ms).locals, cells := 1, slots := 6 }) (Nat.le_refl _) (Nat.le_refl _) (show cells + 1 ≤ mc by omega) (show slots + 6 ≤ ms by omega)
  obtain ⟨s', hA⟩ : ∃ z, z = (T.setVm s.vm).setFrames (.invoking m args :: below) := ⟨_, rfl⟩
  rw [← hA] at Y
  have hvm : s'.vm = s.vm := by rw [hA]; rfl
  have hhp : s'.heap = H := by rw [hA]; exact hT
  have hW0 : s.WarmedH s'.vm := by rw [hvm]; exact State.WarmedH.refl s
  have hat' : ∀ w ∈ vx_at0 y.1.cls ic cls names, w.before args s' = true := fun w hw => vx_ot_at hW0 hvm.symm (hgood w (List.mem_cons_of_mem _ (List.mem_cons_of_mem _ hw))) (hat9 w hw)
  have hk' : (Cond.classLink y.1.cls ik cls).before args s' = true := vx_ot_at hW0 hvm.symm (hgood _ List.mem_cons_self) (hts _ hk)
  have hini' : (Cond.initialized cls).before args s' = true := vx_ot_at hW0 hvm.symm (hgood _ (List.mem_cons_of_mem _ List.mem_cons_self)) (hts _ hini)
  have hU' : vx_Zq Bundle.tN "UNASSIGNED_STACK" Bundle.steD (fun a => G.2.2.1 ≤ a) s' s'.heap := by rw [hhp]; exact vx_Zq.moved hW0.alike (vx_Zq.kept hUs hS0.2.1)
  have hN' : vx_Zq Bundle.tN "SUPPRESSED_SENTINEL" Bundle.listD (fun a => G.2.2.1 ≤ a) s' s'.heap := by rw [hhp]; exact vx_Zq.moved hW0.alike (vx_Zq.kept hNs hS0.2.1)
  have hall0 : ∀ w ∈ Bundle.ownAtoms0 y.1.cls ic cls names, w.before args s' = true := vx_own hat' (vx_isRefq hU'.1) (vx_isRefq hN'.1) hU'.2.word hN'.2.word
  have hown' : s'.vm.findClass y.1.cls = some m.cls := by rw [hvm]; exact hown
  have hins : (Cond.instantiable cls 6).before args s' = true := hall0 _ (by simp [Bundle.ownAtoms0])
  obtain ⟨vm₁, cX, kX, hfX, hkX, -, -, X₁, st1⟩ := Y.newCold hexec (own := y.1.cls) (C := cls) (index := ik) (n := 6) hown' hk' hins hini'
    (g := F0 m pc ls st) rfl (by rw [hb]; exact d0) (Nat.le_refl _) (Nat.le_refl _)
  generalize hT1 : (T.setVm vm₁).pushCell { cls := cX, slots := kX.instanceTypes.map defaultValue, vm := .none } = T1 at X₁ st1
  have hcat : (Value.ref T.heap.size).category = 1 := rfl
  have hcellA : T1.heap[T.heap.size]? = some (freshCell cX kX) := by rw [← hT1]; exact State.heap_pushCell_size _ _
  have d3' : decode c.code (pc + 3) = .ok (.dup, 1) := by rw [hb]; exact d3
  have hout : ∀ x ∈ c.exceptionTable.toList, covers x (pc + 7) = false := by
    rw [htab, hh]
    intro x hx
    cases hx
  obtain ⟨U, hsteps, hrun, hend, hW, hsame, ce, hce, hO⟩ := X₁.ctorThrow0 hexec htr (own := y.1.cls) (cls := cls) (names := names) (ic := ic) hown' hcls hnames hall0 (fun x hx => nomatch hx) hfX hkX hcellA (by rw [hhp, hT]; exact Nat.le_refl _)
    (g := { method := m, pc := pc + 4, locals := ls, stack := .ref T.heap.size :: .ref T.heap.size :: st, locked := none }) rfl hsize rfl rfl (rest := st) rfl
    (by rw [hb]; exact d4) (by rw [hb]; exact d7) hout hdd (by
      simp only [List.map_cons, List.sum_cons, hcat]
      show _ ≤ 64 * d
      omega) hlocks
  obtain ⟨f1, f2⟩ := vx_frame hsame
  rw [hhp] at f1 f2
  have hWs : s.WarmedH U.vm := State.WarmedH.trans hW0 hW
  have hcl : s.vm.findClass cls = some ce.cls := by
    have h9 := hO.cls
    rw [hvm] at h9
    exact h9
  have hsz : U.heap.size ≤ H.size + 1 := by
    have h9 : U.heap.size ≤ s'.heap.size + (0 + 1) := hsame.2.2.1
    rw [hhp] at h9
    exact h9
  have hall : s.sameButNew ({ U with vm := s.vm } : State) locs mc ms := by
    subst hA
    obtain ⟨e1, e2⟩ := hsame
    rw [State.setFrames_setFrames] at e1
    have h2 : (T.setVm s.vm).sameButNew ({ U with vm := s.vm } : State) [] (0 + 1) (0 + 6) := ⟨e1, e2⟩
    have h3 := X.same.trans h2
    rw [List.append_nil] at h3
    exact h3.mono (by omega) (by omega)
  have hce9 : U.heap[H.size]? = some ce := by rw [← hT]; exact hce
  have hsz2 : U.heap.size = H.size + 1 := by
    have := (Array.getElem?_eq_some_iff.mp hce9).1
    omega
  have fold : ∀ q : Nat, q < H.size → U.heap[q]? = H[q]? := fun q hq => f2 q hq (fun z hz => nomatch hz)
  have hfc := (hkn.1.1 ci _ hc9).2.1
  have hTh : T.heap.size = h.2 := by rw [hT]; exact hR.1
  refine ⟨U, ?_, .threw h.2, hrun, by rw [← hTh]; exact hend, xpu h (50 + ci, []), locs, hQ, hR.push hsz2 fold ?_, ?_, hWs, hall, hS0.2.2⟩
  · refine st1 _ ?_
    show Steps p.tables e below (T1.setTop { method := m, pc := pc + 3, locals := ls, stack := .ref T.heap.size :: st, locked := none }) _
    jvm_step X₁.here [X₁.here.top, hexec, d3', Value.category]
    exact hsteps
  · refine ⟨fun h9 => absurd h9 (show ¬ 50 + ci < 50 by omega), fun h9 => absurd (show 50 + ci < 100 by omega) h9, fun _ _ => ⟨ce, hce9, ?_, hO.vm⟩⟩
    have e9 : (50 + ci, ([] : List Value)).1 - 50 = ci := show 50 + ci - 50 = ci by omega
    rw [e9]
    exact Option.some.inj (hcl.symm.trans hfc)
  · exact ⟨Nat.le_trans hS0.1 f1, fun q h1 h2 => (fold q (Nat.lt_of_lt_of_le h1 hS0.1)).trans (hS0.2.1 q h1 h2)⟩
end XT
