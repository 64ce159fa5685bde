set_option maxRecDepth 100000
/-! ===== the x layer, 2: a body's walk gives its contract; a call; what is thrown ===== -/
/-- the locals with which a method begins -/
def xentF : List Value → List (Option Value)
  | [] => []
  | v :: vs => if v.category = 2 then some v :: none :: xentF vs else some v :: xentF vs
def xent (as : List Value) (n : Nat) : List (Option Value) := xentF as ++ List.replicate (n - (xentF as).length) none
theorem xentF_in (as : List Value) : ∀ (k i : Nat) (v : Value), (xentF as)[i]? = some (some v) → (k + i, v) ∈ lv_args k as := by
  induction as with
  | nil => intro k i v h; simp [xentF] at h
  | cons a as ih =>
    intro k i v h
    by_cases hc : a.category = 2
    · simp only [xentF, hc, if_true] at h
      simp only [lv_args, hc, if_true]
      match i, h with
      | 0, h =>
        have e : a = v := by simpa using h
        subst e
        exact List.mem_cons_self
      | 1, h => simp at h
      | i + 2, h =>
        have h1 := ih (k + 2) i v (by simpa using h)
        have e : k + 2 + i = k + (i + 2) := by omega
        rw [e] at h1
        exact List.mem_cons_of_mem _ h1
    · simp only [xentF, hc, if_false] at h
      simp only [lv_args, hc, if_false]
      match i, h with
      | 0, h =>
        have e : a = v := by simpa using h
        subst e
        exact List.mem_cons_self
      | i + 1, h =>
        have h1 := ih (k + 1) i v (by simpa using h)
        have e : k + 1 + i = k + (i + 1) := by omega
        rw [e] at h1
        exact List.mem_cons_of_mem _ h1
theorem xent_has {as : List Value} {n : Nat} {ls : Array Slot} (h : lv_has ls n (lv_args 0 as)) : xLoc ls n (xent as n) := by
  refine ⟨h.1, h.2.1, fun i v hi => ?_⟩
  unfold xent at hi
  by_cases hl : i < (xentF as).length
  · rw [List.getElem?_append_left hl] at hi
    have h1 := xentF_in as 0 i v hi
    rw [Nat.zero_add] at h1
    exact h.2.2 (i, v) h1
  · rw [List.getElem?_append_right (by omega)] at hi
    have := List.eq_of_mem_replicate (List.mem_of_getElem? hi)
    cases this
theorem xw_spec {y : xM} {args : Array Value} {s : State} {m : MethodId} (hn : s.methodNamed? y.1 = some m) (h : (xw y).before args s = true) :
    ∃ (meth : Method) (c : Code), s.vm.method? m = some meth ∧ meth.code = some c ∧ c.code = y.2.1 ∧ c.maxLocals = y.2.2.1 ∧ meth.sig.returnType = y.2.2.2.1 ∧ meth.locks = false ∧ c.exceptionTable.toList = tableOf y.2.2.2.2 := by
  obtain ⟨n, cc, mL, rt, hh⟩ := y
  cases hh with
  | nil =>
    obtain ⟨meth, c, h1, h2, h3, h4, h5, h6, h7, -⟩ := Cond.code_spec hn (show (Cond.code n cc mL rt).before args s = true from h)
    refine ⟨meth, c, h1, h2, h3, h4, h5, h6, ?_⟩
    rw [Array.isEmpty_iff.mp h7]
    rfl
  | cons q qs =>
    have h9 : (Cond.codeWith n cc mL rt (q :: qs)).before args s = true := h
    obtain ⟨m9, meth, c, hn9, h1, h2, h3, h4, h6, h5, h7, -⟩ := Cond.codeWith_spec h9
    cases Option.some.inj (hn9.symm.trans hn)
    refine ⟨meth, c, h1, h2, h3, h4, h5, h7, ?_⟩
    show c.exceptionTable.toList = tableOf (q :: qs)
    rw [← h6, table_eq]
set_option maxHeartbeats 1000000 in
/-- A BODY's WALK GIVES ITS CONTRACT -/
theorem xMet.of {G : xG} {d mc ms : Nat} {y : xM} {as : List Value} {h : xH} {Q : xQ} (L : List (Option Value)) (hy : plainName y.1.cls = true) (hL : xent as y.2.2.1 = L) (hn : (lg_sl as).length ≤ y.2.2.1)
    (k : xRun G y d mc ms 0 L [] h Q) : xMet G d mc ms y as h Q := by
  refine MetFree.of_bodyS (code := y.2.1) (maxLocals := y.2.2.1) (ret := y.2.2.2.1) hy ?_ ?_
  · intro args s m h hn
    obtain ⟨meth, c, h1, h2, h3, h4, h5, h6, -⟩ := xw_spec (y := y) hn (atoms_spec (ws := xws y) h _ List.mem_cons_self)
    exact ⟨meth, c, h1, h2, h3, h4, h5, h6⟩
  · intro p e s m args below meth c s₁ B hml hP _
    obtain ⟨rfl, hkn, hrel⟩ := hP
    have hh0 : s₁.heap = s.heap := by rw [B.state]; rfl
    have hts := atoms_spec (ws := xws y) B.pre
    obtain ⟨meth9, c9, h1, h2, h3, h4, h5, h6, h7⟩ := xw_spec (y := y) B.named (hts _ List.mem_cons_self)
    cases Option.some.inj (h1.symm.trans B.method)
    cases Option.some.inj (h2.symm.trans (Stand.of_body B).code)
    have hctx : xCtx G y p s m as.toArray meth c := ⟨B.exec, B.bytes, B.returns, B.notSynchronized, hml, findClass_of_methodNamed B.named, fun w hw => hts w (List.mem_cons_of_mem _ hw), h7, (name_of_methodNamed B.named B.method).1, hkn⟩
    have hl := lv_entry as (n := y.2.2.1) hn
    have hloc := xent_has hl
    rw [hL] at hloc
    have K := k p e s m as.toArray below meth c _ s.heap [] 0 0 mc ms hctx ⟨hloc, hrel, va_S.rf, by omega, by omega⟩
    rw [← lg_entry_eq] at K
    obtain ⟨t, a1, o, b1, b2, b3⟩ := K s₁ hh0 (Stand.of_body B)
    exact ⟨t, o, a1, b1, b2, b3⟩
/-- a contract used at a point of the caller's walk -/
theorem xback {G : xG} {z : xM} {d mc ms : Nat} {as : List Value} {h : xH} {Q : xQ} (hM : xMet G d mc ms z as h Q) {p : Program} {e : Env} {R : Room} {s : State} {m : MethodId} {args : Array Value} {below : List Frame} {meth : Method} {c : Code} {U : State} {Ls : List Loc} {c0 s0 len : Nat}
    (hframes : d + 1 ≤ R.frames) (hlocals : 8 + (z.2.2.1 + 11) + 64 * d ≤ R.locals) (hcells : c0 + mc ≤ R.cells) (hslots : s0 + ms ≤ R.slots)
    (hws : ∀ w ∈ xws z, w.before as.toArray U = true) (hinit : (Cond.initialized z.1.cls).before as.toArray U = true) (hkn : xKn G U U.heap) (hrel : xRel G.2.1 h U.heap)
    (X : Stand p G.1 e R s m args below meth c U Ls c0 s0) {g : JFrame} (hg : g.method = m) (hsize : g.locals.size = c.maxLocals) {ig : Instr} (hdg : decode c.code g.pc = .ok (ig, len)) (hW : 2 * g.monitorRoom + (g.stack.map fun v => v.category).sum ≤ 8)
    {mk : MethodId} (hn : U.methodNamed? z.1 = some mk) :
    ∃ (o : Outcome) (h1 : xH) (U1 : State) (L1 : List Loc), Stand p G.1 e R s m args below meth c U1 (Ls ++ L1) (c0 + mc) (s0 + ms) ∧ Q o h1 ∧ xRel G.2.1 h1 U1.heap ∧ va_F (fun a => G.2.2.1 ≤ a) U U1 ∧ (∀ z ∈ L1, G.2.2.1 ≤ z.base) ∧
      ((∃ v, o = .returned v ∧ Steps p.tables e below (doInvoke e (U.setTop g) [] mk as.toArray).1 (U1.setTop { g with pc := g.pc + len, stack := v.toList ++ g.stack })) ∨
       (∃ q, o = .threw q ∧ Steps p.tables e below (doInvoke e (U.setTop g) [] mk as.toArray).1 ((U1.setTop g).pushFrame (.throwing q)))) := by
  have h1 : (headSpec (xws z) (xroom d mc ms)).pre.before as.toArray U = true := atoms_intro fun w hw => hws w hw
  have h4 : c0 + (headSpec (xws z) (xroom d mc ms)).room.cells ≤ R.cells := hcells
  have h5 : s0 + (headSpec (xws z) (xroom d mc ms)).room.slots ≤ R.slots := hslots
  have hPc : va_Pc as (fun U => xKn G U U.heap ∧ xRel G.2.1 h U.heap) as.toArray (U.calling g mk as.toArray) := ⟨rfl, xKn.same (s := U) rfl hkn, hrel⟩
  obtain ⟨methY, cY, hmY, hcY, -, hlY, -, -, -⟩ := xw_spec (y := z) hn (hws _ List.mem_cons_self)
  obtain ⟨kY, hkY, -⟩ := className_of_methodNamed hn
  have hinitY : kY.init = .initialized := Cond.initialized_spec (findClass_of_methodNamed hn) hkY hinit
  have hat : At U g.method c below := by rw [hg]; exact X.here
  have happ : (headSpec (xws z) (xroom d mc ms)).appliesLoose z.1 e.platform (U.calling g mk as.toArray) = true :=
    Spec.appliesLoose_calling (g := g) hat hdg hn hkY hinitY
      (X.room_calling (g := g) (R' := (headSpec (xws z) (xroom d mc ms)).room) hsize hmY hcY hframes (by
        rw [hlY]
        have e9 : (headSpec (xws z) (xroom d mc ms)).room.locals = 64 * d := rfl
        rw [e9]
        omega) h4 h5) h1
  obtain ⟨mid, hmid⟩ := hat.above
  have hfr : (U.setTop g).frames = (.java g :: mid) ++ below := by rw [State.frames_setTop' g hat.top, hmid]; rfl
  obtain ⟨o, s₂, hsteps, -, hend, hq⟩ := Steps.callFree hM p X.admits X.cas X.clock (acts := []) hfr happ hPc trivial
  have hq' : xPost G mc ms Q as.toArray (U.calling g mk as.toArray) o s₂ := hq
  rw [State.frames_setTop' g hat.top] at hend
  obtain ⟨g₀, hg0⟩ := Option.isSome_iff_exists.mp hat.top
  obtain ⟨r, hr⟩ := State.topJava?_eq_some.mp hg0
  have hr' : (({ U with heap := s₂.heap, slotsUsed := s₂.slotsUsed } : State).setVm s₂.vm).frames = .java g₀ :: r := hr
  obtain ⟨h9, L, hQ, hR9, hF9, hW₂, hsm, hL⟩ := hq'
  obtain ⟨e2, q2, q3, q4, q5, q6⟩ := id hsm
  have e3 : s₂ = ({ (U.calling g mk as.toArray).setFrames s₂.frames with heap := s₂.heap, slotsUsed := s₂.slotsUsed } : State).setVm s₂.vm := by
    have : s₂ = ({ s₂ with vm := (U.calling g mk as.toArray).vm } : State).setVm s₂.vm := rfl
    rw [e2] at this
    exact this
  have hW' : U.WarmedH s₂.vm := hW₂
  have hsame : U.sameButNew ({ U with heap := s₂.heap, slotsUsed := s₂.slotsUsed } : State) L mc ms := by
    refine ⟨?_, q2, q3, q4, q5, q6⟩
    obtain ⟨t, ht, -⟩ := State.frames_cons hr
    show ({ U with heap := s₂.heap, slotsUsed := s₂.slotsUsed } : State) = { U.setFrames U.frames with heap := s₂.heap, slotsUsed := s₂.slotsUsed }
    rw [State.setFrames_self ht]
  have hst : Stand p G.1 e R s m args below meth c (({ U with heap := s₂.heap, slotsUsed := s₂.slotsUsed } : State).setVm s₂.vm) (Ls ++ L) (c0 + mc) (s0 + ms) := by
    subst hg
    exact ⟨X.admits, X.cas, X.clock, X.frames, X.room, X.hears, X.method, X.code, (X.here.setHeapUsed s₂.heap s₂.slotsUsed).setVm hW'.alike, X.tail, State.WarmedH.trans X.warmed hW', X.limits, X.bytes, X.same.trans (hsame.setVm s.vm)⟩
  refine ⟨o, h9, (({ U with heap := s₂.heap, slotsUsed := s₂.slotsUsed } : State).setVm s₂.vm), L, hst, hQ, hR9, ⟨hF9.1, hF9.2⟩, hL, ?_⟩
  cases o with
  | returned v =>
    refine Or.inl ⟨v, rfl, ?_⟩
    obtain ⟨c₂, i₂, len₂, hc₂, hd₂, hf₂⟩ := hend
    have hcc : c₂ = c := by
      have h1 : s₂.code? g.method = U.code? g.method := by
        rw [State.code?_eq, State.code?_eq, hW'.alike.method?]
      exact Option.some.inj (hc₂.symm.trans (h1.trans hat.code))
    subst hcc
    have hlen : len₂ = len := by rw [hdg] at hd₂; cases hd₂; rfl
    subst hlen
    have hs₂ : s₂ = (({ U with heap := s₂.heap, slotsUsed := s₂.slotsUsed } : State).setVm s₂.vm).setTop { g with pc := g.pc + len₂, stack := v.toList ++ g.stack } := by
      refine e3.trans ?_
      rw [hf₂, State.calling_eq hat.top, State.setFrames_setFrames, State.setTop_of_frames _ hr', hr]
      rfl
    rw [← hs₂]
    exact hsteps
  | threw q =>
    refine Or.inr ⟨q, rfl, ?_⟩
    have hf₂ : s₂.frames = .throwing q :: .java g :: U.frames.tail := hend
    have hs₂ : s₂ = ((({ U with heap := s₂.heap, slotsUsed := s₂.slotsUsed } : State).setVm s₂.vm).setTop g).pushFrame (.throwing q) := by
      refine e3.trans ?_
      rw [hf₂, State.calling_eq hat.top, State.setFrames_setFrames, State.pushFrame, State.frames_setTop _ hr', State.setTop_of_frames _ hr', State.setFrames_setFrames, hr]
      rfl
    rw [← hs₂]
    exact hsteps
/-- what the invoking instruction itself does, ahead of the callee's own frame: arguments as, the callee z, the rest of the stack -/
def xDisp (G : xG) (y : xM) (pc : Nat) (st0 : List Value) (h : xH) (z : MethodName) (as rest : List Value) (len : Nat) : Prop :=
  (∃ ig, decode y.2.1 pc = .ok (ig, len)) ∧
  ∀ (p : Program) (e : Env) (R : Room) (s : State) (m : MethodId) (args : Array Value) (below : List Frame) (meth : Method) (c : Code) (ls : Array Slot) (H : Heap) (locs : List Loc) (cells slots : Nat) (T : State),
    xCtx G y p s m args meth c → xRel G.2.1 h H → ls.size = c.maxLocals → T.heap = H → Stand p G.1 e R s m args below meth c T locs cells slots →
    ∃ (vm₁ : Vm) (mk : MethodId), Stand p G.1 e R s m args below meth c (T.setVm vm₁) locs cells slots ∧ (T.setVm vm₁).methodNamed? z = some mk ∧
      ∀ target, Steps p.tables e below (doInvoke e ((T.setVm vm₁).setTop (F0 m pc ls rest)) [] mk as.toArray).1 target → Steps p.tables e below (T.setTop (F0 m pc ls st0)) target
theorem xws_at {z : xM} (hz : xw z ∈ lw_all) {s U : State} {args as : Array Value} (hts : ∀ w ∈ lw_all, w.before args s = true) (hW : s.WarmedH U.vm) : ∀ w ∈ xws z, w.before as U = true := by
  intro w hw
  have hm : w ∈ lw_all := by
    rcases List.mem_cons.mp hw with rfl | h
    · exact hz
    · exact h
  exact word_at hW (lw_self w hm).2 (hts w hm)
set_option maxHeartbeats 1000000 in
/-- A CALL -/
theorem xcall {G : xG} {y z : xM} {d d' C S mc ms len pc : Nat} {L : List (Option Value)} {st0 as rest : List Value} {h : xH} {Q Q' : xQ} (hD : xDisp G y pc st0 h z.1 as rest len) (hz : xw z ∈ lw_all) (hini : Cond.initialized z.1.cls ∈ lw_all) (hM : xMet G d' mc ms z as h Q')
    (hR : d' + 1 ≤ d ∧ z.2.2.1 ≤ 45 ∧ mc ≤ C ∧ ms ≤ S ∧ (rest.map fun v => v.category).sum ≤ 8)
    (kx : ∀ (q : Nat) (h1 : xH), Q' (.threw q) h1 → xThr G y d (C - mc) (S - ms) pc L rest h1 q Q)
    (kr : ∀ (v : Option Value) (h1 : xH), Q' (.returned v) h1 → xRun G y d (C - mc) (S - ms) (pc + len) L (v.toList ++ rest) h1 Q) : xRun G y d C S pc L st0 h Q := by
  obtain ⟨hd, hL, hc, hs, hrs⟩ := hR
  obtain ⟨⟨ig, hdg⟩, hD⟩ := hD
  intro p e s m args below meth c ls H locs cells slots mc9 ms9 X A T hT X0
  obtain ⟨hl, hrel, hS, hc1, hs1⟩ := A
  have hctx := X
  obtain ⟨hx, hb, hr, hlk, hml, hown, hts, htab, hnm, hkn⟩ := X
  have hsz : ls.size = c.maxLocals := hl.1.trans hml.symm
  obtain ⟨vm₁, mk, X1, hmk, hst⟩ := hD p e (xroom d mc9 ms9) s m args below meth c ls H locs cells slots T hctx hrel hsz hT X0
  have hHT : (T.setVm vm₁).heap = H := hT
  have hkn1 : xKn G (T.setVm vm₁) (T.setVm vm₁).heap := by
    rw [hHT]
    exact xKn.kept (fun a h1 h2 => hS.2.1 a h1 h2) (xKn.warm X1.warmed hkn)
  have hinit : (Cond.initialized z.1.cls).before as.toArray (T.setVm vm₁) = true := word_at X1.warmed (lw_self _ hini).2 (hts _ hini)
  obtain ⟨o, h1, U1, L1, X2, hQ, hrel1, hF, hL1, hend⟩ := xback hM (R := xroom d mc9 ms9) (c0 := cells) (s0 := slots) (len := len) hd (show 8 + (z.2.2.1 + 11) + 64 * d' ≤ 64 * d by omega) (show cells + mc ≤ mc9 by omega) (show slots + ms ≤ ms9 by omega)
    (xws_at hz hts X1.warmed) hinit hkn1 (by rw [hHT]; exact hrel) X1 (g := F0 m pc ls rest) rfl hsz (by rw [hb]; exact hdg) (by
      show 2 * (F0 m pc ls rest).monitorRoom + (rest.map fun v => v.category).sum ≤ 8
      have e0 : (F0 m pc ls rest).monitorRoom = 0 := rfl
      omega) hmk
  have hS1 : va_S (fun a => G.2.2.1 ≤ a) s.heap U1.heap (locs ++ L1) := by
    have hz1 : H.size ≤ U1.heap.size := by
      have := hF.1
      rw [hHT] at this
      exact this
    refine ⟨Nat.le_trans hS.1 hz1, fun q h1 h2 => ?_, fun q hq => ?_⟩
    · have h3 := hF.2 q (by rw [hHT]; exact Nat.lt_of_lt_of_le h1 hS.1) h2
      rw [h3, hHT]
      exact hS.2.1 q h1 h2
    · rcases List.mem_append.mp hq with h | h
      · exact hS.2.2 q h
      · exact hL1 q h
  have A1 : xAt G y (C - mc) (S - ms) L h1 s ls U1.heap (locs ++ L1) (cells + mc) (slots + ms) mc9 ms9 := ⟨hl, hrel1, hS1, by omega, by omega⟩
  rcases hend with ⟨v, rfl, hsteps⟩ | ⟨q, rfl, hsteps⟩
  · obtain ⟨t, a1, b1⟩ := kr v h1 hQ p e s m args below meth c ls U1.heap (locs ++ L1) (cells + mc) (slots + ms) mc9 ms9 hctx A1 U1 rfl X2
    exact ⟨t, hst _ (hsteps.trans a1), b1⟩
  · obtain ⟨t, a1, b1⟩ := kx q h1 hQ p e s m args below meth c ls U1.heap (locs ++ L1) (cells + mc) (slots + ms) mc9 ms9 hctx A1 U1 rfl X2
    exact ⟨t, hst _ (hsteps.trans a1), b1⟩
/-- a call that returns -/
theorem xcallR {G : xG} {y z : xM} {d d' C S mc ms len pc : Nat} {L : List (Option Value)} {st0 as rest : List Value} {h : xH} {Q : xQ} {P : Option Value → xH → Prop} (hD : xDisp G y pc st0 h z.1 as rest len) (hz : xw z ∈ lw_all) (hini : Cond.initialized z.1.cls ∈ lw_all) (hM : xMet G d' mc ms z as h (fun o h1 => ∃ v, o = .returned v ∧ P v h1))
    (hR : d' + 1 ≤ d ∧ z.2.2.1 ≤ 45 ∧ mc ≤ C ∧ ms ≤ S ∧ (rest.map fun v => v.category).sum ≤ 8)
    (kr : ∀ (v : Option Value) (h1 : xH), P v h1 → xRun G y d (C - mc) (S - ms) (pc + len) L (v.toList ++ rest) h1 Q) : xRun G y d C S pc L st0 h Q :=
  xcall hD hz hini hM hR (fun q h1 ⟨v, e, _⟩ => by cases e) (fun v h1 ⟨v9, e, hp⟩ => by cases e; exact kr v h1 hp)
theorem xMet.mono {G : xG} {d mc ms : Nat} {y : xM} {as : List Value} {h : xH} {Q Q' : xQ} (hM : xMet G d mc ms y as h Q) (hQ : ∀ o h1, Q o h1 → Q' o h1) : xMet G d mc ms y as h Q' := by
  intro p e ha hc hk s m args below hf happ hP hK
  obtain ⟨n, o, h1, h2, h3, h4, L, h5, h6⟩ := hM p e ha hc hk s m args below hf happ hP hK
  exact ⟨n, o, h1, h2, h3, h4, L, hQ _ _ h5, h6⟩
/-- thrown, and caught here -/
theorem xcatch {G : xG} {y : xM} {d C S pc : Nat} {L : List (Option Value)} {st : List Value} {h : xH} {Q : xQ} {q ci : Nat} {fs : List Value} {E name : String} {T : u_T} {N : Nat} (hc : xcl[xkind ci]? = some (E, T, N)) (hq : h.1 q = some (ci, fs)) (h100 : ci < 100)
    (pre : List (Nat × Nat × Nat × Nat)) (x : Nat × Nat × Nat × Nat) (suf : List (Nat × Nat × Nat × Nat)) (hsplit : y.2.2.2.2 = pre ++ x :: suf)
    (hpass : ∀ z ∈ pre, (decide (z.1 ≤ pc) && decide (pc < z.2.1)) = false ∨ (z.2.2.2 ≠ 0 ∧ ∃ nm : String, Cond.classLink y.1.cls z.2.2.2 nm ∈ lw_all ∧ (E, nm) ∈ xncs)) (hx : covers ⟨x.1, x.2.1, x.2.2.1, x.2.2.2⟩ pc = true) (h0 : x.2.2.2 ≠ 0)
    (hlink : Cond.classLink y.1.cls x.2.2.2 name ∈ lw_all) (hcast : Cond.castable E name ∈ xnws) (hcov : ∀ (a b c f : Nat), (decide (a ≤ pc) && decide (pc < b)) = false → covers ⟨a, b, c, f⟩ pc = false)
    (k : xRun G y d C S x.2.2.1 L [.ref q] h Q) : xThr G y d C S pc L st h q Q := by
  intro p e s m args below meth c ls H locs cells slots mc ms X A
  obtain ⟨cell, q1, q2, q3⟩ := (A.2.1.2 q _ hq).kind h100
  obtain ⟨-, hfc, -⟩ := X.2.2.2.2.2.2.2.2.2.1.1 (xkind ci) _ hc
  refine vx_catch (E := E) (ce := cell) X.2.2.2.2.2.1 (tableOf pre) ⟨x.1, x.2.1, x.2.2.1, x.2.2.2⟩ (tableOf suf) ?_ ?_ hx h0 (X.2.2.2.2.2.2.1 _ hlink) (va_Nw.use rfl (X.2.2.2.2.2.2.2.2.2.2.1 _ hcast)) q1 q3 (by rw [q2]; exact hfc) (k p e s m args below meth c ls H locs cells slots mc ms X A)
  · rw [X.2.2.2.2.2.2.2.1, hsplit]
    simp [tableOf]
  · intro z hz
    obtain ⟨z9, hz9, rfl⟩ := List.mem_map.mp hz
    rcases hpass z9 hz9 with h9 | ⟨h9, nm, h10, h11⟩
    · exact Or.inl (hcov _ _ _ _ h9)
    · exact Or.inr ⟨h9, nm, X.2.2.2.2.2.2.1 _ h10, X.2.2.2.2.2.2.2.2.2.2.2.1 _ h11⟩
/-- thrown, and no row of the table covers the place: out of the method -/
theorem xout {G : xG} {y : xM} {d C S pc : Nat} {L : List (Option Value)} {st : List Value} {h : xH} {Q : xQ} {q : Nat} (hout : ∀ x ∈ tableOf y.2.2.2.2, covers x pc = false) (hQ : Q (.threw q) h) : xThr G y d C S pc L st h q Q := by
  intro p e s m args below meth c ls H locs cells slots mc ms X A T hT X0
  obtain ⟨st1, hrun, hend, hW, hsm⟩ := X0.leaveThrown q (g := F0 m pc ls st) rfl rfl rfl (by rw [X.2.2.2.2.2.2.2.1]; exact hout) X.2.2.2.1
  refine ⟨_, st1, .threw q, hrun, hend, h, locs, hQ, ?_, ?_, hW, hsm.mono (by have := A.2.2.2.1; omega) (by have := A.2.2.2.2; omega), A.2.2.1.2.2⟩
  · show xRel G.2.1 h T.heap
    rw [hT]; exact A.2.1
  · have hS := A.2.2.1
    rw [← hT] at hS
    exact ⟨hS.1, hS.2.1⟩
