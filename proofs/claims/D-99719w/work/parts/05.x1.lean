set_option maxRecDepth 100000
/-! ===== the x layer, 1: an abstract heap; what is known all through a run; the judgements ===== -/
/-- a cell: the number of its class (arrays: 100 on), and its fields or elements -/
abbrev xE : Type := Nat × List Value
/-- a heap: what is known of its cells, and its size -/
abbrev xH : Type := (Nat → Option xE) × Nat
def xup (h : xH) (a : Nat) (e : xE) : xH := (fun q => if q = a then some e else h.1 q, h.2)
def xpu (h : xH) (e : xE) : xH := (fun q => if q = h.2 then some e else h.1 q, h.2 + 1)
def xT0 : u_T := fun _ => ("", "", "", false)
def xcl : List vw_C := [(RX1, TX1, 25), (RX2, TX2, 6), (RJ2, TJ2, 3), (RX8, TX8, 11), (RX14, TX14, 4), (RX5, TX5, 2), (RX6, TX6, 1), (RX7, TX7, 1), (RX16, TX16, 2), (RX17, TX17, 2), (RX18, TX18, 2), (RX19, TX19, 2), (RX20, TX20, 2), (RX21, TX21, 2), (RX13, TX13, 8), (RX12, TX12, 6), (RX15, TX15, 5), (RX22, TX22, 6), (RX31, TX31, 8), (RX25, TX25, 1), (RX26, TX26, 1), (RX27, TX27, 2), (RX28, xT0, 0), (RX29, xT0, 0), (RX30, TX30, 2), (RJ8, TJ8, 4), (RJ9, TJ9, 4), (RX9, TX9, 46), (RJ6, TJ6, 6), (RJ18, TJ18, 6)]
def xtys (D : va_G) : List (ClassId × FieldType) := [(D.1 100, .int), (D.1 101, .byte), (D.1 102, .boolean), (D.1 103, .long), (D.1 104, .array .int), (D.1 105, .object "java/lang/Object"), (D.1 106, .object "LeaningMarket$Market")]
def xat (D : va_G) (a : Nat) (e : xE) (H : Heap) : Prop := (e.1 < 50 → ∃ r : vw_C, xcl[e.1]? = some r ∧ e.2.length = r.2.2 ∧ t_OB a (D.1 e.1) r.2.2 (D.2 e.1) H (vp_V e.2)) ∧ (¬ e.1 < 100 → e.2.length < 2147483648 ∧ H[a]? = some (arrV (D.1 e.1) e.2.length (fun j => e.2.getD j .null))) ∧ (50 ≤ e.1 → e.1 < 100 → ∃ cell : Cell, H[a]? = some cell ∧ cell.cls = D.1 (e.1 - 50) ∧ cell.vm = .none)
def xRel (D : va_G) (h : xH) (H : Heap) : Prop := H.size = h.2 ∧ ∀ (a : Nat) (e : xE), h.1 a = some e → xat D a e H
theorem xat.kept {D : va_G} {a : Nat} {e : xE} {H H1 : Heap} (h : xat D a e H) (hq : H1[a]? = H[a]?) : xat D a e H1 := by
  refine ⟨fun h1 => ?_, fun h1 => ⟨(h.2.1 h1).1, hq.trans (h.2.1 h1).2⟩, fun h1 h2 => ?_⟩
  · obtain ⟨r, h2, h3, h4⟩ := h.1 h1
    exact ⟨r, h2, h3, h4.kept hq⟩
  · obtain ⟨cell, h3, h4⟩ := h.2.2 h1 h2
    exact ⟨cell, hq.trans h3, h4⟩
theorem xat.lt {D : va_G} {a : Nat} {e : xE} {H : Heap} (h : xat D a e H) : a < H.size := by
  by_cases h1 : e.1 < 50
  · obtain ⟨r, h2, h3, cell, h4, -⟩ := h.1 h1
    exact (Array.getElem?_eq_some_iff.mp h4).1
  · by_cases h2 : e.1 < 100
    · obtain ⟨cell, h3, -⟩ := h.2.2 (by omega) h2
      exact (Array.getElem?_eq_some_iff.mp h3).1
    · exact (Array.getElem?_eq_some_iff.mp (h.2.1 h2).2).1
/-- the number of the kind of which a cell is known to be (its fields known, or not) -/
def xkind (t : Nat) : Nat := if t < 50 then t else t - 50
theorem xat.kind {D : va_G} {a : Nat} {e : xE} {H : Heap} (h : xat D a e H) (h1 : e.1 < 100) : ∃ cell : Cell, H[a]? = some cell ∧ cell.cls = D.1 (xkind e.1) ∧ cell.vm = .none := by
  unfold xkind
  by_cases h2 : e.1 < 50
  · obtain ⟨r, h3, h4, cell, q1, q2, q3, -⟩ := h.1 h2
    rw [if_pos h2]
    exact ⟨cell, q1, q2, q3⟩
  · rw [if_neg h2]
    exact h.2.2 (by omega) h1
theorem xRel.up {D : va_G} {h : xH} {a : Nat} {e : xE} {H H1 : Heap} (hR : xRel D h H) (hz : H1.size = H.size) (ho : ∀ q : Nat, q ≠ a → H1[q]? = H[q]?) (he : xat D a e H1) : xRel D (xup h a e) H1 := by
  refine ⟨hz.trans hR.1, fun b f hf => ?_⟩
  by_cases hb : b = a
  · subst hb
    have : some e = some f := by simpa [xup] using hf
    cases this
    exact he
  · have : h.1 b = some f := by simpa [xup, hb] using hf
    exact (hR.2 b f this).kept (ho b hb)
theorem xRel.push {D : va_G} {h : xH} {e : xE} {H H1 : Heap} (hR : xRel D h H) (hz : H1.size = H.size + 1) (ho : ∀ q : Nat, q < H.size → H1[q]? = H[q]?) (he : xat D H.size e H1) : xRel D (xpu h e) H1 := by
  refine ⟨by rw [hz, hR.1]; rfl, fun b f hf => ?_⟩
  by_cases hb : b = h.2
  · subst hb
    have : some e = some f := by simpa [xpu] using hf
    cases this
    rw [← hR.1]
    exact he
  · have h1 : h.1 b = some f := by simpa [xpu, hb] using hf
    have h2 := hR.2 b f h1
    exact h2.kept (ho b h2.lt)
/-- the words that don't ride in the lists -/
def xnwk : Cond → Bool
  | .fieldLinkNest .. => true
  | .methodLinkNest .. => true
  | .castable .. => true
  | .declares .. => true
  | _ => false
def xnws : List Cond := lw_tbl.filter xnwk
theorem xnw_in {w : Cond} (h : w ∈ lw_tbl) (g : xnwk w = true) : w ∈ xnws := List.mem_filter.mpr ⟨h, g⟩
theorem xnw_warm {w : Cond} {s U : State} (hW : s.WarmedH U.vm) (g : xnwk w = true) (h : va_Nw w s) : va_Nw w U := by
  cases w <;> first | exact va_Nw.warmF hW h | exact va_Nw.warmM hW h | exact va_Nw.warmC hW h | exact va_Nw.warmD hW h | (exact absurd g (by simp [xnwk]))
def xncs : List (String × String) := [("java/lang/IllegalArgumentException", "java/util/NoSuchElementException"), ("LeaningMarket$Wrong", "java/lang/IllegalArgumentException")]
def xaos : List String := ["java/lang/Object", "LeaningMarket$Market"]
/-- arrays of int arrays -/
def xAO2 (U : State) : Prop := (Cond.arrayOver (.array .int)).before #[] U = true
theorem xAO2.moved {u U : State} (hvm : u.vm.Alike U.vm) (h : xAO2 u) : xAO2 U := by
  have h0 : (Cond.arrayOver (.array .int)).holds #[] u none u [] = true := h
  simp only [Cond.holds, Cond.value, beq_iff_eq] at h0
  cases hc : u.vm.findClass (FieldType.array .int).toString with
  | none => simp [hc] at h0
  | some comp =>
    simp only [hc, Option.bind_some, Option.bind_eq_some_iff, Option.map_eq_some_iff] at h0
    obtain ⟨c, hi0, k, hk, hb⟩ := h0
    obtain ⟨k', hk', he⟩ := hvm.2.2 _ _ hk
    have e1 := va_idx_bare U.vm comp
    have e2 := va_idx_bare u.vm comp
    have e3 : U.vm.bare = u.vm.bare := by first | exact hvm.bare_eq | exact hvm.bare_eq.symm
    rw [e3] at e1
    have hi : (U.vm.classes.findIdx? fun (x : Class) => match x.kind with | .array component _ => component == comp | _ => false) = some c := (e1.symm.trans e2).trans hi0
    have f1 : U.vm.findClass (FieldType.array .int).toString = some comp := by rw [hvm.findClass]; exact hc
    have f2 : U.vm.findClass ("[" ++ (FieldType.array .int).toString) = u.vm.findClass ("[" ++ (FieldType.array .int).toString) := by rw [hvm.findClass]
    have f3 : k'.kind = k.kind := by rw [he]
    unfold xAO2 Cond.before Cond.holds
    simp only [Cond.value]
    rw [f1, Option.bind_some]
    refine (congrArg (fun o : Option Nat => (o.bind (fun c => (U.vm.classes[c]?).map fun (k : Class) => match k.kind with | .array _ ty => decide (ty = FieldType.array .int) && decide (U.vm.findClass ("[" ++ (FieldType.array .int).toString) = some c) | _ => false) == some true)) hi).trans ?_
    cases hkind : k.kind with
    | array component ty =>
      rw [hkind] at hb
      simp at hb
      simp [hk', f3, hkind, f2, hb]
    | _ => rw [hkind] at hb; simp at hb
/-- the run: its launch, the classes' numbers, where its own cells begin, what the static fields hold, the String constants' cells -/
abbrev xG : Type := Launch × va_G × Nat × List (String × String × String × Value) × List (String × Nat × String × Nat)
def xzqs : List (String × String × String) := [("java/lang/Throwable", "UNASSIGNED_STACK", "[Ljava/lang/StackTraceElement;"), ("java/lang/Throwable", "SUPPRESSED_SENTINEL", "Ljava/util/List;")]
def xKn (G : xG) (U : State) (H : Heap) : Prop :=
  va_K G.2.1 xcl (xtys G.2.1) U ∧ (∀ w ∈ xnws, va_Nw w U) ∧ (∀ q ∈ xncs, va_Nc q.1 q.2 U) ∧ (∀ q ∈ xaos, va_AO q U) ∧
  (∀ q ∈ G.2.2.2.1, va_Z q.1 q.2.1 q.2.2.1 q.2.2.2 (fun a => G.2.2.1 ≤ a) U H) ∧ (∀ q ∈ xzqs, vx_Zq q.1 q.2.1 q.2.2 (fun a => G.2.2.1 ≤ a) U H) ∧
  (∀ q ∈ G.2.2.2.2, vk_R q.1 q.2.1 q.2.2.1 q.2.2.2 U) ∧ xAO2 U ∧ G.1.stackTraces = false
theorem xKn.warm {G : xG} {s U : State} {H : Heap} (hW : s.WarmedH U.vm) (h : xKn G s H) : xKn G U H :=
  ⟨va_K.moved hW.alike h.1, fun w hw => xnw_warm hW (List.mem_filter.mp hw).2 (h.2.1 w hw), fun q hq => (h.2.2.1 q hq).moved hW.alike, fun q hq => (h.2.2.2.1 q hq).moved hW.alike,
   fun q hq => (h.2.2.2.2.1 q hq).moved hW.alike, fun q hq => (h.2.2.2.2.2.1 q hq).moved hW.alike, fun q hq => (h.2.2.2.2.2.2.1 q hq).warm hW, h.2.2.2.2.2.2.2.1.moved hW.alike, h.2.2.2.2.2.2.2.2⟩
theorem xKn.kept {G : xG} {U : State} {H H1 : Heap} (hq : ∀ a : Nat, a < H.size → ¬ G.2.2.1 ≤ a → H1[a]? = H[a]?) (h : xKn G U H) : xKn G U H1 :=
  ⟨h.1, h.2.1, h.2.2.1, h.2.2.2.1, fun q hm => (h.2.2.2.2.1 q hm).kept hq, fun q hm => (h.2.2.2.2.2.1 q hm).kept hq, h.2.2.2.2.2.2⟩
theorem xKn.same {G : xG} {s U : State} {H : Heap} (hv : U.vm = s.vm) (h : xKn G s H) : xKn G U H := by
  have ha : s.vm.Alike U.vm := by rw [hv]; exact Vm.Alike.refl _
  refine ⟨va_K.moved ha h.1, fun w hw => ?_, fun q hq => (h.2.2.1 q hq).moved ha, fun q hq => (h.2.2.2.1 q hq).moved ha,
   fun q hq => (h.2.2.2.2.1 q hq).moved ha, fun q hq => (h.2.2.2.2.2.1 q hq).moved ha, fun q hq => (h.2.2.2.2.2.2.1 q hq).same hv, h.2.2.2.2.2.2.2.1.moved ha, h.2.2.2.2.2.2.2.2⟩
  have g := (List.mem_filter.mp hw).2
  have h9 := h.2.1 w hw
  cases w <;> first | exact va_Nw.same rfl hv.symm h9 | (exact absurd g (by simp [xnwk]))
/-- a method: its name, its code, its locals, what it answers, its handlers -/
abbrev xM : Type := MethodName × ByteArray × Nat × Option FieldType × List (Nat × Nat × Nat × Nat)
def xw (y : xM) : Cond := match y.2.2.2.2 with
  | [] => .code y.1 y.2.1 y.2.2.1 y.2.2.2.1
  | _ :: _ => .codeWith y.1 y.2.1 y.2.2.1 y.2.2.2.1 y.2.2.2.2
def xws (y : xM) : List Cond := xw y :: lw_all
def xroom (d mc ms : Nat) : Room := { frames := d, cells := mc, slots := ms, locals := 64 * d }
abbrev xQ : Type := Outcome → xH → Prop
def xF (b : Nat) (st t : State) (L : List Loc) (mc ms : Nat) : Prop := st.WarmedH t.vm ∧ st.sameButNew ({ t with vm := st.vm } : State) L mc ms ∧ ∀ z ∈ L, b ≤ z.base
def xPost (G : xG) (mc ms : Nat) (Q : xQ) : Array Value → State → Outcome → State → Prop := fun _ st o t => ∃ (h : xH) (L : List Loc), Q o h ∧ xRel G.2.1 h t.heap ∧ va_F (fun a => G.2.2.1 ≤ a) st t ∧ xF G.2.2.1 st t L mc ms
/-- THE CONTRACT OF A CALL: with these arguments, from the heap h, over at most d frames, making at most mc cells of ms slots, y ends as Q says -/
def xMet (G : xG) (d mc ms : Nat) (y : xM) (as : List Value) (h : xH) (Q : xQ) : Prop :=
  MetFree G.1 y.1 (headSpec (xws y) (xroom d mc ms)) (va_Pc as (fun U => xKn G U U.heap ∧ xRel G.2.1 h U.heap)) (fun _ _ _ _ _ => True) (xPost G mc ms Q)
def xMQ (G : xG) (below : List Frame) (a : Array Value) (s : State) (mc ms : Nat) (Q : xQ) : State → Prop := fun t => ∃ o, t.status = .running ∧ Ended t below o ∧ xPost G mc ms Q a s o t
/-- the method's own standing -/
def xCtx (G : xG) (y : xM) (p : Program) (s : State) (m : MethodId) (args : Array Value) (meth : Method) (c : Code) : Prop :=
  p.tables.exec = Jvm.exec ∧ c.code = y.2.1 ∧ meth.sig.returnType = y.2.2.2.1 ∧ meth.locks = false ∧ c.maxLocals = y.2.2.1 ∧ s.vm.findClass y.1.cls = some m.cls ∧ (∀ w ∈ lw_all, w.before args s = true) ∧ c.exceptionTable.toList = tableOf y.2.2.2.2 ∧ meth.name = y.1.name ∧ xKn G s s.heap
def xLoc (ls : Array Slot) (n : Nat) (L : List (Option Value)) : Prop := ls.size = n ∧ lv_wf ls ∧ ∀ (i : Nat) (v : Value), L[i]? = some (some v) → ls[i]? = some (.val v)
/-- the walk's world at a point: locals, heap, what was written, what was made -/
def xAt (G : xG) (y : xM) (C S : Nat) (L : List (Option Value)) (h : xH) (s : State) (ls : Array Slot) (H : Heap) (locs : List Loc) (cells slots mc ms : Nat) : Prop :=
  xLoc ls y.2.2.1 L ∧ xRel G.2.1 h H ∧ va_S (fun a => G.2.2.1 ≤ a) s.heap H locs ∧ cells + C ≤ mc ∧ slots + S ≤ ms
/-- THE WALK: from pc with the locals L, the operand stack st, the heap h, C cells and S slots left, y ends as Q says -/
def xRun (G : xG) (y : xM) (d C S pc : Nat) (L : List (Option Value)) (st : List Value) (h : xH) (Q : xQ) : Prop :=
  ∀ (p : Program) (e : Env) (s : State) (m : MethodId) (args : Array Value) (below : List Frame) (meth : Method) (c : Code) (ls : Array Slot) (H : Heap) (locs : List Loc) (cells slots mc ms : Nat),
    xCtx G y p s m args meth c → xAt G y C S L h s ls H locs cells slots mc ms → W p G.1 e (xroom d mc ms) s m args below meth c H locs cells slots (xMQ G below args s mc ms Q) (F0 m pc ls st)
/-- the same with q thrown over the frame -/
def xThr (G : xG) (y : xM) (d C S pc : Nat) (L : List (Option Value)) (st : List Value) (h : xH) (q : Nat) (Q : xQ) : Prop :=
  ∀ (p : Program) (e : Env) (s : State) (m : MethodId) (args : Array Value) (below : List Frame) (meth : Method) (c : Code) (ls : Array Slot) (H : Heap) (locs : List Loc) (cells slots mc ms : Nat),
    xCtx G y p s m args meth c → xAt G y C S L h s ls H locs cells slots mc ms → vx_W p G.1 e (xroom d mc ms) s m args below meth c H locs cells slots (xMQ G below args s mc ms Q) (F0 m pc ls st) q
