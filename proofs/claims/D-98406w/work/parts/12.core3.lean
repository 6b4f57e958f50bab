/-! ===== CORE 3: calls, throws, contracts ===== -/
set_option maxRecDepth 100000
/-- an invocation's own step: the callee's name is found, its arguments are taken off the stack -/
def gxInv (G : gxG) (p : Program) (e : Env) (R : Room) (s : State) (m : MethodId) (args : Array Value) (below : List Frame) (meth : Method) (c : Code) (T : State) (locs : List Loc) (cells slots : Nat) (g g' : JFrame) (y : MethodName) (a : Array Value) : Prop :=
  ∃ (mk : MethodId) (vm₁ : Vm) (ig : Instr), s.WarmedH vm₁ ∧ Stand p G.1 e R s m args below meth c (T.setVm vm₁) locs cells slots ∧ (T.setVm vm₁).methodNamed? y = some mk ∧ decode c.code g'.pc = .ok (ig, 3) ∧
    ∀ target, Steps p.tables e below (doInvoke e ((T.setVm vm₁).setTop g') [] mk a).1 target → Steps p.tables e below (T.setTop g) target
/-- an exception x is on its way, at pc -/
def gxT (G : gxG) (Y : gxY) (d kc ks pc : Nat) (ls : List (Option Value)) (x : Nat) (h : gxH) (Q : Outcome → gxH → Prop) : Prop :=
  ∀ (p : Program) (e : Env) (R : Room) (s : State) (m : MethodId) (args : Array Value) (below : List Frame) (meth : Method) (c : Code) (H : Heap) (locs : List Loc) (cells slots : Nat) (la : Array Slot) (st : List Value),
    gxA G Y d kc ks h ls p R s m meth c H locs cells slots la → ∀ T : State, T.heap = H → Stand p G.1 e R s m args below meth c T locs cells slots → ∃ t, Steps p.tables e below ((T.setTop (F0 m pc la st)).pushFrame (.throwing x)) t ∧ gxZ G below s (cells + kc) (slots + ks) Q t
theorem gx_cwspec {Y : gxY} {a : Array Value} {U : State} {mk : MethodId} (hn : U.methodNamed? Y.1 = some mk) (hb : (gxcw Y).before a U = true) :
    ∃ meth c, U.vm.method? mk = some meth ∧ meth.code = some c ∧ c.code = Y.2.1 ∧ c.maxLocals = Y.2.2.1 ∧ meth.sig.returnType = Y.2.2.2.1 ∧ meth.locks = false ∧ c.exceptionTable.toList.map (fun h => (h.startPc, h.endPc, h.handlerPc, h.catchType)) = Y.2.2.2.2 ∧ parseMethodDescriptor Y.1.desc = some meth.sig := by
  obtain ⟨y, cc, mL, rt, hh⟩ := Y
  cases hh with
  | nil =>
    obtain ⟨meth, c, h1, h2, h3, h4, h5, h6, h7, h8⟩ := Cond.code_spec hn (show (Cond.code y cc mL rt).before a U = true from hb)
    refine ⟨meth, c, h1, h2, h3, h4, h5, h6, ?_, h8⟩
    have : c.exceptionTable = #[] := Array.isEmpty_iff.mp h7
    rw [this]; rfl
  | cons x t =>
    obtain ⟨m', meth, c, h0, h1, h2, h3, h4, h5, h6, h7, h8⟩ := Cond.codeWith_spec (show (Cond.codeWith y cc mL rt (x :: t)).before a U = true from hb)
    cases hn.symm.trans h0
    exact ⟨meth, c, h1, h2, h3, h4, h6, h7, h5, h8⟩
section CORE3
variable {G : gxG} {Y Y' : gxY} {d d' kc ks mc ms pc : Nat} {ls : List (Option Value)} {st st0 : List Value} {h : gxH} {Q Q' : Outcome → gxH → Prop} {av : List Value}
/-- the callee's run, by its contract -/
theorem gx_callG {p : Program} {e : Env} {R : Room} {s : State} {m : MethodId} {args : Array Value} {below : List Frame} {meth : Method} {c : Code} {U : State} {locs : List Loc} {cells slots : Nat} (hK : gxK G) (X : Stand p G.1 e R s m args below meth c U locs cells slots) (hW0 : G.2.1.WarmedH U.vm) (hR : gxR G h U.heap) (hM : gxM G Y' d' mc ms av h Q')
    (hcw : gxcw Y' ∈ lw_all) (hini : Cond.initialized Y'.1.cls ∈ lw_all) (hfr : d' + 1 ≤ R.frames) (hlo : 8 + (Y'.2.2.1 + 11) + 64 * d' ≤ R.locals) (hc : cells + mc ≤ R.cells) (hs : slots + ms ≤ R.slots)
    {g : JFrame} {ig : Instr} {mk : MethodId} (hg : g.method = m) (hsize : g.locals.size = c.maxLocals) (hdg : decode c.code g.pc = .ok (ig, 3)) (hst : 2 * g.monitorRoom + (g.stack.map fun v => v.category).sum ≤ 8) (hn : U.methodNamed? Y'.1 = some mk) :
    ∃ (o : Outcome) (h' : gxH) (L : List Loc) (T' : State), Q' o h' ∧ gxR G h' T'.heap ∧ (∀ q ∈ L, gxN G ≤ q.base) ∧ Stand p G.1 e R s m args below meth c T' (locs ++ L) (cells + mc) (slots + ms) ∧
      ((∃ v, o = .returned v ∧ Steps p.tables e below (doInvoke e (U.setTop g) [] mk av.toArray).1 (T'.setTop { g with pc := g.pc + 3, stack := v.toList ++ g.stack })) ∨ ∃ x, o = .threw x ∧ Steps p.tables e below (doInvoke e (U.setTop g) [] mk av.toArray).1 ((T'.setTop g).pushFrame (.throwing x))) := by
  have hMF := hM hK
  obtain ⟨methY, cY, hmY, hcY, -, hlY, -, -, -, -⟩ := gx_cwspec hn (gx_word hK hW0 hcw av.toArray)
  obtain ⟨kY, hkY, -⟩ := className_of_methodNamed hn
  have hinitY : kY.init = .initialized := Cond.initialized_spec (findClass_of_methodNamed hn) hkY (gx_word hK hW0 hini av.toArray)
  have hA : At U g.method c below := by rw [hg]; exact X.here
  have happ : (headSpec [gxcw Y'] (gxRm d' mc ms)).appliesLoose Y'.1 e.platform (U.calling g mk av.toArray) = true :=
    Spec.appliesLoose_calling (g := g) hA hdg hn hkY hinitY
      (X.room_calling (g := g) (R' := gxRm d' mc ms) hsize hmY hcY hfr (by rw [hlY]; show _ + _ + 64 * d' ≤ _; omega) hc hs)
      (atoms_intro (ws := [gxcw Y']) fun w hw => by rw [List.mem_singleton.mp hw]; exact gx_word hK hW0 hcw _)
  obtain ⟨mid, hmid⟩ := hA.above
  have hfrm : (U.setTop g).frames = (.java g :: mid) ++ below := by rw [State.frames_setTop' g hA.top, hmid]; rfl
  obtain ⟨o, s₂, hsteps, -, hend, hq⟩ := Steps.callFree hMF p X.admits X.cas X.clock (acts := []) hfrm happ ⟨rfl, hW0, hR⟩ trivial
  obtain ⟨h', L, hq1, hq2, hW₂, ⟨e2, q2, q3, q4, q5, q6⟩, hL⟩ := hq
  rw [State.frames_setTop' g hA.top] at hend
  have e3 : s₂ = ({ (U.calling g mk av.toArray).setFrames s₂.frames with heap := s₂.heap, slotsUsed := s₂.slotsUsed } : State).setVm s₂.vm := by
    have : s₂ = ({ s₂ with vm := (U.calling g mk av.toArray).vm } : State).setVm s₂.vm := rfl
    have e2' : ({ s₂ with vm := (U.calling g mk av.toArray).vm } : State) = { (U.calling g mk av.toArray).setFrames s₂.frames with heap := s₂.heap, slotsUsed := s₂.slotsUsed } := e2
    rw [e2'] at this
    exact this
  have hW' : U.WarmedH s₂.vm := hW₂
  obtain ⟨g₀, hg0⟩ := Option.isSome_iff_exists.mp hA.top
  obtain ⟨r, hr⟩ := State.topJava?_eq_some.mp hg0
  have hr' : (({ U with heap := s₂.heap, slotsUsed := s₂.slotsUsed } : State).setVm s₂.vm).frames = .java g₀ :: r := hr
  have hsame : U.sameButNew ({ U with heap := s₂.heap, slotsUsed := s₂.slotsUsed } : State) L mc ms := by
    refine ⟨?_, q2, q3, q4, q5, q6⟩
    obtain ⟨t, ht, -⟩ := State.frames_cons hr
    show ({ U with heap := s₂.heap, slotsUsed := s₂.slotsUsed } : State) = { U.setFrames U.frames with heap := s₂.heap, slotsUsed := s₂.slotsUsed }
    rw [State.setFrames_self ht]
  have hAt : At (({ U with heap := s₂.heap, slotsUsed := s₂.slotsUsed } : State).setVm s₂.vm) m c below := (X.here.setHeapUsed s₂.heap s₂.slotsUsed).setVm hW'.alike
  refine ⟨o, h', L, (({ U with heap := s₂.heap, slotsUsed := s₂.slotsUsed } : State).setVm s₂.vm), hq1, hq2, hL,
    ⟨X.admits, X.cas, X.clock, X.frames, X.room, X.hears, X.method, X.code, hAt, X.tail, State.WarmedH.trans X.warmed hW', X.limits, X.bytes, X.same.trans (hsame.setVm s.vm)⟩, ?_⟩
  cases o with
  | returned v =>
    refine Or.inl ⟨v, rfl, ?_⟩
    obtain ⟨c₂, i₂, len₂, hc₂, hd₂, hf₂⟩ := hend
    have hcc : c₂ = c := by
      have h1 : s₂.code? g.method = U.code? g.method := by
        rw [State.code?_eq, State.code?_eq, hW'.alike.method?]
      exact Option.some.inj (hc₂.symm.trans (h1.trans hA.code))
    subst hcc
    have hlen : len₂ = 3 := by rw [hdg] at hd₂; cases hd₂; rfl
    subst hlen
    have hs₂ : s₂ = (({ U with heap := s₂.heap, slotsUsed := s₂.slotsUsed } : State).setVm s₂.vm).setTop { g with pc := g.pc + 3, stack := v.toList ++ g.stack } := by
      refine e3.trans ?_
      rw [hf₂, State.calling_eq hA.top, State.setFrames_setFrames, State.setTop_of_frames _ hr', hr]
      rfl
    rw [← hs₂]
    exact hsteps
  | threw x =>
    refine Or.inr ⟨x, rfl, ?_⟩
    have hf₂ : s₂.frames = .throwing x :: .java g :: U.frames.tail := hend
    have hs₂ : s₂ = ((({ U with heap := s₂.heap, slotsUsed := s₂.slotsUsed } : State).setVm s₂.vm).setTop g).pushFrame (.throwing x) := by
      refine e3.trans ?_
      rw [hf₂, State.calling_eq hA.top, State.setFrames_setFrames, State.pushFrame, State.frames_setTop _ hr', State.setTop_of_frames _ hr', State.setFrames_setFrames, hr]
      rfl
    rw [← hs₂]
    exact hsteps
/-- A CALL: the invocation's own step, the callee's contract, what follows -/
theorem gx_call (hM : gxM G Y' d' mc ms av h Q') (hcw : gxcw Y' ∈ lw_all) (hini : Cond.initialized Y'.1.cls ∈ lw_all) (hdd : d' + 1 ≤ d) (hmx : Y'.2.2.1 ≤ 45) (hst : (st.map fun v => v.category).sum ≤ 8)
    (hinv : ∀ (p : Program) (e : Env) (R : Room) (s : State) (m : MethodId) (args : Array Value) (below : List Frame) (meth : Method) (c : Code) (H : Heap) (locs : List Loc) (cells slots : Nat) (la : Array Slot), gxA G Y d (kc + mc) (ks + ms) h ls p R s m meth c H locs cells slots la → ∀ T : State, T.heap = H → Stand p G.1 e R s m args below meth c T locs cells slots →
      gxInv G p e R s m args below meth c T locs cells slots (F0 m pc la st0) (F0 m pc la st) Y'.1 av.toArray)
    (kr : ∀ v h', Q' (.returned v) h' → gxV G Y d kc ks (pc + 3) ls (v.toList ++ st) h' Q) (kt : ∀ x h', Q' (.threw x) h' → gxT G Y d kc ks pc ls x h' Q) : gxV G Y d (kc + mc) (ks + ms) pc ls st0 h Q := by
  intro p e R s m args below meth c H locs cells slots la A T hT X
  obtain ⟨mk, vm₁, ig, hW₁, X₁, hn, hdg, hstep⟩ := hinv p e R s m args below meth c H locs cells slots la A T hT X
  obtain ⟨a1, a2, a3, a4, a5, a6⟩ := A
  obtain ⟨-, -, -, -, hml, -, -, hWs, -, hfr, hlo⟩ := id a2
  have hWU : G.2.1.WarmedH (T.setVm vm₁).vm := State.WarmedH.trans hWs hW₁
  have hsub : 64 * (d' + 1) ≤ 64 * d := Nat.mul_le_mul_left _ hdd
  obtain ⟨o, h', L, T', g1, g2, g3, X', g4⟩ := gx_callG (g := F0 m pc la st) a1 X₁ hWU (by show gxR G h T.heap; rw [hT]; exact a3) hM hcw hini (by omega) (by omega) (by omega) (by omega) rfl (a6.1.trans hml.symm) hdg (by
    have h0 : (F0 m pc la st).monitorRoom = 0 := rfl
    rw [h0]; show 2 * 0 + (st.map fun v => v.category).sum ≤ 8; omega) hn
  have a4' : ∀ q ∈ locs ++ L, gxN G ≤ q.base := fun q hq => (List.mem_append.mp hq).elim (a4 q) (g3 q)
  have A' : gxA G Y d kc ks h' ls p R s m meth c T'.heap (locs ++ L) (cells + mc) (slots + ms) la := ⟨a1, a2, g2, a4', ⟨by omega, by omega⟩, a6⟩
  rw [show cells + (kc + mc) = cells + mc + kc by omega, show slots + (ks + ms) = slots + ms + ks by omega]
  rcases g4 with ⟨v, rfl, hs4⟩ | ⟨x, rfl, hs4⟩
  · obtain ⟨t, b1, b2⟩ := kr v h' g1 p e R s m args below meth c T'.heap (locs ++ L) (cells + mc) (slots + ms) la A' T' rfl X'
    exact ⟨t, hstep _ (hs4.trans b1), b2⟩
  · obtain ⟨t, b1, b2⟩ := kt x h' g1 p e R s m args below meth c T'.heap (locs ++ L) (cells + mc) (slots + ms) la st A' T' rfl X'
    exact ⟨t, hstep _ (hs4.trans b1), b2⟩
/-- no handler of the method's own is over pc -/
def gxout (Y : gxY) (pc : Nat) : Bool := Y.2.2.2.2.all fun q => decide (pc < q.1 ∨ q.2.1 ≤ pc)
theorem gx_covers {Y : gxY} {c : Code} {pc : Nat} (he : c.exceptionTable.toList.map (fun h => (h.startPc, h.endPc, h.handlerPc, h.catchType)) = Y.2.2.2.2) (ho : gxout Y pc = true) : ∀ x ∈ c.exceptionTable.toList, covers x pc = false := by
  intro x hx
  have h1 : (x.startPc, x.endPc, x.handlerPc, x.catchType) ∈ Y.2.2.2.2 := by rw [← he]; exact List.mem_map.mpr ⟨x, hx, rfl⟩
  have h2 := of_decide_eq_true (List.all_eq_true.mp ho _ h1)
  simp only at h2
  simp only [covers, Bool.and_eq_false_iff, decide_eq_false_iff_not]
  omega
/-- the exception leaves the method -/
theorem gxT_out {x : Nat} (ho : gxout Y pc = true) (hq : Q (.threw x) h) : gxT G Y d kc ks pc ls x h Q := by
  intro p e R s m args below meth c H locs cells slots la st A T hT X
  obtain ⟨b1, b2, b3, b4, b5⟩ := X.leaveThrown x (g := F0 m pc la st) rfl rfl rfl (gx_covers A.2.1.2.2.2.2.2.2.2.2.1.1 ho) (hlocks := A.2.1.2.2.2.1)
  refine ⟨_, b1, .threw x, h, locs, b2, b3, hq, ?_, b4, b5.mono (by omega) (by omega), A.2.2.2.1⟩
  show gxR G h T.heap
  rw [hT]; exact A.2.2.1
theorem gx_athrow {x : Nat} (hd : decode Y.2.1 pc = .ok (.athrow, 1)) (kk : gxT G Y d kc ks pc ls x h Q) : gxV G Y d kc ks pc ls (.ref x :: st) h Q := by
  intro p e R s m args below meth c H locs cells slots la A T hT X
  obtain ⟨t, b1, b2⟩ := kk p e R s m args below meth c H locs cells slots la st A T hT X
  refine ⟨t, ?_, b2⟩
  have hexec := A.2.1.1
  have hdg : decode c.code pc = .ok (.athrow, 1) := by rw [A.2.1.2.1]; exact hd
  jvm_step X.here [hexec, hdg, athrow.wp_sem]
  exact b1
/-- FROM THE WALK TO THE CONTRACT -/
theorem gxM_ofF (hpl : plainFor Y.1 = true) (hlen : (lg_sl av).length ≤ Y.2.2.1) (hls : gxent av ++ List.replicate (Y.2.2.1 - (gxent av).length) none = ls) (kk : gxV G Y d kc ks 0 ls [] h Q) : gxM G Y d kc ks av h Q := by
  intro hK
  refine MetFree.of_bodySF (code := Y.2.1) (maxLocals := Y.2.2.1) (ret := Y.2.2.2.1) hpl ?_ ?_
  · intro args s m hb hn
    obtain ⟨meth, c, h1, h2, h3, h4, h5, h6, -, -⟩ := gx_cwspec hn (atoms_spec (ws := [gxcw Y]) hb _ List.mem_cons_self)
    exact ⟨meth, c, h1, h2, h3, h4, h5, h6⟩
  · intro p e s m args below meth c s₁ B hml hP _
    obtain ⟨rfl, hW, hR⟩ := hP
    have hh0 : s₁.heap = s.heap := by rw [B.state]; rfl
    have X := Stand.of_body B
    obtain ⟨meth', c', k1, k2, -, -, -, -, k7, -⟩ := gx_cwspec B.named (atoms_spec (ws := [gxcw Y]) B.pre _ List.mem_cons_self)
    cases B.method.symm.trans k1
    cases X.code.symm.trans k2
    have hC : gxC G Y d p (gxRm d kc ks) s m meth c := ⟨B.exec, B.bytes, B.returns, B.notSynchronized, hml, findClass_of_methodNamed B.named, (name_of_methodNamed B.named B.method).1, hW, ⟨k7, hR.2.2.2.1⟩, Nat.le_refl _, Nat.le_refl _⟩
    have hL := gxL.entry (vs := av) hlen
    rw [hls] at hL
    obtain ⟨t, b1, o, h', L, b2, b3, b4, b5, b6, b7, b8⟩ := kk p e (gxRm d kc ks) s m av.toArray below meth c s.heap [] 0 0 _ ⟨hK, hC, hR, (fun q hq => by cases hq), ⟨by show 0 + kc ≤ kc; omega, by show 0 + ks ≤ ks; omega⟩, hL⟩ s₁ hh0 X
    refine ⟨t, o, ?_, b2, b3, h', L, b4, b5, b6, ?_, b8⟩
    · rw [lg_entry_eq]; exact b1
    · rw [Nat.zero_add, Nat.zero_add] at b7; exact b7
theorem gxM_of (hpl : plainName Y.1.cls = true) (hlen : (lg_sl av).length ≤ Y.2.2.1) (hls : gxent av ++ List.replicate (Y.2.2.1 - (gxent av).length) none = ls) (kk : gxV G Y d kc ks 0 ls [] h Q) : gxM G Y d kc ks av h Q := gxM_ofF (plainFor_of_name hpl) hlen hls kk
theorem gxM_post {Q1 : Outcome → gxH → Prop} (hq : ∀ o h', Q o h' → Q1 o h') (hM : gxM G Y d kc ks av h Q) : gxM G Y d kc ks av h Q1 := by
  intro hK p e ha hc hk s m args below hf happ hP hT
  obtain ⟨n, o, b1, b2, b3, h', L, b4, b5⟩ := hM hK p e ha hc hk s m args below hf happ hP hT
  exact ⟨n, o, b1, b2, b3, h', L, hq _ _ b4, b5⟩
end CORE3
