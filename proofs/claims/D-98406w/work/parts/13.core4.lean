/-! ===== CORE 4: the kinds of invocation ===== -/
set_option maxRecDepth 100000
/-- the answers -/
def gxQi (P : Int32 → gxH → Prop) : Outcome → gxH → Prop := fun o h' => ∃ r, o = .returned (some (.int r)) ∧ P r h'
def gxQl (P : Int64 → gxH → Prop) : Outcome → gxH → Prop := fun o h' => ∃ r, o = .returned (some (.long r)) ∧ P r h'
def gxQv (P : gxH → Prop) : Outcome → gxH → Prop := fun o h' => o = .returned none ∧ P h'
def gxQr (P : Nat → gxH → Prop) : Outcome → gxH → Prop := fun o h' => ∃ a, o = .returned (some (.ref a)) ∧ P a h'
/-- an answer or an exception -/
def gxQx (Q1 : Outcome → gxH → Prop) (E : Nat → gxH → Prop) : Outcome → gxH → Prop := fun o h' => Q1 o h' ∨ ∃ x, o = .threw x ∧ E x h'
theorem gxQi.k {P : Int32 → gxH → Prop} {K : Option Value → gxH → Prop} (k : ∀ r h', P r h' → K (some (.int r)) h') : ∀ v h', gxQi P (.returned v) h' → K v h' := by
  rintro v h' ⟨r, e, hp⟩
  cases e
  exact k r h' hp
theorem gxQl.k {P : Int64 → gxH → Prop} {K : Option Value → gxH → Prop} (k : ∀ r h', P r h' → K (some (.long r)) h') : ∀ v h', gxQl P (.returned v) h' → K v h' := by
  rintro v h' ⟨r, e, hp⟩
  cases e
  exact k r h' hp
theorem gxQv.k {P : gxH → Prop} {K : Option Value → gxH → Prop} (k : ∀ h', P h' → K none h') : ∀ v h', gxQv P (.returned v) h' → K v h' := by
  rintro v h' ⟨e, hp⟩
  cases e
  exact k h' hp
theorem gxQr.k {P : Nat → gxH → Prop} {K : Option Value → gxH → Prop} (k : ∀ a h', P a h' → K (some (.ref a)) h') : ∀ v h', gxQr P (.returned v) h' → K v h' := by
  rintro v h' ⟨r, e, hp⟩
  cases e
  exact k r h' hp
theorem gxQi.t {P : Int32 → gxH → Prop} {K : Nat → gxH → Prop} : ∀ x h', gxQi P (.threw x) h' → K x h' := by
  rintro x h' ⟨r, e, -⟩; cases e
theorem gxQl.t {P : Int64 → gxH → Prop} {K : Nat → gxH → Prop} : ∀ x h', gxQl P (.threw x) h' → K x h' := by
  rintro x h' ⟨r, e, -⟩; cases e
theorem gxQv.t {P : gxH → Prop} {K : Nat → gxH → Prop} : ∀ x h', gxQv P (.threw x) h' → K x h' := by
  rintro x h' ⟨e, -⟩; cases e
theorem gxQr.t {P : Nat → gxH → Prop} {K : Nat → gxH → Prop} : ∀ x h', gxQr P (.threw x) h' → K x h' := by
  rintro x h' ⟨r, e, -⟩; cases e
/-- the receiver at b is an object of just the class C -/
def gxRc (G : gxG) (h : gxH) (C : String) (b : Nat) : Prop := gxK G → ∀ (s : State) (H : Heap), G.2.1.WarmedH s.vm → gxR G h H → ∃ cell : Cell, H[b]? = some cell ∧ cell.vm.isStatics = false ∧ s.vm.findClass C = some cell.cls
theorem gxRc.of {G : gxG} {h : gxH} {C : String} {T : u_T} {N b ci : Nat} {fs : List Value} (hc : gxCl[ci]? = some (C, T, N)) (hh : h.1 b = some (.inr (ci, fs))) : gxRc G h C b := by
  intro hK s H hW hR
  obtain ⟨r, h1, cell, q1, q2, q3, -⟩ := hR.2.2.1 b _ hh
  refine ⟨cell, q1, by rw [q3]; rfl, ?_⟩
  have hKs : va_K G.2.2.1 gxCl (gxTys G.2.2.2.1) s := va_K.moved hW.alike hK.2.1
  rw [q2]
  exact (hKs.1 ci _ hc).2.1
theorem gx_named {Y : gxY} {a : Array Value} {U : State} (hb : (gxcw Y).before a U = true) : ∃ mk, U.methodNamed? Y.1 = some mk := by
  obtain ⟨y, cc, mL, rt, hh⟩ := Y
  cases hh with
  | nil => exact Cond.code_named (show (Cond.code y cc mL rt).before a U = true from hb)
  | cons x t =>
    obtain ⟨m', meth, c, h0, -⟩ := Cond.codeWith_spec (show (Cond.codeWith y cc mL rt (x :: t)).before a U = true from hb)
    exact ⟨m', h0⟩
section CORE4
variable {G : gxG} {Y Y' : gxY} {d d' kc ks mc ms pc idx b : Nat} {ls : List (Option Value)} {st : List Value} {h : gxH} {Q Q' : Outcome → gxH → Prop} {As : List Value} {C : String}
abbrev gxMH (s : String) : Prop := s ≠ "java/lang/invoke/MethodHandle" ∧ s ≠ "java/lang/invoke/VarHandle"
abbrev gxAr (ds : String) (n : Nat) : Prop := (parseMethodDescriptor ds).map (fun d => d.parameters.length) = some n
theorem gx_ar {ds : String} {n : Nat} {sig : MethodDescriptor} (ha : gxAr ds n) (hs : parseMethodDescriptor ds = some sig) : n = sig.parameters.length := by
  unfold gxAr at ha
  rw [hs] at ha
  exact (Option.some.inj ha).symm
theorem gx_callS (hM : gxM G Y' d' mc ms As h Q') (hcw : gxcw Y' ∈ lw_all) (hini : Cond.initialized Y'.1.cls ∈ lw_all) (hl : Cond.methodLink Y.1.cls idx Y'.1 ∈ lw_all) (hs : Cond.static Y'.1 ∈ lw_all) (hy : gxMH Y'.1.cls) (har : gxAr Y'.1.desc As.length) (hmx : Y'.2.2.1 ≤ 45) (hdd : d' + 1 ≤ d) (hst : (st.map fun v => v.category).sum ≤ 8) (hd : decode Y.2.1 pc = .ok (.invokestatic idx, 3))
    (kr : ∀ v h', Q' (.returned v) h' → gxV G Y d kc ks (pc + 3) ls (v.toList ++ st) h' Q) (kt : ∀ x h', Q' (.threw x) h' → gxT G Y d kc ks pc ls x h' Q) : gxV G Y d (kc + mc) (ks + ms) pc ls (As.reverse ++ st) h Q := by
  refine gx_call hM hcw hini hdd hmx hst ?_ kr kt
  intro p e R s m args below meth c H locs cells slots la A T hT X
  have hts := gx_hts A args
  obtain ⟨mk, hnamed⟩ := gx_named (hts _ hcw)
  obtain ⟨methM, cM, hmethM, -, -, -, -, -, -, hsigM⟩ := gx_cwspec hnamed (hts _ hcw)
  have hstatic : methM.isStatic = true := Cond.static_spec hnamed hmethM (hts _ hs)
  obtain ⟨kP, hkP, -⟩ := className_of_methodNamed hnamed
  have hinitP : kP.init = .initialized := Cond.initialized_spec (findClass_of_methodNamed hnamed) hkP (hts _ hini)
  have hdg : decode c.code pc = .ok (.invokestatic idx, 3) := by rw [A.2.1.2.1]; exact hd
  obtain ⟨vm₁, X₁, hstep₁⟩ := X.invokestatic A.2.1.1 A.2.1.2.2.2.2.2.1 (hts _ hl) hnamed hmethM hstatic hkP hinitP hy (g := F0 m pc la (As.reverse ++ st)) rfl (argsL := As) (rest := st) (gx_ar har hsigM) rfl hdg
  exact ⟨mk, vm₁, .invokestatic idx, X₁.warmed, X₁, X₁.named hnamed, hdg, fun target ht => hstep₁ _ fun acts => by rw [doInvoke_state]; exact ht⟩
theorem gx_callSN {host : String} (hM : gxM G Y' d' mc ms As h Q') (hcw : gxcw Y' ∈ lw_all) (hini : Cond.initialized Y'.1.cls ∈ lw_all) (hl : Cond.methodLinkNest Y.1.cls idx Y'.1 host ∈ lw_tbl) (hs : Cond.static Y'.1 ∈ lw_all) (hy : gxMH Y'.1.cls) (har : gxAr Y'.1.desc As.length) (hmx : Y'.2.2.1 ≤ 45) (hdd : d' + 1 ≤ d) (hst : (st.map fun v => v.category).sum ≤ 8) (hd : decode Y.2.1 pc = .ok (.invokestatic idx, 3))
    (kr : ∀ v h', Q' (.returned v) h' → gxV G Y d kc ks (pc + 3) ls (v.toList ++ st) h' Q) (kt : ∀ x h', Q' (.threw x) h' → gxT G Y d kc ks pc ls x h' Q) : gxV G Y d (kc + mc) (ks + ms) pc ls (As.reverse ++ st) h Q := by
  refine gx_call hM hcw hini hdd hmx hst ?_ kr kt
  intro p e R s m args below meth c H locs cells slots la A T hT X
  have hts := gx_hts A args
  have hlk : va_Nw (.methodLinkNest Y.1.cls idx Y'.1 host) s := va_Nw.warmM A.2.1.2.2.2.2.2.2.2.1 (va_Nw.of rfl (A.1.1 _ hl))
  obtain ⟨mk, hnamed⟩ := gx_named (hts _ hcw)
  obtain ⟨methM, cM, hmethM, -, -, -, -, -, -, hsigM⟩ := gx_cwspec hnamed (hts _ hcw)
  have hstatic : methM.isStatic = true := Cond.static_spec hnamed hmethM (hts _ hs)
  obtain ⟨kP, hkP, -⟩ := className_of_methodNamed hnamed
  have hinitP : kP.init = .initialized := Cond.initialized_spec (findClass_of_methodNamed hnamed) hkP (hts _ hini)
  have hdg : decode c.code pc = .ok (.invokestatic idx, 3) := by rw [A.2.1.2.1]; exact hd
  obtain ⟨vm₁, X₁, hstep₁⟩ := X.invokestaticNest A.2.1.1 A.2.1.2.2.2.2.2.1 (va_Nw.use rfl hlk) hnamed hmethM hstatic hkP hinitP hy (g := F0 m pc la (As.reverse ++ st)) rfl (argsL := As) (rest := st) (gx_ar har hsigM) rfl hdg
  exact ⟨mk, vm₁, .invokestatic idx, X₁.warmed, X₁, X₁.named hnamed, hdg, fun target ht => hstep₁ _ fun acts => by rw [doInvoke_state]; exact ht⟩
theorem gx_callV (hM : gxM G Y' d' mc ms (.ref b :: As) h Q') (hcw : gxcw Y' ∈ lw_all) (hini : Cond.initialized Y'.1.cls ∈ lw_all) (hl : Cond.methodLink Y.1.cls idx Y'.1 ∈ lw_all) (hi : Cond.instanceMethod Y'.1 ∈ lw_all) (hse : Cond.selects C Y'.1 Y'.1 ∈ lw_all) (hrc : gxRc G h C b) (hy : gxMH Y'.1.cls) (har : gxAr Y'.1.desc As.length) (hmx : Y'.2.2.1 ≤ 45) (hdd : d' + 1 ≤ d) (hst : (st.map fun v => v.category).sum ≤ 8) (hd : decode Y.2.1 pc = .ok (.invokevirtual idx, 3))
    (kr : ∀ v h', Q' (.returned v) h' → gxV G Y d kc ks (pc + 3) ls (v.toList ++ st) h' Q) (kt : ∀ x h', Q' (.threw x) h' → gxT G Y d kc ks pc ls x h' Q) : gxV G Y d (kc + mc) (ks + ms) pc ls (As.reverse ++ .ref b :: st) h Q := by
  refine gx_call hM hcw hini hdd hmx hst ?_ kr kt
  intro p e R s m args below meth c H locs cells slots la A T hT X
  have hts := gx_hts A args
  obtain ⟨cellB, hcell, hobj, hcls⟩ := hrc A.1 s H A.2.1.2.2.2.2.2.2.2.1 A.2.2.1
  obtain ⟨mk, methM, hnamed, hmethM, hstM, habM⟩ := Cond.instanceMethod_spec (hts _ hi)
  obtain ⟨methM', cM, hmethM', -, -, -, -, -, -, hsigM⟩ := gx_cwspec hnamed (hts _ hcw)
  cases hmethM.symm.trans hmethM'
  obtain ⟨c2, r2, m2, q1, q2, q3, q4, kP, hkP, hkPi⟩ := Cond.selects_spec (hts _ hse)
  cases hcls.symm.trans q1
  cases (State.methodFound?_of_named hnamed hy).symm.trans q2
  cases hnamed.symm.trans q3
  have hselP : selectMethod e.platform s.vm cellB.cls mk = .method mk := by rw [Launch.admits_selectMethod X.admits]; exact q4
  have hdg : decode c.code pc = .ok (.invokevirtual idx, 3) := by rw [A.2.1.2.1]; exact hd
  obtain ⟨vm₁, X₁, hstep₁⟩ := X.invokevirtual A.2.1.1 A.2.1.2.2.2.2.2.1 (hts _ hl) hnamed hmethM hstM hkP hkPi hy (a := b) (cell := cellB) (by rw [hT]; exact hcell)
    (fun z h => by rw [h] at hobj; cases hobj) hselP hmethM habM hkP hkPi (g := F0 m pc la (As.reverse ++ .ref b :: st)) rfl (argsL := As) (rest := st) (gx_ar har hsigM) rfl hdg
  exact ⟨mk, vm₁, .invokevirtual idx, X₁.warmed, X₁, X₁.named hnamed, hdg, fun target ht => hstep₁ _ fun acts => by rw [doInvoke_state]; exact ht⟩
theorem gx_callVN {host : String} (hM : gxM G Y' d' mc ms (.ref b :: As) h Q') (hcw : gxcw Y' ∈ lw_all) (hini : Cond.initialized Y'.1.cls ∈ lw_all) (hl : Cond.methodLinkNest Y.1.cls idx Y'.1 host ∈ lw_tbl) (hi : Cond.instanceMethod Y'.1 ∈ lw_all) (hse : Cond.selects C Y'.1 Y'.1 ∈ lw_all) (hrc : gxRc G h C b) (hy : gxMH Y'.1.cls) (har : gxAr Y'.1.desc As.length) (hmx : Y'.2.2.1 ≤ 45) (hdd : d' + 1 ≤ d) (hst : (st.map fun v => v.category).sum ≤ 8) (hd : decode Y.2.1 pc = .ok (.invokevirtual idx, 3))
    (kr : ∀ v h', Q' (.returned v) h' → gxV G Y d kc ks (pc + 3) ls (v.toList ++ st) h' Q) (kt : ∀ x h', Q' (.threw x) h' → gxT G Y d kc ks pc ls x h' Q) : gxV G Y d (kc + mc) (ks + ms) pc ls (As.reverse ++ .ref b :: st) h Q := by
  refine gx_call hM hcw hini hdd hmx hst ?_ kr kt
  intro p e R s m args below meth c H locs cells slots la A T hT X
  have hts := gx_hts A args
  have hlk : va_Nw (.methodLinkNest Y.1.cls idx Y'.1 host) s := va_Nw.warmM A.2.1.2.2.2.2.2.2.2.1 (va_Nw.of rfl (A.1.1 _ hl))
  obtain ⟨cellB, hcell, hobj, hcls⟩ := hrc A.1 s H A.2.1.2.2.2.2.2.2.2.1 A.2.2.1
  obtain ⟨mk, methM, hnamed, hmethM, hstM, habM⟩ := Cond.instanceMethod_spec (hts _ hi)
  obtain ⟨methM', cM, hmethM', -, -, -, -, -, -, hsigM⟩ := gx_cwspec hnamed (hts _ hcw)
  cases hmethM.symm.trans hmethM'
  obtain ⟨c2, r2, m2, q1, q2, q3, q4, kP, hkP, hkPi⟩ := Cond.selects_spec (hts _ hse)
  cases hcls.symm.trans q1
  cases (State.methodFound?_of_named hnamed hy).symm.trans q2
  cases hnamed.symm.trans q3
  have hselP : selectMethod e.platform s.vm cellB.cls mk = .method mk := by rw [Launch.admits_selectMethod X.admits]; exact q4
  have hdg : decode c.code pc = .ok (.invokevirtual idx, 3) := by rw [A.2.1.2.1]; exact hd
  obtain ⟨vm₁, X₁, hstep₁⟩ := X.invokevirtualNest A.2.1.1 A.2.1.2.2.2.2.2.1 (va_Nw.use rfl hlk) hnamed hmethM hstM hkP hkPi hy (a := b) (cell := cellB) (by rw [hT]; exact hcell)
    (fun z h => by rw [h] at hobj; cases hobj) hselP hmethM habM hkP hkPi (g := F0 m pc la (As.reverse ++ .ref b :: st)) rfl (argsL := As) (rest := st) (gx_ar har hsigM) rfl hdg
  exact ⟨mk, vm₁, .invokevirtual idx, X₁.warmed, X₁, X₁.named hnamed, hdg, fun target ht => hstep₁ _ fun acts => by rw [doInvoke_state]; exact ht⟩
/-- what the reference names is declared: as a method with code, or abstract -/
def gxDc (x : MethodName) : Prop := (∃ (b0 : ByteArray) (m0 : Nat) (r0 : Option FieldType), Cond.instanceMethod x ∈ lw_all ∧ Cond.code x b0 m0 r0 ∈ lw_all) ∨ Cond.declares x ∈ lw_tbl
/-- an inherited or an overriding method: x the one that the reference names, Y' the one that is run -/
theorem gx_callU {x : MethodName} {owner : String} (hM : gxM G Y' d' mc ms (.ref b :: As) h Q') (hcw : gxcw Y' ∈ lw_all) (hini : Cond.initialized Y'.1.cls ∈ lw_all) (hl : Cond.methodLink Y.1.cls idx x ∈ lw_all) (hsa : Cond.sameMethod x.cls owner x.name x.desc ∈ lw_all) (hdc : gxDc ⟨owner, x.name, x.desc⟩) (hi : Cond.instanceMethod Y'.1 ∈ lw_all) (hse : Cond.selects C x Y'.1 ∈ lw_all) (hrc : gxRc G h C b) (hy : gxMH owner) (har : gxAr x.desc As.length) (hmx : Y'.2.2.1 ≤ 45) (hdd : d' + 1 ≤ d) (hst : (st.map fun v => v.category).sum ≤ 8) (hd : decode Y.2.1 pc = .ok (.invokevirtual idx, 3))
    (kr : ∀ v h', Q' (.returned v) h' → gxV G Y d kc ks (pc + 3) ls (v.toList ++ st) h' Q) (kt : ∀ x h', Q' (.threw x) h' → gxT G Y d kc ks pc ls x h' Q) : gxV G Y d (kc + mc) (ks + ms) pc ls (As.reverse ++ .ref b :: st) h Q := by
  refine gx_call hM hcw hini hdd hmx hst ?_ kr kt
  intro p e R s m args below meth c H locs cells slots la A T hT X
  have hts := gx_hts A args
  have hd0 : va_Decl s ⟨owner, x.name, x.desc⟩ := by
    rcases hdc with ⟨b0, m0, r0, k1, k2⟩ | k1
    · exact va_Decl.of (hts _ k1) (hts _ k2)
    · exact va_Decl.abs (va_Nw.warmD A.2.1.2.2.2.2.2.2.2.1 (va_Nw.of rfl (A.1.1 _ k1)))
  obtain ⟨cellB, hcell, hobj, hcls⟩ := hrc A.1 s H A.2.1.2.2.2.2.2.2.2.1 A.2.2.1
  obtain ⟨r0, r, hn, hrm, hstR, hsigR⟩ := hd0
  obtain ⟨cn, ck, r1, hcn, hck, hni, hf, hn1⟩ := Cond.sameMethod_found (hts _ hsa)
  cases hn.symm.trans hn1
  obtain ⟨mk, methM, hnamed, hmethM, -, habM⟩ := Cond.instanceMethod_spec (hts _ hi)
  obtain ⟨c2, r2, m2, q1, q2, q3, q4, kP, hkP, hkPi⟩ := Cond.selects_spec (hts _ hse)
  cases hcls.symm.trans q1
  cases hf.symm.trans q2
  cases hnamed.symm.trans q3
  have hselP : selectMethod e.platform s.vm cellB.cls r0 = .method mk := by rw [Launch.admits_selectMethod X.admits]; exact q4
  have hdg : decode c.code pc = .ok (.invokevirtual idx, 3) := by rw [A.2.1.2.1]; exact hd
  obtain ⟨vm₁, X₁, hstep₁⟩ := X.invokevirtualUp A.2.1.1 A.2.1.2.2.2.2.2.1 (hts _ hl) (hts _ hsa) hy hn hrm hstR (a := b) (cell := cellB) (by rw [hT]; exact hcell)
    (fun z h => by rw [h] at hobj; cases hobj) hselP hmethM habM hkP hkPi (g := F0 m pc la (As.reverse ++ .ref b :: st)) rfl (argsL := As) (rest := st) (gx_ar har hsigR) rfl hdg
  exact ⟨mk, vm₁, .invokevirtual idx, X₁.warmed, X₁, X₁.named hnamed, hdg, fun target ht => hstep₁ _ fun acts => by rw [doInvoke_state]; exact ht⟩
theorem gx_callI {cc : ByteArray} {mL : Nat} {y : MethodName} (hM : gxM G (y, cc, mL, none, []) d' mc ms (.ref b :: As) h Q') (hcw : Cond.code y cc mL none ∈ lw_all) (hini : Cond.initialized y.cls ∈ lw_all) (hl : Cond.methodLink Y.1.cls idx y ∈ lw_all) (hi : Cond.instanceMethod y ∈ lw_all) (hnm : y.name = "<init>") (hy : gxMH y.cls) (har : gxAr y.desc As.length) (hmx : mL ≤ 45) (hdd : d' + 1 ≤ d) (hst : (st.map fun v => v.category).sum ≤ 8) (hd : decode Y.2.1 pc = .ok (.invokespecial idx, 3))
    (kr : ∀ v h', Q' (.returned v) h' → gxV G Y d kc ks (pc + 3) ls (v.toList ++ st) h' Q) (kt : ∀ x h', Q' (.threw x) h' → gxT G Y d kc ks pc ls x h' Q) : gxV G Y d (kc + mc) (ks + ms) pc ls (As.reverse ++ .ref b :: st) h Q := by
  refine gx_call hM hcw hini hdd hmx hst ?_ kr kt
  intro p e R s m args below meth c H locs cells slots la A T hT X
  have hts := gx_hts A args
  have hpl : e.platform.magicAccessors = ({} : Platform).magicAccessors := by rw [X.admits.platform]
  have hdg : decode c.code pc = .ok (.invokespecial idx, 3) := by rw [A.2.1.2.1]; exact hd
  obtain ⟨mk, methM, cM, kP, vm₁, hnamed, hmethM, hcodeM, -, hlocalsM, -, hkP, -, hW₁, hstep₁⟩ := Steps.initColdArgs (e := e) X.here A.2.1.1 X.warmed hpl A.2.1.2.2.2.2.2.1 hnm hy (hts _ hl) (hts _ hi) (hts _ hcw) (f := F0 m pc la (As.reverse ++ .ref b :: st)) rfl (fun sig hs => gx_ar har hs) rfl hdg
  have X₁ := X.noted hW₁
  exact ⟨mk, vm₁, .invokespecial idx, X₁.warmed, X₁, X₁.named hnamed, hdg, fun target ht => hstep₁ _ fun acts => by rw [doInvoke_state]; exact ht⟩
theorem gx_callIN {host : String} {cc : ByteArray} {mL : Nat} {y : MethodName} (hM : gxM G (y, cc, mL, none, []) d' mc ms (.ref b :: As) h Q') (hcw : Cond.code y cc mL none ∈ lw_all) (hini : Cond.initialized y.cls ∈ lw_all) (hl : Cond.methodLinkNest Y.1.cls idx y host ∈ lw_tbl) (hi : Cond.instanceMethod y ∈ lw_all) (hnm : y.name = "<init>") (hy : gxMH y.cls) (har : gxAr y.desc As.length) (hmx : mL ≤ 45) (hdd : d' + 1 ≤ d) (hst : (st.map fun v => v.category).sum ≤ 8) (hd : decode Y.2.1 pc = .ok (.invokespecial idx, 3))
    (kr : ∀ v h', Q' (.returned v) h' → gxV G Y d kc ks (pc + 3) ls (v.toList ++ st) h' Q) (kt : ∀ x h', Q' (.threw x) h' → gxT G Y d kc ks pc ls x h' Q) : gxV G Y d (kc + mc) (ks + ms) pc ls (As.reverse ++ .ref b :: st) h Q := by
  refine gx_call hM hcw hini hdd hmx hst ?_ kr kt
  intro p e R s m args below meth c H locs cells slots la A T hT X
  have hts := gx_hts A args
  have hlk : va_Nw (.methodLinkNest Y.1.cls idx y host) s := va_Nw.warmM A.2.1.2.2.2.2.2.2.2.1 (va_Nw.of rfl (A.1.1 _ hl))
  have hpl : e.platform.magicAccessors = ({} : Platform).magicAccessors := by rw [X.admits.platform]
  have hdg : decode c.code pc = .ok (.invokespecial idx, 3) := by rw [A.2.1.2.1]; exact hd
  obtain ⟨mk, methM, cM, kP, vm₁, hnamed, hmethM, hcodeM, -, hlocalsM, -, hkP, -, hW₁, hstep₁⟩ := Steps.initColdArgsNest (e := e) X.here A.2.1.1 X.warmed hpl A.2.1.2.2.2.2.2.1 hnm hy (va_Nw.use rfl hlk) (hts _ hi) (hts _ hcw) (f := F0 m pc la (As.reverse ++ .ref b :: st)) rfl (fun sig hs => gx_ar har hs) rfl hdg
  have X₁ := X.noted hW₁
  exact ⟨mk, vm₁, .invokespecial idx, X₁.warmed, X₁, X₁.named hnamed, hdg, fun target ht => hstep₁ _ fun acts => by rw [doInvoke_state]; exact ht⟩
end CORE4
