/-! ===== CORE 11: old objects, static fields, exceptions made ===== -/
set_option maxRecDepth 100000
def gZ (G : gxG) (C n dd : String) (v : Value) : Prop := va_Z C n dd v (fun q => gxN G ≤ q) G.2.1 G.2.1.heap
def gOF (G : gxG) (o n dd : String) (v : Value) (t : Nat) : Prop := va_OF o n dd v t (fun q => gxN G ≤ q) G.2.1 G.2.1.heap
def gTa (G : gxG) (ty : FieldType) (t N : Nat) (f : Nat → Value) : Prop := va_T ty t N f (fun q => gxN G ≤ q) G.2.1 G.2.1.heap
theorem gOF.lt {G : gxG} {o n dd : String} {v : Value} {t : Nat} (h : gOF G o n dd v t) : t < gxN G := by
  obtain ⟨cf, k, i, f, cell, h1, h2, h3, h4, h5, h6⟩ := h
  exact Nat.not_le.mp h6
theorem gO.lt {G : gxG} {E : String} {t : Nat} (h : gO G E t) : t < gxN G := by
  obtain ⟨cell, h1, h2, h3, h4⟩ := h
  exact Nat.not_le.mp h4
theorem gOF.val {G : gxG} {o n dd : String} {v v' : Value} {t : Nat} (h : gOF G o n dd v t) (h' : gOF G o n dd v' t) : v = v' := by
  obtain ⟨cf, k, i, f, cell, h1, h2, h3, h4, h5, h6⟩ := h
  obtain ⟨cf', k', i', f', cell', g1, g2, g3, g4, g5, g6⟩ := h'
  cases Option.some.inj (h1.symm.trans g1)
  cases Option.some.inj (h3.symm.trans g3)
  exact Option.some.inj (h5.symm.trans g5)
section CORE11
variable {G : gxG} {Y : gxY} {d kc ks pc : Nat} {ls : List (Option Value)} {st : List Value} {h : gxH} {Q : Outcome → gxH → Prop}
theorem gx_gets {idx : Nat} {C n dd : String} {v : Value} (hZ : gZ G C n dd v) (hl : Cond.fieldLink Y.1.cls idx C n dd ∈ lw_all) (hd : decode Y.2.1 pc = .ok (.getstatic idx, 3)) (kk : gxV G Y d kc ks (pc + 3) ls (v :: st) h Q) : gxV G Y d kc ks pc ls st h Q := by
  intro p e R s m args below meth c H locs cells slots la A
  obtain ⟨cf, kf, fi, f, a, cell, h1, h2, h3, h4, h5, h6, h7, h8⟩ := va_Z.moved A.2.1.2.2.2.2.2.2.2.1.alike hZ
  exact W.gets A.2.1.1 A.2.1.2.1 A.2.1.2.2.2.2.2.1 (gx_hts A args _ hl) h1 h2 h3 h4 (by rw [A.2.2.1.2.2.2.1 a (Nat.not_le.mp h8)]; exact h5) (fun e => by rw [e] at h6; cases h6) h7 rfl hd (kk p e R s m args below meth c H locs cells slots la A)
theorem gx_getO {idx t : Nat} {o n dd : String} {v : Value} (hO : gOF G o n dd v t) (hl : Cond.fieldLink Y.1.cls idx o n dd ∈ lw_all) (hd : decode Y.2.1 pc = .ok (.getfield idx, 3)) (kk : gxV G Y d kc ks (pc + 3) ls (v :: st) h Q) : gxV G Y d kc ks pc ls (.ref t :: st) h Q := by
  intro p e R s m args below meth c H locs cells slots la A
  obtain ⟨cf, k, i, f, cell, h1, h2, h3, h4, h5, h6⟩ := va_OF.moved A.2.1.2.2.2.2.2.2.2.1.alike hO
  exact W.getf A.2.1.1 A.2.1.2.1 A.2.1.2.2.2.2.2.1 (gx_hts A args _ hl) h1 h2 (by rw [A.2.2.1.2.2.2.1 t (Nat.not_le.mp h6)]; exact h3) h4 (v := v) h5 rfl rfl hd (kk p e R s m args below meth c H locs cells slots la A)
theorem gx_aaldO {t N : Nat} {C : String} {f : Nat → Value} {i : Int32} (k : Nat) (hT : gTa G (.object C) t N f) (hi : i = nI k) (hk : k < N) (hn : N < 2 ^ 31) (hd : decode Y.2.1 pc = .ok (.aaload, 1)) (kk : gxV G Y d kc ks (pc + 1) ls (f k :: st) h Q) : gxV G Y d kc ks pc ls (.int i :: .ref t :: st) h Q := by
  intro p e R s m args below meth c H locs cells slots la A
  obtain ⟨q1, q2⟩ := gx_in hi hk hn
  obtain ⟨cell, h1, h2, h3, h4, h5, h6, h7⟩ := va_T.moved A.2.1.2.2.2.2.2.2.2.1.alike hT
  exact W.aald (v := f k) (ty := .object C) A.2.1.1 A.2.1.2.1 (by rw [A.2.2.1.2.2.2.1 t (Nat.not_le.mp h7)]; exact h1) h2 rfl h3 (fun z => z.elim (fun z => q1 (Or.inl z)) (fun z => by rw [q2] at z; omega)) (by rw [q2]; exact h6 k hk) rfl rfl hd (kk p e R s m args below meth c H locs cells slots la A)
theorem gx_baldO {t N : Nat} {f : Nat → Value} {i : Int32} (k : Nat) (hT : gTa G .byte t N f) (hi : i = nI k) (hk : k < N) (hn : N < 2 ^ 31) (hd : decode Y.2.1 pc = .ok (.baload, 1)) (kk : gxV G Y d kc ks (pc + 1) ls (f k :: st) h Q) : gxV G Y d kc ks pc ls (.int i :: .ref t :: st) h Q := by
  intro p e R s m args below meth c H locs cells slots la A
  obtain ⟨q1, q2⟩ := gx_in hi hk hn
  obtain ⟨cell, h1, h2, h3, h4, h5, h6, h7⟩ := va_T.moved A.2.1.2.2.2.2.2.2.2.1.alike hT
  exact W.bald (v := f k) A.2.1.1 A.2.1.2.1 (by rw [A.2.2.1.2.2.2.1 t (Nat.not_le.mp h7)]; exact h1) h2 h3 (fun z => z.elim (fun z => q1 (Or.inl z)) (fun z => by rw [q2] at z; omega)) (by rw [q2]; exact h6 k hk) rfl rfl hd (kk p e R s m args below meth c H locs cells slots la A)
theorem gx_ialdO {t N : Nat} {f : Nat → Value} {i : Int32} (k : Nat) (hT : gTa G .int t N f) (hi : i = nI k) (hk : k < N) (hn : N < 2 ^ 31) (hd : decode Y.2.1 pc = .ok (.iaload, 1)) (kk : gxV G Y d kc ks (pc + 1) ls (f k :: st) h Q) : gxV G Y d kc ks pc ls (.int i :: .ref t :: st) h Q := by
  intro p e R s m args below meth c H locs cells slots la A
  obtain ⟨q1, q2⟩ := gx_in hi hk hn
  obtain ⟨cell, h1, h2, h3, h4, h5, h6, h7⟩ := va_T.moved A.2.1.2.2.2.2.2.2.2.1.alike hT
  exact W.iald (v := f k) A.2.1.1 A.2.1.2.1 (by rw [A.2.2.1.2.2.2.1 t (Nat.not_le.mp h7)]; exact h1) h2 h3 (fun z => z.elim (fun z => q1 (Or.inl z)) (fun z => by rw [q2] at z; omega)) (by rw [q2]; exact h6 k hk) rfl rfl hd (kk p e R s m args below meth c H locs cells slots la A)
theorem gx_alenO {t N : Nat} {ty : FieldType} {f : Nat → Value} (hT : gTa G ty t N f) (hd : decode Y.2.1 pc = .ok (.arraylength, 1)) (kk : gxV G Y d kc ks (pc + 1) ls (.int (nI N) :: st) h Q) : gxV G Y d kc ks pc ls (.ref t :: st) h Q := by
  intro p e R s m args below meth c H locs cells slots la A
  obtain ⟨cell, h1, h2, h3, h4, h5, h6, h7⟩ := va_T.moved A.2.1.2.2.2.2.2.2.2.1.alike hT
  exact W.alen (n := nI N) A.2.1.1 A.2.1.2.1 (by rw [A.2.2.1.2.2.2.1 t (Nat.not_le.mp h7)]; exact h1) h2 h5 rfl rfl hd (kk p e R s m args below meth c H locs cells slots la A)
theorem gx_castE {idx t : Nat} {E : String} (hO : gO G E t) (hl : Cond.classLink Y.1.cls idx E ∈ lw_all) (hd : decode Y.2.1 pc = .ok (.checkcast idx, 3)) (kk : gxV G Y d kc ks (pc + 3) ls (.ref t :: st) h Q) : gxV G Y d kc ks pc ls (.ref t :: st) h Q := by
  intro p e R s m args below meth c H locs cells slots la A
  obtain ⟨cell, h1, h2, h3, h4⟩ := va_O.moved A.2.1.2.2.2.2.2.2.2.1.alike hO
  exact va_castE A.2.1.1 A.2.1.2.1 A.2.1.2.2.2.2.2.1 (gx_hts A args _ hl) ⟨cell, by rw [A.2.2.1.2.2.2.1 t (Nat.not_le.mp h4)]; exact h1, h2, h3⟩ hd (kk p e R s m args below meth c H locs cells slots la A)
theorem gxRc.ofO {t : Nat} {E : String} (hO : gO G E t) : gxRc G h E t := by
  intro hK s H hW hR
  obtain ⟨cell, h1, h2, h3, h4⟩ := va_O.moved hW.alike hO
  exact ⟨cell, by rw [hR.2.2.2.1 t (Nat.not_le.mp h4)]; exact h1, h2, h3⟩
theorem gx_ldcS {idx q : Nat} {tx : String} (hR : vk_R Y.1.cls idx tx q G.2.1) (hd : decode Y.2.1 pc = .ok (.ldc idx, 2)) (kk : gxV G Y d kc ks (pc + 2) ls (.ref q :: st) h Q) : gxV G Y d kc ks pc ls st h Q := by
  intro p e R s m args below meth c H locs cells slots la A
  exact va_ldcS A.2.1.1 A.2.1.2.1 A.2.1.2.2.2.2.2.1 (vk_R.warm A.2.1.2.2.2.2.2.2.2.1 hR) hd (kk p e R s m args below meth c H locs cells slots la A)
end CORE11
theorem gx_ls {G : gxG} (hK : gxK G) {s : State} (hW : G.2.1.WarmedH s.vm) (hh : ∀ q : Nat, q < gxN G → s.heap[q]? = G.2.1.heap[q]?) {C n dd : String} (hm : Cond.laysStatic C n dd ∈ lw_tbl) (args : Array Value) : (Cond.laysStatic C n dd).before args s = true := by
  obtain ⟨c, k, i, f, a, cell, hc, hi, hst, ha, hcell, hs, hcls, hlt, hty⟩ := Cond.laysStatic_spec (hK.1 _ hm)
  obtain ⟨k', hi', hek⟩ := State.fieldFound?_setVm hW.alike hi
  have hla : a < gxN G := (Array.getElem?_eq_some_iff.mp hcell).1
  exact Cond.laysStatic_of (s := s) (by rw [hW.alike.findClass]; exact hc) hi' hst (by rw [hek]; exact ha) (by rw [hh a hla]; exact hcell) hs hcls hlt (by rw [hek]; exact hty)
/-- a word that holds at every state of the run -/
def gxw (w : Cond) : Prop := w ∈ lw_all ∨ (∃ x, w = .declares x ∧ w ∈ lw_tbl) ∨ ∃ C n dd, w = .laysStatic C n dd ∧ w ∈ lw_tbl
theorem gxw.use {G : gxG} (hK : gxK G) {s : State} (hW : G.2.1.WarmedH s.vm) (hh : ∀ q : Nat, q < gxN G → s.heap[q]? = G.2.1.heap[q]?) {w : Cond} (hw : gxw w) (args : Array Value) : w.before args s = true := by
  rcases hw with h | ⟨x, rfl, h⟩ | ⟨C, n, dd, rfl, h⟩
  · exact gx_word hK hW h args
  · exact va_Nw.use rfl (va_Nw.warmD hW (va_Nw.of rfl (hK.1 _ h)))
  · exact gx_ls hK hW hh h args
theorem gxw_thr : ∀ w ∈ Bundle.throwableAtoms, gxw w := by
  intro w hw
  simp only [Bundle.throwableAtoms, List.mem_cons, List.not_mem_nil, or_false] at hw
  rcases hw with rfl | rfl | rfl | rfl | rfl | rfl | rfl | rfl | rfl | rfl | rfl | rfl | rfl | rfl | rfl | rfl | rfl | rfl | rfl | rfl | rfl | rfl | rfl | rfl
  · exact Or.inl q149
  · exact Or.inl q760
  · exact Or.inl q769
  · exact Or.inl q772
  · exact Or.inl q775
  · exact Or.inl q777
  · exact Or.inl q761
  · exact Or.inl q762
  · exact Or.inl q192
  · exact Or.inl q193
  · exact Or.inl q763
  · exact Or.inl q768
  · exact Or.inl q773
  · exact Or.inl q788
  · exact Or.inl q750
  · exact Or.inl q789
  · exact Or.inl q752
  · exact Or.inl q790
  · exact Or.inl q754
  · exact Or.inl q764
  · exact Or.inr (Or.inr ⟨_, _, _, rfl, q765⟩)
  · exact Or.inl q766
  · exact Or.inr (Or.inr ⟨_, _, _, rfl, q767⟩)
  · exact Or.inl q756
theorem gxw_ch1 : ∀ w ∈ Bundle.chain0Atoms "java/lang/Exception" [], gxw w := by
  intro w hw
  simp only [Bundle.chain0Atoms, Bundle.passAtoms, List.mem_cons, List.not_mem_nil, or_false] at hw
  rcases hw with rfl | rfl | rfl | rfl | rfl
  · exact Or.inl q782
  · exact Or.inl q783
  · exact Or.inl q784
  · exact Or.inl q761
  · exact Or.inr (Or.inl ⟨_, rfl, q745⟩)
theorem gxw_ch3 : ∀ w ∈ Bundle.chain0Atoms "java/util/NoSuchElementException" ["java/lang/RuntimeException", "java/lang/Exception"], gxw w := by
  intro w hw
  simp only [Bundle.chain0Atoms, Bundle.passAtoms, List.mem_append, List.mem_cons, List.not_mem_nil, or_false] at hw
  rcases hw with (rfl | rfl | rfl | rfl | rfl) | (rfl | rfl | rfl | rfl | rfl) | (rfl | rfl | rfl | rfl | rfl)
  · exact Or.inl q1787
  · exact Or.inl q1788
  · exact Or.inl q1789
  · exact Or.inl q1790
  · exact Or.inr (Or.inl ⟨_, rfl, q1778⟩)
  · exact Or.inl q1790
  · exact Or.inl q1791
  · exact Or.inl q1792
  · exact Or.inl q782
  · exact Or.inr (Or.inl ⟨_, rfl, q743⟩)
  · exact Or.inl q782
  · exact Or.inl q783
  · exact Or.inl q784
  · exact Or.inl q761
  · exact Or.inr (Or.inl ⟨_, rfl, q745⟩)
theorem nw_old {G : gxG} : ∀ a : Nat, a < G.2.1.heap.size → ¬ gxN G ≤ a := fun _ h => Nat.not_le.mpr h
/-- what only is said to be a reference or nothing -/
theorem gz_q {G : gxG} (hK : gxK G) {C n dd : String} (hl : Cond.laysStatic C n dd ∈ lw_tbl) (hi : Cond.initialized C ∈ lw_all) (h : (Cond.isRef (.static C n dd)).before #[Value.ref G.2.2.2.2] G.2.1 = true) : ∃ u : RefV, gZ G C n dd u.v := by
  rcases va_Zqof (A := fun q => gxN G ≤ q) (hK.1 _ hl) (hK.1 _ (lw_all_tbl hi)) h nw_old with h1 | ⟨t, h1⟩
  · exact ⟨⟨.null, rfl⟩, h1⟩
  · exact ⟨⟨.ref t, rfl⟩, h1⟩
theorem nw_un {G : gxG} (hK : gxK G) : ∃ u : RefV, gZ G "java/lang/Throwable" "UNASSIGNED_STACK" "[Ljava/lang/StackTraceElement;" u.v := by
  have h := cd_r hK.2.2.1
  exact gz_q hK q765 q149 (cd_l (cd_r (cd_r (cd_l (cd_r (cd_l (cd_l (cd_l (cd_l h)))))))))
theorem nw_se {G : gxG} (hK : gxK G) : ∃ u : RefV, gZ G "java/lang/Throwable" "SUPPRESSED_SENTINEL" "Ljava/util/List;" u.v := by
  have h := cd_r hK.2.2.1
  exact gz_q hK q767 q149 (cd_r (cd_r (cd_r (cd_l (cd_r (cd_l (cd_l (cd_l (cd_l h)))))))))
section CORE11B
variable {G : gxG} {Y : gxY} {d kc ks pc : Nat} {ls : List (Option Value)} {st : List Value} {h : gxH} {Q : Outcome → gxH → Prop}
/-- a Throwable's own constructor, by way of its classes' plain constructors -/
theorem gx_thr {idx ci N a : Nat} {cls cls0 : String} {T : u_T} {names : List String} {fs : List Value} (ty0 : Nat → FieldType) (hc : gxCl[ci]? = some (cls, T, N)) (hin : ∀ w ∈ u_ws cls T N, w ∈ lw_all) (hty : ∀ k, k < N → parseFieldDescriptor (T k).2.2.1 = some (ty0 k)) (hnm : ∀ a, a < N → ∀ b, b < N → a ≠ b → (T a).2.1 ≠ (T b).2.1)
    (hN5 : 5 ≤ N) (hT0 : T 0 = ("java/lang/Throwable", "cause", "Ljava/lang/Throwable;", false)) (hT1 : T 1 = ("java/lang/Throwable", "stackTrace", "[Ljava/lang/StackTraceElement;", false)) (hT2 : T 2 = ("java/lang/Throwable", "suppressedExceptions", "Ljava/util/List;", false)) (hT4 : T 4 = ("java/lang/Throwable", "backtrace", "Ljava/lang/Object;", false))
    (hs0 : Cond.selects cls Bundle.tFill0 Bundle.tFill0 ∈ lw_all) (hsF : Cond.selects cls Bundle.tFill Bundle.tFill ∈ lw_all) (hf0 : Bundle.fit cls0 = true) (hfn : ∀ n ∈ names, Bundle.fit n = true) (hch : ∀ w ∈ Bundle.chain0Atoms cls0 names, gxw w) (hcd0 : gxw (.code (Bundle.init0 cls0) Bundle.five 1 none)) (hin0 : gxw (.instanceMethod (Bundle.init0 cls0)))
    (hl : Cond.methodLink Y.1.cls idx (Bundle.init0 cls0) ∈ lw_all) (hh : h.1 a = some (.inr (ci, fs))) (hNa : gxN G ≤ a) (hfl : 3 ≤ fs.length) (hf4 : fs[4]? = some .null) (hd1 : names.length + 4 ≤ d) (hst : (st.map fun v => v.category).sum ≤ 8) (hd : decode Y.2.1 pc = .ok (.invokespecial idx, 3))
    (kk : ∀ u v, gxV G Y d kc ks (pc + 3) ls st (gxup h a (.inr (ci, ((fs.set 0 (.ref a)).set 1 u).set 2 v))) Q) : gxV G Y d kc ks pc ls (.ref a :: st) h Q := by
  intro p e R s m args below meth c H locs cells slots la A
  have hts := gx_hts A args
  have hvK := gx_vK A
  have hK := A.1
  have hW := A.2.1.2.2.2.2.2.2.2.1
  have hhs := A.2.1.2.2.2.2.2.2.2.2.1.2
  have hap := va_apart (own := Y.1.cls) hts hin ty0 hty hnm hvK hc
  obtain ⟨r, h1, cell, q1, q2, q3, q4⟩ := A.2.2.1.2.2.1 a _ hh
  have hr : r = (cls, T, N) := Option.some.inj (h1.symm.trans hc)
  subst hr
  obtain ⟨hS, hfc, kC, hkC, hkind⟩ := hvK.1 ci _ hc
  have hfree := A.2.2.1.2.2.2.2 a cell hNa q1
  obtain ⟨u0, hu0⟩ := nw_un hK
  obtain ⟨sen, hsen⟩ := nw_se hK
  intro T' hT' X
  have howns : e.platform.frameOwnsMonitors = true := by rw [X.admits.platform]
  have hfin : e.platform.finalization = false := by rw [X.admits.platform]
  have hpl : e.platform.magicAccessors = ({} : Platform).magicAccessors := by rw [X.admits.platform]
  have htr : e.platform.stackTraces = false := by rw [X.admits.platform]; exact hK.2.2.2
  obtain ⟨TT, Z, L, LZ, Yt⟩ := ThrowableC.of_atoms (args := args) howns hfin hpl (fun x hx => gxw.use hK hW hhs (gxw_thr x hx) args)
  obtain ⟨P1, Ps, hlen, L1, hL, hP1m, hlink1, hlink⟩ := Bundle.chain0 (args := args) hpl Yt.init0 names cls0 hf0 hfn (fun x hx => gxw.use hK hW hhs (hch x hx) args)
  have e0 : TT.fCause.slot = G.2.2.1.2 ci 0 := by
    obtain ⟨_, _, _, f, hi, hsl⟩ := hS 0 (show 0 < N by omega)
    change s.fieldFound? (T 0).1 (T 0).2.1 (T 0).2.2.1 = _ at hi
    rw [hT0] at hi
    have := Option.some.inj (hi.symm.trans Yt.cause)
    simp only [Prod.mk.injEq] at this
    rw [← hsl, this.2.2.2]
  have e1 : TT.fStack.slot = G.2.2.1.2 ci 1 := by
    obtain ⟨_, _, _, f, hi, hsl⟩ := hS 1 (show 1 < N by omega)
    change s.fieldFound? (T 1).1 (T 1).2.1 (T 1).2.2.1 = _ at hi
    rw [hT1] at hi
    have := Option.some.inj (hi.symm.trans Yt.stack)
    simp only [Prod.mk.injEq] at this
    rw [← hsl, this.2.2.2]
  have e2 : TT.fSupp.slot = G.2.2.1.2 ci 2 := by
    obtain ⟨_, _, _, f, hi, hsl⟩ := hS 2 (show 2 < N by omega)
    change s.fieldFound? (T 2).1 (T 2).2.1 (T 2).2.2.1 = _ at hi
    rw [hT2] at hi
    have := Option.some.inj (hi.symm.trans Yt.supp)
    simp only [Prod.mk.injEq] at this
    rw [← hsl, this.2.2.2]
  have hsel : ∀ (y : MethodName) (mm : MethodId), y.cls = "java/lang/Throwable" → s.methodNamed? y = some mm → (Cond.selects cls y y).before args s = true → selectMethod e.platform s.vm cell.cls mm = .method mm := by
    intro y mm hy hmm hse
    obtain ⟨c2, r2, m2, z1, z2, z3, z4, -⟩ := Cond.selects_spec hse
    cases Option.some.inj (z1.symm.trans hfc)
    cases Option.some.inj (z2.symm.trans (State.methodFound?_of_named hmm (by rw [hy]; decide)))
    cases Option.some.inj (z3.symm.trans hmm)
    rw [Launch.admits_selectMethod X.admits, q2]; exact z4
  have hstat : ∀ (n dd : String) (v : Value) (i0 : Nat) (f0 : Field), gZ G "java/lang/Throwable" n dd v → s.fieldFound? "java/lang/Throwable" n dd = some (TT.cT, TT.kT, i0, f0) → ∃ cellS, H[TT.aS]? = some cellS ∧ cellS.vm.isStatics = true ∧ cellS.slots[f0.slot]? = some v ∧ TT.aS < gxN G := by
    intro n dd v i0 f0 hZ hf
    obtain ⟨cf, kf, fi, f, a', cell', g1, g2, g3, g4, g5, g6, g7, g8⟩ := va_Z.moved hW.alike hZ
    have := Option.some.inj (g1.symm.trans hf)
    simp only [Prod.mk.injEq] at this
    obtain ⟨-, rfl, -, rfl⟩ := this
    cases Option.some.inj (g4.symm.trans L.statics)
    exact ⟨cell', by rw [A.2.2.1.2.2.2.1 _ (Nat.not_le.mp g8)]; exact g5, g6, g7, Nat.not_le.mp g8⟩
  obtain ⟨cellS, s1, s2, s3, s4⟩ := hstat _ _ _ _ _ hu0 Yt.unassigned
  obtain ⟨cellS', s1', s2', s3', s4'⟩ := hstat _ _ _ _ _ hsen Yt.sentinel
  cases Option.some.inj (s1.symm.trans s1')
  have tks : ∀ (k : Nat) (f : Field) (v : Value) (ty : FieldType), k < N → f.slot = G.2.2.1.2 ci k → kC.instanceTypes[f.slot]? = some f.type → fits f.type v = true → Takes s cell f v := by
    intro k f v ty hk hsl hty' hv
    refine ⟨by rw [hsl]; exact k2_hasslot (q4 k hk), ?_⟩
    rw [q2, q3]
    simp [State.fitsSlot, State.slotType?, hkC, hkind, hty', hv]
  have lw : ∀ k, k < N → (T k).2.2.2 = false → (Cond.lays cls (T k).1 (T k).2.1 (T k).2.2.1).before args s = true := by
    intro k hk hf
    have := hts _ (hin _ (u_in_lay hk))
    unfold u_lay at this
    rw [if_neg (by rw [hf]; decide)] at this
    exact this
  have l0 := lw 0 (by omega) (by rw [hT0])
  have l1 := lw 1 (by omega) (by rw [hT1])
  have l2 := lw 2 (by omega) (by rw [hT2])
  have l4 := lw 4 (by omega) (by rw [hT4])
  rw [hT0] at l0
  rw [hT1] at l1
  rw [hT2] at l2
  rw [hT4] at l4
  obtain ⟨ci198, i198, fB, hk198, hg198, ha198, hsB, -, hnB, htB, hffB⟩ := Cond.ownField (t := .object "java/lang/Object") Yt.found L.cls (by decide +kernel) (hts _ q759) (hts _ q758) e.platform hpl
  have e4 : fB.slot = G.2.2.1.2 ci 4 := by
    obtain ⟨_, _, _, f, hi, hsl⟩ := hS 4 (show 4 < N by omega)
    change s.fieldFound? (T 4).1 (T 4).2.1 (T 4).2.2.1 = _ at hi
    rw [hT4] at hi
    have := Option.some.inj (hi.symm.trans hffB)
    simp only [Prod.mk.injEq] at this
    rw [← hsl, this.2.2.2]
  have tyC := (Cond.laysAt hfc hkC Yt.cause l0).1
  have tyS := (Cond.laysAt hfc hkC Yt.stack l1).1
  have tyP := (Cond.laysAt hfc hkC Yt.supp l2).1
  have w1 := t_set q4 hap (show 0 < N by omega) (.ref a)
  have w2 := t_set w1 hap (show 1 < N by omega) u0.v
  have w3 := t_set w2 hap (show 2 < N by omega) sen.v
  have w4 := t_set w3 hap (show 1 < N by omega) u0.v
  have hskip : SkipFacts TT e.platform s (fun u => u) u0 ((preparedCellV TT.toThrowableT cell a u0 sen).withEntry T'.cur) := by
    refine ⟨{ ci198 := ci198, i198 := i198, fBack := fB }, ⟨hk198, hg198, ha198, hsB⟩, ?_, fun _ _ => rfl⟩
    show (((cell.setSlot TT.fCause.slot (.ref a)).setSlot TT.fStack.slot u0.v).setSlot TT.fSupp.slot sen.v).slots[fB.slot]? = some .null
    rw [e0, e1, e2, e4, w3 4 (show 4 < N by omega)]
    simp only [updV]
    rw [if_neg (by decide), if_neg (by decide), if_neg (by decide)]
    show some (fs.getD 4 .null) = _
    rw [List.getD_eq_getElem?_getD, hf4]; rfl
  obtain ⟨tm, methC, cdC, kC', vm₁, hnC, -, -, -, -, -, -, -, hW₁, st1⟩ := Steps.initCold (tb := p.tables) (e := e) (below := below) (s := s) (U := T') X.here A.2.1.1 X.warmed hpl A.2.1.2.2.2.2.2.1 (t := Bundle.init0 cls0) rfl rfl (Bundle.fit_spec hf0).2 (hts _ hl) (gxw.use hK hW hhs hin0 args) (bytes := Bundle.five) (maxL := 1) (gxw.use hK hW hhs hcd0 args) (f := F0 m pc la (.ref a :: st)) rfl (a := a) (rest := st) rfl (by rw [A.2.1.2.1]; exact hd)
  cases Option.some.inj (hnC.symm.trans hP1m)
  have X₁ := X.noted hW₁
  have hfr : d ≤ R.frames ∧ 64 * d ≤ R.locals := A.2.1.2.2.2.2.2.2.2.2.2
  obtain ⟨vm₂, X₂, st2⟩ := X₁.ctorPlainOffV A.2.1.1 (g := F0 m pc la st) rfl (by show la.size = _; rw [A.2.2.2.2.2.1]; exact A.2.1.2.2.2.2.1.symm) TT L Z LZ (P1 :: Ps)
    (fun P hP => by rcases List.mem_cons.mp hP with rfl | hP; exact L1; exact hL P hP) ⟨hlink1, hlink⟩ (u0 := u0) (sen := sen) (self := a) (cell := cell) (cellS := cellS)
    (by show T'.heap[a]? = some cell; rw [hT']; exact q1) (fun k z => by rw [q3] at z; cases z) (fun z => by rw [q3] at z; cases z) (by rw [hfree]) (by rw [hfree]) (hsel _ _ rfl Yt.fill0 (hts _ hs0)) (hsel _ _ rfl Yt.fill (hts _ hsF)) (by show T'.heap[TT.aS]? = some cellS; rw [hT']; exact s1) (fun z => by first | (rw [z] at s4; exact Nat.not_lt.mpr hNa s4) | (rw [← z] at s4; exact Nat.not_lt.mpr hNa s4)) (fun z => by rw [z] at s2; cases s2) s3 s3'
    (tks 0 _ _ .int (by omega) e0 tyC (by rw [Yt.causeType]; rfl)) (tks 1 _ _ .int (by omega) e1 tyS (by rw [Yt.stackType]; exact fits_refV_array _ u0)) (tks 2 _ _ .int (by omega) e2 tyP (by rw [Yt.suppType]; exact fits_refV_object _ sen)) Yt.objLocals hskip htr [] (by rw [A.2.1.2.1]; exact hd)
    (by simp only [List.length_cons, hlen]; omega) (by
      show 2 * 0 + _ + _ ≤ _
      simp only [List.length_cons, hlen]
      omega)
  have hcell' : (preparedCellV TT.toThrowableT cell a u0 sen).setSlot TT.fStack.slot u0.v = (((cell.setSlot (G.2.2.1.2 ci 0) (.ref a)).setSlot (G.2.2.1.2 ci 1) u0.v).setSlot (G.2.2.1.2 ci 2) sen.v).setSlot (G.2.2.1.2 ci 1) u0.v := by
    show ((((cell.setSlot TT.fCause.slot (.ref a)).setSlot TT.fStack.slot u0.v).setSlot TT.fSupp.slot sen.v)).setSlot TT.fStack.slot u0.v = _
    rw [e0, e1, e2]
  rw [hcell'] at X₂ st2
  generalize hnc : (((cell.setSlot (G.2.2.1.2 ci 0) (.ref a)).setSlot (G.2.2.1.2 ci 1) u0.v).setSlot (G.2.2.1.2 ci 2) sen.v).setSlot (G.2.2.1.2 ci 1) u0.v = nc at *
  have ncc : nc.cls = cell.cls := by rw [← hnc]; rfl
  have ncv : nc.vm = cell.vm := by rw [← hnc]; rfl
  have ncm : nc.monitor = cell.monitor := by rw [← hnc]; rfl
  have hla : a < H.size := (Array.getElem?_eq_some_iff.mp q1).1
  have hheap : ((((T'.setVm vm₁).setVm vm₂).setCell a nc)).heap = H.setIfInBounds a nc := by rw [← hT']; rfl
  have hat : (H.setIfInBounds a nc)[a]? = some nc := by simp [Array.getElem?_setIfInBounds, hla]
  have oq : ∀ q : Nat, q ≠ a → (H.setIfInBounds a nc)[q]? = H[q]? := fun q hq => by simp [Array.getElem?_setIfInBounds, Ne.symm hq]
  obtain ⟨t, a1, b1⟩ := kk u0.v sen.v p e R s m args below meth c (H.setIfInBounds a nc) _ cells slots la ⟨A.1, A.2.1, A.2.2.1.up hNa (x := .inr (ci, ((fs.set 0 (.ref a)).set 1 u0.v).set 2 sen.v)) ⟨_, hc, t_OB.to (V := updV (updV (updV (updV (vp_V fs) 0 (.ref a)) 1 u0.v) 2 sen.v) 1 u0.v) ⟨nc, hat, by rw [ncc]; exact q2, by rw [ncv]; exact q3, w4⟩ (fun j _ => by
      have x1 := vp_updV_set (fs := fs) (k := 0) (by omega) (.ref a)
      have x2 := vp_updV_set (fs := fs.set 0 (.ref a)) (k := 1) (by rw [List.length_set]; omega) u0.v
      have x3 := vp_updV_set (fs := (fs.set 0 (.ref a)).set 1 u0.v) (k := 2) (by rw [List.length_set, List.length_set]; omega) sen.v
      rw [← x3 j]
      simp only [updV]
      by_cases z2 : j = 2
      · subst z2; simp
      · simp only [z2, if_false]
        rw [← x2 j]
        simp only [updV]
        by_cases z1 : j = 1
        · subst z1; simp
        · simp only [z1, if_false]
          rw [← x1 j]
          simp only [updV])⟩ (by simp) oq (fun _ _ c' hc' => by rw [hat] at hc'; cases hc'; show nc.monitor = _; rw [ncm]; exact hfree), fun q hq => by
      rcases List.mem_append.mp hq with z | z
      · exact A.2.2.2.1 q z
      · simp only [List.mem_cons, List.not_mem_nil, or_false] at z
        rcases z with rfl | rfl | rfl | rfl <;> exact hNa, A.2.2.2.2⟩ _ hheap X₂
  refine ⟨t, st1 _ (fun acts => ?_), b1⟩
  rw [doInvoke_state]
  exact st2 _ a1
end CORE11B
