/-! ===== CORE 10: exceptions caught in the method's own handler ===== -/
set_option maxRecDepth 100000
/-- what the search for a handler gives, and the tables behind it -/
def gxFi (e : Env) (s : State) (f : JFrame) (a : Addr) (hd : Handler) (vm' : Vm) : Prop :=
  ∀ (Q : Handler → Pre) (E : CtlPost) (dd : Bool) (acts : List Action), wp (findHandler f a) Q E e dd acts s ↔ Q hd dd acts (s.setVm vm')
theorem gx_goL {Q : Handler → Pre} {E : CtlPost} {e : Env} {dd : Bool} {acts : List Action} {s : State} {f : JFrame} {a : Addr} {x : ExceptionTableEntry} {t : List ExceptionTableEntry} {c : ClassId} {cell : Cell} (hx : covers x f.pc = true) (h0 : x.catchType ≠ 0)
    (hl : s.vm.ClassLinks e.platform f.method.cls x.catchType c) (hcell : s.heap[a]? = some cell) (hobj : ∀ k, cell.vm ≠ .statics k)
    (hk : ∃ k, s.vm.classes[cell.cls]? = some k) (hc : ∃ k, s.vm.classes[c]? = some k) (hfit : s.vm.assignable cell.cls c = true) :
    wp (findHandler.go f a (x :: t)) Q E e dd acts s ↔ Q (.found x.handlerPc) dd acts (s.setVm (s.vm.noted f.method.cls x.catchType (.cls c))) := by
  simp only [covers] at hx
  obtain ⟨ha, ht⟩ := (resolveClass_links e.toSetting hl).op (op := VmOp.resolveClass f.method.cls x.catchType) rfl
  have hal : s.vm.Alike (s.vm.noted f.method.cls x.catchType (.cls c)) := (Vm.Alike.refl s.vm).noted _ _ _
  obtain ⟨k1, hk1⟩ := hk
  obtain ⟨k2, hk2⟩ := hc
  obtain ⟨k1', hk1', -⟩ := hal.2.2 _ _ hk1
  obtain ⟨k2', hk2', -⟩ := hal.2.2 _ _ hk2
  have hfit' : (s.vm.noted f.method.cls x.catchType (.cls c)).assignable cell.cls c = true := by rw [hal.assignable]; exact hfit
  simp [findHandler.go, hx, h0, ha, ht, hcell, hobj, hk1', hk2', hfit', VmOp.dirties, VmOp.acts]
theorem gx_catS {e : Env} {s : State} {a : Addr} {f : JFrame} {r : List Frame} {pc : Nat} {vm' : Vm} (hfind : gxFi e s f a (.found pc) vm') :
    (stepThrowing e s a (.java f :: r)).Is ((s.setVm vm').setFrames (.java { f with pc := pc, stack := [.ref a] } :: r)) [] := by
  simp only [stepThrowing, searchFrame, vmDo]
  generalize hr : Sem.go _ e false [] s = res
  obtain ⟨as, rfl, ha⟩ := Sem.eq_ok_of hr (a := Handler.found pc) (s' := s.setVm vm') (acts' := []) (by simp [hfind _ _ _ _])
  exact ⟨rfl, ha⟩
theorem gx_ffs (u : State) (vm' : Vm) (F G : List Frame) : ((u.setFrames F).setVm vm').setFrames G = (u.setVm vm').setFrames G := by
  have h1 : (u.setFrames F).setVm vm' = (u.setVm vm').setFrames F := rfl
  rw [h1, State.setFrames_setFrames]
theorem gx_catT {tb : Tables} {e : Env} {s target : State} {g : JFrame} {c : Code} {below : List Frame} {a : Addr} (h : At s g.method c below) {pc : Nat} {vm' : Vm}
    (hfind : gxFi e ((s.setTop g).pushFrame (.throwing a)) g a (.found pc) vm') (hrest : Steps tb e below ((s.setVm vm').setTop { g with pc := pc, stack := [.ref a] }) target) :
    Steps tb e below ((s.setTop g).pushFrame (.throwing a)) target := by
  obtain ⟨hgo, hw⟩ := h.throwing a
  refine Steps.head hgo hw ?_
  rw [stepThread_throwing (frames_entered h.top _), (gx_catS (s := (s.setTop g).pushFrame (.throwing a)) hfind).1]
  obtain ⟨g₀, hg⟩ := Option.isSome_iff_exists.mp h.top
  obtain ⟨r, hr⟩ := State.topJava?_eq_some.mp hg
  have hr' : (s.setVm vm').frames = .java g₀ :: r := hr
  rw [State.setTop_of_frames _ hr'] at hrest
  rw [hr, List.tail_cons, State.pushFrame, gx_ffs, State.setTop_of_frames _ hr, gx_ffs]
  exact hrest
section CORE10
variable {G : gxG} {Y : gxY} {d kc ks pc : Nat} {ls : List (Option Value)} {st : List Value} {h : gxH} {Q : Outcome → gxH → Prop}
/-- the exception is caught: the method goes on at its one handler -/
theorem gxT_in {x hpc ct ci lo hi : Nat} {r : vw_C} {fs : List Value} {nm : String} (hY : Y.2.2.2.2 = [(lo, hi, hpc, ct)]) (h1 : lo ≤ pc) (h2 : pc < hi) (h0 : ct ≠ 0) (hx : h.1 x = some (.inr (ci, fs))) (hc : gxCl[ci]? = some r) (hlk : Cond.classLink Y.1.cls ct nm ∈ lw_all) (hca : Cond.castable r.1 nm ∈ lw_tbl) (kk : gxV G Y d kc ks hpc ls [.ref x] h Q) : gxT G Y d kc ks pc ls x h Q := by
  intro p e R s m args below meth c H locs cells slots la st A T hT X
  have hK := gx_vK A
  have he := A.2.1.2.2.2.2.2.2.2.2.1.1
  rw [hY] at he
  obtain ⟨en, hen, f1⟩ : ∃ en, c.exceptionTable.toList = [en] ∧ (en.startPc, en.endPc, en.handlerPc, en.catchType) = (lo, hi, hpc, ct) := by
    cases hl : c.exceptionTable.toList with
    | nil => rw [hl] at he; cases he
    | cons a t =>
      rw [hl] at he
      cases t with
      | nil => exact ⟨a, rfl, (List.cons.inj he).1⟩
      | cons b t => cases (List.cons.inj he).2
  simp only [Prod.mk.injEq] at f1
  obtain ⟨e1, e2, e3, e4⟩ := f1
  have hown : s.vm.findClass Y.1.cls = some m.cls := A.2.1.2.2.2.2.2.1
  have hlink := gx_hts A args _ hlk
  obtain ⟨r', hr', cellV, g1, g2, g3, -⟩ := A.2.2.1.2.2.1 x _ hx
  have hcls := (hK.1 ci r hc).2
  obtain ⟨c0, t1, u1, u2, u3⟩ := Cond.castable_spec (va_Nw.use (A := #[]) rfl (va_Nw.warmC A.2.1.2.2.2.2.2.2.2.1 (va_Nw.of rfl (A.1.1 _ hca))))
  cases hcls.1.symm.trans u1
  have hpl : e.platform.magicAccessors = ({} : Platform).magicAccessors := by rw [X.admits.platform]
  obtain ⟨c', hc', hcl⟩ := Cond.classLink_spec hown hlink e.platform hpl
  cases u2.symm.trans hc'
  obtain ⟨dk, _, _, kt, hdk, _, _, _, _, hkt, _, hopen⟩ := hcl.here
  have hcl0 := X.warmed.classLinks hcl
  have hW' : s.WarmedH (T.vm.noted m.cls ct (.cls t1)) := X.warmed.noted hdk hopen (State.rightAt_cls hcl)
  have hal := X.warmed.alike
  obtain ⟨kt', hkt', -⟩ := hal.2.2 _ _ hkt
  obtain ⟨kC, hkC, -⟩ := hcls.2
  obtain ⟨kC', hkC', -⟩ := hal.2.2 _ _ hkC
  have X' := X.noted hW'
  have hcell : T.heap[x]? = some cellV := by rw [hT]; exact g1
  obtain ⟨t, b1, b2⟩ := kk p e R s m args below meth c H locs cells slots la A (T.setVm (T.vm.noted m.cls ct (.cls t1))) hT X'
  refine ⟨t, ?_, b2⟩
  have hmeth : T.vm.method? m = some meth := X.method'
  refine gx_catT (g := F0 m pc la st) (pc := hpc) (vm' := T.vm.noted m.cls ct (.cls t1)) X.here ?_ b1
  intro Q E dd acts
  rw [W.findHandler_eq (f := F0 m pc la st) (s := (T.setTop (F0 m pc la st)).pushFrame (.throwing x)) (meth := meth) (code := c) hmeth X.code, hen]
  have := gx_goL (Q := Q) (E := E) (e := e) (dd := dd) (acts := acts) (s := (T.setTop (F0 m pc la st)).pushFrame (.throwing x)) (f := F0 m pc la st) (a := x) (x := en) (t := []) (c := t1) (cell := cellV) (by
    show (decide (en.startPc ≤ pc) && decide (pc < en.endPc)) = true
    rw [e1, e2, decide_eq_true h1, decide_eq_true h2]; rfl) (by rw [e4]; exact h0) (by rw [e4]; exact hcl0) hcell (fun q z => by rw [g3] at z; cases z) ⟨kC', by rw [g2]; exact hkC'⟩ ⟨kt', hkt'⟩ (by
    show T.vm.assignable _ _ = true
    rw [hal.assignable, g2]; exact u3)
  rw [e3, e4] at this
  exact this
end CORE10
