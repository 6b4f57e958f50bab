/-! ===== CORE 8: class objects, premises ===== -/
set_option maxRecDepth 100000
theorem cd_l {a b : Cond} {A : Array Value} {U : State} (h : (Cond.and a b).before A U = true) : a.before A U = true := by
  simp only [Cond.before, Cond.holds, Cond.value, beq_iff_eq] at h ⊢
  revert h
  cases Cond.value A U none U [] a with
  | none => intro h; cases h
  | some x => cases x with
    | true => intro _; rfl
    | false => intro h; cases h
theorem cd_r {a b : Cond} {A : Array Value} {U : State} (h : (Cond.and a b).before A U = true) : b.before A U = true := by
  simp only [Cond.before, Cond.holds, Cond.value, beq_iff_eq] at h ⊢
  revert h
  cases Cond.value A U none U [] a with
  | none => intro h; cases h
  | some x => cases x with
    | true => intro h; exact h
    | false => intro h; cases h
/-- the class object of arrays of objects -/
theorem nw_mi {G : gxG} (hK : gxK G) : ∃ mi, va_Mi "[Ljava/lang/Object;" mi G.2.1 := by
  have h := cd_r hK.2.2.1
  exact va_Mi.of (cd_l (cd_r (cd_r (cd_l (cd_r (cd_l (cd_r (cd_r (cd_l h)))))))))
section CORE8
variable {G : gxG} {Y : gxY} {d kc ks pc : Nat} {ls : List (Option Value)} {st : List Value} {h : gxH} {Q : Outcome → gxH → Prop}
theorem gx_ldcM {idx mi : Nat} {C : String} (hl : Cond.classLink Y.1.cls idx C ∈ lw_all) (hM : va_Mi C mi G.2.1) (hd : decode Y.2.1 pc = .ok (.ldc idx, 2)) (kk : gxV G Y d kc ks (pc + 2) ls (.ref mi :: st) h Q) : gxV G Y d kc ks pc ls st h Q := by
  intro p e R s m args below meth c H locs cells slots la A
  have hts := gx_hts A args
  exact va_ldcM A.2.1.1 A.2.1.2.1 A.2.1.2.2.2.2.2.1 (hts _ hl) (va_Mi.moved A.2.1.2.2.2.2.2.2.2.1.alike hM) hd (kk p e R s m args below meth c H locs cells slots la A)
theorem gx_getC {idx mi a n : Nat} {f : Nat → Option Nat} (hl : Cond.methodLink Y.1.cls idx ⟨"java/lang/Object", "getClass", "()Ljava/lang/Class;"⟩ ∈ lw_all) (hM : va_Mi "[Ljava/lang/Object;" mi G.2.1) (ha : h.1 a = some (gxq 3 n f)) (hd1 : 1 ≤ d) (hst : (st.map fun v => v.category).sum ≤ 8) (hd : decode Y.2.1 pc = .ok (.invokevirtual idx, 3)) (kk : gxV G Y d kc ks (pc + 3) ls (.ref mi :: st) h Q) : gxV G Y d kc ks pc ls (.ref a :: st) h Q := by
  intro p e R s m args below meth c H locs cells slots la A
  have hts := gx_hts A args
  have hK := gx_vK A
  have hfr : d ≤ R.frames ∧ 64 * d ≤ R.locals := A.2.1.2.2.2.2.2.2.2.2.2
  have hdecl : va_Dc s := va_Dc.moved A.2.1.2.2.2.2.2.2.2.1.alike (va_Dc.of (A.1.1 _ q2571))
  refine va_getC A.2.1.1 A.2.1.2.1 (by rw [A.2.2.2.2.2.1]; exact A.2.1.2.2.2.2.1) A.2.1.2.2.2.2.2.1 (hts _ hl) (va_Dc.use hdecl) (hts _ q2570) (hts _ q873) (hts _ q911) (va_Mi.moved A.2.1.2.2.2.2.2.2.2.1.alike hM) ?_ (by omega) (by omega) hd (kk p e R s m args below meth c H locs cells slots la A)
  obtain ⟨kA, comp, g1, g2, g3, g4⟩ := (hK.2 3 _ rfl).2
  exact ⟨_, A.2.2.1.2.2.1 a _ ha, rfl, g4⟩
end CORE8
/-- a contract that may use what the premises say -/
theorem gxM_K {G : gxG} {Y : gxY} {d kc ks : Nat} {av : List Value} {h : gxH} {Q : Outcome → gxH → Prop} (hh : gxK G → gxM G Y d kc ks av h Q) : gxM G Y d kc ks av h Q := fun hK => hh hK hK
