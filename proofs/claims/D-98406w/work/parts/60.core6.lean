/-! ===== CORE 6: arrays of references, casts, lengths ===== -/
set_option maxRecDepth 100000
section CORE6
variable {G : gxG} {Y : gxY} {d kc ks pc : Nat} {ls : List (Option Value)} {st : List Value} {h : gxH} {Q : Outcome → gxH → Prop}
theorem gx_alen {a kd : Nat} {x : vp_A} {ty : FieldType} {v : Int32} (hh : h.1 a = some (.inl (kd, x))) (hkd : ∀ dA : Nat → ClassId, (gxTys dA)[kd]? = some (dA kd, ty)) (hv : nI x.1 = v) (hd : decode Y.2.1 pc = .ok (.arraylength, 1)) (kk : gxV G Y d kc ks (pc + 1) ls (.int v :: st) h Q) : gxV G Y d kc ks pc ls (.ref a :: st) h Q := by
  intro p e R s m args below meth c H locs cells slots la A
  have hK := gx_vK A
  subst hv
  have k := kk p e R s m args below meth c H locs cells slots la A
  have hP := A.2.2.1.2.2.1 a _ hh
  obtain ⟨n, f | f | f | f | f⟩ := x
  · exact W.alen (n := Int32.ofNat n) A.2.1.1 A.2.1.2.1 hP ((hK.2 kd _ (hkd _)).1 n (fun j => .int (f j))) (by rw [vp_cell_i, arrV_size] <;> rfl) rfl rfl hd k
  · exact W.alen (n := Int32.ofNat n) A.2.1.1 A.2.1.2.1 hP ((hK.2 kd _ (hkd _)).1 n (fun j => .long (f j))) (by rw [vp_cell_l, arrV_size] <;> rfl) rfl rfl hd k
  · exact W.alen (n := Int32.ofNat n) A.2.1.1 A.2.1.2.1 hP ((hK.2 kd _ (hkd _)).1 n (fun j => .float (f j))) (by rw [vp_cell_f, arrV_size] <;> rfl) rfl rfl hd k
  · exact W.alen (n := Int32.ofNat n) A.2.1.1 A.2.1.2.1 hP ((hK.2 kd _ (hkd _)).1 n (fun j => .double (f j))) (by rw [vp_cell_d, arrV_size] <;> rfl) rfl rfl hd k
  · exact W.alen (n := Int32.ofNat n) A.2.1.1 A.2.1.2.1 hP ((hK.2 kd _ (hkd _)).1 n (fun j => va_rf (f j))) (by rw [vp_cell_q, arrV_size] <;> rfl) rfl rfl hd k
/-- an array of references -/
def gxq (kd n : Nat) (f : Nat → Option Nat) : gxE := .inl (kd, n, .inr (.inr (.inr (.inr f))))
theorem gx_aald {a kd n : Nat} {f : Nat → Option Nat} {C : String} {i : Int32} (k : Nat) (hh : h.1 a = some (gxq kd n f)) (hkd : ∀ dA : Nat → ClassId, (gxTys dA)[kd]? = some (dA kd, .object C)) (hi : i = nI k) (hk : k < n) (hn : n < 2 ^ 31) (hd : decode Y.2.1 pc = .ok (.aaload, 1)) (kk : gxV G Y d kc ks (pc + 1) ls (va_rf (f k) :: st) h Q) : gxV G Y d kc ks pc ls (.int i :: .ref a :: st) h Q := by
  intro p e R s m args below meth c H locs cells slots la A
  obtain ⟨h1, h2⟩ := gx_in hi hk hn
  have hK := gx_vK A
  exact W.aald (v := va_rf (f k)) (ty := .object C) A.2.1.1 A.2.1.2.1 (A.2.2.1.2.2.1 a _ hh) ((hK.2 kd _ (hkd _)).1 n (fun j => va_rf (f j))) rfl (fun q => by cases q) (by show ¬ (i < 0 ∨ (arrV _ _ _).slots.size ≤ _); rw [arrV_size]; exact h1) (by rw [h2]; show (arrV _ _ _).slots[_]? = _; rw [arrV_read _ _ hk]) rfl rfl hd (kk p e R s m args below meth c H locs cells slots la A)
theorem gx_aastN {a kd n : Nat} {f : Nat → Option Nat} {C : String} {i : Int32} (k : Nat) (hh : h.1 a = some (gxq kd n f)) (hN : gxN G ≤ a) (hkd : ∀ dA : Nat → ClassId, (gxTys dA)[kd]? = some (dA kd, .object C)) (hi : i = nI k) (hk : k < n) (hn : n < 2 ^ 31) (hd : decode Y.2.1 pc = .ok (.aastore, 1)) (kk : gxV G Y d kc ks (pc + 1) ls st (gxup h a (gxq kd n (va_up f k none))) Q) : gxV G Y d kc ks pc ls (.null :: .int i :: .ref a :: st) h Q := by
  intro p e R s m args below meth c H locs cells slots la A
  obtain ⟨h1, h2⟩ := gx_in hi hk hn
  have hK := gx_vK A
  refine va_WaastN (C := C) A.2.1.1 A.2.1.2.1 (A.2.2.1.2.2.1 a _ hh) ((hK.2 kd _ (hkd _)).1 n (fun j => va_rf (f j))) (fun h => by cases h) (by show ¬ (i < 0 ∨ (arrV _ _ _).slots.size ≤ _); rw [arrV_size]; exact h1) rfl rfl hd fun H1 e1 z oq => ?_
  refine kk p e R s m args below meth c H1 _ cells slots la ⟨A.1, A.2.1, A.2.2.1.up hN ?_ z oq, gx_app A.2.2.2.1 hN, A.2.2.2.2⟩
  rw [h2] at e1
  show H1[a]? = some (vp_cell _ _)
  rw [e1]
  rw [vp_cell_q, vp_cell_q, arrV_store]
  congr 2
  funext q
  by_cases hq : q = k
  · subst hq
    simp [updV, va_up, va_rf]
  · simp [updV, va_up, hq]
/-- an object of a class of the list may stand in an array of E -/
theorem gx_aast {a kd n v ci : Nat} {r : vw_C} {vs : List Value} {f : Nat → Option Nat} {E : String} {i : Int32} (k : Nat) (hh : h.1 a = some (gxq kd n f)) (hN : gxN G ≤ a) (hkd : ∀ dA : Nat → ClassId, (gxTys dA)[kd]? = some (dA kd, .object E)) (hv : h.1 v = some (.inr (ci, vs))) (hc : gxCl[ci]? = some r) (hca : Cond.castable r.1 E ∈ lw_tbl) (hi : i = nI k) (hk : k < n) (hn : n < 2 ^ 31) (hd : decode Y.2.1 pc = .ok (.aastore, 1)) (kk : gxV G Y d kc ks (pc + 1) ls st (gxup h a (gxq kd n (va_up f k (some v)))) Q) : gxV G Y d kc ks pc ls (.ref v :: .int i :: .ref a :: st) h Q := by
  intro p e R s m args below meth c H locs cells slots la A
  obtain ⟨h1, h2⟩ := gx_in hi hk hn
  have hlt : i.toNatClampNeg < n := by rw [h2]; exact hk
  have h0 : ¬ i < 0 := fun q => h1 (Or.inl q)
  have hts := gx_hts A args
  have hK := gx_vK A
  obtain ⟨r', hr', cellV, g1, g2, g3, -⟩ := A.2.2.1.2.2.1 v _ hv
  have hcls := (hK.1 ci r hc).2
  obtain ⟨kA, comp, k1, k2, k3, -⟩ := (hK.2 kd _ (hkd _)).2
  obtain ⟨kE, hkE, -⟩ := Vm.findClass_spec k3
  obtain ⟨c0, t1, f1, f2, f3⟩ := Cond.castable_spec (va_Nw.use (A := args) rfl (va_Nw.warmC A.2.1.2.2.2.2.2.2.2.1 (va_Nw.of rfl (A.1.1 _ hca))))
  cases hcls.1.symm.trans f1
  cases k3.symm.trans f2
  obtain ⟨kC, hkC, -⟩ := hcls.2
  refine W.aast A.2.1.1 A.2.1.2.1 (A.2.2.1.2.2.1 a _ hh) (fun q h => by cases h) (fun h => by cases h) k1 k2 rfl hkE ⟨h0, by show _ < (arrV _ _ _).slots.size; rw [arrV_size]; exact hlt⟩ g1 (fun q h => by rw [g3] at h; cases h) (by rw [g2]; exact hkC) (by rw [g2]; exact f3) rfl rfl hd fun H1 e1 z oq => ?_
  refine kk p e R s m args below meth c H1 _ cells slots la ⟨A.1, A.2.1, A.2.2.1.up hN ?_ z oq, gx_app A.2.2.2.1 hN, A.2.2.2.2⟩
  rw [h2] at e1
  show H1[a]? = some (vp_cell _ _)
  rw [e1]
  rw [vp_cell_q, vp_cell_q, arrV_store]
  congr 2
  funext q
  by_cases hq : q = k
  · subst hq
    simp [updV, va_up, va_rf]
  · simp [updV, va_up, hq]
theorem gx_castO {idx a ci : Nat} {r : vw_C} {fs : List Value} {nm : String} (hh : h.1 a = some (.inr (ci, fs))) (hc : gxCl[ci]? = some r) (hl : Cond.classLink Y.1.cls idx nm ∈ lw_all) (hca : Cond.castable r.1 nm ∈ lw_tbl) (hd : decode Y.2.1 pc = .ok (.checkcast idx, 3)) (kk : gxV G Y d kc ks (pc + 3) ls (.ref a :: st) h Q) : gxV G Y d kc ks pc ls (.ref a :: st) h Q := by
  intro p e R s m args below meth c H locs cells slots la A
  have hts := gx_hts A args
  have hK := gx_vK A
  obtain ⟨r', hr', cellV, g1, g2, g3, -⟩ := A.2.2.1.2.2.1 a _ hh
  have hcls := (hK.1 ci r hc).2
  obtain ⟨c0, t1, f1, f2, f3⟩ := Cond.castable_spec (va_Nw.use (A := args) rfl (va_Nw.warmC A.2.1.2.2.2.2.2.2.2.1 (va_Nw.of rfl (A.1.1 _ hca))))
  cases hcls.1.symm.trans f1
  intro T hT X
  obtain ⟨vm', X', stp⟩ := X.checkcastYes A.2.1.1 A.2.1.2.2.2.2.2.1 (hts _ hl) (by rw [hT]; exact g1) (by rw [g3]; rfl) f2 (by rw [g2]; exact f3) (g := F0 m pc la (.ref a :: st)) rfl rfl (by rw [A.2.1.2.1]; exact hd)
  obtain ⟨t, a1, b1⟩ := kk p e R s m args below meth c H locs cells slots la A (T.setVm vm') hT X'
  exact ⟨t, stp t a1, b1⟩
theorem gx_castS {idx a ci : Nat} {r : vw_C} {fs : List Value} (hh : h.1 a = some (.inr (ci, fs))) (hc : gxCl[ci]? = some r) (hl : Cond.classLink Y.1.cls idx r.1 ∈ lw_all) (hd : decode Y.2.1 pc = .ok (.checkcast idx, 3)) (kk : gxV G Y d kc ks (pc + 3) ls (.ref a :: st) h Q) : gxV G Y d kc ks pc ls (.ref a :: st) h Q := by
  intro p e R s m args below meth c H locs cells slots la A
  have hts := gx_hts A args
  have hK := gx_vK A
  obtain ⟨r', hr', cellV, g1, g2, g3, -⟩ := A.2.2.1.2.2.1 a _ hh
  have hcls := (hK.1 ci r hc).2
  intro T hT X
  obtain ⟨vm', X', stp⟩ := X.checkcastYes A.2.1.1 A.2.1.2.2.2.2.2.1 (hts _ hl) (by rw [hT]; exact g1) (by rw [g3]; rfl) hcls.1 (by rw [g2]; exact va_asg _ _) (g := F0 m pc la (.ref a :: st)) rfl rfl (by rw [A.2.1.2.1]; exact hd)
  obtain ⟨t, a1, b1⟩ := kk p e R s m args below meth c H locs cells slots la A (T.setVm vm') hT X'
  exact ⟨t, stp t a1, b1⟩
theorem gx_castN {idx : Nat} (hd : decode Y.2.1 pc = .ok (.checkcast idx, 3)) (kk : gxV G Y d kc ks (pc + 3) ls (.null :: st) h Q) : gxV G Y d kc ks pc ls (.null :: st) h Q := by
  intro p e R s m args below meth c H locs cells slots la A
  exact lv_castN A.2.1.1 A.2.1.2.1 hd (kk p e R s m args below meth c H locs cells slots la A)
/-- an array of ints is an array of ints -/
theorem gx_castI {idx a : Nat} {x : vp_A} (hh : h.1 a = some (.inl (0, x))) (hl : Cond.classLink Y.1.cls idx "[I" ∈ lw_all) (hd : decode Y.2.1 pc = .ok (.checkcast idx, 3)) (kk : gxV G Y d kc ks (pc + 3) ls (.ref a :: st) h Q) : gxV G Y d kc ks pc ls (.ref a :: st) h Q := by
  intro p e R s m args below meth c H locs cells slots la A
  have hts := gx_hts A args
  have hK := gx_vK A
  have hnm : s.vm.findClass "[I" = some (G.2.2.2.1 0) := (hK.2 0 _ rfl).2
  have hP := A.2.2.1.2.2.1 a _ hh
  have hvm0 : (vp_cell (G.2.2.2.1 0) x).vm = .none := by
    obtain ⟨n, f | f | f | f | f⟩ := x <;> rfl
  have hcl0 : (vp_cell (G.2.2.2.1 0) x).cls = G.2.2.2.1 0 := by
    obtain ⟨n, f | f | f | f | f⟩ := x <;> rfl
  intro T hT X
  obtain ⟨vm', X', stp⟩ := X.checkcastYes A.2.1.1 A.2.1.2.2.2.2.2.1 (hts _ hl) (by rw [hT]; exact hP) (by rw [hvm0]; rfl) hnm (by rw [hcl0]; exact va_asg _ _) (g := F0 m pc la (.ref a :: st)) rfl rfl (by rw [A.2.1.2.1]; exact hd)
  obtain ⟨t, a1, b1⟩ := kk p e R s m args below meth c H locs cells slots la A (T.setVm vm') hT X'
  exact ⟨t, stp t a1, b1⟩
theorem gx_acmp_eq {rx ry : Option Nat} {off : Int} (tgt : Nat) (hd : decode Y.2.1 pc = .ok (.if_acmp .eq off, 3)) (ht : (pc : Int) + off = (tgt : Int)) (kt : rx = ry → gxV G Y d kc ks tgt ls st h Q) (kf : ¬ rx = ry → gxV G Y d kc ks (pc + 3) ls st h Q) : gxV G Y d kc ks pc ls (va_rf ry :: va_rf rx :: st) h Q := by
  intro p e R s m args below meth c H locs cells slots la A
  exact lv_acmp_eq A.2.1.1 A.2.1.2.1 hd ht (fun q => kt q p e R s m args below meth c H locs cells slots la A) (fun q => kf q p e R s m args below meth c H locs cells slots la A)
theorem gx_acmp_ne {rx ry : Option Nat} {off : Int} (tgt : Nat) (hd : decode Y.2.1 pc = .ok (.if_acmp .ne off, 3)) (ht : (pc : Int) + off = (tgt : Int)) (kt : ¬ rx = ry → gxV G Y d kc ks tgt ls st h Q) (kf : rx = ry → gxV G Y d kc ks (pc + 3) ls st h Q) : gxV G Y d kc ks pc ls (va_rf ry :: va_rf rx :: st) h Q := by
  intro p e R s m args below meth c H locs cells slots la A
  exact lv_acmp_ne A.2.1.1 A.2.1.2.1 hd ht (fun q => kt q p e R s m args below meth c H locs cells slots la A) (fun q => kf q p e R s m args below meth c H locs cells slots la A)
end CORE6
