/-! ===== CORE 9: what stands in lists ===== -/
set_option maxRecDepth 100000
/-- an object that was there before, of a class -/
def gO (G : gxG) (E : String) (y : Nat) : Prop := va_O E y (fun q => gxN G ≤ q) G.2.1 G.2.1.heap
/-- an object of ours, an array of ints or an old object -/
def elO (G : gxG) (h : gxH) (y : Nat) : Prop := (∃ ci r vs, h.1 y = some (.inr (ci, vs)) ∧ gxCl[ci]? = some r ∧ Cond.castable r.1 "java/lang/Object" ∈ lw_tbl) ∨ (∃ x, h.1 y = some (.inl (0, x))) ∨ ∃ E, gO G E y ∧ Cond.castable E "java/lang/Object" ∈ lw_tbl
section CORE9
variable {G : gxG} {Y : gxY} {d kc ks pc : Nat} {ls : List (Option Value)} {st : List Value} {h : gxH} {Q : Outcome → gxH → Prop}
theorem elO.any {p : Program} {R : Room} {s : State} {m : MethodId} {meth : Method} {c : Code} {H : Heap} {locs : List Loc} {cells slots : Nat} {la : Array Slot} (A : gxA G Y d kc ks h ls p R s m meth c H locs cells slots la) {y : Nat} (hy : elO G h y) : ∃ (cellV : Cell) (kC : Class), H[y]? = some cellV ∧ cellV.vm.isStatics = false ∧ s.vm.classes[cellV.cls]? = some kC ∧ ∀ comp, s.vm.findClass "java/lang/Object" = some comp → s.vm.assignable cellV.cls comp = true := by
  have hK := gx_vK A
  rcases hy with ⟨ci, r, vs, y1, y2, y3⟩ | ⟨x, y1⟩ | ⟨E, ⟨cell, y1, y2, y3, y4⟩, y5⟩
  · obtain ⟨r', hr', cellV, g1, g2, g3, -⟩ := A.2.2.1.2.2.1 y _ y1
    have hcls := (hK.1 ci r y2).2
    obtain ⟨kC, hkC, -⟩ := hcls.2
    obtain ⟨c0, t1, u1, u2, u3⟩ := Cond.castable_spec (va_Nw.use (A := #[]) rfl (va_Nw.warmC A.2.1.2.2.2.2.2.2.2.1 (va_Nw.of rfl (A.1.1 _ y3))))
    cases hcls.1.symm.trans u1
    refine ⟨cellV, kC, g1, by rw [g3]; rfl, by rw [g2]; exact hkC, fun comp hc => ?_⟩
    cases hc.symm.trans u2
    rw [g2]; exact u3
  · have hP := A.2.2.1.2.2.1 y _ y1
    have hnm : s.vm.findClass "[I" = some (G.2.2.2.1 0) := (hK.2 0 _ rfl).2
    obtain ⟨-, k0, hk0, -⟩ := (hK.2 0 _ rfl).1 0 (fun _ => .int 0)
    obtain ⟨c0, t1, u1, u2, u3⟩ := Cond.castable_spec (va_Nw.use (A := #[]) rfl (va_Nw.warmC A.2.1.2.2.2.2.2.2.2.1 (va_Nw.of rfl (A.1.1 _ q2574))))
    cases hnm.symm.trans u1
    have hvm0 : (vp_cell (G.2.2.2.1 0) x).vm = .none := by
      obtain ⟨n, f | f | f | f | f⟩ := x <;> rfl
    have hcl0 : (vp_cell (G.2.2.2.1 0) x).cls = G.2.2.2.1 0 := by
      obtain ⟨n, f | f | f | f | f⟩ := x <;> rfl
    refine ⟨_, k0, hP, by rw [hvm0]; rfl, by rw [hcl0]; exact hk0, fun comp hc => ?_⟩
    cases hc.symm.trans u2
    rw [hcl0]; exact u3
  · have hal := A.2.1.2.2.2.2.2.2.2.1.alike
    have hf : s.vm.findClass E = some cell.cls := by rw [hal.findClass]; exact y3
    obtain ⟨kC, hkC, -⟩ := Vm.findClass_spec hf
    obtain ⟨c0, t1, u1, u2, u3⟩ := Cond.castable_spec (va_Nw.use (A := #[]) rfl (va_Nw.warmC A.2.1.2.2.2.2.2.2.2.1 (va_Nw.of rfl (A.1.1 _ y5))))
    cases hf.symm.trans u1
    refine ⟨cell, kC, by rw [A.2.2.1.2.2.2.1 y (Nat.not_le.mp y4)]; exact y1, y2, hkC, fun comp hc => ?_⟩
    cases hc.symm.trans u2
    exact u3
theorem gx_aastE {a kd n v : Nat} {f : Nat → Option Nat} {i : Int32} (k : Nat) (hh : h.1 a = some (gxq kd n f)) (hN : gxN G ≤ a) (hkd : ∀ dA : Nat → ClassId, (gxTys dA)[kd]? = some (dA kd, .object "java/lang/Object")) (hv : elO G h v) (hi : i = nI k) (hk : k < n) (hn : n < 2 ^ 31) (hd : decode Y.2.1 pc = .ok (.aastore, 1)) (kk : gxV G Y d kc ks (pc + 1) ls st (gxup h a (gxq kd n (va_up f k (some v)))) Q) : gxV G Y d kc ks pc ls (.ref v :: .int i :: .ref a :: st) h Q := by
  intro p e R s m args below meth c H locs cells slots la A
  obtain ⟨h1, h2⟩ := gx_in hi hk hn
  have hlt : i.toNatClampNeg < n := by rw [h2]; exact hk
  have h0 : ¬ i < 0 := fun q => h1 (Or.inl q)
  have hts := gx_hts A args
  have hK := gx_vK A
  obtain ⟨cellV, kC, g1, g3, hkC, f3⟩ := elO.any A hv
  obtain ⟨kA, comp, k1, k2, k3, -⟩ := (hK.2 kd _ (hkd _)).2
  obtain ⟨kE, hkE, -⟩ := Vm.findClass_spec k3
  refine W.aast A.2.1.1 A.2.1.2.1 (A.2.2.1.2.2.1 a _ hh) (fun q h => by cases h) (fun h => by cases h) k1 k2 rfl hkE ⟨h0, by show _ < (arrV _ _ _).slots.size; rw [arrV_size]; exact hlt⟩ g1 (fun q h => by rw [h] at g3; cases g3) hkC (f3 _ k3) rfl rfl hd fun H1 e1 z oq => ?_
  refine kk p e R s m args below meth c H1 _ cells slots la ⟨A.1, A.2.1, A.2.2.1.up hN ?_ z oq, gx_app A.2.2.2.1 hN, A.2.2.2.2⟩
  rw [h2] at e1
  show H1[a]? = some (vp_cell _ _)
  rw [e1]
  rw [vp_cell_q, vp_cell_q, arrV_store]
  congr 2
  funext q
  by_cases hq : q = k
  · subst hq
    simp [updV, va_up, va_rf]
  · simp [updV, va_up, hq]
theorem gx_copyE {idx kd a0 a n0 n1 sp dp n : Nat} {f g : Nat → Option Nat}  (hl : Cond.methodLink Y.1.cls idx arraycopyName ∈ lw_all) (hnat : Cond.native arraycopyName ∈ lw_all) (hstat : Cond.static arraycopyName ∈ lw_all) (hini : Cond.initialized "java/lang/System" ∈ lw_all) (hkd : ∀ dA : Nat → ClassId, (gxTys dA)[kd]? = some (dA kd, .object "java/lang/Object")) (ha0 : h.1 a0 = some (gxq kd n0 f)) (ha1 : h.1 a = some (gxq kd n1 g)) (hN : gxN G ≤ a)
    (h4 : sp + n ≤ n0) (h5 : dp + n ≤ n1) (hn0 : n0 < 2 ^ 31) (hn1 : n1 < 2 ^ 31) (hel : ∀ i, i < n → ∀ y, f (sp + i) = some y → elO G h y) (hd1 : 1 ≤ d) (hst : (st.map fun v => v.category).sum ≤ 8) (hd : decode Y.2.1 pc = .ok (.invokestatic idx, 3))
    (kk : gxV G Y d kc ks (pc + 3) ls st (gxup h a (gxq kd n1 (va_cpy f g sp dp n))) Q) : gxV G Y d kc ks pc ls (.int (nI n) :: .int (nI dp) :: .ref a :: .int (nI sp) :: .ref a0 :: st) h Q := by
  intro p e R s m args below meth c H locs cells slots la A
  have hts := gx_hts A args
  have hK := gx_vK A
  have c1 : (nI sp).toNatClampNeg = sp := nI_clamp (by omega)
  have c2 : (nI dp).toNatClampNeg = dp := nI_clamp (by omega)
  have c3 : (nI n).toNatClampNeg = n := nI_clamp (by omega)
  have hfr : d ≤ R.frames ∧ 64 * d ≤ R.locals := A.2.1.2.2.2.2.2.2.2.2.2
  let AA : Nat → Prop := fun q => gxN G ≤ q
  have nn : ∀ z : Int32, ¬ z < 0 → z.toInt = (z.toNatClampNeg : Int) := by
    intro z hz
    have hz0 : (0 : Int) ≤ z.toInt := by
      have := Int32.not_lt.mp hz
      simpa using Int32.le_iff_toInt_le.mp this
    show z.toInt = ((z.toInt.toNat : Nat) : Int)
    omega
  have q1 : ¬ nI sp < 0 := nI_pos (by omega)
  have q2 : ¬ nI dp < 0 := nI_pos (by omega)
  have q3 : ¬ nI n < 0 := nI_pos (by omega)
  intro T hT X
  have hc0 : H[a0]? = some (vp_cell (G.2.2.2.1 kd) (n0, .inr (.inr (.inr (.inr f))))) := A.2.2.1.2.2.1 a0 _ ha0
  have hc1 : H[a]? = some (vp_cell (G.2.2.2.1 kd) (n1, .inr (.inr (.inr (.inr g))))) := A.2.2.1.2.2.1 a _ ha1
  obtain ⟨-, k0, hk0, cm0, hkk0⟩ := (hK.2 kd _ (hkd _)).1 n0 (fun j => va_rf (f j))
  obtain ⟨-, k1, hk1, cm1, hkk1⟩ := (hK.2 kd _ (hkd _)).1 n1 (fun j => va_rf (g j))
  obtain ⟨vm', X', step⟩ := X.arraycopy A.2.1.1 A.2.1.2.2.2.2.2.1 (hts _ hl) (hts _ hnat) (hts _ hstat) (hts _ hini) (src := a0) (dst := a) (cs := vp_cell (G.2.2.2.1 kd) (n0, .inr (.inr (.inr (.inr f))))) (cd := vp_cell (G.2.2.2.1 kd) (n1, .inr (.inr (.inr (.inr g))))) (srcPos := nI sp) (destPos := nI dp) (n := nI n) (by rw [hT]; exact hc0) (by rw [hT]; exact hc1)
    (fun _ h => by cases h) (fun _ h => by cases h) (fun h => by cases h) (fun h => by cases h) hk0 hk1 hkk0 hkk1 rfl q1 q2 q3
    (by rw [nn _ q1, nn _ q3, c1, c3]; show ¬ _ > ((arrV _ n0 (fun j => va_rf (f j))).slots.size : Int); rw [arrV_size]; omega)
    (by rw [nn _ q2, nn _ q3, c2, c3]; show ¬ _ > ((arrV _ n1 (fun j => va_rf (g j))).slots.size : Int); rw [arrV_size]; omega)
    (fun vm₁ hal i hi => by
      rw [c3] at hi
      have e : (vp_cell (G.2.2.2.1 kd) (n0, .inr (.inr (.inr (.inr f))))).slots.getD ((nI sp).toNatClampNeg + i) .null = va_rf (f (sp + i)) := by
        show (arrV _ n0 (fun j => va_rf (f j))).slots.getD _ _ = _
        rw [c1, Array.getD_eq_getD_getElem?, arrV_read _ _ (by omega)]
        rfl
      rw [e]
      cases hy : f (sp + i) with
      | none => exact ⟨rfl, trivial⟩
      | some y =>
        obtain ⟨cellV, kC, g1, g3, hkC, f3⟩ := elO.any A (hel i hi y hy)
        obtain ⟨kA, comp, r1, r2, r3, -⟩ := (hK.2 kd _ (hkd _)).2
        cases hk1.symm.trans r1
        cases hkk1.symm.trans r2
        obtain ⟨kE, hkE, -⟩ := Vm.findClass_spec r3
        obtain ⟨kC', hkC', -⟩ := hal.2.2 _ _ hkC
        obtain ⟨kE', hkE', -⟩ := hal.2.2 _ _ hkE
        refine ⟨rfl, cellV, (show T.heap[y]? = some cellV by rw [hT]; exact g1), (fun q h => by rw [h] at g3; cases g3), ⟨kC', hkC'⟩, ?_, ?_⟩
        · exact ⟨kE', hkE'⟩
        · show vm₁.assignable _ _ = true
          rw [hal.assignable]
          exact f3 _ r3)
    (g := F0 m pc la (.int (nI n) :: .int (nI dp) :: .ref a :: .int (nI sp) :: .ref a0 :: st)) rfl (by show la.size = _; rw [A.2.2.2.2.2.1]; exact A.2.1.2.2.2.2.1.symm) (rest := st) rfl (by rw [A.2.1.2.1]; exact hd) (by omega) (by
      show 2 * 0 + _ + _ ≤ _
      have : nativeFrameWords "java/lang/System" "arraycopy" 5 ≤ 40 := by decide
      omega)
  have e1 : copied (vp_cell (G.2.2.2.1 kd) (n0, .inr (.inr (.inr (.inr f))))) (vp_cell (G.2.2.2.1 kd) (n1, .inr (.inr (.inr (.inr g))))) (nI sp) (nI dp) (nI n) = vp_cell (G.2.2.2.1 kd) (n1, .inr (.inr (.inr (.inr (va_cpy f g sp dp n))))) := by
    have h4' : (nI sp).toNatClampNeg + (nI n).toNatClampNeg ≤ n0 := by rw [c1, c3]; exact h4
    have e0 : copied (vp_cell (G.2.2.2.1 kd) (n0, .inr (.inr (.inr (.inr f))))) (vp_cell (G.2.2.2.1 kd) (n1, .inr (.inr (.inr (.inr g))))) (nI sp) (nI dp) (nI n) = vp_cell (G.2.2.2.1 kd) (n1, .inr (.inr (.inr (.inr (va_cpy f g (nI sp).toNatClampNeg (nI dp).toNatClampNeg (nI n).toNatClampNeg))))) := by
      rw [vp_cell_q, vp_cell_q, vp_cell_q]
      exact va_copied (fun z => va_rf z) _ _ f g h4'
    rw [c1, c2, c3] at e0
    exact e0
  rw [e1] at X' step
  have hl : a < H.size := (Array.getElem?_eq_some_iff.mp hc1).1
  have hheap : ((T.setVm vm').setCell a (vp_cell (G.2.2.2.1 kd) (n1, .inr (.inr (.inr (.inr (va_cpy f g sp dp n))))))).heap = H.setIfInBounds a (vp_cell (G.2.2.2.1 kd) (n1, .inr (.inr (.inr (.inr (va_cpy f g sp dp n)))))) := by rw [← hT]; rfl
  have oq : ∀ q : Nat, q ≠ a → (H.setIfInBounds a (vp_cell (G.2.2.2.1 kd) (n1, .inr (.inr (.inr (.inr (va_cpy f g sp dp n)))))))[q]? = H[q]? := fun q hq => by simp [Array.getElem?_setIfInBounds, Ne.symm hq]
  obtain ⟨t, a1, b1⟩ := kk p e R s m args below meth c _ _ cells slots la ⟨A.1, A.2.1, A.2.2.1.up hN (show (H.setIfInBounds a _)[a]? = some _ by simp [Array.getElem?_setIfInBounds, hl]) (by simp) oq, fun q hq => by
      rcases List.mem_append.mp hq with h | h
      · exact A.2.2.2.1 q h
      · obtain ⟨z, -, hz⟩ := List.mem_map.mp h
        rw [← hz]
        exact hN, A.2.2.2.2⟩ _ hheap X'
  exact ⟨t, step t a1, b1⟩
end CORE9
