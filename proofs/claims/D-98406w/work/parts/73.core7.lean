/-! ===== CORE 7: anewarray, arraycopy ===== -/
set_option maxRecDepth 100000
section CORE7
variable {G : gxG} {Y : gxY} {d kc ks pc : Nat} {ls : List (Option Value)} {st : List Value} {h : gxH} {Q : Outcome → gxH → Prop}
theorem gx_anew {idx kd n : Nat} {i : Int32} {C : String} (hl : Cond.classLink Y.1.cls idx C ∈ lw_all) (hw : Cond.arrayOver (.object C) ∈ lw_tbl) (hkd : ∀ dA : Nat → ClassId, (gxTys dA)[kd]? = some (dA kd, .object C)) (hi : i = nI n) (hb : n * 4 ≤ 536870912) (hd : decode Y.2.1 pc = .ok (.anewarray idx, 3))
    (kk : gxV G Y d kc ks (pc + 3) ls (.ref h.2 :: st) (gxadd h (gxq kd n (fun _ => none))) Q) : gxV G Y d (kc + 1) (ks + n) pc ls (.int i :: st) h Q := by
  intro p e R s m args below meth c H locs cells slots la A
  have hts := gx_hts A args
  have hK := gx_vK A
  have hn : n < 2 ^ 31 := by omega
  have hAO : va_AO C s := va_AO.moved A.2.1.2.2.2.2.2.2.2.1.alike (va_AO.of (A.1.1 _ hw))
  obtain ⟨a1, a2, a3, a4, a5, a6⟩ := A
  subst hi
  refine W.anew a2.1 a2.2.1 a2.2.2.2.2.2.1 (hts _ hl) (va_AO.use hAO) rfl hd rfl (nI_pos hn) (by rw [nI_clamp hn]; exact hb) (by omega) (by rw [nI_clamp hn]; omega) fun cA kA comp f1 f2 f3 f4 => ?_
  rw [nI_clamp hn]
  generalize hH1 : H.push ({ cls := cA, slots := Array.replicate n .null, vm := .none } : Cell) = H1
  have hsz := a3.1
  have z1 : H1.size = h.2 + 1 := by rw [← hH1, Array.size_push, hsz]
  have e1 : H1[h.2]? = some (arrV cA n (fun _ => .null)) := by rw [← hH1, ← hsz, Array.getElem?_push_size, ← arrV_new]
  have o1 : ∀ q : Nat, q < h.2 → H1[q]? = H[q]? := fun q hq => by rw [← hH1, Array.getElem?_push, if_neg (by omega)]
  rw [show cells + (kc + 1) = cells + 1 + kc by omega, show slots + (ks + n) = slots + n + ks by omega, hsz]
  refine kk p e R s m args below meth c H1 locs (cells + 1) (slots + n) la ⟨a1, a2, a3.add ?_ z1 o1, a4, ⟨by omega, by omega⟩, a6⟩
  obtain ⟨kA', comp', g1, g2, g3, g4⟩ := (hK.2 kd _ (hkd _)).2
  have hcA : cA = G.2.2.2.1 kd := Option.some.inj (f1.symm.trans g4)
  show H1[h.2]? = some (vp_cell _ _)
  rw [vp_cell_q, e1, hcA]
  rfl
theorem gx_copyI {idx kd a0 a n0 n1 sp dp n : Nat} {f g : Nat → Int32} (ty : FieldType) (hl : Cond.methodLink Y.1.cls idx arraycopyName ∈ lw_all) (hnat : Cond.native arraycopyName ∈ lw_all) (hstat : Cond.static arraycopyName ∈ lw_all) (hini : Cond.initialized "java/lang/System" ∈ lw_all) (hkd : ∀ dA : Nat → ClassId, (gxTys dA)[kd]? = some (dA kd, ty)) (hprim : refKind ty = false) (ha0 : h.1 a0 = some (.inl (kd, n0, .inl f))) (ha1 : h.1 a = some (.inl (kd, n1, .inl g))) (hN : gxN G ≤ a)
    (h4 : sp + n ≤ n0) (h5 : dp + n ≤ n1) (hn0 : n0 < 2 ^ 31) (hn1 : n1 < 2 ^ 31) (hfit : ∀ i, i < n → fits ty (.int (f (sp + i))) = true) (hd1 : 1 ≤ d) (hst : (st.map fun v => v.category).sum ≤ 8) (hd : decode Y.2.1 pc = .ok (.invokestatic idx, 3))
    (kk : gxV G Y d kc ks (pc + 3) ls st (gxup h a (.inl (kd, n1, .inl (va_cpy f g sp dp n)))) Q) : gxV G Y d kc ks pc ls (.int (nI n) :: .int (nI dp) :: .ref a :: .int (nI sp) :: .ref a0 :: st) h Q := by
  intro p e R s m args below meth c H locs cells slots la A
  have hts := gx_hts A args
  have hK := gx_vK A
  have c1 : (nI sp).toNatClampNeg = sp := nI_clamp (by omega)
  have c2 : (nI dp).toNatClampNeg = dp := nI_clamp (by omega)
  have c3 : (nI n).toNatClampNeg = n := nI_clamp (by omega)
  have hfr : d ≤ R.frames ∧ 64 * d ≤ R.locals := A.2.1.2.2.2.2.2.2.2.2.2
  let AA : Nat → Prop := fun q => gxN G ≤ q
  have nn : ∀ z : Int32, ¬ z < 0 → z.toInt = (z.toNatClampNeg : Int) := by
    intro z hz
    have hz0 : (0 : Int) ≤ z.toInt := by
      have := Int32.not_lt.mp hz
      simpa using Int32.le_iff_toInt_le.mp this
    show z.toInt = ((z.toInt.toNat : Nat) : Int)
    omega
  have q1 : ¬ nI sp < 0 := nI_pos (by omega)
  have q2 : ¬ nI dp < 0 := nI_pos (by omega)
  have q3 : ¬ nI n < 0 := nI_pos (by omega)
  intro T hT X
  have hc0 : H[a0]? = some (vp_cell (G.2.2.2.1 kd) (n0, .inl f)) := A.2.2.1.2.2.1 a0 _ ha0
  have hc1 : H[a]? = some (vp_cell (G.2.2.2.1 kd) (n1, .inl g)) := A.2.2.1.2.2.1 a _ ha1
  obtain ⟨-, k0, hk0, cm0, hkk0⟩ := (hK.2 kd _ (hkd _)).1 n0 (fun j => .int (f j))
  obtain ⟨-, k1, hk1, cm1, hkk1⟩ := (hK.2 kd _ (hkd _)).1 n1 (fun j => .int (g j))
  obtain ⟨vm', X', step⟩ := X.arraycopy A.2.1.1 A.2.1.2.2.2.2.2.1 (hts _ hl) (hts _ hnat) (hts _ hstat) (hts _ hini) (src := a0) (dst := a) (cs := vp_cell (G.2.2.2.1 kd) (n0, .inl f)) (cd := vp_cell (G.2.2.2.1 kd) (n1, .inl g)) (srcPos := nI sp) (destPos := nI dp) (n := nI n) (by rw [hT]; exact hc0) (by rw [hT]; exact hc1)
    (fun _ h => by cases h) (fun _ h => by cases h) (fun h => by cases h) (fun h => by cases h) hk0 hk1 hkk0 hkk1 (by simp [hprim]) q1 q2 q3
    (by rw [nn _ q1, nn _ q3, c1, c3]; show ¬ _ > ((arrV _ n0 (fun j => .int (f j))).slots.size : Int); rw [arrV_size]; omega)
    (by rw [nn _ q2, nn _ q3, c2, c3]; show ¬ _ > ((arrV _ n1 (fun j => .int (g j))).slots.size : Int); rw [arrV_size]; omega)
    (fun vm₁ _ i hi => by
      rw [c3] at hi
      have e : (vp_cell (G.2.2.2.1 kd) (n0, .inl f)).slots.getD ((nI sp).toNatClampNeg + i) .null = .int (f (sp + i)) := by
        show (arrV _ n0 (fun j => .int (f j))).slots.getD _ _ = _
        rw [c1, Array.getD_eq_getD_getElem?, arrV_read _ _ (by omega)]
        rfl
      refine ⟨?_, ?_⟩
      · rw [e]
        exact hfit i hi
      · rw [e]
        exact trivial)
    (g := F0 m pc la (.int (nI n) :: .int (nI dp) :: .ref a :: .int (nI sp) :: .ref a0 :: st)) rfl (by show la.size = _; rw [A.2.2.2.2.2.1]; exact A.2.1.2.2.2.2.1.symm) (rest := st) rfl (by rw [A.2.1.2.1]; exact hd) (by omega) (by
      show 2 * 0 + _ + _ ≤ _
      have : nativeFrameWords "java/lang/System" "arraycopy" 5 ≤ 40 := by decide
      omega)
  have e1 : copied (vp_cell (G.2.2.2.1 kd) (n0, .inl f)) (vp_cell (G.2.2.2.1 kd) (n1, .inl g)) (nI sp) (nI dp) (nI n) = vp_cell (G.2.2.2.1 kd) (n1, .inl (va_cpy f g sp dp n)) := by
    have h4' : (nI sp).toNatClampNeg + (nI n).toNatClampNeg ≤ n0 := by rw [c1, c3]; exact h4
    have e0 : copied (vp_cell (G.2.2.2.1 kd) (n0, .inl f)) (vp_cell (G.2.2.2.1 kd) (n1, .inl g)) (nI sp) (nI dp) (nI n) = vp_cell (G.2.2.2.1 kd) (n1, .inl (va_cpy f g (nI sp).toNatClampNeg (nI dp).toNatClampNeg (nI n).toNatClampNeg)) := va_copied (fun z => .int z) _ _ f g h4'
    rw [c1, c2, c3] at e0
    exact e0
  rw [e1] at X' step
  have hl : a < H.size := (Array.getElem?_eq_some_iff.mp hc1).1
  have hheap : ((T.setVm vm').setCell a (vp_cell (G.2.2.2.1 kd) (n1, .inl (va_cpy f g sp dp n)))).heap = H.setIfInBounds a (vp_cell (G.2.2.2.1 kd) (n1, .inl (va_cpy f g sp dp n))) := by rw [← hT]; rfl
  have oq : ∀ q : Nat, q ≠ a → (H.setIfInBounds a (vp_cell (G.2.2.2.1 kd) (n1, .inl (va_cpy f g sp dp n))))[q]? = H[q]? := fun q hq => by simp [Array.getElem?_setIfInBounds, Ne.symm hq]
  obtain ⟨t, a1, b1⟩ := kk p e R s m args below meth c _ _ cells slots la ⟨A.1, A.2.1, A.2.2.1.up hN (show (H.setIfInBounds a _)[a]? = some _ by simp [Array.getElem?_setIfInBounds, hl]) (by simp) oq, fun q hq => by
      rcases List.mem_append.mp hq with h | h
      · exact A.2.2.2.1 q h
      · obtain ⟨z, -, hz⟩ := List.mem_map.mp h
        rw [← hz]
        exact hN, A.2.2.2.2⟩ _ hheap X'
  exact ⟨t, step t a1, b1⟩
theorem gx_copyQ {idx kd a0 a n0 n1 sp dp n : Nat} {f g : Nat → Option Nat} {C : String} (hl : Cond.methodLink Y.1.cls idx arraycopyName ∈ lw_all) (hnat : Cond.native arraycopyName ∈ lw_all) (hstat : Cond.static arraycopyName ∈ lw_all) (hini : Cond.initialized "java/lang/System" ∈ lw_all) (hkd : ∀ dA : Nat → ClassId, (gxTys dA)[kd]? = some (dA kd, .object C)) (ha0 : h.1 a0 = some (gxq kd n0 f)) (ha1 : h.1 a = some (gxq kd n1 g)) (hN : gxN G ≤ a)
    (h4 : sp + n ≤ n0) (h5 : dp + n ≤ n1) (hn0 : n0 < 2 ^ 31) (hn1 : n1 < 2 ^ 31) (hel : ∀ i, i < n → ∀ y, f (sp + i) = some y → ∃ ci r vs, h.1 y = some (.inr (ci, vs)) ∧ gxCl[ci]? = some r ∧ Cond.castable r.1 C ∈ lw_tbl) (hd1 : 1 ≤ d) (hst : (st.map fun v => v.category).sum ≤ 8) (hd : decode Y.2.1 pc = .ok (.invokestatic idx, 3))
    (kk : gxV G Y d kc ks (pc + 3) ls st (gxup h a (gxq kd n1 (va_cpy f g sp dp n))) Q) : gxV G Y d kc ks pc ls (.int (nI n) :: .int (nI dp) :: .ref a :: .int (nI sp) :: .ref a0 :: st) h Q := by
  intro p e R s m args below meth c H locs cells slots la A
  have hts := gx_hts A args
  have hK := gx_vK A
  have c1 : (nI sp).toNatClampNeg = sp := nI_clamp (by omega)
  have c2 : (nI dp).toNatClampNeg = dp := nI_clamp (by omega)
  have c3 : (nI n).toNatClampNeg = n := nI_clamp (by omega)
  have hfr : d ≤ R.frames ∧ 64 * d ≤ R.locals := A.2.1.2.2.2.2.2.2.2.2.2
  let AA : Nat → Prop := fun q => gxN G ≤ q
  have nn : ∀ z : Int32, ¬ z < 0 → z.toInt = (z.toNatClampNeg : Int) := by
    intro z hz
    have hz0 : (0 : Int) ≤ z.toInt := by
      have := Int32.not_lt.mp hz
      simpa using Int32.le_iff_toInt_le.mp this
    show z.toInt = ((z.toInt.toNat : Nat) : Int)
    omega
  have q1 : ¬ nI sp < 0 := nI_pos (by omega)
  have q2 : ¬ nI dp < 0 := nI_pos (by omega)
  have q3 : ¬ nI n < 0 := nI_pos (by omega)
  intro T hT X
  have hc0 : H[a0]? = some (vp_cell (G.2.2.2.1 kd) (n0, .inr (.inr (.inr (.inr f))))) := A.2.2.1.2.2.1 a0 _ ha0
  have hc1 : H[a]? = some (vp_cell (G.2.2.2.1 kd) (n1, .inr (.inr (.inr (.inr g))))) := A.2.2.1.2.2.1 a _ ha1
  obtain ⟨-, k0, hk0, cm0, hkk0⟩ := (hK.2 kd _ (hkd _)).1 n0 (fun j => va_rf (f j))
  obtain ⟨-, k1, hk1, cm1, hkk1⟩ := (hK.2 kd _ (hkd _)).1 n1 (fun j => va_rf (g j))
  obtain ⟨vm', X', step⟩ := X.arraycopy A.2.1.1 A.2.1.2.2.2.2.2.1 (hts _ hl) (hts _ hnat) (hts _ hstat) (hts _ hini) (src := a0) (dst := a) (cs := vp_cell (G.2.2.2.1 kd) (n0, .inr (.inr (.inr (.inr f))))) (cd := vp_cell (G.2.2.2.1 kd) (n1, .inr (.inr (.inr (.inr g))))) (srcPos := nI sp) (destPos := nI dp) (n := nI n) (by rw [hT]; exact hc0) (by rw [hT]; exact hc1)
    (fun _ h => by cases h) (fun _ h => by cases h) (fun h => by cases h) (fun h => by cases h) hk0 hk1 hkk0 hkk1 rfl q1 q2 q3
    (by rw [nn _ q1, nn _ q3, c1, c3]; show ¬ _ > ((arrV _ n0 (fun j => va_rf (f j))).slots.size : Int); rw [arrV_size]; omega)
    (by rw [nn _ q2, nn _ q3, c2, c3]; show ¬ _ > ((arrV _ n1 (fun j => va_rf (g j))).slots.size : Int); rw [arrV_size]; omega)
    (fun vm₁ hal i hi => by
      rw [c3] at hi
      have e : (vp_cell (G.2.2.2.1 kd) (n0, .inr (.inr (.inr (.inr f))))).slots.getD ((nI sp).toNatClampNeg + i) .null = va_rf (f (sp + i)) := by
        show (arrV _ n0 (fun j => va_rf (f j))).slots.getD _ _ = _
        rw [c1, Array.getD_eq_getD_getElem?, arrV_read _ _ (by omega)]
        rfl
      rw [e]
      cases hy : f (sp + i) with
      | none => exact ⟨rfl, trivial⟩
      | some y =>
        obtain ⟨ci, r, vs, y1, y2, y3⟩ := hel i hi y hy
        obtain ⟨r', hr', cellV, g1, g2, g3, -⟩ := A.2.2.1.2.2.1 y _ y1
        have hcls := (hK.1 ci r y2).2
        obtain ⟨kC, hkC, -⟩ := hcls.2
        obtain ⟨kA, comp, r1, r2, r3, -⟩ := (hK.2 kd _ (hkd _)).2
        cases hk1.symm.trans r1
        cases hkk1.symm.trans r2
        obtain ⟨kE, hkE, -⟩ := Vm.findClass_spec r3
        obtain ⟨kC', hkC', -⟩ := hal.2.2 _ _ hkC
        obtain ⟨kE', hkE', -⟩ := hal.2.2 _ _ hkE
        obtain ⟨c0, t1, u1, u2, u3⟩ := Cond.castable_spec (va_Nw.use (A := args) rfl (va_Nw.warmC A.2.1.2.2.2.2.2.2.2.1 (va_Nw.of rfl (A.1.1 _ y3))))
        cases hcls.1.symm.trans u1
        cases r3.symm.trans u2
        refine ⟨rfl, cellV, (show T.heap[y]? = some cellV by rw [hT]; exact g1), (fun q h => by rw [g3] at h; cases h), ⟨kC', by rw [g2]; exact hkC'⟩, ?_, ?_⟩
        · exact ⟨kE', hkE'⟩
        · show vm₁.assignable _ _ = true
          rw [hal.assignable, g2]
          exact u3)
    (g := F0 m pc la (.int (nI n) :: .int (nI dp) :: .ref a :: .int (nI sp) :: .ref a0 :: st)) rfl (by show la.size = _; rw [A.2.2.2.2.2.1]; exact A.2.1.2.2.2.2.1.symm) (rest := st) rfl (by rw [A.2.1.2.1]; exact hd) (by omega) (by
      show 2 * 0 + _ + _ ≤ _
      have : nativeFrameWords "java/lang/System" "arraycopy" 5 ≤ 40 := by decide
      omega)
  have e1 : copied (vp_cell (G.2.2.2.1 kd) (n0, .inr (.inr (.inr (.inr f))))) (vp_cell (G.2.2.2.1 kd) (n1, .inr (.inr (.inr (.inr g))))) (nI sp) (nI dp) (nI n) = vp_cell (G.2.2.2.1 kd) (n1, .inr (.inr (.inr (.inr (va_cpy f g sp dp n))))) := by
    have h4' : (nI sp).toNatClampNeg + (nI n).toNatClampNeg ≤ n0 := by rw [c1, c3]; exact h4
    have e0 : copied (vp_cell (G.2.2.2.1 kd) (n0, .inr (.inr (.inr (.inr f))))) (vp_cell (G.2.2.2.1 kd) (n1, .inr (.inr (.inr (.inr g))))) (nI sp) (nI dp) (nI n) = vp_cell (G.2.2.2.1 kd) (n1, .inr (.inr (.inr (.inr (va_cpy f g (nI sp).toNatClampNeg (nI dp).toNatClampNeg (nI n).toNatClampNeg))))) := by
      rw [vp_cell_q, vp_cell_q, vp_cell_q]
      exact va_copied (fun z => va_rf z) _ _ f g h4'
    rw [c1, c2, c3] at e0
    exact e0
  rw [e1] at X' step
  have hl : a < H.size := (Array.getElem?_eq_some_iff.mp hc1).1
  have hheap : ((T.setVm vm').setCell a (vp_cell (G.2.2.2.1 kd) (n1, .inr (.inr (.inr (.inr (va_cpy f g sp dp n))))))).heap = H.setIfInBounds a (vp_cell (G.2.2.2.1 kd) (n1, .inr (.inr (.inr (.inr (va_cpy f g sp dp n)))))) := by rw [← hT]; rfl
  have oq : ∀ q : Nat, q ≠ a → (H.setIfInBounds a (vp_cell (G.2.2.2.1 kd) (n1, .inr (.inr (.inr (.inr (va_cpy f g sp dp n)))))))[q]? = H[q]? := fun q hq => by simp [Array.getElem?_setIfInBounds, Ne.symm hq]
  obtain ⟨t, a1, b1⟩ := kk p e R s m args below meth c _ _ cells slots la ⟨A.1, A.2.1, A.2.2.1.up hN (show (H.setIfInBounds a _)[a]? = some _ by simp [Array.getElem?_setIfInBounds, hl]) (by simp) oq, fun q hq => by
      rcases List.mem_append.mp hq with h | h
      · exact A.2.2.2.1 q h
      · obtain ⟨z, -, hz⟩ := List.mem_map.mp h
        rw [← hz]
        exact hN, A.2.2.2.2⟩ _ hheap X'
  exact ⟨t, step t a1, b1⟩
end CORE7
