/-! ===== CORE 2: rows over the abstract heap ===== -/
set_option maxRecDepth 100000
def gxup (h : gxH) (a : Nat) (x : gxE) : gxH := (fun q => if q = a then some x else h.1 q, h.2)
def gxadd (h : gxH) (x : gxE) : gxH := (fun q => if q = h.2 then some x else h.1 q, h.2 + 1)
theorem gxup_self (h : gxH) (a : Nat) (x : gxE) : (gxup h a x).1 a = some x := by simp [gxup]
theorem gxup_ne {h : gxH} {a b : Nat} {x : gxE} (n : b ≠ a) : (gxup h a x).1 b = h.1 b := by simp [gxup, n]
theorem gxadd_self (h : gxH) (x : gxE) : (gxadd h x).1 h.2 = some x := by simp [gxadd]
theorem gxadd_ne {h : gxH} {b : Nat} {x : gxE} (n : b ≠ h.2) : (gxadd h x).1 b = h.1 b := by simp [gxadd, n]
theorem gxR.lt {G : gxG} {h : gxH} {H : Heap} (hR : gxR G h H) {a : Nat} {x : gxE} (ha : h.1 a = some x) : a < h.2 := by
  have := (hR.2.2.1 a x ha).lt
  rw [hR.1] at this
  exact this
theorem gxR.up {G : gxG} {h : gxH} {H H1 : Heap} (hR : gxR G h H) {a : Nat} {x : gxE} (hN : gxN G ≤ a) (hx : va_at G.2.2.1 gxCl (a, gxtoE G.2.2.2.1 x) H1) (z : H1.size = H.size) (oq : ∀ q : Nat, q ≠ a → H1[q]? = H[q]?) (hm : ∀ o, x = .inr o → ∀ cell, H1[a]? = some cell → gxfree cell := by intro o e; cases e) : gxR G (gxup h a x) H1 := by
  refine ⟨z.trans hR.1, hR.2.1, fun b y hb => ?_, fun q hq => (oq q (by omega)).trans (hR.2.2.2.1 q hq), fun q cell hq hc => ?_⟩
  rotate_left
  · by_cases hqa : q = a
    · subst hqa
      cases x with
      | inl x =>
        have hx' : H1[q]? = some (vp_cell _ _) := hx
        rw [hx'] at hc
        cases hc
        exact gxfree_arr _ _
      | inr o => exact hm o rfl cell hc
    · exact hR.2.2.2.2 q cell hq (by rw [← oq q hqa]; exact hc)
  by_cases hba : b = a
  · subst hba
    rw [gxup_self] at hb
    cases hb
    exact hx
  · rw [gxup_ne hba] at hb
    exact (hR.2.2.1 b y hb).kept (oq b hba)
theorem gxR.add {G : gxG} {h : gxH} {H H1 : Heap} (hR : gxR G h H) {x : gxE} (hx : va_at G.2.2.1 gxCl (h.2, gxtoE G.2.2.2.1 x) H1) (z : H1.size = h.2 + 1) (oq : ∀ q : Nat, q < h.2 → H1[q]? = H[q]?) (hm : ∀ o, x = .inr o → ∀ cell, H1[h.2]? = some cell → gxfree cell := by intro o e; cases e) : gxR G (gxadd h x) H1 := by
  have h1 := hR.1
  have h2 := hR.2.1
  refine ⟨z, Nat.le_succ_of_le h2, fun b y hb => ?_, fun q hq => (oq q (by omega)).trans (hR.2.2.2.1 q hq), fun q cell hq hc => ?_⟩
  rotate_left
  · by_cases hqa : q = h.2
    · subst hqa
      cases x with
      | inl x =>
        have hx' : H1[h.2]? = some (vp_cell _ _) := hx
        rw [hx'] at hc
        cases hc
        exact gxfree_arr _ _
      | inr o => exact hm o rfl cell hc
    · have hlt : q < H1.size := (Array.getElem?_eq_some_iff.mp hc).1
      exact hR.2.2.2.2 q cell hq (by rw [← oq q (by omega)]; exact hc)
  by_cases hba : b = h.2
  · subst hba
    rw [gxadd_self] at hb
    cases hb
    exact hx
  · rw [gxadd_ne hba] at hb
    exact (hR.2.2.1 b y hb).kept (oq b (hR.lt hb))
theorem gx_app {α : Type} {P : α → Prop} {l : List α} {x : α} (h : ∀ q ∈ l, P q) (hx : P x) : ∀ q ∈ l ++ [x], P q := by
  intro q hq
  rcases List.mem_append.mp hq with h1 | h1
  · exact h q h1
  · rw [List.mem_singleton.mp h1]; exact hx
section CORE2
variable {G : gxG} {Y : gxY} {d kc ks pc : Nat} {ls : List (Option Value)} {st : List Value} {h : gxH} {Q : Outcome → gxH → Prop}
/-- what the tables say of a field: the class ci of the list has it at place k, under this reference -/
def gxF (own : String) (idx ci k : Nat) (fin : Bool) : Prop := ∃ (C : String) (T : u_T) (N : Nat) (ty : Nat → FieldType), gxCl[ci]? = some (C, T, N) ∧ (∀ w ∈ u_ws C T N, w ∈ lw_all) ∧ k < N ∧ Cond.fieldLink own idx (T k).1 (T k).2.1 (T k).2.2.1 ∈ lw_all ∧ (T k).2.2.2 = fin ∧ (∀ j, j < N → parseFieldDescriptor (T j).2.2.1 = some (ty j)) ∧ (∀ a, a < N → ∀ b, b < N → a ≠ b → (T a).2.1 ≠ (T b).2.1)
theorem gx_get {idx ci k a : Nat} {fin : Bool} {fs : List Value} {v : Value} (hF : gxF Y.1.cls idx ci k fin) (hh : h.1 a = some (.inr (ci, fs))) (hv : fs[k]? = some v) (hd : decode Y.2.1 pc = .ok (.getfield idx, 3)) (kk : gxV G Y d kc ks (pc + 3) ls (v :: st) h Q) : gxV G Y d kc ks pc ls (.ref a :: st) h Q := by
  intro p e R s m args below meth c H locs cells slots la A
  obtain ⟨C, T, N, ty, hc, hin, hk, hl, -, -, -⟩ := hF
  have hts := gx_hts A args
  have hK := gx_vK A
  obtain ⟨r, h1, cell, q1, q2, q3, q4⟩ := A.2.2.1.2.2.1 a _ hh
  have hr : r = (C, T, N) := Option.some.inj (h1.symm.trans hc)
  subst hr
  obtain ⟨hS, hfc, kC, hkC, hkind⟩ := hK.1 ci _ hc
  obtain ⟨cf, kf, fi, f, hi, hsl⟩ := hS k hk
  refine W.getf A.2.1.1 A.2.1.2.1 A.2.1.2.2.2.2.2.1 (hts _ hl) hi (u_facts hfc hkC (u_lays hts hin hk) hi).1 q1 (by rw [q3]; exact fun h => by cases h) (v := v) ?_ rfl rfl hd (kk p e R s m args below meth c H locs cells slots la A)
  rw [hsl, q4 k hk]
  simp [vp_V, hv]
theorem gx_put {idx ci k a : Nat} {fs : List Value} {v : Value} {ty : FieldType} (hF : gxF Y.1.cls idx ci k false) (hh : h.1 a = some (.inr (ci, fs))) (hN : gxN G ≤ a) (hl : k < fs.length) (hty : ∀ C T N, gxCl[ci]? = some (C, T, N) → parseFieldDescriptor (T k).2.2.1 = some ty) (hn : narrow ty v = v) (hfit : fits ty v = true) (hd : decode Y.2.1 pc = .ok (.putfield idx, 3)) (kk : gxV G Y d kc ks (pc + 3) ls st (gxup h a (.inr (ci, fs.set k v))) Q) : gxV G Y d kc ks pc ls (v :: .ref a :: st) h Q := by
  intro p e R s m args below meth c H locs cells slots la A
  obtain ⟨C, T, N, ty0, hc, hin, hk, hlk, hfin, hty0, hnm⟩ := hF
  have hts := gx_hts A args
  have hK := gx_vK A
  have hap := va_apart (own := Y.1.cls) hts hin ty0 hty0 hnm hK hc
  obtain ⟨r, h1, cell, q1, q2, q3, q4⟩ := A.2.2.1.2.2.1 a _ hh
  have hr : r = (C, T, N) := Option.some.inj (h1.symm.trans hc)
  subst hr
  obtain ⟨hS, hfc, kC, hkC, hkind⟩ := hK.1 ci _ hc
  obtain ⟨cf, kf, fi, f, hi, hsl⟩ := hS k hk
  have hlay := hts _ (hin _ (u_in_lay hk))
  unfold u_lay at hlay
  rw [if_neg (by rw [hfin]; decide)] at hlay
  have hst := (u_facts hfc hkC (u_lays hts hin hk) hi).1
  have h6 := u_store hfc hkC hkind hlay hi (hty _ _ _ hc) hn hfit
  refine W.putK A.2.1.1 A.2.1.2.1 (f := f) ⟨A.2.1.2.2.2.2.2.1, hts _ hlk, ⟨_, _, _, hi⟩, hst⟩ (by rw [q2]; exact h6) q1 q3 (by rw [hsl]; exact k2_hasslot (q4 k hk)) rfl rfl hd fun H' e1 e2 e3 => ?_
  rw [hsl] at e1
  refine kk p e R s m args below meth c H' _ cells slots la ⟨A.1, A.2.1, A.2.2.1.up hN ?_ e2 e3 (fun _ _ c' hc' => by rw [e1] at hc'; cases hc'; exact A.2.2.1.2.2.2.2 a cell hN q1), gx_app A.2.2.2.1 hN, A.2.2.2.2⟩
  exact ⟨_, hc, t_OB.to (V := updV (vp_V fs) k v) ⟨_, e1, q2, q3, t_set q4 hap hk v⟩ (fun j _ => vp_updV_set hl v j)⟩
/-- a final field, in its own class's constructor -/
theorem gx_putF {idx ci k a : Nat} {fs : List Value} {v : Value} {ty : FieldType} (hF : gxF Y.1.cls idx ci k true) (hin2 : Y.1.name = "<init>") (hdecl : ∀ C T N, gxCl[ci]? = some (C, T, N) → (T k).1 = Y.1.cls) (hh : h.1 a = some (.inr (ci, fs))) (hN : gxN G ≤ a) (hl : k < fs.length) (hty : ∀ C T N, gxCl[ci]? = some (C, T, N) → parseFieldDescriptor (T k).2.2.1 = some ty) (hn : narrow ty v = v) (hfit : fits ty v = true) (hd : decode Y.2.1 pc = .ok (.putfield idx, 3)) (kk : gxV G Y d kc ks (pc + 3) ls st (gxup h a (.inr (ci, fs.set k v))) Q) : gxV G Y d kc ks pc ls (v :: .ref a :: st) h Q := by
  intro p e R s m args below meth c H locs cells slots la A
  obtain ⟨C, T, N, ty0, hc, hin, hk, hlk, hfin, hty0, hnm⟩ := hF
  have hts := gx_hts A args
  have hK := gx_vK A
  have hown := A.2.1.2.2.2.2.2.1
  have hap := va_apart (own := Y.1.cls) hts hin ty0 hty0 hnm hK hc
  obtain ⟨r, h1, cell, q1, q2, q3, q4⟩ := A.2.2.1.2.2.1 a _ hh
  have hr : r = (C, T, N) := Option.some.inj (h1.symm.trans hc)
  subst hr
  obtain ⟨hS, hfc, kC, hkC, hkind⟩ := hK.1 ci _ hc
  obtain ⟨cf, kf, fi, f, hi, hsl⟩ := hS k hk
  have hlay := hts _ (hin _ (u_in_lay hk))
  unfold u_lay at hlay
  rw [if_pos hfin] at hlay
  have hst := (u_facts hfc hkC (u_lays hts hin hk) hi).1
  have hcf : m.cls = cf := by
    obtain ⟨_, _, c', _, _, _, -, -, hf', -, -, -, hown2, -⟩ := Cond.laysFinal_spec hlay
    have e1 : c' = cf := by have := hi.symm.trans hf'; simp at this; exact this.1.symm
    rw [hdecl _ _ _ hc] at hown2
    rw [← e1]; exact Option.some.inj (hown.symm.trans hown2)
  have h6 := u_fits hfc hkC hkind (Or.inr hlay) hi (hty _ _ _ hc) hn hfit
  refine W.putFinK A.2.1.1 A.2.1.2.1 hown (hts _ hlk) hi hst hcf (A.2.1.2.2.2.2.2.2.1.trans hin2) (by rw [q2]; exact h6) q1 q3 (by rw [hsl]; exact k2_hasslot (q4 k hk)) rfl rfl hd fun H' e1 e2 e3 => ?_
  rw [hsl] at e1
  refine kk p e R s m args below meth c H' _ cells slots la ⟨A.1, A.2.1, A.2.2.1.up hN ?_ e2 e3 (fun _ _ c' hc' => by rw [e1] at hc'; cases hc'; exact A.2.2.1.2.2.2.2 a cell hN q1), gx_app A.2.2.2.1 hN, A.2.2.2.2⟩
  exact ⟨_, hc, t_OB.to (V := updV (vp_V fs) k v) ⟨_, e1, q2, q3, t_set q4 hap hk v⟩ (fun j _ => vp_updV_set hl v j)⟩
/-! a nest mate's field -/
def gxFN (own : String) (idx ci k : Nat) (fin : Bool) : Prop := ∃ (C host : String) (T : u_T) (N : Nat) (ty : Nat → FieldType), gxCl[ci]? = some (C, T, N) ∧ (∀ w ∈ u_ws C T N, w ∈ lw_all) ∧ k < N ∧ Cond.fieldLinkNest own idx (T k).1 (T k).2.1 (T k).2.2.1 host ∈ lw_tbl ∧ (T k).2.2.2 = fin ∧ (∀ j, j < N → parseFieldDescriptor (T j).2.2.1 = some (ty j)) ∧ (∀ a, a < N → ∀ b, b < N → a ≠ b → (T a).2.1 ≠ (T b).2.1)
theorem gx_getN {idx ci k a : Nat} {fin : Bool} {fs : List Value} {v : Value} (hF : gxFN Y.1.cls idx ci k fin) (hh : h.1 a = some (.inr (ci, fs))) (hv : fs[k]? = some v) (hd : decode Y.2.1 pc = .ok (.getfield idx, 3)) (kk : gxV G Y d kc ks (pc + 3) ls (v :: st) h Q) : gxV G Y d kc ks pc ls (.ref a :: st) h Q := by
  intro p e R s m args below meth c H locs cells slots la A
  obtain ⟨C, host, T, N, ty, hc, hin, hk, hl, -, -, -⟩ := hF
  have hts := gx_hts A args
  have hK := gx_vK A
  have hlk : va_Nw (.fieldLinkNest Y.1.cls idx (T k).1 (T k).2.1 (T k).2.2.1 host) s := va_Nw.warmF A.2.1.2.2.2.2.2.2.2.1 (va_Nw.of rfl (A.1.1 _ hl))
  obtain ⟨r, h1, cell, q1, q2, q3, q4⟩ := A.2.2.1.2.2.1 a _ hh
  have hr : r = (C, T, N) := Option.some.inj (h1.symm.trans hc)
  subst hr
  obtain ⟨hS, hfc, kC, hkC, hkind⟩ := hK.1 ci _ hc
  obtain ⟨cf, kf, fi, f, hi, hsl⟩ := hS k hk
  refine va_Wgetf A.2.1.1 A.2.1.2.1 A.2.1.2.2.2.2.2.1 (va_Nw.use rfl hlk) hi (u_facts hfc hkC (u_lays hts hin hk) hi).1 q1 (by rw [q3]; exact fun h => by cases h) (v := v) ?_ rfl rfl hd (kk p e R s m args below meth c H locs cells slots la A)
  rw [hsl, q4 k hk]
  simp [vp_V, hv]
theorem gx_putN {idx ci k a : Nat} {fs : List Value} {v : Value} {ty : FieldType} (hF : gxFN Y.1.cls idx ci k false) (hh : h.1 a = some (.inr (ci, fs))) (hN : gxN G ≤ a) (hl : k < fs.length) (hty : ∀ C T N, gxCl[ci]? = some (C, T, N) → parseFieldDescriptor (T k).2.2.1 = some ty) (hn : narrow ty v = v) (hfit : fits ty v = true) (hd : decode Y.2.1 pc = .ok (.putfield idx, 3)) (kk : gxV G Y d kc ks (pc + 3) ls st (gxup h a (.inr (ci, fs.set k v))) Q) : gxV G Y d kc ks pc ls (v :: .ref a :: st) h Q := by
  intro p e R s m args below meth c H locs cells slots la A
  obtain ⟨C, host, T, N, ty0, hc, hin, hk, hlk0, hfin, hty0, hnm⟩ := hF
  have hts := gx_hts A args
  have hK := gx_vK A
  have hlk : va_Nw (.fieldLinkNest Y.1.cls idx (T k).1 (T k).2.1 (T k).2.2.1 host) s := va_Nw.warmF A.2.1.2.2.2.2.2.2.2.1 (va_Nw.of rfl (A.1.1 _ hlk0))
  have hap := va_apart (own := Y.1.cls) hts hin ty0 hty0 hnm hK hc
  obtain ⟨r, h1, cell, q1, q2, q3, q4⟩ := A.2.2.1.2.2.1 a _ hh
  have hr : r = (C, T, N) := Option.some.inj (h1.symm.trans hc)
  subst hr
  obtain ⟨hS, hfc, kC, hkC, hkind⟩ := hK.1 ci _ hc
  obtain ⟨cf, kf, fi, f, hi, hsl⟩ := hS k hk
  have hlay := hts _ (hin _ (u_in_lay hk))
  unfold u_lay at hlay
  rw [if_neg (by rw [hfin]; decide)] at hlay
  have hst := (u_facts hfc hkC (u_lays hts hin hk) hi).1
  have h6 := u_store hfc hkC hkind hlay hi (hty _ _ _ hc) hn hfit
  refine va_WputK A.2.1.1 A.2.1.2.1 (f := f) A.2.1.2.2.2.2.2.1 (va_Nw.use rfl hlk) hi hst (by rw [q2]; exact h6) q1 q3 (by rw [hsl]; exact k2_hasslot (q4 k hk)) rfl rfl hd fun H' e1 e2 e3 => ?_
  rw [hsl] at e1
  refine kk p e R s m args below meth c H' _ cells slots la ⟨A.1, A.2.1, A.2.2.1.up hN ?_ e2 e3 (fun _ _ c' hc' => by rw [e1] at hc'; cases hc'; exact A.2.2.1.2.2.2.2 a cell hN q1), gx_app A.2.2.2.1 hN, A.2.2.2.2⟩
  exact ⟨_, hc, t_OB.to (V := updV (vp_V fs) k v) ⟨_, e1, q2, q3, t_set q4 hap hk v⟩ (fun j _ => vp_updV_set hl v j)⟩
/-! arrays -/
theorem gx_in {i : Int32} {k n : Nat} (hi : i = nI k) (hk : k < n) (hn : n < 2 ^ 31) : ¬ (i < 0 ∨ n ≤ i.toNatClampNeg) ∧ i.toNatClampNeg = k := by
  subst hi
  exact ⟨nI_in hk hn, nI_clamp (by omega)⟩
theorem gx_iald {a n : Nat} {f : Nat → Int32} {i : Int32} (k : Nat) (hh : h.1 a = some (.inl (0, n, .inl f))) (hi : i = nI k) (hk : k < n) (hn : n < 2 ^ 31) (hd : decode Y.2.1 pc = .ok (.iaload, 1)) (kk : gxV G Y d kc ks (pc + 1) ls (.int (f k) :: st) h Q) : gxV G Y d kc ks pc ls (.int i :: .ref a :: st) h Q := by
  intro p e R s m args below meth c H locs cells slots la A
  obtain ⟨h1, h2⟩ := gx_in hi hk hn
  have hK := gx_vK A
  refine W.iald (v := .int (f k)) A.2.1.1 A.2.1.2.1 (A.2.2.1.2.2.1 a _ hh) ((hK.2 0 _ rfl).1 n (fun j => .int (f j))) (fun q => by cases q) (by show ¬ (i < 0 ∨ (arrV _ _ _).slots.size ≤ _); rw [arrV_size]; exact h1) (by rw [h2]; show (arrV _ _ _).slots[_]? = _; rw [arrV_read _ _ hk]) rfl rfl hd (kk p e R s m args below meth c H locs cells slots la A)
theorem gx_zald {a n : Nat} {f : Nat → Int32} {i : Int32} (k : Nat) (hh : h.1 a = some (.inl (2, n, .inl f))) (hi : i = nI k) (hk : k < n) (hn : n < 2 ^ 31) (hd : decode Y.2.1 pc = .ok (.baload, 1)) (kk : gxV G Y d kc ks (pc + 1) ls (.int (f k) :: st) h Q) : gxV G Y d kc ks pc ls (.int i :: .ref a :: st) h Q := by
  intro p e R s m args below meth c H locs cells slots la A
  obtain ⟨h1, h2⟩ := gx_in hi hk hn
  have hK := gx_vK A
  refine W.zald (v := .int (f k)) A.2.1.1 A.2.1.2.1 (A.2.2.1.2.2.1 a _ hh) ((hK.2 2 _ rfl).1 n (fun j => .int (f j))) (fun q => by cases q) (by show ¬ (i < 0 ∨ (arrV _ _ _).slots.size ≤ _); rw [arrV_size]; exact h1) (by rw [h2]; show (arrV _ _ _).slots[_]? = _; rw [arrV_read _ _ hk]) rfl rfl hd (kk p e R s m args below meth c H locs cells slots la A)
theorem gx_lald {a n : Nat} {f : Nat → Int64} {i : Int32} (k : Nat) (hh : h.1 a = some (.inl (1, n, .inr (.inl f)))) (hi : i = nI k) (hk : k < n) (hn : n < 2 ^ 31) (hd : decode Y.2.1 pc = .ok (.laload, 1)) (kk : gxV G Y d kc ks (pc + 1) ls (.long (f k) :: st) h Q) : gxV G Y d kc ks pc ls (.int i :: .ref a :: st) h Q := by
  intro p e R s m args below meth c H locs cells slots la A
  obtain ⟨h1, h2⟩ := gx_in hi hk hn
  have hK := gx_vK A
  refine W.lald (v := .long (f k)) A.2.1.1 A.2.1.2.1 (A.2.2.1.2.2.1 a _ hh) ((hK.2 1 _ rfl).1 n (fun j => .long (f j))) (fun q => by cases q) (by show ¬ (i < 0 ∨ (arrV _ _ _).slots.size ≤ _); rw [arrV_size]; exact h1) (by rw [h2]; show (arrV _ _ _).slots[_]? = _; rw [arrV_read _ _ hk]) rfl rfl hd (kk p e R s m args below meth c H locs cells slots la A)
theorem gx_iast {a n : Nat} {f : Nat → Int32} {i x : Int32} (k : Nat) (hh : h.1 a = some (.inl (0, n, .inl f))) (hN : gxN G ≤ a) (hi : i = nI k) (hk : k < n) (hn : n < 2 ^ 31) (hd : decode Y.2.1 pc = .ok (.iastore, 1)) (kk : gxV G Y d kc ks (pc + 1) ls st (gxup h a (.inl (0, n, .inl (upd f k x)))) Q) : gxV G Y d kc ks pc ls (.int x :: .int i :: .ref a :: st) h Q := by
  intro p e R s m args below meth c H locs cells slots la A
  obtain ⟨h1, h2⟩ := gx_in hi hk hn
  have hK := gx_vK A
  refine W.iast A.2.1.1 A.2.1.2.1 (A.2.2.1.2.2.1 a _ hh) ((hK.2 0 _ rfl).1 n (fun j => .int (f j))) (fun q => by cases q) (by show ¬ (i < 0 ∨ (arrV _ _ _).slots.size ≤ _); rw [arrV_size]; exact h1) rfl rfl hd fun H1 e1 z oq => ?_
  refine kk p e R s m args below meth c H1 _ cells slots la ⟨A.1, A.2.1, A.2.2.1.up hN ?_ z oq, gx_app A.2.2.2.1 hN, A.2.2.2.2⟩
  rw [h2] at e1
  show H1[a]? = some (vp_cell _ _)
  rw [e1, vp_cell_i, vp_cell_i, arrV_store]
  congr 2
  funext q
  by_cases hq : q = k
  · subst hq; simp [updV, upd]
  · simp [updV, upd, hq]
theorem gx_zast {a n : Nat} {f : Nat → Int32} {i x : Int32} (k : Nat) (hh : h.1 a = some (.inl (2, n, .inl f))) (hN : gxN G ≤ a) (hx : x = 0 ∨ x = 1) (hi : i = nI k) (hk : k < n) (hn : n < 2 ^ 31) (hd : decode Y.2.1 pc = .ok (.bastore, 1)) (kk : gxV G Y d kc ks (pc + 1) ls st (gxup h a (.inl (2, n, .inl (upd f k x)))) Q) : gxV G Y d kc ks pc ls (.int x :: .int i :: .ref a :: st) h Q := by
  intro p e R s m args below meth c H locs cells slots la A
  obtain ⟨h1, h2⟩ := gx_in hi hk hn
  have hK := gx_vK A
  refine W.zast A.2.1.1 A.2.1.2.1 (A.2.2.1.2.2.1 a _ hh) ((hK.2 2 _ rfl).1 n (fun j => .int (f j))) (fun q => by cases q) (by show ¬ (i < 0 ∨ (arrV _ _ _).slots.size ≤ _); rw [arrV_size]; exact h1) rfl rfl hd fun H1 e1 z oq => ?_
  refine kk p e R s m args below meth c H1 _ cells slots la ⟨A.1, A.2.1, A.2.2.1.up hN ?_ z oq, gx_app A.2.2.2.1 hN, A.2.2.2.2⟩
  rw [h2] at e1
  show H1[a]? = some (vp_cell _ _)
  rw [e1, vp_cell_i, vp_cell_i, arrV_store]
  congr 2
  funext q
  by_cases hq : q = k
  · subst hq
    rcases hx with rfl | rfl
    · simp [updV, upd]; decide
    · simp [updV, upd]; decide
  · simp [updV, upd, hq]
theorem gx_last {a n : Nat} {f : Nat → Int64} {i : Int32} {x : Int64} (k : Nat) (hh : h.1 a = some (.inl (1, n, .inr (.inl f)))) (hN : gxN G ≤ a) (hi : i = nI k) (hk : k < n) (hn : n < 2 ^ 31) (hd : decode Y.2.1 pc = .ok (.lastore, 1)) (kk : gxV G Y d kc ks (pc + 1) ls st (gxup h a (.inl (1, n, .inr (.inl (vp_updL f k x))))) Q) : gxV G Y d kc ks pc ls (.long x :: .int i :: .ref a :: st) h Q := by
  intro p e R s m args below meth c H locs cells slots la A
  obtain ⟨h1, h2⟩ := gx_in hi hk hn
  have hK := gx_vK A
  refine W.last A.2.1.1 A.2.1.2.1 (A.2.2.1.2.2.1 a _ hh) ((hK.2 1 _ rfl).1 n (fun j => .long (f j))) (fun q => by cases q) (by show ¬ (i < 0 ∨ (arrV _ _ _).slots.size ≤ _); rw [arrV_size]; exact h1) rfl rfl hd fun H1 e1 z oq => ?_
  refine kk p e R s m args below meth c H1 _ cells slots la ⟨A.1, A.2.1, A.2.2.1.up hN ?_ z oq, gx_app A.2.2.2.1 hN, A.2.2.2.2⟩
  rw [h2] at e1
  show H1[a]? = some (vp_cell _ _)
  rw [e1, vp_cell_l, vp_cell_l, arrV_store]
  congr 2
  funext q
  by_cases hq : q = k
  · subst hq; simp [updV, vp_updL]
  · simp [updV, vp_updL, hq]
/-! new -/
theorem gx_dflt {N : Nat} {ty : Nat → FieldType} {fs : List Value} (hfs : (List.range N).map (fun j => defaultValue (ty j)) = fs) : ∀ j, j < N → defaultValue (ty j) = vp_V fs j := by
  intro j hj
  subst hfs
  simp [vp_V, hj]
theorem gx_new {idx ci N : Nat} {C : String} {T : u_T} {fs : List Value} (ty : Nat → FieldType) (hc : gxCl[ci]? = some (C, T, N)) (hin : ∀ w ∈ u_ws C T N, w ∈ lw_all) (hty : ∀ k, k < N → parseFieldDescriptor (T k).2.2.1 = some (ty k)) (hl : Cond.classLink Y.1.cls idx C ∈ lw_all) (hi : Cond.instantiable C N ∈ lw_all) (hz : Cond.initialized C ∈ lw_all) (hfs : (List.range N).map (fun j => defaultValue (ty j)) = fs) (hd : decode Y.2.1 pc = .ok (.new idx, 3))
    (kk : gxV G Y d kc ks (pc + 3) ls (.ref h.2 :: st) (gxadd h (.inr (ci, fs))) Q) : gxV G Y d (kc + 1) (ks + N) pc ls st h Q := by
  intro p e R s m args below meth c H locs cells slots la A
  have hts := gx_hts A args
  have hK := gx_vK A
  have hKn := hK.1 ci _ hc
  obtain ⟨a1, a2, a3, a4, a5, a6⟩ := A
  refine W.newcK a2.1 a2.2.1 a2.2.2.2.2.2.1 (hts _ hl) (hts _ hi) (hts _ hz) rfl hd (by omega) (by omega) hKn.2.1 a3.1 fun H1 kC hkC e1 z1 o1 => ?_
  rw [show cells + (kc + 1) = cells + 1 + kc by omega, show slots + (ks + N) = slots + N + ks by omega]
  exact kk p e R s m args below meth c H1 locs (cells + 1) (slots + N) la ⟨a1, a2, a3.add ⟨_, hc, (u_born ty hts hin hKn hkC e1 hty).to (gx_dflt hfs)⟩ z1 o1 (fun _ _ c' hc' => by rw [e1] at hc'; cases hc'; rfl), a4, ⟨by omega, by omega⟩, a6⟩
theorem gx_newa {at0 : ArrayType} {kd n : Nat} {i : Int32} {x0 : vp_A} (ty : FieldType) (hty : newarray.typeOf at0 = ty) (hw : Cond.arrayClass ty ∈ lw_all) (hkd : ∀ dA : Nat → ClassId, (gxTys dA)[kd]? = some (dA kd, ty)) (hra : ∀ (U : State) (cA : ClassId), va_RA U cA ty → U.vm.findClass ("[" ++ ty.toString) = some cA) (hi : i = nI n) (hb : n * componentBytes ty ≤ 536870912) (hn : n < 2 ^ 31) (hx0 : ∀ cA : ClassId, vp_cell cA x0 = arrV cA n (fun _ => defaultValue ty)) (hd : decode Y.2.1 pc = .ok (.newarray at0, 2))
    (kk : gxV G Y d kc ks (pc + 2) ls (.ref h.2 :: st) (gxadd h (.inl (kd, x0))) Q) : gxV G Y d (kc + 1) (ks + n) pc ls (.int i :: st) h Q := by
  intro p e R s m args below meth c H locs cells slots la A
  have hts := gx_hts A args
  have hK := gx_vK A
  obtain ⟨a1, a2, a3, a4, a5, a6⟩ := A
  subst hi
  subst hty
  refine va_newaK a2.1 a2.2.1 (hts _ hw) rfl hd rfl (nI_pos hn) (nI_clamp hn) hb (by omega) (by omega) a3.1 fun H1 cA e1 z1 o1 hAr hNm => ?_
  rw [show cells + (kc + 1) = cells + 1 + kc by omega, show slots + (ks + n) = slots + n + ks by omega]
  refine kk p e R s m args below meth c H1 locs (cells + 1) (slots + n) la ⟨a1, a2, a3.add ?_ z1 o1, a4, ⟨by omega, by omega⟩, a6⟩
  have hcA : cA = G.2.2.2.1 kd := Option.some.inj (hNm.symm.trans (hra s _ (hK.2 kd _ (hkd _)).2))
  show H1[h.2]? = some (vp_cell _ _)
  rw [hx0, ← hcA]
  exact e1
theorem gx_objInit {idx a : Nat} (hl : Cond.methodLink Y.1.cls idx Lib.objectInit ∈ lw_all) (hi : Cond.instanceMethod Lib.objectInit ∈ lw_all) (hcd : Cond.code Lib.objectInit ⟨#[0xb1]⟩ 1 none ∈ lw_all) (hst : (st.map fun v => v.category).sum ≤ 40) (hd1 : 1 ≤ d) (hd : decode Y.2.1 pc = .ok (.invokespecial idx, 3)) (kk : gxV G Y d kc ks (pc + 3) ls st h Q) : gxV G Y d kc ks pc ls (.ref a :: st) h Q := by
  intro p e R s m args below meth c H locs cells slots la A
  have hts := gx_hts A args
  obtain ⟨-, -, -, -, hml, -, -, -, -, hfr, hlo⟩ := A.2.1
  refine W.objInit A.2.1.1 A.2.1.2.1 A.2.1.2.2.2.2.2.1 (hts _ hl) (hts _ hi) (hts _ hcd) rfl (A.2.2.2.2.2.1.trans hml.symm) rfl hd (by omega) ?_ (kk p e R s m args below meth c H locs cells slots la A)
  have h0 : (F0 m pc la (.ref a :: st)).monitorRoom = 0 := rfl
  rw [h0]
  omega
end CORE2
