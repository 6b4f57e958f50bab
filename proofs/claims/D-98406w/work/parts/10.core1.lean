/-! ===== CORE 1: abstract heaps, the judgement gxV, rows that touch no heap ===== -/
set_option maxRecDepth 100000
abbrev gxE : Type := (Nat × vp_A) ⊕ (Nat × List Value)
abbrev gxH : Type := (Nat → Option gxE) × Nat
/-- launch, state at the law's entry, class numbers, array classes, the script's address -/
abbrev gxG : Type := Launch × State × va_G × (Nat → ClassId) × Nat
/-- name, code, locals, return type, handlers -/
abbrev gxY : Type := MethodName × ByteArray × Nat × Option FieldType × List (Nat × Nat × Nat × Nat)
def gxT0 : u_T := fun _ => ("", "", "", false)
def gxCl : List vw_C := [(RX1, TX1, 12), (RX2, TX2, 11), (RX3, TX3, 11), (RX4, TX4, 8), (RX5, TX5, 1), (RX6, TX6, 4), (RX7, TX7, 8), (RX8, TX8, 4), (RX9, TX9, 4), (RX10, TX10, 70), (RX11, TX11, 7), (RX12, TX12, 2), (RX13, TX13, 2), (RX14, TX14, 2), (RX15, TX15, 2), (RX16, TX16, 6), (RX18, TX18, 1), (RX19, TX19, 1), (RX20, TX20, 1), (RX21, TX21, 2), (RX23, TX23, 1), (RX24, TX24, 1), (RX25, TX25, 1), (RX26, TX26, 1), (RX27, TX27, 1), (RX28, TX28, 1), (RX29, TX29, 1), (RX31, TX31, 3), (RX32, TX32, 2), (RX33, TX33, 1), (RX34, gxT0, 0), (RX35, TX35, 3), (RJ2, TJ2, 3), (RJ13, TJ13, 1), (RJ16, TJ16, 1), (RJ18, TJ18, 6)]
def gxTy : List FieldType := [.int, .long, .boolean, .object "java/lang/Object", .object "java/lang/String", .object "PaidSecrets$Talk", .object "PaidSecrets$Mark"]
def gxTys (dA : Nat → ClassId) : List (ClassId × FieldType) := [(dA 0, .int), (dA 1, .long), (dA 2, .boolean), (dA 3, .object "java/lang/Object"), (dA 4, .object "java/lang/String"), (dA 5, .object "PaidSecrets$Talk"), (dA 6, .object "PaidSecrets$Mark")]
def gxtoE (dA : Nat → ClassId) : gxE → va_E
  | .inl x => .inl (dA x.1, x.2)
  | .inr o => .inr o
abbrev gxN (G : gxG) : Nat := G.2.1.heap.size
def gxK (G : gxG) : Prop := (∀ w ∈ lw_tbl, w.before #[Value.ref G.2.2.2.2] G.2.1 = true) ∧ va_K G.2.2.1 gxCl (gxTys G.2.2.2.1) G.2.1 ∧ (Jvm.Cond.and given_1 narrow_1).before #[Value.ref G.2.2.2.2] G.2.1 = true ∧ G.1.stackTraces = false
/-- nobody holds the cell's monitor -/
abbrev gxfree (cell : Cell) : Prop := cell.monitor = ({} : Monitor)
theorem gxfree_arr (c : ClassId) (x : vp_A) : gxfree (vp_cell c x) := by
  show (vp_cell c x).monitor = ({} : Monitor)
  unfold vp_cell
  split <;> rfl
/-- the heap H holds the picture h; what was there at the law's entry is as it was -/
def gxR (G : gxG) (h : gxH) (H : Heap) : Prop := H.size = h.2 ∧ gxN G ≤ h.2 ∧ (∀ (a : Nat) (x : gxE), h.1 a = some x → va_at G.2.2.1 gxCl (a, gxtoE G.2.2.2.1 x) H) ∧ (∀ q : Nat, q < gxN G → H[q]? = G.2.1.heap[q]?) ∧ ∀ (q : Nat) (cell : Cell), gxN G ≤ q → H[q]? = some cell → gxfree cell
def gxL (la : Array Slot) (n : Nat) (ls : List (Option Value)) : Prop := la.size = n ∧ lv_wf la ∧ ∀ (i : Nat) (v : Value), ls[i]? = some (some v) → la[i]? = some (.val v)
def gxC (G : gxG) (Y : gxY) (d : Nat) (p : Program) (R : Room) (s : State) (m : MethodId) (meth : Method) (c : Code) : Prop :=
  p.tables.exec = Jvm.exec ∧ c.code = Y.2.1 ∧ meth.sig.returnType = Y.2.2.2.1 ∧ meth.locks = false ∧ c.maxLocals = Y.2.2.1 ∧ s.vm.findClass Y.1.cls = some m.cls ∧ meth.name = Y.1.name ∧ G.2.1.WarmedH s.vm ∧ (c.exceptionTable.toList.map (fun h => (h.startPc, h.endPc, h.handlerPc, h.catchType)) = Y.2.2.2.2 ∧ ∀ q : Nat, q < gxN G → s.heap[q]? = G.2.1.heap[q]?) ∧ d ≤ R.frames ∧ 64 * d ≤ R.locals
def gxA (G : gxG) (Y : gxY) (d kc ks : Nat) (h : gxH) (ls : List (Option Value)) (p : Program) (R : Room) (s : State) (m : MethodId) (meth : Method) (c : Code) (H : Heap) (locs : List Loc) (cells slots : Nat) (la : Array Slot) : Prop :=
  gxK G ∧ gxC G Y d p R s m meth c ∧ gxR G h H ∧ (∀ q ∈ locs, gxN G ≤ q.base) ∧ (cells + kc ≤ R.cells ∧ slots + ks ≤ R.slots) ∧ gxL la Y.2.2.1 ls
/-- the method's end, in its caller's words -/
def gxZ (G : gxG) (below : List Frame) (s : State) (K N : Nat) (Q : Outcome → gxH → Prop) : State → Prop := fun t =>
  ∃ (o : Outcome) (h' : gxH) (L : List Loc), t.status = .running ∧ Ended t below o ∧ Q o h' ∧ gxR G h' t.heap ∧ s.WarmedH t.vm ∧ s.sameButNew ({ t with vm := s.vm } : State) L K N ∧ ∀ q ∈ L, gxN G ≤ q.base
/-- THE JUDGEMENT: from pc, with these locals, this stack and this heap, room for kc cells of ks slots: the method comes to an end with Q -/
def gxV (G : gxG) (Y : gxY) (d kc ks pc : Nat) (ls : List (Option Value)) (st : List Value) (h : gxH) (Q : Outcome → gxH → Prop) : Prop :=
  ∀ (p : Program) (e : Env) (R : Room) (s : State) (m : MethodId) (args : Array Value) (below : List Frame) (meth : Method) (c : Code) (H : Heap) (locs : List Loc) (cells slots : Nat) (la : Array Slot),
    gxA G Y d kc ks h ls p R s m meth c H locs cells slots la → W p G.1 e R s m args below meth c H locs cells slots (gxZ G below s (cells + kc) (slots + ks) Q) (F0 m pc la st)
def gxcw (Y : gxY) : Cond := match Y.2.2.2.2 with
  | [] => .code Y.1 Y.2.1 Y.2.2.1 Y.2.2.2.1
  | hh => .codeWith Y.1 Y.2.1 Y.2.2.1 Y.2.2.2.1 hh
def gxRm (d kc ks : Nat) : Room := { frames := d, cells := kc, slots := ks, locals := 64 * d }
/-- THE CONTRACT of the method Y, called with av on the heap h -/
def gxM (G : gxG) (Y : gxY) (d kc ks : Nat) (av : List Value) (h : gxH) (Q : Outcome → gxH → Prop) : Prop :=
  gxK G → MetFree G.1 Y.1 (headSpec [gxcw Y] (gxRm d kc ks)) (fun a U => a = av.toArray ∧ G.2.1.WarmedH U.vm ∧ gxR G h U.heap) (fun _ _ _ _ _ => True)
    (fun _ st o t => ∃ (h' : gxH) (L : List Loc), Q o h' ∧ gxR G h' t.heap ∧ st.WarmedH t.vm ∧ st.sameButNew ({ t with vm := st.vm } : State) L kc ks ∧ ∀ q ∈ L, gxN G ≤ q.base)
theorem gx_mono {p : Program} {l : Launch} {e : Env} {R : Room} {s : State} {m : MethodId} {args : Array Value} {below : List Frame} {meth : Method} {c : Code} {H : Heap} {locs : List Loc} {cells slots : Nat} {Q Q' : State → Prop} {g : JFrame} (hq : ∀ t, Q t → Q' t) (h : W p l e R s m args below meth c H locs cells slots Q g) : W p l e R s m args below meth c H locs cells slots Q' g := fun T hT X => by
  obtain ⟨t, a, b⟩ := h T hT X
  exact ⟨t, a, hq t b⟩
/-- a word of the tables at a later state -/
theorem gx_word {G : gxG} (hK : gxK G) {U : State} (hW : G.2.1.WarmedH U.vm) {w : Cond} (hw : w ∈ lw_all) (a : Array Value) : w.before a U = true :=
  word_at hW (lw_self w hw).2 (hK.1 w (lw_all_tbl hw))
theorem gx_hts {G : gxG} {Y : gxY} {d kc ks : Nat} {h : gxH} {ls : List (Option Value)} {p : Program} {R : Room} {s : State} {m : MethodId} {meth : Method} {c : Code} {H : Heap} {locs : List Loc} {cells slots : Nat} {la : Array Slot} (A : gxA G Y d kc ks h ls p R s m meth c H locs cells slots la) (args : Array Value) : ∀ w ∈ lw_all, w.before args s = true :=
  fun _ hw => gx_word A.1 A.2.1.2.2.2.2.2.2.2.1 hw args
theorem gx_vK {G : gxG} {Y : gxY} {d kc ks : Nat} {h : gxH} {ls : List (Option Value)} {p : Program} {R : Room} {s : State} {m : MethodId} {meth : Method} {c : Code} {H : Heap} {locs : List Loc} {cells slots : Nat} {la : Array Slot} (A : gxA G Y d kc ks h ls p R s m meth c H locs cells slots la) : va_K G.2.2.1 gxCl (gxTys G.2.2.2.1) s :=
  va_K.moved A.2.1.2.2.2.2.2.2.2.1.alike A.1.2.1
/-! locals -/
def gxp (ls : List (Option Value)) : List (Nat × Value) := (List.range ls.length).filterMap fun j => match ls[j]? with
  | some (some w) => some (j, w)
  | _ => none
theorem gxp_mem {ls : List (Option Value)} {j : Nat} {w : Value} : (j, w) ∈ gxp ls ↔ ls[j]? = some (some w) := by
  constructor
  · intro h
    obtain ⟨i, -, h2⟩ := List.mem_filterMap.mp h
    split at h2
    next w' hw => cases h2; exact hw
    next => cases h2
  · intro h
    refine List.mem_filterMap.mpr ⟨j, List.mem_range.mpr (List.getElem?_eq_some_iff.mp h).1, ?_⟩
    rw [h]
theorem gxL.has {la : Array Slot} {n : Nat} {ls : List (Option Value)} (h : gxL la n ls) : lv_has la n (gxp ls) :=
  ⟨h.1, h.2.1, fun q hq => h.2.2 q.1 q.2 (gxp_mem.mp hq)⟩
/-- no long stands just ahead of place k -/
def gxok (ls : List (Option Value)) (k : Nat) : Bool := match k with
  | 0 => true
  | j + 1 => match ls[j]? with
    | some (some w) => w.category == 1
    | _ => true
theorem gxok_cat {ls : List (Option Value)} {k j : Nat} {w : Value} (h : gxok ls k = true) (hj : j + 1 = k) (hw : ls[j]? = some (some w)) : (w.category == 2) = false := by
  subst hj
  simp only [gxok, hw] at h
  rw [beq_iff_eq.mp h]; rfl
theorem gxL.st1 {la : Array Slot} {n : Nat} {ls : List (Option Value)} {k : Nat} {v : Value} (h : lv_has la n ((k, v) :: (gxp ls).filter (fun q => !(q.1 == k) && !(q.1 + 1 == k && q.2.category == 2)))) (ok : gxok ls k = true) : gxL la n (ls.set k (some v)) := by
  refine ⟨h.1, h.2.1, fun i w hi => ?_⟩
  by_cases hk : i = k
  · subst hk
    by_cases hl : i < ls.length
    · rw [List.getElem?_set_self hl] at hi
      cases hi
      exact h.2.2 (i, v) List.mem_cons_self
    · rw [List.getElem?_eq_none (by simp; omega)] at hi
      cases hi
  · rw [List.getElem?_set_ne (Ne.symm hk)] at hi
    refine h.2.2 (i, w) (List.mem_cons_of_mem _ (List.mem_filter.mpr ⟨gxp_mem.mpr hi, ?_⟩))
    by_cases h1 : i + 1 = k
    · simp [hk, gxok_cat ok h1 hi]
    · simp [hk, h1]
theorem gxL.st2 {la : Array Slot} {n : Nat} {ls : List (Option Value)} {k : Nat} {v : Value} (h : lv_has la n ((k, v) :: (gxp ls).filter (fun q => !(q.1 == k) && (!(q.1 == k + 1) && !(q.1 + 1 == k && q.2.category == 2))))) (ok : gxok ls k = true) : gxL la n ((ls.set k (some v)).set (k + 1) none) := by
  refine ⟨h.1, h.2.1, fun i w hi => ?_⟩
  by_cases h2 : i = k + 1
  · subst h2
    by_cases hl : k + 1 < (ls.set k (some v)).length
    · rw [List.getElem?_set_self hl] at hi
      cases hi
    · rw [List.getElem?_eq_none (by simp at hl ⊢; omega)] at hi
      cases hi
  · rw [List.getElem?_set_ne (Ne.symm h2)] at hi
    by_cases hk : i = k
    · subst hk
      by_cases hl : i < ls.length
      · rw [List.getElem?_set_self hl] at hi
        cases hi
        exact h.2.2 (i, v) List.mem_cons_self
      · rw [List.getElem?_eq_none (by simp; omega)] at hi
        cases hi
    · rw [List.getElem?_set_ne (Ne.symm hk)] at hi
      refine h.2.2 (i, w) (List.mem_cons_of_mem _ (List.mem_filter.mpr ⟨gxp_mem.mpr hi, ?_⟩))
      by_cases h1 : i + 1 = k
      · simp [hk, h2, gxok_cat ok h1 hi]
      · simp [hk, h1, h2]
/-- the locals at a method's entry -/
def gxent : List Value → List (Option Value)
  | [] => []
  | v :: vs => if v.category = 2 then some v :: none :: gxent vs else some v :: gxent vs
theorem gxent_args (vs : List Value) : ∀ (o i : Nat) (w : Value), (gxent vs)[i]? = some (some w) → (o + i, w) ∈ lv_args o vs := by
  induction vs with
  | nil => intro o i w h; simp [gxent] at h
  | cons v vs ih =>
    intro o i w h
    unfold gxent at h
    unfold lv_args
    split at h
    next hc =>
      rw [if_pos hc]
      match i, h with
      | 0, h => simp at h; subst h; exact List.mem_cons_self
      | 1, h => simp at h
      | i + 2, h =>
        have := ih (o + 2) i w (by simpa using h)
        rw [show o + (i + 2) = o + 2 + i by omega]
        exact List.mem_cons_of_mem _ this
    next hc =>
      rw [if_neg hc]
      match i, h with
      | 0, h => simp at h; subst h; exact List.mem_cons_self
      | i + 1, h =>
        have := ih (o + 1) i w (by simpa using h)
        rw [show o + (i + 1) = o + 1 + i by omega]
        exact List.mem_cons_of_mem _ this
theorem gxL.entry {vs : List Value} {n : Nat} (h : (lg_sl vs).length ≤ n) : gxL ((lg_sl vs ++ List.replicate (n - (lg_sl vs).length) Slot.unset).toArray) n (gxent vs ++ List.replicate (n - (gxent vs).length) none) := by
  have hh := lv_entry vs h
  refine ⟨hh.1, hh.2.1, fun i w hi => ?_⟩
  by_cases hl : i < (gxent vs).length
  · rw [List.getElem?_append_left hl] at hi
    have := hh.2.2 _ (gxent_args vs 0 i w hi)
    simpa using this
  · rw [List.getElem?_append_right (by omega), List.getElem?_replicate] at hi
    split at hi <;> cases hi
section CORE1
variable {G : gxG} {Y : gxY} {d kc ks pc : Nat} {ls : List (Option Value)} {st : List Value} {h : gxH} {Q : Outcome → gxH → Prop}
theorem gx_iconst {n : Int} {v : Int32} (hd : decode Y.2.1 pc = .ok (.iconst n, 1)) (hv : Int32.ofInt n = v) (kk : gxV G Y d kc ks (pc + 1) ls (.int v :: st) h Q) : gxV G Y d kc ks pc ls (st) h Q := by
  intro p e R s m args below meth c H locs cells slots la A
  exact lv_iconst A.2.1.1 A.2.1.2.1 hd hv (kk p e R s m args below meth c H locs cells slots la A)
theorem gx_bipush {n : Int} {v : Int32} (hd : decode Y.2.1 pc = .ok (.bipush n, 2)) (hv : (Int8.ofInt n).toInt32 = v) (kk : gxV G Y d kc ks (pc + 2) ls (.int v :: st) h Q) : gxV G Y d kc ks pc ls (st) h Q := by
  intro p e R s m args below meth c H locs cells slots la A
  exact lv_bipush A.2.1.1 A.2.1.2.1 hd hv (kk p e R s m args below meth c H locs cells slots la A)
theorem gx_sipush {n : Int} {v : Int32} (hd : decode Y.2.1 pc = .ok (.sipush n, 3)) (hv : (Int16.ofInt n).toInt32 = v) (kk : gxV G Y d kc ks (pc + 3) ls (.int v :: st) h Q) : gxV G Y d kc ks pc ls (st) h Q := by
  intro p e R s m args below meth c H locs cells slots la A
  exact lv_sipush A.2.1.1 A.2.1.2.1 hd hv (kk p e R s m args below meth c H locs cells slots la A)
theorem gx_lconst {n : Fin 2} {v : Int64} (hd : decode Y.2.1 pc = .ok (.lconst n, 1)) (hv : Int64.ofNat (n : Nat) = v) (kk : gxV G Y d kc ks (pc + 1) ls (.long v :: st) h Q) : gxV G Y d kc ks pc ls (st) h Q := by
  intro p e R s m args below meth c H locs cells slots la A
  exact lv_lconst A.2.1.1 A.2.1.2.1 hd hv (kk p e R s m args below meth c H locs cells slots la A)
theorem gx_null  (hd : decode Y.2.1 pc = .ok (.aconst_null, 1))  (kk : gxV G Y d kc ks (pc + 1) ls (.null :: st) h Q) : gxV G Y d kc ks pc ls (st) h Q := by
  intro p e R s m args below meth c H locs cells slots la A
  exact lv_null A.2.1.1 A.2.1.2.1 hd  (kk p e R s m args below meth c H locs cells slots la A)
theorem gx_iload_n {k : Fin 4} {x : Int32} (hd : decode Y.2.1 pc = .ok (.iload_n k, 1)) (hl : ls[(k : Nat)]? = some (some (.int x))) (kk : gxV G Y d kc ks (pc + 1) ls (.int x :: st) h Q) : gxV G Y d kc ks pc ls (st) h Q := by
  intro p e R s m args below meth c H locs cells slots la A
  exact lv_iload_n A.2.1.1 A.2.1.2.1 hd rfl (A.2.2.2.2.2.2.2 _ _ hl) (kk p e R s m args below meth c H locs cells slots la A)
theorem gx_iload {i : Nat} {x : Int32} (hd : decode Y.2.1 pc = .ok (.iload i, 2)) (hl : ls[i]? = some (some (.int x))) (kk : gxV G Y d kc ks (pc + 2) ls (.int x :: st) h Q) : gxV G Y d kc ks pc ls (st) h Q := by
  intro p e R s m args below meth c H locs cells slots la A
  exact lv_iload A.2.1.1 A.2.1.2.1 hd (A.2.2.2.2.2.2.2 _ _ hl) (kk p e R s m args below meth c H locs cells slots la A)
theorem gx_lload_n {k : Fin 4} {x : Int64} (hd : decode Y.2.1 pc = .ok (.lload_n k, 1)) (hl : ls[(k : Nat)]? = some (some (.long x))) (kk : gxV G Y d kc ks (pc + 1) ls (.long x :: st) h Q) : gxV G Y d kc ks pc ls (st) h Q := by
  intro p e R s m args below meth c H locs cells slots la A
  exact lv_lload_n A.2.1.1 A.2.1.2.1 hd rfl (A.2.2.2.2.2.2.2 _ _ hl) (kk p e R s m args below meth c H locs cells slots la A)
theorem gx_lload {i : Nat} {x : Int64} (hd : decode Y.2.1 pc = .ok (.lload i, 2)) (hl : ls[i]? = some (some (.long x))) (kk : gxV G Y d kc ks (pc + 2) ls (.long x :: st) h Q) : gxV G Y d kc ks pc ls (st) h Q := by
  intro p e R s m args below meth c H locs cells slots la A
  exact lv_lload A.2.1.1 A.2.1.2.1 hd (A.2.2.2.2.2.2.2 _ _ hl) (kk p e R s m args below meth c H locs cells slots la A)
theorem gx_aload_n {k : Fin 4} {x : Nat} (hd : decode Y.2.1 pc = .ok (.aload_n k, 1)) (hl : ls[(k : Nat)]? = some (some (.ref x))) (kk : gxV G Y d kc ks (pc + 1) ls (.ref x :: st) h Q) : gxV G Y d kc ks pc ls (st) h Q := by
  intro p e R s m args below meth c H locs cells slots la A
  exact lv_aload_n A.2.1.1 A.2.1.2.1 hd rfl (A.2.2.2.2.2.2.2 _ _ hl) (kk p e R s m args below meth c H locs cells slots la A)
theorem gx_aload {i : Nat} {x : Nat} (hd : decode Y.2.1 pc = .ok (.aload i, 2)) (hl : ls[i]? = some (some (.ref x))) (kk : gxV G Y d kc ks (pc + 2) ls (.ref x :: st) h Q) : gxV G Y d kc ks pc ls (st) h Q := by
  intro p e R s m args below meth c H locs cells slots la A
  exact lv_aload A.2.1.1 A.2.1.2.1 hd (A.2.2.2.2.2.2.2 _ _ hl) (kk p e R s m args below meth c H locs cells slots la A)
theorem gx_aload_nN {k : Fin 4} (hd : decode Y.2.1 pc = .ok (.aload_n k, 1)) (hl : ls[(k : Nat)]? = some (some .null)) (kk : gxV G Y d kc ks (pc + 1) ls (.null :: st) h Q) : gxV G Y d kc ks pc ls (st) h Q := by
  intro p e R s m args below meth c H locs cells slots la A
  exact lv_aload_nN A.2.1.1 A.2.1.2.1 hd rfl (A.2.2.2.2.2.2.2 _ _ hl) (kk p e R s m args below meth c H locs cells slots la A)
theorem gx_aloadN {i : Nat} (hd : decode Y.2.1 pc = .ok (.aload i, 2)) (hl : ls[i]? = some (some .null)) (kk : gxV G Y d kc ks (pc + 2) ls (.null :: st) h Q) : gxV G Y d kc ks pc ls (st) h Q := by
  intro p e R s m args below meth c H locs cells slots la A
  exact lv_aloadN A.2.1.1 A.2.1.2.1 hd (A.2.2.2.2.2.2.2 _ _ hl) (kk p e R s m args below meth c H locs cells slots la A)
theorem gx_istore_n {k : Fin 4} {x : Int32} (hd : decode Y.2.1 pc = .ok (.istore_n k, 1)) (hn : (k : Nat) < Y.2.2.1) (ok : gxok ls (k : Nat) = true) (kk : gxV G Y d kc ks (pc + 1) (ls.set (k : Nat) (some (.int x))) st h Q) : gxV G Y d kc ks pc ls (.int x :: st) h Q := by
  intro p e R s m args below meth c H locs cells slots la A
  exact lv_istore_n A.2.1.1 A.2.1.2.1 hd rfl A.2.2.2.2.2.has hn rfl (fun la' hl => kk p e R s m args below meth c H locs cells slots la' ⟨A.1, A.2.1, A.2.2.1, A.2.2.2.1, A.2.2.2.2.1, gxL.st1 hl ok⟩)
theorem gx_istore {i : Nat} {x : Int32} (hd : decode Y.2.1 pc = .ok (.istore i, 2)) (hn : i < Y.2.2.1) (ok : gxok ls i = true) (kk : gxV G Y d kc ks (pc + 2) (ls.set i (some (.int x))) st h Q) : gxV G Y d kc ks pc ls (.int x :: st) h Q := by
  intro p e R s m args below meth c H locs cells slots la A
  exact lv_istore A.2.1.1 A.2.1.2.1 hd  A.2.2.2.2.2.has hn rfl (fun la' hl => kk p e R s m args below meth c H locs cells slots la' ⟨A.1, A.2.1, A.2.2.1, A.2.2.2.1, A.2.2.2.2.1, gxL.st1 hl ok⟩)
theorem gx_lstore_n {k : Fin 4} {x : Int64} (hd : decode Y.2.1 pc = .ok (.lstore_n k, 1)) (hn : (k : Nat) + 1 < Y.2.2.1) (ok : gxok ls (k : Nat) = true) (kk : gxV G Y d kc ks (pc + 1) ((ls.set (k : Nat) (some (.long x))).set ((k : Nat) + 1) none) st h Q) : gxV G Y d kc ks pc ls (.long x :: st) h Q := by
  intro p e R s m args below meth c H locs cells slots la A
  exact lv_lstore_n A.2.1.1 A.2.1.2.1 hd rfl A.2.2.2.2.2.has hn rfl (fun la' hl => kk p e R s m args below meth c H locs cells slots la' ⟨A.1, A.2.1, A.2.2.1, A.2.2.2.1, A.2.2.2.2.1, gxL.st2 hl ok⟩)
theorem gx_lstore {i : Nat} {x : Int64} (hd : decode Y.2.1 pc = .ok (.lstore i, 2)) (hn : i + 1 < Y.2.2.1) (ok : gxok ls i = true) (kk : gxV G Y d kc ks (pc + 2) ((ls.set i (some (.long x))).set (i + 1) none) st h Q) : gxV G Y d kc ks pc ls (.long x :: st) h Q := by
  intro p e R s m args below meth c H locs cells slots la A
  exact lv_lstore A.2.1.1 A.2.1.2.1 hd  A.2.2.2.2.2.has hn rfl (fun la' hl => kk p e R s m args below meth c H locs cells slots la' ⟨A.1, A.2.1, A.2.2.1, A.2.2.2.1, A.2.2.2.2.1, gxL.st2 hl ok⟩)
theorem gx_astore_n {k : Fin 4} {x : Nat} (hd : decode Y.2.1 pc = .ok (.astore_n k, 1)) (hn : (k : Nat) < Y.2.2.1) (ok : gxok ls (k : Nat) = true) (kk : gxV G Y d kc ks (pc + 1) (ls.set (k : Nat) (some (.ref x))) st h Q) : gxV G Y d kc ks pc ls (.ref x :: st) h Q := by
  intro p e R s m args below meth c H locs cells slots la A
  exact lv_astore_n A.2.1.1 A.2.1.2.1 hd rfl A.2.2.2.2.2.has hn rfl (fun la' hl => kk p e R s m args below meth c H locs cells slots la' ⟨A.1, A.2.1, A.2.2.1, A.2.2.2.1, A.2.2.2.2.1, gxL.st1 hl ok⟩)
theorem gx_astore {i : Nat} {x : Nat} (hd : decode Y.2.1 pc = .ok (.astore i, 2)) (hn : i < Y.2.2.1) (ok : gxok ls i = true) (kk : gxV G Y d kc ks (pc + 2) (ls.set i (some (.ref x))) st h Q) : gxV G Y d kc ks pc ls (.ref x :: st) h Q := by
  intro p e R s m args below meth c H locs cells slots la A
  exact lv_astore A.2.1.1 A.2.1.2.1 hd  A.2.2.2.2.2.has hn rfl (fun la' hl => kk p e R s m args below meth c H locs cells slots la' ⟨A.1, A.2.1, A.2.2.1, A.2.2.2.1, A.2.2.2.2.1, gxL.st1 hl ok⟩)
theorem gx_astore_nN {k : Fin 4} (hd : decode Y.2.1 pc = .ok (.astore_n k, 1)) (hn : (k : Nat) < Y.2.2.1) (ok : gxok ls (k : Nat) = true) (kk : gxV G Y d kc ks (pc + 1) (ls.set (k : Nat) (some (.null))) st h Q) : gxV G Y d kc ks pc ls (.null :: st) h Q := by
  intro p e R s m args below meth c H locs cells slots la A
  exact lv_astore_nN A.2.1.1 A.2.1.2.1 hd rfl A.2.2.2.2.2.has hn rfl (fun la' hl => kk p e R s m args below meth c H locs cells slots la' ⟨A.1, A.2.1, A.2.2.1, A.2.2.2.1, A.2.2.2.2.1, gxL.st1 hl ok⟩)
theorem gx_astoreN {i : Nat} (hd : decode Y.2.1 pc = .ok (.astore i, 2)) (hn : i < Y.2.2.1) (ok : gxok ls i = true) (kk : gxV G Y d kc ks (pc + 2) (ls.set i (some (.null))) st h Q) : gxV G Y d kc ks pc ls (.null :: st) h Q := by
  intro p e R s m args below meth c H locs cells slots la A
  exact lv_astoreN A.2.1.1 A.2.1.2.1 hd  A.2.2.2.2.2.has hn rfl (fun la' hl => kk p e R s m args below meth c H locs cells slots la' ⟨A.1, A.2.1, A.2.2.1, A.2.2.2.1, A.2.2.2.2.1, gxL.st1 hl ok⟩)
theorem gx_iinc {i : Nat} {n : Int} {x v : Int32} (hd : decode Y.2.1 pc = .ok (.iinc i n, 3)) (hl : ls[i]? = some (some (.int x))) (hv : x + Int32.ofInt n = v) (hn : i < Y.2.2.1) (ok : gxok ls i = true) (kk : gxV G Y d kc ks (pc + 3) (ls.set i (some (.int v))) st h Q) : gxV G Y d kc ks pc ls st h Q := by
  intro p e R s m args below meth c H locs cells slots la A
  obtain ⟨k, hk⟩ := List.getElem?_of_mem (gxp_mem.mpr hl)
  exact lv_iinc A.2.1.1 A.2.1.2.1 hd A.2.2.2.2.2.has hk hv hn rfl (fun la' hl => kk p e R s m args below meth c H locs cells slots la' ⟨A.1, A.2.1, A.2.2.1, A.2.2.2.1, A.2.2.2.2.1, gxL.st1 hl ok⟩)
theorem gx_iadd {x y : Int32} (hd : decode Y.2.1 pc = .ok (.iadd, 1))  (kk : gxV G Y d kc ks (pc + 1) ls (.int (x + y) :: st) h Q) : gxV G Y d kc ks pc ls (.int y :: .int x :: st) h Q := by
  intro p e R s m args below meth c H locs cells slots la A
  exact lv_iadd A.2.1.1 A.2.1.2.1 hd  (kk p e R s m args below meth c H locs cells slots la A)
theorem gx_isub {x y : Int32} (hd : decode Y.2.1 pc = .ok (.isub, 1))  (kk : gxV G Y d kc ks (pc + 1) ls (.int (x - y) :: st) h Q) : gxV G Y d kc ks pc ls (.int y :: .int x :: st) h Q := by
  intro p e R s m args below meth c H locs cells slots la A
  exact lv_isub A.2.1.1 A.2.1.2.1 hd  (kk p e R s m args below meth c H locs cells slots la A)
theorem gx_imul {x y : Int32} (hd : decode Y.2.1 pc = .ok (.imul, 1))  (kk : gxV G Y d kc ks (pc + 1) ls (.int (x * y) :: st) h Q) : gxV G Y d kc ks pc ls (.int y :: .int x :: st) h Q := by
  intro p e R s m args below meth c H locs cells slots la A
  exact lv_imul A.2.1.1 A.2.1.2.1 hd  (kk p e R s m args below meth c H locs cells slots la A)
theorem gx_iand {x y : Int32} (hd : decode Y.2.1 pc = .ok (.iand, 1))  (kk : gxV G Y d kc ks (pc + 1) ls (.int (x &&& y) :: st) h Q) : gxV G Y d kc ks pc ls (.int y :: .int x :: st) h Q := by
  intro p e R s m args below meth c H locs cells slots la A
  exact lv_iand A.2.1.1 A.2.1.2.1 hd  (kk p e R s m args below meth c H locs cells slots la A)
theorem gx_ior {x y : Int32} (hd : decode Y.2.1 pc = .ok (.ior, 1))  (kk : gxV G Y d kc ks (pc + 1) ls (.int (x ||| y) :: st) h Q) : gxV G Y d kc ks pc ls (.int y :: .int x :: st) h Q := by
  intro p e R s m args below meth c H locs cells slots la A
  exact lv_ior A.2.1.1 A.2.1.2.1 hd  (kk p e R s m args below meth c H locs cells slots la A)
theorem gx_ixor {x y : Int32} (hd : decode Y.2.1 pc = .ok (.ixor, 1))  (kk : gxV G Y d kc ks (pc + 1) ls (.int (x ^^^ y) :: st) h Q) : gxV G Y d kc ks pc ls (.int y :: .int x :: st) h Q := by
  intro p e R s m args below meth c H locs cells slots la A
  exact lv_ixor A.2.1.1 A.2.1.2.1 hd  (kk p e R s m args below meth c H locs cells slots la A)
theorem gx_ishl {x y : Int32} (hd : decode Y.2.1 pc = .ok (.ishl, 1))  (kk : gxV G Y d kc ks (pc + 1) ls (.int (x <<< (y &&& 31)) :: st) h Q) : gxV G Y d kc ks pc ls (.int y :: .int x :: st) h Q := by
  intro p e R s m args below meth c H locs cells slots la A
  exact lv_ishl A.2.1.1 A.2.1.2.1 hd  (kk p e R s m args below meth c H locs cells slots la A)
theorem gx_ishr {x y : Int32} (hd : decode Y.2.1 pc = .ok (.ishr, 1))  (kk : gxV G Y d kc ks (pc + 1) ls (.int (x >>> (y &&& 31)) :: st) h Q) : gxV G Y d kc ks pc ls (.int y :: .int x :: st) h Q := by
  intro p e R s m args below meth c H locs cells slots la A
  exact lv_ishr A.2.1.1 A.2.1.2.1 hd  (kk p e R s m args below meth c H locs cells slots la A)
theorem gx_idiv {x y : Int32} (hd : decode Y.2.1 pc = .ok (.idiv, 1)) (hne : ¬ y = 0) (kk : gxV G Y d kc ks (pc + 1) ls (.int (x / y) :: st) h Q) : gxV G Y d kc ks pc ls (.int y :: .int x :: st) h Q := by
  intro p e R s m args below meth c H locs cells slots la A
  exact lv_idiv A.2.1.1 A.2.1.2.1 hd hne (kk p e R s m args below meth c H locs cells slots la A)
theorem gx_irem {x y : Int32} (hd : decode Y.2.1 pc = .ok (.irem, 1)) (hne : ¬ y = 0) (kk : gxV G Y d kc ks (pc + 1) ls (.int (x - x / y * y) :: st) h Q) : gxV G Y d kc ks pc ls (.int y :: .int x :: st) h Q := by
  intro p e R s m args below meth c H locs cells slots la A
  exact lv_irem A.2.1.1 A.2.1.2.1 hd hne (kk p e R s m args below meth c H locs cells slots la A)
theorem gx_ladd {x y : Int64} (hd : decode Y.2.1 pc = .ok (.ladd, 1))  (kk : gxV G Y d kc ks (pc + 1) ls (.long (x + y) :: st) h Q) : gxV G Y d kc ks pc ls (.long y :: .long x :: st) h Q := by
  intro p e R s m args below meth c H locs cells slots la A
  exact lv_ladd A.2.1.1 A.2.1.2.1 hd  (kk p e R s m args below meth c H locs cells slots la A)
theorem gx_lsub {x y : Int64} (hd : decode Y.2.1 pc = .ok (.lsub, 1))  (kk : gxV G Y d kc ks (pc + 1) ls (.long (x - y) :: st) h Q) : gxV G Y d kc ks pc ls (.long y :: .long x :: st) h Q := by
  intro p e R s m args below meth c H locs cells slots la A
  exact lv_lsub A.2.1.1 A.2.1.2.1 hd  (kk p e R s m args below meth c H locs cells slots la A)
theorem gx_lmul {x y : Int64} (hd : decode Y.2.1 pc = .ok (.lmul, 1))  (kk : gxV G Y d kc ks (pc + 1) ls (.long (x * y) :: st) h Q) : gxV G Y d kc ks pc ls (.long y :: .long x :: st) h Q := by
  intro p e R s m args below meth c H locs cells slots la A
  exact lv_lmul A.2.1.1 A.2.1.2.1 hd  (kk p e R s m args below meth c H locs cells slots la A)
theorem gx_land {x y : Int64} (hd : decode Y.2.1 pc = .ok (.land, 1))  (kk : gxV G Y d kc ks (pc + 1) ls (.long (x &&& y) :: st) h Q) : gxV G Y d kc ks pc ls (.long y :: .long x :: st) h Q := by
  intro p e R s m args below meth c H locs cells slots la A
  exact lv_land A.2.1.1 A.2.1.2.1 hd  (kk p e R s m args below meth c H locs cells slots la A)
theorem gx_lor {x y : Int64} (hd : decode Y.2.1 pc = .ok (.lor, 1))  (kk : gxV G Y d kc ks (pc + 1) ls (.long (x ||| y) :: st) h Q) : gxV G Y d kc ks pc ls (.long y :: .long x :: st) h Q := by
  intro p e R s m args below meth c H locs cells slots la A
  exact lv_lor A.2.1.1 A.2.1.2.1 hd  (kk p e R s m args below meth c H locs cells slots la A)
theorem gx_ldiv {x y : Int64} (hd : decode Y.2.1 pc = .ok (.ldiv, 1)) (hne : ¬ y = 0) (kk : gxV G Y d kc ks (pc + 1) ls (.long (x / y) :: st) h Q) : gxV G Y d kc ks pc ls (.long y :: .long x :: st) h Q := by
  intro p e R s m args below meth c H locs cells slots la A
  exact lv_ldiv A.2.1.1 A.2.1.2.1 hd hne (kk p e R s m args below meth c H locs cells slots la A)
theorem gx_lrem {x y : Int64} (hd : decode Y.2.1 pc = .ok (.lrem, 1)) (hne : ¬ y = 0) (kk : gxV G Y d kc ks (pc + 1) ls (.long (x - x / y * y) :: st) h Q) : gxV G Y d kc ks pc ls (.long y :: .long x :: st) h Q := by
  intro p e R s m args below meth c H locs cells slots la A
  exact lv_lrem A.2.1.1 A.2.1.2.1 hd hne (kk p e R s m args below meth c H locs cells slots la A)
theorem gx_lcmp {x y : Int64} (hd : decode Y.2.1 pc = .ok (.lcmp, 1))  (kk : gxV G Y d kc ks (pc + 1) ls (.int (lg_cmp x y) :: st) h Q) : gxV G Y d kc ks pc ls (.long y :: .long x :: st) h Q := by
  intro p e R s m args below meth c H locs cells slots la A
  exact W.lcmp A.2.1.1 A.2.1.2.1 hd  (kk p e R s m args below meth c H locs cells slots la A)
theorem gx_i2l {x : Int32} (hd : decode Y.2.1 pc = .ok (.i2l, 1))  (kk : gxV G Y d kc ks (pc + 1) ls (.long x.toInt64 :: st) h Q) : gxV G Y d kc ks pc ls (.int x :: st) h Q := by
  intro p e R s m args below meth c H locs cells slots la A
  exact lv_i2l A.2.1.1 A.2.1.2.1 hd rfl (kk p e R s m args below meth c H locs cells slots la A)
theorem gx_l2i {x : Int64} (hd : decode Y.2.1 pc = .ok (.l2i, 1))  (kk : gxV G Y d kc ks (pc + 1) ls (.int x.toInt32 :: st) h Q) : gxV G Y d kc ks pc ls (.long x :: st) h Q := by
  intro p e R s m args below meth c H locs cells slots la A
  exact lv_l2i A.2.1.1 A.2.1.2.1 hd rfl (kk p e R s m args below meth c H locs cells slots la A)
theorem gx_i2c {x : Int32} (hd : decode Y.2.1 pc = .ok (.i2c, 1))  (kk : gxV G Y d kc ks (pc + 1) ls (.int (x.toUInt32 % 65536).toInt32 :: st) h Q) : gxV G Y d kc ks pc ls (.int x :: st) h Q := by
  intro p e R s m args below meth c H locs cells slots la A
  exact lv_i2c A.2.1.1 A.2.1.2.1 hd rfl (kk p e R s m args below meth c H locs cells slots la A)
theorem gx_i2b {x : Int32} (hd : decode Y.2.1 pc = .ok (.i2b, 1))  (kk : gxV G Y d kc ks (pc + 1) ls (.int x.toInt8.toInt32 :: st) h Q) : gxV G Y d kc ks pc ls (.int x :: st) h Q := by
  intro p e R s m args below meth c H locs cells slots la A
  exact lv_i2b A.2.1.1 A.2.1.2.1 hd rfl (kk p e R s m args below meth c H locs cells slots la A)
theorem gx_iushr {x y : Int32} (hd : decode Y.2.1 pc = .ok (.iushr, 1))  (kk : gxV G Y d kc ks (pc + 1) ls (.int (x.toUInt32 >>> (y.toUInt32 &&& Int32.toUInt32 31)).toInt32 :: st) h Q) : gxV G Y d kc ks pc ls (.int y :: .int x :: st) h Q := by
  intro p e R s m args below meth c H locs cells slots la A
  exact lv_iushr A.2.1.1 A.2.1.2.1 hd rfl (kk p e R s m args below meth c H locs cells slots la A)
theorem gx_lushr {x : Int64} {y : Int32} (hd : decode Y.2.1 pc = .ok (.lushr, 1))  (kk : gxV G Y d kc ks (pc + 1) ls (.long (x.toUInt64 >>> (y.toInt64.toUInt64 &&& Int64.toUInt64 63)).toInt64 :: st) h Q) : gxV G Y d kc ks pc ls (.int y :: .long x :: st) h Q := by
  intro p e R s m args below meth c H locs cells slots la A
  exact lv_lushr A.2.1.1 A.2.1.2.1 hd rfl (kk p e R s m args below meth c H locs cells slots la A)
theorem gx_lshl {x : Int64} {y : Int32} (hd : decode Y.2.1 pc = .ok (.lshl, 1))  (kk : gxV G Y d kc ks (pc + 1) ls (.long (x <<< (y.toInt64 &&& 63)) :: st) h Q) : gxV G Y d kc ks pc ls (.int y :: .long x :: st) h Q := by
  intro p e R s m args below meth c H locs cells slots la A
  exact lv_lshl A.2.1.1 A.2.1.2.1 hd rfl (kk p e R s m args below meth c H locs cells slots la A)
theorem gx_dup {va : Value} (hd : decode Y.2.1 pc = .ok (.dup, 1)) (hva : va.category = 1) (kk : gxV G Y d kc ks (pc + 1) ls (va :: va :: st) h Q) : gxV G Y d kc ks pc ls (va :: st) h Q := by
  intro p e R s m args below meth c H locs cells slots la A
  exact lv_dup A.2.1.1 A.2.1.2.1 hd hva (kk p e R s m args below meth c H locs cells slots la A)
theorem gx_pop {va : Value} (hd : decode Y.2.1 pc = .ok (.pop, 1)) (hva : va.category = 1) (kk : gxV G Y d kc ks (pc + 1) ls (st) h Q) : gxV G Y d kc ks pc ls (va :: st) h Q := by
  intro p e R s m args below meth c H locs cells slots la A
  exact lv_pop A.2.1.1 A.2.1.2.1 hd hva (kk p e R s m args below meth c H locs cells slots la A)
theorem gx_dup_x1 {va vb : Value} (hd : decode Y.2.1 pc = .ok (.dup_x1, 1)) (hva : va.category = 1) (hvb : vb.category = 1) (kk : gxV G Y d kc ks (pc + 1) ls (va :: vb :: va :: st) h Q) : gxV G Y d kc ks pc ls (va :: vb :: st) h Q := by
  intro p e R s m args below meth c H locs cells slots la A
  exact lv_dup_x1 A.2.1.1 A.2.1.2.1 hd hva hvb (kk p e R s m args below meth c H locs cells slots la A)
theorem gx_dup2 {va vb : Value} (hd : decode Y.2.1 pc = .ok (.dup2, 1)) (hva : va.category = 1) (hvb : vb.category = 1) (kk : gxV G Y d kc ks (pc + 1) ls (va :: vb :: va :: vb :: st) h Q) : gxV G Y d kc ks pc ls (va :: vb :: st) h Q := by
  intro p e R s m args below meth c H locs cells slots la A
  exact lv_dup2_11 A.2.1.1 A.2.1.2.1 hd hva hvb (kk p e R s m args below meth c H locs cells slots la A)
theorem gx_if_eq {x : Int32} {off : Int} (tgt : Nat) (hd : decode Y.2.1 pc = .ok (.ifCond .eq off, 3)) (ht : (pc : Int) + off = (tgt : Int)) (kt : x = 0 → gxV G Y d kc ks tgt ls st h Q) (kf : ¬ x = 0 → gxV G Y d kc ks (pc + 3) ls st h Q) : gxV G Y d kc ks pc ls (.int x :: st) h Q := by
  intro p e R s m args below meth c H locs cells slots la A
  exact lv_if_eq A.2.1.1 A.2.1.2.1 hd ht (fun q => kt q p e R s m args below meth c H locs cells slots la A) (fun q => kf q p e R s m args below meth c H locs cells slots la A)
theorem gx_if_ne {x : Int32} {off : Int} (tgt : Nat) (hd : decode Y.2.1 pc = .ok (.ifCond .ne off, 3)) (ht : (pc : Int) + off = (tgt : Int)) (kt : ¬ x = 0 → gxV G Y d kc ks tgt ls st h Q) (kf : x = 0 → gxV G Y d kc ks (pc + 3) ls st h Q) : gxV G Y d kc ks pc ls (.int x :: st) h Q := by
  intro p e R s m args below meth c H locs cells slots la A
  exact lv_if_ne A.2.1.1 A.2.1.2.1 hd ht (fun q => kt q p e R s m args below meth c H locs cells slots la A) (fun q => kf q p e R s m args below meth c H locs cells slots la A)
theorem gx_if_lt {x : Int32} {off : Int} (tgt : Nat) (hd : decode Y.2.1 pc = .ok (.ifCond .lt off, 3)) (ht : (pc : Int) + off = (tgt : Int)) (kt : x < 0 → gxV G Y d kc ks tgt ls st h Q) (kf : ¬ x < 0 → gxV G Y d kc ks (pc + 3) ls st h Q) : gxV G Y d kc ks pc ls (.int x :: st) h Q := by
  intro p e R s m args below meth c H locs cells slots la A
  exact lv_if_lt A.2.1.1 A.2.1.2.1 hd ht (fun q => kt q p e R s m args below meth c H locs cells slots la A) (fun q => kf q p e R s m args below meth c H locs cells slots la A)
theorem gx_if_ge {x : Int32} {off : Int} (tgt : Nat) (hd : decode Y.2.1 pc = .ok (.ifCond .ge off, 3)) (ht : (pc : Int) + off = (tgt : Int)) (kt : 0 ≤ x → gxV G Y d kc ks tgt ls st h Q) (kf : ¬ 0 ≤ x → gxV G Y d kc ks (pc + 3) ls st h Q) : gxV G Y d kc ks pc ls (.int x :: st) h Q := by
  intro p e R s m args below meth c H locs cells slots la A
  exact lv_if_ge A.2.1.1 A.2.1.2.1 hd ht (fun q => kt q p e R s m args below meth c H locs cells slots la A) (fun q => kf q p e R s m args below meth c H locs cells slots la A)
theorem gx_if_gt {x : Int32} {off : Int} (tgt : Nat) (hd : decode Y.2.1 pc = .ok (.ifCond .gt off, 3)) (ht : (pc : Int) + off = (tgt : Int)) (kt : 0 < x → gxV G Y d kc ks tgt ls st h Q) (kf : ¬ 0 < x → gxV G Y d kc ks (pc + 3) ls st h Q) : gxV G Y d kc ks pc ls (.int x :: st) h Q := by
  intro p e R s m args below meth c H locs cells slots la A
  exact lv_if_gt A.2.1.1 A.2.1.2.1 hd ht (fun q => kt q p e R s m args below meth c H locs cells slots la A) (fun q => kf q p e R s m args below meth c H locs cells slots la A)
theorem gx_if_le {x : Int32} {off : Int} (tgt : Nat) (hd : decode Y.2.1 pc = .ok (.ifCond .le off, 3)) (ht : (pc : Int) + off = (tgt : Int)) (kt : x ≤ 0 → gxV G Y d kc ks tgt ls st h Q) (kf : ¬ x ≤ 0 → gxV G Y d kc ks (pc + 3) ls st h Q) : gxV G Y d kc ks pc ls (.int x :: st) h Q := by
  intro p e R s m args below meth c H locs cells slots la A
  exact lv_if_le A.2.1.1 A.2.1.2.1 hd ht (fun q => kt q p e R s m args below meth c H locs cells slots la A) (fun q => kf q p e R s m args below meth c H locs cells slots la A)
theorem gx_icmp_eq {x y : Int32} {off : Int} (tgt : Nat) (hd : decode Y.2.1 pc = .ok (.if_icmp .eq off, 3)) (ht : (pc : Int) + off = (tgt : Int)) (kt : x = y → gxV G Y d kc ks tgt ls st h Q) (kf : ¬ x = y → gxV G Y d kc ks (pc + 3) ls st h Q) : gxV G Y d kc ks pc ls (.int y :: .int x :: st) h Q := by
  intro p e R s m args below meth c H locs cells slots la A
  exact lv_icmp_eq A.2.1.1 A.2.1.2.1 hd ht (fun q => kt q p e R s m args below meth c H locs cells slots la A) (fun q => kf q p e R s m args below meth c H locs cells slots la A)
theorem gx_icmp_ne {x y : Int32} {off : Int} (tgt : Nat) (hd : decode Y.2.1 pc = .ok (.if_icmp .ne off, 3)) (ht : (pc : Int) + off = (tgt : Int)) (kt : ¬ x = y → gxV G Y d kc ks tgt ls st h Q) (kf : x = y → gxV G Y d kc ks (pc + 3) ls st h Q) : gxV G Y d kc ks pc ls (.int y :: .int x :: st) h Q := by
  intro p e R s m args below meth c H locs cells slots la A
  exact lv_icmp_ne A.2.1.1 A.2.1.2.1 hd ht (fun q => kt q p e R s m args below meth c H locs cells slots la A) (fun q => kf q p e R s m args below meth c H locs cells slots la A)
theorem gx_icmp_lt {x y : Int32} {off : Int} (tgt : Nat) (hd : decode Y.2.1 pc = .ok (.if_icmp .lt off, 3)) (ht : (pc : Int) + off = (tgt : Int)) (kt : x < y → gxV G Y d kc ks tgt ls st h Q) (kf : ¬ x < y → gxV G Y d kc ks (pc + 3) ls st h Q) : gxV G Y d kc ks pc ls (.int y :: .int x :: st) h Q := by
  intro p e R s m args below meth c H locs cells slots la A
  exact lv_icmp_lt A.2.1.1 A.2.1.2.1 hd ht (fun q => kt q p e R s m args below meth c H locs cells slots la A) (fun q => kf q p e R s m args below meth c H locs cells slots la A)
theorem gx_icmp_ge {x y : Int32} {off : Int} (tgt : Nat) (hd : decode Y.2.1 pc = .ok (.if_icmp .ge off, 3)) (ht : (pc : Int) + off = (tgt : Int)) (kt : y ≤ x → gxV G Y d kc ks tgt ls st h Q) (kf : ¬ y ≤ x → gxV G Y d kc ks (pc + 3) ls st h Q) : gxV G Y d kc ks pc ls (.int y :: .int x :: st) h Q := by
  intro p e R s m args below meth c H locs cells slots la A
  exact lv_icmp_ge A.2.1.1 A.2.1.2.1 hd ht (fun q => kt q p e R s m args below meth c H locs cells slots la A) (fun q => kf q p e R s m args below meth c H locs cells slots la A)
theorem gx_icmp_gt {x y : Int32} {off : Int} (tgt : Nat) (hd : decode Y.2.1 pc = .ok (.if_icmp .gt off, 3)) (ht : (pc : Int) + off = (tgt : Int)) (kt : y < x → gxV G Y d kc ks tgt ls st h Q) (kf : ¬ y < x → gxV G Y d kc ks (pc + 3) ls st h Q) : gxV G Y d kc ks pc ls (.int y :: .int x :: st) h Q := by
  intro p e R s m args below meth c H locs cells slots la A
  exact lv_icmp_gt A.2.1.1 A.2.1.2.1 hd ht (fun q => kt q p e R s m args below meth c H locs cells slots la A) (fun q => kf q p e R s m args below meth c H locs cells slots la A)
theorem gx_icmp_le {x y : Int32} {off : Int} (tgt : Nat) (hd : decode Y.2.1 pc = .ok (.if_icmp .le off, 3)) (ht : (pc : Int) + off = (tgt : Int)) (kt : x ≤ y → gxV G Y d kc ks tgt ls st h Q) (kf : ¬ x ≤ y → gxV G Y d kc ks (pc + 3) ls st h Q) : gxV G Y d kc ks pc ls (.int y :: .int x :: st) h Q := by
  intro p e R s m args below meth c H locs cells slots la A
  exact lv_icmp_le A.2.1.1 A.2.1.2.1 hd ht (fun q => kt q p e R s m args below meth c H locs cells slots la A) (fun q => kf q p e R s m args below meth c H locs cells slots la A)
theorem gx_goto {off : Int} (tgt : Nat) (hd : decode Y.2.1 pc = .ok (.goto off, 3)) (ht : (pc : Int) + off = (tgt : Int)) (kk : gxV G Y d kc ks tgt ls st h Q) : gxV G Y d kc ks pc ls st h Q := by
  intro p e R s m args below meth c H locs cells slots la A
  exact lv_goto A.2.1.1 A.2.1.2.1 hd ht (kk p e R s m args below meth c H locs cells slots la A)
theorem gx_ifnull {x : Nat} {off : Int} (hd : decode Y.2.1 pc = .ok (.ifnull off, 3)) (kk : gxV G Y d kc ks (pc + 3) ls st h Q) : gxV G Y d kc ks pc ls (.ref x :: st) h Q := by
  intro p e R s m args below meth c H locs cells slots la A
  exact lv_ifnull A.2.1.1 A.2.1.2.1 hd (kk p e R s m args below meth c H locs cells slots la A)
theorem gx_ifnonnull {x : Nat} {off : Int} (tgt : Nat) (hd : decode Y.2.1 pc = .ok (.ifnonnull off, 3)) (ht : (pc : Int) + off = (tgt : Int)) (kk : gxV G Y d kc ks tgt ls st h Q) : gxV G Y d kc ks pc ls (.ref x :: st) h Q := by
  intro p e R s m args below meth c H locs cells slots la A
  exact lv_ifnonnull A.2.1.1 A.2.1.2.1 hd ht (kk p e R s m args below meth c H locs cells slots la A)
theorem gx_ifnullN {off : Int} (tgt : Nat) (hd : decode Y.2.1 pc = .ok (.ifnull off, 3)) (ht : (pc : Int) + off = (tgt : Int)) (kk : gxV G Y d kc ks tgt ls st h Q) : gxV G Y d kc ks pc ls (.null :: st) h Q := by
  intro p e R s m args below meth c H locs cells slots la A
  exact lv_ifnullN A.2.1.1 A.2.1.2.1 hd ht (kk p e R s m args below meth c H locs cells slots la A)
theorem gx_ifnonnullN {off : Int} (hd : decode Y.2.1 pc = .ok (.ifnonnull off, 3)) (kk : gxV G Y d kc ks (pc + 3) ls st h Q) : gxV G Y d kc ks pc ls (.null :: st) h Q := by
  intro p e R s m args below meth c H locs cells slots la A
  exact lv_ifnonnullN A.2.1.1 A.2.1.2.1 hd (kk p e R s m args below meth c H locs cells slots la A)
theorem gx_tableOut {dflt lo hi : Int} {offs : Array Int} {len : Nat} {x : Int32} (tgt : Nat) (hd : decode Y.2.1 pc = .ok (.tableswitch dflt lo hi offs, len)) (hx : x.toInt < lo ∨ hi < x.toInt) (ht : (pc : Int) + dflt = (tgt : Int)) (kk : gxV G Y d kc ks tgt ls st h Q) : gxV G Y d kc ks pc ls (.int x :: st) h Q := by
  intro p e R s m args below meth c H locs cells slots la A
  exact lv_tableOut A.2.1.1 A.2.1.2.1 hd hx ht (kk p e R s m args below meth c H locs cells slots la A)
theorem gx_tableIn {dflt lo hi : Int} {offs : Array Int} {len : Nat} {x : Int32} {off : Int} (tgt : Nat) (hd : decode Y.2.1 pc = .ok (.tableswitch dflt lo hi offs, len)) (h1 : ¬ x.toInt < lo) (h2 : ¬ hi < x.toInt) (ho : offs[(x.toInt - lo).toNat]? = some off) (ht : (pc : Int) + off = (tgt : Int)) (kk : gxV G Y d kc ks tgt ls st h Q) : gxV G Y d kc ks pc ls (.int x :: st) h Q := by
  intro p e R s m args below meth c H locs cells slots la A
  exact lv_tableIn A.2.1.1 A.2.1.2.1 hd h1 h2 ho ht (kk p e R s m args below meth c H locs cells slots la A)
theorem gx_ldc {i : Nat} {v : Int32} (hc : Cond.constant Y.1.cls i v ∈ lw_all) (hd : decode Y.2.1 pc = .ok (.ldc i, 2)) (kk : gxV G Y d kc ks (pc + 2) ls (.int v :: st) h Q) : gxV G Y d kc ks pc ls st h Q := by
  intro p e R s m args below meth c H locs cells slots la A
  exact lv_ldc A.2.1.1 A.2.1.2.1 A.2.1.2.2.2.2.2.1 (gx_hts A args _ hc) hd (kk p e R s m args below meth c H locs cells slots la A)
theorem gx_ldc2 {i : Nat} {v : Int64} (hc : Cond.constantLong Y.1.cls i v ∈ lw_all) (hd : decode Y.2.1 pc = .ok (.ldc2_w i, 3)) (kk : gxV G Y d kc ks (pc + 3) ls (.long v :: st) h Q) : gxV G Y d kc ks pc ls st h Q := by
  intro p e R s m args below meth c H locs cells slots la A
  exact lv_ldc2 A.2.1.1 A.2.1.2.1 A.2.1.2.2.2.2.2.1 (gx_hts A args _ hc) hd (kk p e R s m args below meth c H locs cells slots la A)
/-- more room than is wanted -/
theorem gx_room {kc' ks' : Nat} (h1 : kc ≤ kc') (h2 : ks ≤ ks') (kk : gxV G Y d kc ks pc ls st h Q) : gxV G Y d kc' ks' pc ls st h Q := by
  intro p e R s m args below meth c H locs cells slots la A
  obtain ⟨a1, a2, a3, a4, a5, a6⟩ := A
  refine gx_mono ?_ (W.widen (k := cells + (kc' - kc)) (n := slots + (ks' - ks)) (by omega) (by omega) (kk p e R s m args below meth c H locs (cells + (kc' - kc)) (slots + (ks' - ks)) la ⟨a1, a2, a3, a4, ⟨by omega, by omega⟩, a6⟩))
  intro t ht
  rw [show cells + kc' = cells + (kc' - kc) + kc by omega, show slots + ks' = slots + (ks' - ks) + ks by omega]
  exact ht
theorem gx_post {Q' : Outcome → gxH → Prop} (hq : ∀ o h', Q' o h' → Q o h') (kk : gxV G Y d kc ks pc ls st h Q') : gxV G Y d kc ks pc ls st h Q := by
  intro p e R s m args below meth c H locs cells slots la A
  refine gx_mono ?_ (kk p e R s m args below meth c H locs cells slots la A)
  rintro t ⟨o, h', L, b1, b2, b3, b4⟩
  exact ⟨o, h', L, b1, b2, hq _ _ b3, b4⟩
theorem gx_retA {p : Program} {e : Env} {R : Room} {s : State} {m : MethodId} {args : Array Value} {below : List Frame} {meth : Method} {c : Code} {H : Heap} {locs : List Loc} {cells slots : Nat} {la : Array Slot} {o0 : Outcome} {g : JFrame} (A : gxA G Y d kc ks h ls p R s m meth c H locs cells slots la) (hq : Q o0 h)
    (hw : W p G.1 e R s m args below meth c H locs (cells + kc) (slots + ks) (MQ below (fun _ _ o t => o = o0 ∧ t.heap = H) args s (cells + kc) (slots + ks) (fun q => gxN G ≤ q)) g) : W p G.1 e R s m args below meth c H locs cells slots (gxZ G below s (cells + kc) (slots + ks) Q) g := by
  refine gx_mono ?_ (W.widen (k := cells + kc) (n := slots + ks) (by omega) (by omega) hw)
  rintro t ⟨o, b1, b2, ⟨rfl, b3⟩, L, ⟨-, b4, b5⟩, b6⟩
  exact ⟨o, h, L, b1, b2, hq, by rw [b3]; exact A.2.2.1, b4, b5, b6⟩
theorem gx_ireturn {v : Int32} (hr : Y.2.2.2.1 = some .int) (hd : decode Y.2.1 pc = .ok (.ireturn, 1)) (hq : Q (.returned (some (.int v))) h) : gxV G Y d kc ks pc ls [.int v] h Q := by
  intro p e R s m args below meth c H locs cells slots la A
  exact gx_retA A hq (W.zret A.2.1.1 A.2.1.2.1 (A.2.1.2.2.1.trans hr) rfl (fun t ht _ => ⟨rfl, ht⟩) A.2.2.2.1 hd (hlocks := A.2.1.2.2.2.1))
/-- a boolean answer -/
theorem gx_zreturn {v : Int32} (hr : Y.2.2.2.1 = some .boolean) (hv : v = 0 ∨ v = 1) (hd : decode Y.2.1 pc = .ok (.ireturn, 1)) (hq : Q (.returned (some (.int v))) h) : gxV G Y d kc ks pc ls [.int v] h Q := by
  intro p e R s m args below meth c H locs cells slots la A
  refine gx_retA A hq (W.zret A.2.1.1 A.2.1.2.1 (A.2.1.2.2.1.trans hr) ?_ (fun t ht _ => ⟨rfl, ht⟩) A.2.2.2.1 hd (hlocks := A.2.1.2.2.2.1))
  rcases hv with rfl | rfl <;> decide
theorem gx_lreturn {v : Int64} (hr : Y.2.2.2.1 = some .long) (hd : decode Y.2.1 pc = .ok (.lreturn, 1)) (hq : Q (.returned (some (.long v))) h) : gxV G Y d kc ks pc ls [.long v] h Q := by
  intro p e R s m args below meth c H locs cells slots la A
  exact gx_retA A hq (W.lret A.2.1.1 A.2.1.2.1 (A.2.1.2.2.1.trans hr) (fun t ht _ => ⟨rfl, ht⟩) A.2.2.2.1 hd (hlocks := A.2.1.2.2.2.1))
theorem gx_return (hr : Y.2.2.2.1 = none) (hd : decode Y.2.1 pc = .ok (.return_, 1)) (hq : Q (.returned none) h) : gxV G Y d kc ks pc ls [] h Q := by
  intro p e R s m args below meth c H locs cells slots la A
  exact gx_retA A hq (W.vret A.2.1.1 A.2.1.2.1 (A.2.1.2.2.1.trans hr) (fun t ht _ => ⟨rfl, ht⟩) A.2.2.2.1 hd (hlocks := A.2.1.2.2.2.1))
theorem gx_areturn {v : Value} {rt : FieldType} (hr : Y.2.2.2.1 = some rt) (hrt : (∃ n, rt = .object n) ∨ ∃ t, rt = .array t) (hv : v = .null ∨ ∃ a, v = .ref a) (hd : decode Y.2.1 pc = .ok (.areturn, 1)) (hq : Q (.returned (some v)) h) : gxV G Y d kc ks pc ls [v] h Q := by
  intro p e R s m args below meth c H locs cells slots la A
  exact gx_retA A hq (W.aret A.2.1.1 A.2.1.2.1 (A.2.1.2.2.1.trans hr) hrt hv (fun t ht _ => ⟨rfl, ht⟩) A.2.2.2.1 hd (hlocks := A.2.1.2.2.2.1))
end CORE1
