/-! ===== COMPONENT W: lines of gossip, judged ===== -/
set_option maxRecDepth 100000
/-- a line of gossip at q -/
def LN (h : gxH) (q : Nat) (A : Nat → Nat → Int32) (P S k : Nat) : Prop :=
  (A 43 k = 0 ∧ ∃ p o c, p < P ∧ o < P ∧ c < S ∧ p ≠ o ∧ A 44 k = nI p ∧ A 45 k = nI o ∧ A 46 k = nI c ∧ h.1 q = some (.inr (27, [.int (nI p), .int (nI o), .int (nI c)]))) ∨
  (A 43 k = 1 ∧ ∃ p, p < P ∧ A 44 k = nI p ∧ 0 ≤ A 46 k ∧ h.1 q = some (.inr (28, [.int (nI p), .int (A 46 k)]))) ∨
  (A 43 k = 2 ∧ ∃ p, p < P ∧ A 44 k = nI p ∧ h.1 q = some (.inr (29, [.int (nI p)]))) ∨
  (A 43 k = 3 ∧ h.1 q = some (.inr (30, [])))
theorem tE.at {a fa : Nat} {h h' : gxH} {tv : Value} {kn aw rk fi ne : Nat → Int32} {m p y l q : Int32} (e : tE a fa h h') (hF : TF h a tv kn aw rk fi ne m p y l q) (hf : fcA h fa) {z : Nat} {x : gxE} (hx : h.1 z = some x) (n1 : ∀ v, x ≠ .inr (2, v)) (n2 : ∀ n f, x ≠ .inl (0, n, .inl f)) : h'.1 z = some x := by
  obtain ⟨h0, h1, h2, h3, h4, h5⟩ := hF
  obtain ⟨f, hf⟩ := hf
  rw [e.2.1 z ?_ ?_]
  · exact hx
  · rcases Nat.lt_or_ge z a with k | k
    · exact Or.inl k
    · rcases Nat.lt_or_ge z (a + 6) with k2 | k2
      · exfalso
        have : z = a ∨ z = a + 1 ∨ z = a + 2 ∨ z = a + 3 ∨ z = a + 4 ∨ z = a + 5 := by omega
        rcases this with r | r | r | r | r | r <;> rw [r] at hx
        · rw [h0] at hx; exact n1 _ (Option.some.inj hx).symm
        · rw [h1] at hx; exact n2 _ _ (Option.some.inj hx).symm
        · rw [h2] at hx; exact n2 _ _ (Option.some.inj hx).symm
        · rw [h3] at hx; exact n2 _ _ (Option.some.inj hx).symm
        · rw [h4] at hx; exact n2 _ _ (Option.some.inj hx).symm
        · rw [h5] at hx; exact n2 _ _ (Option.some.inj hx).symm
      · exact Or.inr k2
  · intro k
    rw [k, hf] at hx
    exact n2 _ _ (Option.some.inj hx).symm
/-- a frame: what is neither a talk nor an array of ints stays -/
def oE (h h' : gxH) : Prop := h'.2 = h.2 ∧ ∀ z x, h.1 z = some x → (∀ v, x ≠ .inr (2, v)) → (∀ n f, x ≠ .inl (0, n, .inl f)) → h'.1 z = some x
theorem oE.rf (h : gxH) : oE h h := ⟨rfl, fun _ _ hx _ _ => hx⟩
theorem oE.tr {x y z : gxH} (h : oE x y) (k : oE y z) : oE x z := ⟨k.1.trans h.1, fun q e hx n1 n2 => k.2 q e (h.2 q e hx n1 n2) n1 n2⟩
theorem tE.o {a fa : Nat} {h h' : gxH} {ta : Nat} {s : Nat → Int32} {b : Bool} (e : tE a fa h h') (hK : TK h a ta s b) (hf : fcA h fa) : oE h h' := by
  obtain ⟨kn, aw, rk, fi, ne, hF, _⟩ := hK.F
  exact ⟨e.1, fun z x hx n1 n2 => e.at hF hf hx n1 n2⟩
theorem fE.o {fa : Nat} {h h' : gxH} (e : fE fa h h') (hf : fcA h fa) : oE h h' := ⟨e.1, fun z x hx _ n2 => e.at hf hx (fun f => n2 4 f)⟩
theorem LN.o {h h' : gxH} {q P S k : Nat} {A : Nat → Nat → Int32} (x : LN h q A P S k) (e : oE h h') : LN h' q A P S k := by
  rcases x with ⟨y, p, o, c, h1, h2, h3, h4, h5, h6, h7, h8⟩ | ⟨y, p, h1, h2, h3, h4⟩ | ⟨y, p, h1, h2, h3⟩ | ⟨y, h1⟩
  · exact Or.inl ⟨y, p, o, c, h1, h2, h3, h4, h5, h6, h7, e.2 _ _ h8 (fun v q => by cases q) (fun n f q => by cases q)⟩
  · exact Or.inr (Or.inl ⟨y, p, h1, h2, h3, e.2 _ _ h4 (fun v q => by cases q) (fun n f q => by cases q)⟩)
  · exact Or.inr (Or.inr (Or.inl ⟨y, p, h1, h2, e.2 _ _ h3 (fun v q => by cases q) (fun n f q => by cases q)⟩))
  · exact Or.inr (Or.inr (Or.inr ⟨y, e.2 _ _ h1 (fun v q => by cases q) (fun n f q => by cases q)⟩))
theorem gxLs.o {h h' : gxH} {a n : Nat} {f : Nat → Nat} (x : gxLs h a n f) (e : oE h h') : gxLs h' a n f := by
  obtain ⟨mc, el, c, g, h1, h2, h3⟩ := x
  exact ⟨mc, el, c, g, e.2 _ _ h1 (fun v q => by cases q) (fun n f q => by cases q), e.2 _ _ h2 (fun v q => by cases q) (fun n f q => by cases q), h3⟩
/-- the list of lines -/
def GL (h : gxH) (gl n : Nat) (A : Nat → Nat → Int32) (P S : Nat) : Prop := n ≤ 30 ∧ ∃ f, gxLs h gl n f ∧ ∀ k, k < n → LN h (f k) A P S k
theorem GL.o {h h' : gxH} {gl n P S : Nat} {A : Nat → Nat → Int32} (x : GL h gl n A P S) (e : oE h h') : GL h' gl n A P S := by
  obtain ⟨h0, f, h1, h2⟩ := x
  exact ⟨h0, f, h1.o e, fun k hk => (h2 k hk).o e⟩
section LW
variable {G : gxG} {d : Nat} {h : gxH} {lo hi a ta fa P S E q : Nat} {A : Nat → Nat → Int32} {s : Nat → Int32} {w : Option gxEv} {b : Bool}
theorem spGo_0 {k p o c : Nat} (y : A 43 k = 0) (hp : p < 6) (ho : o < 6) (hc : c < 10) (h5 : A 44 k = nI p) (h6 : A 45 k = nI o) (h7 : A 46 k = nI c) : spGo w (setS A s) P S k = if spCan (setS A s) p o c then (true, spTell (setS A s) p o c) else (false, s) := by
  unfold spGo
  rw [setS_ne (q := 43) (by decide), setS_ne (q := 44) (by decide), setS_ne (q := 45) (by decide), setS_ne (q := 46) (by decide), y, h5, h6, h7, nI_clamp (by omega), nI_clamp (by omega), nI_clamp (by omega), if_pos rfl, setS_50]
theorem spGo_1 {k p : Nat} (y : A 43 k = 1) (hp : p < 6) (h5 : A 44 k = nI p) : spGo w (setS A s) P S k = if spCanPay w (setS A s) P S p (A 46 k) then (true, spPay s p (A 46 k)) else (false, s) := by
  unfold spGo
  rw [setS_ne (q := 43) (by decide), setS_ne (q := 44) (by decide), setS_ne (q := 45) (by decide), setS_ne (q := 46) (by decide), y, h5, nI_clamp (by omega), if_neg (by decide), if_pos rfl, setS_50]
theorem spGo_2 {k p : Nat} (y : A 43 k = 2) (hp : p < 6) (h5 : A 44 k = nI p) : spGo w (setS A s) P S k = if s (70 + p) < 9 then (true, upd s (70 + p) (s (70 + p) + 1)) else (false, s) := by
  unfold spGo
  rw [setS_ne (q := 43) (by decide), setS_ne (q := 44) (by decide), setS_ne (q := 45) (by decide), setS_ne (q := 46) (by decide), y, h5, nI_clamp (by omega), if_neg (by decide), if_neg (by decide), if_neg (by decide), setS_50]
theorem spGo_3 {k : Nat} (y : A 43 k = 3) : spGo w (setS A s) P S k = (true, spPass (setS A s) P) := by
  unfold spGo
  rw [setS_ne (q := 43) (by decide), y, if_neg (by decide), if_neg (by decide), if_pos rfl]
theorem c_done0 (hN : gxN G ≤ lo) (hn : gxN G ≤ a) (hd : 96 ≤ d) (hf : fa < a ∨ a + 6 ≤ fa) (dj : a + 6 ≤ lo ∨ hi ≤ a) (hX : TT h lo hi a ta fa A s P S E w b) (h16 : ∀ k, k < S → A 16 k = 0 ∨ A 16 k = 1) {k p o c : Nat} (y : A 43 k = 0) (hp : p < P) (ho : o < P) (hc : c < S) (hpo : p ≠ o) (h5 : A 44 k = nI p) (h6 : A 45 k = nI o) (h7 : A 46 k = nI c) (hl : h.1 q = some (.inr (27, [.int (nI p), .int (nI o), .int (nI c)]))) : gxM G mX31_isDone d 0 0 [.ref q, .ref a] h (gxQi (fun r h' => r = zi (spGo w (setS A s) P S k).1 ∧ TK h' a ta (spGo w (setS A s) P S k).2 b ∧ tE a fa h h')) := by
  have hX0 := hX
  obtain ⟨hT, hK, hM⟩ := hX; have hT0 := hT; obtain ⟨kn, aw, rk, fi, ne, ha, hkn, haw, hrk, hfi, hne, ekn, eaw, erk, efi, ene⟩ := hK
  have hP6 := hM.2.1
  have hS10 := hM.2.2.2.1
  rw [spGo_0 y (by omega) (by omega) (by omega) h5 h6 h7]
  refine gxM_of rfl (Nat.le_of_ble_eq_true rfl) rfl ?_
  refine gx_aload_n (pc := 0) dX31_isDone_0 rfl ?_
  refine gx_aload_n (pc := 1) dX31_isDone_1 rfl ?_
  refine gx_get (pc := 2) fX31_7 hl rfl dX31_isDone_2 ?_
  refine gx_aload_n (pc := 5) dX31_isDone_5 rfl ?_
  refine gx_get (pc := 6) fX31_13 hl rfl dX31_isDone_6 ?_
  refine gx_aload_n (pc := 9) dX31_isDone_9 rfl ?_
  refine gx_get (pc := 10) fX31_16 hl rfl dX31_isDone_10 ?_
  refine kX31_19 (kc := 0) (ks := 0) (mc := 0) (ms := 0) (pc := 13) rfl (c_mayTell (d := d - 1) (by omega) hX0 p o c hp ho hc) (gxRc.of rfl ha) (by omega) (Nat.le_of_ble_eq_true rfl) dX31_isDone_13 (fun r1 h1 e1 => ?_)
  obtain ⟨rfl, e1⟩ := e1
  subst h1
  refine gx_if_ne (pc := 16) 21 dX31_isDone_16 (by decide) (fun c1 => ?_) (fun c1 => ?_)
  · have z := zi_ne0 c1
    rw [Bool.and_eq_true] at z
    refine gx_aload_n (pc := 21) dX31_isDone_21 rfl ?_
    refine gx_aload_n (pc := 22) dX31_isDone_22 rfl ?_
    refine gx_get (pc := 23) fX31_7 hl rfl dX31_isDone_23 ?_
    refine gx_aload_n (pc := 26) dX31_isDone_26 rfl ?_
    refine gx_get (pc := 27) fX31_13 hl rfl dX31_isDone_27 ?_
    refine gx_aload_n (pc := 30) dX31_isDone_30 rfl ?_
    refine gx_get (pc := 31) fX31_16 hl rfl dX31_isDone_31 ?_
    refine kX31_25 (kc := 0) (ks := 0) (mc := 0) (ms := 0) (pc := 34) rfl (c_Xtells (d := d - 1) hn (by omega) hf dj hX0 p o c hp ho hc hpo (h16 c hc)) (gxRc.of rfl ha) (by omega) (Nat.le_of_ble_eq_true rfl) dX31_isDone_34 (fun h1 e1 => ?_)
    refine gx_iconst (pc := 37) (v := 1) dX31_isDone_37 (by decide) ?_
    exact gx_zreturn (pc := 38) rfl (by decide) dX31_isDone_38 (⟨_, rfl, ⟨by rw [if_pos z.2]; rfl, by rw [if_pos z.2]; exact e1.1, e1.2⟩⟩)
  · have z := zi_eq0 c1
    rw [show decide (p = o) = false from decide_eq_false hpo, Bool.not_false, Bool.true_and] at z
    refine gx_iconst (pc := 19) (v := 0) dX31_isDone_19 (by decide) ?_
    exact gx_zreturn (pc := 20) rfl (by decide) dX31_isDone_20 (⟨_, rfl, ⟨by rw [z]; rfl, by rw [z]; exact hX0.2.1, tE.rf _ _ _⟩⟩)
theorem c_done1 (hN : gxN G ≤ lo) (hn : gxN G ≤ a) (hd : 96 ≤ d) (hf : fa < a ∨ a + 6 ≤ fa) (dj : a + 6 ≤ lo ∨ hi ≤ a) (hX : TT h lo hi a ta fa A s P S E w b) {k p : Nat} (y : A 43 k = 1) (hp : p < P) (h5 : A 44 k = nI p) (h6 : 0 ≤ A 46 k) (hl : h.1 q = some (.inr (28, [.int (nI p), .int (A 46 k)]))) : gxM G mX32_isDone d 0 0 [.ref q, .ref a] h (gxQi (fun r h' => r = zi (spGo w (setS A s) P S k).1 ∧ TK h' a ta (spGo w (setS A s) P S k).2 b ∧ tE a fa h h')) := by
  have hX0 := hX
  obtain ⟨hT, hK, hM⟩ := hX; have hT0 := hT; obtain ⟨kn, aw, rk, fi, ne, ha, hkn, haw, hrk, hfi, hne, ekn, eaw, erk, efi, ene⟩ := hK
  have hP6 := hM.2.1
  rw [spGo_1 y (by omega) h5]
  refine gxM_of rfl (Nat.le_of_ble_eq_true rfl) rfl ?_
  refine gx_aload_n (pc := 0) dX32_isDone_0 rfl ?_
  refine gx_aload_n (pc := 1) dX32_isDone_1 rfl ?_
  refine gx_get (pc := 2) fX32_7 hl rfl dX32_isDone_2 ?_
  refine gx_aload_n (pc := 5) dX32_isDone_5 rfl ?_
  refine gx_get (pc := 6) fX32_13 hl rfl dX32_isDone_6 ?_
  refine kX32_16 (kc := 0) (ks := 0) (mc := 0) (ms := 0) (pc := 9) rfl (c_mayPay (d := d - 1) hN (by omega) hX0 p hp (A 46 k) h6) (gxRc.of rfl ha) (by omega) (Nat.le_of_ble_eq_true rfl) dX32_isDone_9 (fun r1 h1 e1 => ?_)
  obtain ⟨rfl, e1⟩ := e1
  have hX1 := hX0.fE e1
  have hl1 := e1.at hX0.1.2.2.1 hl (fun f q => by cases q)
  clear hl
  have hl := hl1
  obtain ⟨_, _, _, _, _, ha, _⟩ := hX1.2.1
  refine gx_if_ne (pc := 12) 17 dX32_isDone_12 (by decide) (fun c1 => ?_) (fun c1 => ?_)
  · have z := zi_ne0 c1
    refine gx_aload_n (pc := 17) dX32_isDone_17 rfl ?_
    refine gx_aload_n (pc := 18) dX32_isDone_18 rfl ?_
    refine gx_get (pc := 19) fX32_7 hl rfl dX32_isDone_19 ?_
    refine gx_aload_n (pc := 22) dX32_isDone_22 rfl ?_
    refine gx_get (pc := 23) fX32_13 hl rfl dX32_isDone_23 ?_
    refine kX32_22 (kc := 0) (ks := 0) (mc := 0) (ms := 0) (pc := 26) rfl (c_Xpays (d := d - 1) hn hf hX1.2.1 p (A 46 k)) (gxRc.of rfl ha) (by omega) (Nat.le_of_ble_eq_true rfl) dX32_isDone_26 (fun h2 e2 => ?_)
    refine gx_iconst (pc := 29) (v := 1) dX32_isDone_29 (by decide) ?_
    exact gx_zreturn (pc := 30) rfl (by decide) dX32_isDone_30 (⟨_, rfl, ⟨by rw [if_pos z]; rfl, by rw [if_pos z]; exact e2.1, e1.t.tr e2.2⟩⟩)
  · have z := zi_eq0 c1
    refine gx_iconst (pc := 15) (v := 0) dX32_isDone_15 (by decide) ?_
    exact gx_zreturn (pc := 16) rfl (by decide) dX32_isDone_16 (⟨_, rfl, ⟨by rw [z]; rfl, by rw [z]; exact hX1.2.1, e1.t⟩⟩)
theorem c_done2 (hn : gxN G ≤ a) (hd : 96 ≤ d) (hf : fa < a ∨ a + 6 ≤ fa) (hX : TT h lo hi a ta fa A s P S E w b) (h70 : ∀ p, p < P → s (70 + p) ≤ 9) {k p : Nat} (y : A 43 k = 2) (hp : p < P) (h5 : A 44 k = nI p) (hl : h.1 q = some (.inr (29, [.int (nI p)]))) : gxM G mX33_isDone d 0 0 [.ref q, .ref a] h (gxQi (fun r h' => r = zi (spGo w (setS A s) P S k).1 ∧ TK h' a ta (spGo w (setS A s) P S k).2 b ∧ tE a fa h h')) := by
  have hX0 := hX
  obtain ⟨hT, hK, hM⟩ := hX; have hT0 := hT; obtain ⟨kn, aw, rk, fi, ne, ha, hkn, haw, hrk, hfi, hne, ekn, eaw, erk, efi, ene⟩ := hK
  have hP6 := hM.2.1
  rw [spGo_2 y (by omega) h5]
  refine gxM_of rfl (Nat.le_of_ble_eq_true rfl) rfl ?_
  refine gx_aload_n (pc := 0) dX33_isDone_0 rfl ?_
  refine gx_aload_n (pc := 1) dX33_isDone_1 rfl ?_
  refine gx_get (pc := 2) fX33_7 hl rfl dX33_isDone_2 ?_
  refine kX33_13 (kc := 0) (ks := 0) (mc := 0) (ms := 0) (pc := 5) rfl (c_Xrises (d := d - 1) hn hf hX0.2.1 p (by omega)) (gxRc.of rfl ha) (by omega) (Nat.le_of_ble_eq_true rfl) dX33_isDone_5 (fun r1 h1 e1 => ?_)
  rcases e1 with ⟨z, rfl, e1⟩ | ⟨z, rfl, e1, e2⟩
  · subst h1
    have : ¬ s (70 + p) < 9 := by rw [z]; decide
    exact gx_zreturn (pc := 8) rfl (by decide) dX33_isDone_8 (⟨_, rfl, ⟨by rw [if_neg this]; rfl, by rw [if_neg this]; exact hX0.2.1, tE.rf _ _ _⟩⟩)
  · have : s (70 + p) < 9 := Int32.lt_of_le_of_ne (h70 p hp) z
    exact gx_zreturn (pc := 8) rfl (by decide) dX33_isDone_8 (⟨_, rfl, ⟨by rw [if_pos this]; rfl, by rw [if_pos this]; exact e1, e2⟩⟩)
theorem c_done3 (hn : gxN G ≤ a) (hd : 96 ≤ d) (hf : fa < a ∨ a + 6 ≤ fa) (dj : a + 6 ≤ lo ∨ hi ≤ a) (hX : TT h lo hi a ta fa A s P S E w b) {k : Nat} (y : A 43 k = 3) : gxM G mX34_isDone d 0 0 [.ref q, .ref a] h (gxQi (fun r h' => r = zi (spGo w (setS A s) P S k).1 ∧ TK h' a ta (spGo w (setS A s) P S k).2 b ∧ tE a fa h h')) := by
  have hX0 := hX
  obtain ⟨hT, hK, hM⟩ := hX; have hT0 := hT; obtain ⟨kn, aw, rk, fi, ne, ha, hkn, haw, hrk, hfi, hne, ekn, eaw, erk, efi, ene⟩ := hK
  rw [spGo_3 y]
  refine gxM_of rfl (Nat.le_of_ble_eq_true rfl) rfl ?_
  refine gx_aload_n (pc := 0) dX34_isDone_0 rfl ?_
  refine kX34_7 (kc := 0) (ks := 0) (mc := 0) (ms := 0) (pc := 1) rfl (c_Xends (d := d - 1) hn (by omega) hf dj hX0) (gxRc.of rfl ha) (by omega) (Nat.le_of_ble_eq_true rfl) dX34_isDone_1 (fun r1 h1 e1 => ?_)
  refine gx_pop (pc := 4) dX34_isDone_4 rfl ?_
  refine gx_iconst (pc := 5) (v := 1) dX34_isDone_5 (by decide) ?_
  exact gx_zreturn (pc := 6) rfl (by decide) dX34_isDone_6 (⟨_, rfl, ⟨rfl, e1.2⟩⟩)
end LW
