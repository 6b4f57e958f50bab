/-! ===== COMPONENT BI: clashes told ===== -/
set_option maxRecDepth 100000
def spRC0 (t : Nat → Int32) (z S : Nat) (x : dS) (i : Nat) : Sum Int32 (Nat × dS) :=
  rB (spNd t z (i + 1) (spSn x.2 1 S (tkK t z (i + 1)).2.2.2.1)) (fun a => rB (spNd t z (i + 1 + 1) (spSn x.2 1 S (tkK t z (i + 1 + 1)).2.2.2.1)) (fun c =>
    if a = c ∨ (x.1 21 (10 + a) >>> (nI c &&& 31)) &&& 1 = 1 then .inl (flt t z (i + 1 + 1) 3) else
      .inr (i + 1 + 1 + 1, dA (dA (dA x 21 (10 + a) (x.1 21 (10 + a) ||| (1 <<< (nI c &&& 31)))) 21 (10 + c) (x.1 21 (10 + c) ||| (1 <<< (nI a &&& 31)))) 10 7 (x.1 10 7 + 1))))
theorem spRC_0 (t : Nat → Int32) (z S : Nat) (x : dS) (i : Nat) : spRC t z S x i = rB (spRC0 t z S x i) (fun a => rB (spClo t z a.1) (fun e => .inr (e, a.2))) := by
  unfold spRC spRC0
  rw [rB_as]
  congr 1
  funext a
  rw [rB_as]
  congr 1
  funext c
  split <;> rfl
section MBI
variable {G : gxG} {d : Nat} {h : gxH} {hb r ta z n i P S E : Nat} {dp : Int32} {t : Nat → Int32} {x : dS} {w : Option gxEv} {fo fa : Nat} {la le lc ln : Nat → Nat} {lf : Nat → Nat → Nat} {wv : Value} {nv : Nat → Int64} {nc : Nat → Nat} {elo ehi : Nat}
/-- a cell of the draft that is neither a list, nor part of the worth, is written -/
theorem DY.put {h' : gxH} {x' : dS} {wv' : Value} (y : (DY G h hb ta fo fa la le lc ln lf x wv nv nc elo ehi w)) {p : Nat} (hs : h'.2 = h.2) (hf : ∀ q, q ≠ p → h'.1 q = h.1 q) (hp1 : ∀ vs, h.1 p ≠ some (.inr (32, vs))) (hp2 : ∀ c g, h.1 p ≠ some (gxq 3 c g)) (hw : wvE elo ehi h' wv' w) (hE : DE G h' hb ta fo fa la ln lf x' wv' nv nc) : DY G h' hb ta fo fa la le lc ln lf x' wv' nv nc elo ehi w := by
  obtain ⟨y1, y2, y3, y4, y5, y6, y7, y8⟩ := y
  refine ⟨⟨fun j hj => ?_, y1.2⟩, hE, hw, y4, by omega, y6, by omega, y8⟩
  obtain ⟨a, b, c, l⟩ := y1.1 j hj
  obtain ⟨mc, o1⟩ := l.ob
  obtain ⟨g, o2⟩ := l.ar
  exact ⟨a, b, c, l.fr (by omega) (hf _ (fun e => by rw [e] at o1; exact hp1 _ o1)) (hf _ (fun e => by rw [e] at o2; exact hp2 _ _ o2))⟩
/-- cells of the worth have their own kinds -/
theorem wvE.put {h h' : gxH} {lo hi p fa : Nat} {wv : Value} {w : Option gxEv} (x : wvE lo hi h wv w) (hf : fcA h fa) (hl : ∀ q, lo ≤ q → q < hi → q ≠ p → h'.1 q = h.1 q) (hp : (∃ vs, h.1 p = some (.inr (15, vs))) ∨ ∃ vs, h.1 p = some (.inr (3, vs))) : wvE lo hi h' wv w := by
  cases w with
  | none => exact x
  | some ev =>
    obtain ⟨r, m, h1, h2, h3⟩ := x
    refine ⟨r, m, h1, h2, ?_⟩
    have : ∀ {m r ev}, exE lo hi h m r ev → exE lo hi h' m r ev := by
      intro m
      induction m with
      | zero => intro r ev x; exact x
      | succ m ih =>
        intro r ev x
        have ne : ∀ {q v}, h.1 q = some v → (∀ vs, v ≠ .inr (15, vs)) → (∀ vs, v ≠ .inr (3, vs)) → q ≠ p := fun hv a b e => by
          rw [e] at hv
          rcases hp with ⟨vs, y⟩ | ⟨vs, y⟩
          · rw [y] at hv; exact a _ (Option.some.inj hv).symm
          · rw [y] at hv; exact b _ (Option.some.inj hv).symm
        have mv : ∀ {q v}, inR lo hi q → h.1 q = some v → (∀ vs, v ≠ .inr (15, vs)) → (∀ vs, v ≠ .inr (3, vs)) → h'.1 q = some v := fun i hv a b => by rw [hl _ i.1 i.2 (ne hv a b)]; exact hv
        obtain ⟨i1, x⟩ := x
        refine ⟨i1, ?_⟩
        rcases x with ⟨n, a1, e⟩ | ⟨k, hk, a1, e⟩ | ⟨r', ev', a1, a2, e⟩ | ⟨r', ll, n, ev', la, lc, lr, le, a1, a2, ⟨i2, mc, e, c, g, i3, b1, b2, b3⟩, a4, e2⟩
        · exact Or.inl ⟨n, mv i1 a1 (fun vs q => by cases q) (fun vs q => by cases q), e⟩
        · exact Or.inr (Or.inl ⟨k, hk, mv i1 a1 (fun vs q => by cases q) (fun vs q => by cases q), e⟩)
        · exact Or.inr (Or.inr (Or.inl ⟨r', ev', mv i1 a1 (fun vs q => by cases q) (fun vs q => by cases q), ih a2, e⟩))
        · refine Or.inr (Or.inr (Or.inr ⟨r', ll, n, ev', la, lc, lr, le, mv i1 a1 (fun vs q => by cases q) (fun vs q => by cases q), ih a2, ⟨i2, mc, e, c, g, i3, mv i2 b1 (fun vs q => by cases q) (fun vs q => by cases q), mv i3 b2 (fun vs q => by simp [gxq] at q) (fun vs q => by simp [gxq] at q), b3⟩, fun k hk => ?_, e2⟩))
          obtain ⟨j1, j2, j3, j4, j5⟩ := a4 k hk
          refine ⟨j1, j2, j3, mv j1 j4 (fun vs q => ?_) (fun vs q => ?_), ih j5⟩
          · have : lc k = 15 := by injection q with q; injection q
            omega
          · have : lc k = 3 := by injection q with q; injection q
            omega
    exact this h3
/-- a secret's clashes are written -/
theorem DY.s21 (y : (DY G h hb ta fo fa la le lc ln lf x wv nv nc elo ehi w)) (hij : ∀ j k, j < ln 3 → k < ln 3 → j ≠ k → lf 3 j ≠ lf 3 k) (h10 : ln 3 ≤ 10) {k : Nat} (hk : k < ln 3) (v : Int32) : DY G (gxup h (lf 3 k) (.inr (15, [.int (x.1 16 (10 + k)), .int (x.1 17 (10 + k)), .int (x.1 18 (10 + k)), .int (x.1 19 (10 + k)), .int (x.1 20 (10 + k)), .int v]))) hb ta fo fa la le lc ln lf (dA x 21 (10 + k) v) wv nv nc elo ehi w := by
  have y2 := y.2.1
  obtain ⟨i1, i2, i3, ⟨f, hfa⟩, h1, h2, h3⟩ := y2
  have hs := h3 3 k (by decide) hk
  have fr : ∀ q, q ≠ lf 3 k → (gxup h (lf 3 k) (.inr (15, [.int (x.1 16 (10 + k)), .int (x.1 17 (10 + k)), .int (x.1 18 (10 + k)), .int (x.1 19 (10 + k)), .int (x.1 20 (10 + k)), .int v]))).1 q = h.1 q := fun q hq => gxup_ne hq
  have at' : (gxup h (lf 3 k) (.inr (15, [.int (x.1 16 (10 + k)), .int (x.1 17 (10 + k)), .int (x.1 18 (10 + k)), .int (x.1 19 (10 + k)), .int (x.1 20 (10 + k)), .int v]))).1 (lf 3 k) = some (.inr (15, [.int (x.1 16 (10 + k)), .int (x.1 17 (10 + k)), .int (x.1 18 (10 + k)), .int (x.1 19 (10 + k)), .int (x.1 20 (10 + k)), .int v])) := gxup_self _ _ _
  have sz : (gxup h (lf 3 k) (.inr (15, [.int (x.1 16 (10 + k)), .int (x.1 17 (10 + k)), .int (x.1 18 (10 + k)), .int (x.1 19 (10 + k)), .int (x.1 20 (10 + k)), .int v]))).2 = h.2 := rfl
  generalize gxup h (lf 3 k) (.inr (15, [.int (x.1 16 (10 + k)), .int (x.1 17 (10 + k)), .int (x.1 18 (10 + k)), .int (x.1 19 (10 + k)), .int (x.1 20 (10 + k)), .int v])) = h' at *
  have mv : ∀ {q v}, h.1 q = some v → (∀ vs, v ≠ .inr (15, vs)) → h'.1 q = some v := fun hv a => by
    rw [fr _ (fun e => by rw [e, hs.2] at hv; exact a _ (Option.some.inj hv).symm)]; exact hv
  have xa : ∀ j k', ¬ (j = 21 ∧ k' = 10 + k) → (dA x 21 (10 + k) v).1 j k' = x.1 j k' := fun j k' hh => by rw [dA_at, if_neg hh]
  refine y.put (p := lf 3 k) sz fr (fun vs e => by rw [hs.2] at e; cases e) (fun c g e => by rw [hs.2] at e; simp [gxq] at e) (y.2.2.1.put y.2.1.2.2.2.1 (fun q _ _ hq => fr q hq) (Or.inl ⟨_, hs.2⟩)) ?_
  refine ⟨by rw [sz]; exact i1, by rw [sz]; exact i2, by rw [sz]; exact i3, ⟨f, mv hfa (fun vs q => by cases q)⟩, mv h1 (fun vs q => by cases q), by rw [xa 10 7 (by omega)]; exact mv h2 (fun vs q => by cases q), fun j k' hj hk' => ?_⟩
  have e0 := h3 j k' hj hk'
  match j, hj, hk', e0 with
  | 0, _, _, e =>
    refine ⟨by rw [sz]; exact e.1, ?_⟩
    rcases e.2 with b | b
    · exact Or.inl b
    · exact Or.inr ⟨b.1, mv b.2 (fun vs q => by cases q)⟩
  | 1, _, _, e => exact ⟨by rw [sz]; exact e.1, e.2⟩
  | 2, _, _, e =>
    obtain ⟨a1, kk, b1, b2, b3⟩ := e
    rw [← xa 13 _ (by omega), ← xa 14 _ (by omega), ← xa 15 _ (by omega)] at *
    refine ⟨by rw [sz]; exact a1, kk, b1, b2, mv b3 (fun vs q => ?_)⟩
    have : 11 + kk = 15 := by injection q with q; injection q
    omega
  | 3, _, hk', e =>
    by_cases ek : k' = k
    · subst ek
      refine ⟨by rw [sz]; exact e.1, ?_⟩
      rw [xa 16 _ (by omega), xa 17 _ (by omega), xa 18 _ (by omega), xa 19 _ (by omega), xa 20 _ (by omega), at']
      simp [dA_at]
    · refine ⟨by rw [sz]; exact e.1, ?_⟩
      rw [xa 16 _ (by omega), xa 17 _ (by omega), xa 18 _ (by omega), xa 19 _ (by omega), xa 20 _ (by omega), xa 21 _ (by omega), fr _ (hij k' k hk' hk ek)]
      exact e.2
  | 4, _, _, e =>
    obtain ⟨e1, g, e2, e3, e4, e5⟩ := e
    exact ⟨by rw [sz]; exact e1, g, mv e2 (fun vs q => by cases q), by rw [xa 22 _ (by omega)]; exact e3, by rw [xa 23 _ (by omega)]; exact e4, by rw [xa 24 _ (by omega)]; exact e5⟩
/-- the town's own cell is written -/
theorem DY.tn (y : (DY G h hb ta fo fa la le lc ln lf x wv nv nc elo ehi w)) (v : Int32) : DY G (gxup h ta (.inr (3, [.ref (la 0), .ref (la 1), .ref (la 2), .ref (la 3), .ref (la 4), .int v, wv, .ref fo]))) hb ta fo fa la le lc ln lf (dA x 10 7 v) wv nv nc elo ehi w := by
  have y2 := y.2.1
  obtain ⟨i1, i2, i3, ⟨f, hfa⟩, h1, h2, h3⟩ := y2
  have fr : ∀ q, q ≠ ta → (gxup h ta (.inr (3, [.ref (la 0), .ref (la 1), .ref (la 2), .ref (la 3), .ref (la 4), .int v, wv, .ref fo]))).1 q = h.1 q := fun q hq => gxup_ne hq
  have at' : (gxup h ta (.inr (3, [.ref (la 0), .ref (la 1), .ref (la 2), .ref (la 3), .ref (la 4), .int v, wv, .ref fo]))).1 ta = some (.inr (3, [.ref (la 0), .ref (la 1), .ref (la 2), .ref (la 3), .ref (la 4), .int v, wv, .ref fo])) := gxup_self _ _ _
  have sz : (gxup h ta (.inr (3, [.ref (la 0), .ref (la 1), .ref (la 2), .ref (la 3), .ref (la 4), .int v, wv, .ref fo]))).2 = h.2 := rfl
  generalize gxup h ta (.inr (3, [.ref (la 0), .ref (la 1), .ref (la 2), .ref (la 3), .ref (la 4), .int v, wv, .ref fo])) = h' at *
  have mv : ∀ {q v}, h.1 q = some v → (∀ vs, v ≠ .inr (3, vs)) → h'.1 q = some v := fun hv a => by
    rw [fr _ (fun e => by rw [e, h2] at hv; exact a _ (Option.some.inj hv).symm)]; exact hv
  have xa : ∀ j k', ¬ (j = 10 ∧ k' = 7) → (dA x 10 7 v).1 j k' = x.1 j k' := fun j k' hh => by rw [dA_at, if_neg hh]
  refine y.put (p := ta) sz fr (fun vs e => by rw [h2] at e; cases e) (fun c g e => by rw [h2] at e; simp [gxq] at e) (y.2.2.1.put y.2.1.2.2.2.1 (fun q _ _ hq => fr q hq) (Or.inr ⟨_, h2⟩)) ?_
  refine ⟨by rw [sz]; exact i1, by rw [sz]; exact i2, by rw [sz]; exact i3, ⟨f, mv hfa (fun vs q => by cases q)⟩, mv h1 (fun vs q => by cases q), by rw [at']; simp [dA_at], fun j k' hj hk' => ?_⟩
  have e0 := h3 j k' hj hk'
  match j, hj, hk', e0 with
  | 0, _, _, e =>
    refine ⟨by rw [sz]; exact e.1, ?_⟩
    rcases e.2 with b | b
    · exact Or.inl b
    · exact Or.inr ⟨b.1, mv b.2 (fun vs q => by cases q)⟩
  | 1, _, _, e => exact ⟨by rw [sz]; exact e.1, e.2⟩
  | 2, _, _, e =>
    obtain ⟨a1, kk, b1, b2, b3⟩ := e
    rw [← xa 13 _ (by omega), ← xa 14 _ (by omega), ← xa 15 _ (by omega)] at *
    refine ⟨by rw [sz]; exact a1, kk, b1, b2, mv b3 (fun vs q => ?_)⟩
    have : 11 + kk = 3 := by injection q with q; injection q
    omega
  | 3, _, hk', e =>
    refine ⟨by rw [sz]; exact e.1, ?_⟩
    rw [xa 16 _ (by omega), xa 17 _ (by omega), xa 18 _ (by omega), xa 19 _ (by omega), xa 20 _ (by omega), xa 21 _ (by omega)]
    exact mv e.2 (fun vs q => by cases q)
  | 4, _, _, e =>
    obtain ⟨e1, g, e2, e3, e4, e5⟩ := e
    exact ⟨by rw [sz]; exact e1, g, mv e2 (fun vs q => by cases q), by rw [xa 22 _ (by omega)]; exact e3, by rw [xa 23 _ (by omega)]; exact e4, by rw [xa 24 _ (by omega)]; exact e5⟩
end MBI
