/-! ===== COMPONENT AZ: a town in the making ===== -/
set_option maxRecDepth 100000
/-- its five lists: names, what they stand for, people, secrets, ears -/
def DL (G : gxG) (h : gxH) (hb : Nat) (la le lc ln : Nat → Nat) (lf : Nat → Nat → Nat) : Prop :=
  (∀ j, j < 5 → hb ≤ la j ∧ hb ≤ le j ∧ lc j ≤ 64 ∧ LV G h (la j) (le j) (lc j) (ln j) (lf j)) ∧ ∀ i j, i < 5 → j < 5 → i ≠ j → la i ≠ la j ∧ le i ≠ le j
/-- what stands in them -/
def El (G : gxG) (h : gxH) (hb : Nat) (x : dS) (nv : Nat → Int64) (nc : Nat → Nat) : Nat → Nat → Nat → Prop
  | 0, k, a => a < h.2 ∧ (LB0 G a (nv k) ∨ (hb ≤ a ∧ h.1 a = some (.inr (33, [.long (nv k)]))))
  | 1, k, a => a < h.2 ∧ IB G a (nI (nc k))
  | 2, p, a => inR hb h.2 a ∧ prs h a (x.1 13 (6 + p)) (x.1 14 (6 + p)) (x.1 15 (6 + p))
  | 3, k, a => inR hb h.2 a ∧ h.1 a = some (.inr (15, [.int (x.1 16 (10 + k)), .int (x.1 17 (10 + k)), .int (x.1 18 (10 + k)), .int (x.1 19 (10 + k)), .int (x.1 20 (10 + k)), .int (x.1 21 (10 + k))]))
  | 4, e, a => inR hb h.2 a ∧ ∃ g, h.1 a = some (.inl (0, 3, .inl g)) ∧ g 0 = x.1 22 (30 + e) ∧ g 1 = x.1 23 (30 + e) ∧ g 2 = x.1 24 (30 + e)
  | _, _, _ => True
def DE (G : gxG) (h : gxH) (hb ta fo fa : Nat) (la ln : Nat → Nat) (lf : Nat → Nat → Nat) (x : dS) (wv : Value) (nv : Nat → Int64) (nc : Nat → Nat) : Prop :=
  inR hb h.2 ta ∧ inR hb h.2 fa ∧ inR hb h.2 fo ∧ fcA h fa ∧ h.1 fo = some (.inr (4, [.ref fa])) ∧
  h.1 ta = some (.inr (3, [.ref (la 0), .ref (la 1), .ref (la 2), .ref (la 3), .ref (la 4), .int (x.1 10 7), wv, .ref fo])) ∧
  ∀ j k, j < 5 → k < ln j → El G h hb x nv nc j k (lf j k)
/-- alike where no list stands -/
def lE (hb : Nat) (h h' : gxH) : Prop := h.2 ≤ h'.2 ∧ ∀ q v, hb ≤ q → q < h.2 → h.1 q = some v → (∀ vs, v ≠ .inr (32, vs)) → (∀ c g, v ≠ gxq 3 c g) → h'.1 q = some v
theorem lE.rf (hb : Nat) (h : gxH) : lE hb h h := ⟨Nat.le_refl _, fun _ _ _ _ h _ _ => h⟩
theorem lE.tr {hb : Nat} {a b c : gxH} (x : lE hb a b) (y : lE hb b c) : lE hb a c := ⟨Nat.le_trans x.1 y.1, fun q v h0 h1 h2 h3 h4 => y.2 q v h0 (Nat.lt_of_lt_of_le h1 x.1) (x.2 q v h0 h1 h2 h3 h4) h3 h4⟩
theorem lE.of {hb : Nat} {h h' : gxH} (hz : h.2 ≤ h'.2) (e : ∀ q, hb ≤ q → q < h.2 → h'.1 q = h.1 q) : lE hb h h' := ⟨hz, fun q v h0 h1 h2 _ _ => by rw [e q h0 h1]; exact h2⟩
theorem El.lE {G : gxG} {h h' : gxH} {hb : Nat} {x : dS} {nv : Nat → Int64} {nc : Nat → Nat} (e : lE hb h h') : ∀ {j k a}, El G h hb x nv nc j k a → El G h' hb x nv nc j k a := by
  have m : ∀ {q}, inR hb h.2 q → inR hb h'.2 q := fun z => ⟨z.1, Nat.lt_of_lt_of_le z.2 e.1⟩
  intro j k a y
  match j, y with
  | 0, ⟨a1, b⟩ =>
    refine ⟨Nat.lt_of_lt_of_le a1 e.1, ?_⟩
    rcases b with b | b
    · exact Or.inl b
    · exact Or.inr ⟨b.1, e.2 _ _ b.1 a1 b.2 (fun vs q => by cases q) (fun c g q => by cases q)⟩
  | 1, ⟨a1, b⟩ => exact ⟨Nat.lt_of_lt_of_le a1 e.1, b⟩
  | 2, ⟨a1, k, b1, b2, b3⟩ =>
    refine ⟨m a1, k, b1, b2, e.2 _ _ a1.1 a1.2 b3 (fun vs q => ?_) (fun c g q => by cases q)⟩
    have : 11 + k = 32 := by injection q with q; injection q
    omega
  | 3, ⟨a1, b⟩ => exact ⟨m a1, e.2 _ _ a1.1 a1.2 b (fun vs q => by cases q) (fun c g q => by cases q)⟩
  | 4, ⟨a1, g, b, b2⟩ => exact ⟨m a1, g, e.2 _ _ a1.1 a1.2 b (fun vs q => by cases q) (fun c g q => by simp [gxq] at q), b2⟩
  | n + 5, _ => exact True.intro
/-- an element may stand in a list -/
theorem El.el {G : gxG} {h : gxH} {hb : Nat} {x : dS} {nv : Nat → Int64} {nc : Nat → Nat} {l c : Nat} (hl : gxN G ≤ l ∧ ∃ vs, h.1 l = some (.inr (32, vs))) (hc : gxN G ≤ c ∧ ∃ n g, h.1 c = some (gxq 3 n g)) {j k a : Nat} (hj : j < 5) (y : El G h hb x nv nc j k a) : a < h.2 ∧ elO G h a ∧ a ≠ l ∧ a ≠ c := by
  obtain ⟨nl, vl, hl⟩ := hl
  obtain ⟨nc', n, g, hc⟩ := hc
  match j, hj, y with
  | 0, _, ⟨a1, b⟩ =>
    rcases b with b | b
    · have := b.1.lt
      exact ⟨a1, Or.inr (Or.inr ⟨_, b.1, q2545⟩), by omega, by omega⟩
    · exact ⟨a1, Or.inl ⟨33, _, _, b.2, rfl, q2545⟩, (fun e => by rw [← e, b.2] at hl; cases hl), (fun e => by rw [← e, b.2] at hc; simp [gxq] at hc)⟩
  | 1, _, ⟨a1, b⟩ =>
    have := b.1.lt
    exact ⟨a1, Or.inr (Or.inr ⟨_, b.1, q2546⟩), by omega, by omega⟩
  | 2, _, ⟨a1, k, b1, b2, b3⟩ =>
    have hk : k = 0 ∨ k = 1 ∨ k = 2 ∨ k = 3 := by omega
    rcases hk with e | e | e | e <;> subst e
    · exact ⟨a1.2, Or.inl ⟨11, _, _, b3, rfl, q2550⟩, (fun e => by rw [← e, b3] at hl; cases hl), (fun e => by rw [← e, b3] at hc; simp [gxq] at hc)⟩
    · exact ⟨a1.2, Or.inl ⟨12, _, _, b3, rfl, q2547⟩, (fun e => by rw [← e, b3] at hl; cases hl), (fun e => by rw [← e, b3] at hc; simp [gxq] at hc)⟩
    · exact ⟨a1.2, Or.inl ⟨13, _, _, b3, rfl, q2548⟩, (fun e => by rw [← e, b3] at hl; cases hl), (fun e => by rw [← e, b3] at hc; simp [gxq] at hc)⟩
    · exact ⟨a1.2, Or.inl ⟨14, _, _, b3, rfl, q2549⟩, (fun e => by rw [← e, b3] at hl; cases hl), (fun e => by rw [← e, b3] at hc; simp [gxq] at hc)⟩
  | 3, _, ⟨a1, b⟩ => exact ⟨a1.2, Or.inl ⟨15, _, _, b, rfl, q2551⟩, (fun e => by rw [← e, b] at hl; cases hl), (fun e => by rw [← e, b] at hc; simp [gxq] at hc)⟩
  | 4, _, ⟨a1, g, b, b2⟩ => exact ⟨a1.2, Or.inr (Or.inl ⟨_, b⟩), (fun e => by rw [← e, b] at hl; cases hl), (fun e => by rw [← e, b] at hc; simp [gxq] at hc)⟩
theorem DE.lE {G : gxG} {h h' : gxH} {hb ta fo fa : Nat} {la ln : Nat → Nat} {lf : Nat → Nat → Nat} {x : dS} {wv : Value} {nv : Nat → Int64} {nc : Nat → Nat} (y : DE G h hb ta fo fa la ln lf x wv nv nc) (e : lE hb h h') : DE G h' hb ta fo fa la ln lf x wv nv nc := by
  obtain ⟨i1, i2, i3, ⟨f, hf⟩, h1, h2, h3⟩ := y
  have m : ∀ {q}, inR hb h.2 q → inR hb h'.2 q := fun z => ⟨z.1, Nat.lt_of_lt_of_le z.2 e.1⟩
  exact ⟨m i1, m i2, m i3, ⟨f, e.2 _ _ i2.1 i2.2 hf (fun vs q => by cases q) (fun c g q => by simp [gxq] at q)⟩, e.2 _ _ i3.1 i3.2 h1 (fun vs q => by cases q) (fun c g q => by cases q), e.2 _ _ i1.1 i1.2 h2 (fun vs q => by cases q) (fun c g q => by cases q), fun j k hj hk => (h3 j k hj hk).lE e⟩
theorem va_s {α : Type} (f : Nat → α) (k : Nat) (v : α) : va_up f k v k = v := by simp [va_up]
theorem va_n {α : Type} {f : Nat → α} {k j : Nat} {v : α} (h : j ≠ k) : va_up f k v j = f j := by simp [va_up, h]
theorem DL.gr {G : gxG} {h h' : gxH} {hb : Nat} {la le lc ln : Nat → Nat} {lf : Nat → Nat → Nat} (x : DL G h hb la le lc ln lf) (hz : h.2 ≤ h'.2) (e : ∀ q, hb ≤ q → q < h.2 → h'.1 q = h.1 q) : DL G h' hb la le lc ln lf := by
  refine ⟨fun j hj => ?_, x.2⟩
  obtain ⟨a, b, c, l⟩ := x.1 j hj
  exact ⟨a, b, c, l.fr hz (e _ a l.2.1) (e _ b l.2.2.2.2.1)⟩
theorem DL.add {G : gxG} {h h' : gxH} {hb : Nat} {la le lc ln : Nat → Nat} {lf : Nat → Nat → Nat} (x : DL G h hb la le lc ln lf) {j e' c' : Nat} {f' : Nat → Nat} (hhb : hb ≤ h.2) (hj : j < 5) (hL : LV G h' (la j) e' c' (ln j + 1) f') (he : (e' = le j ∧ c' = lc j ∧ h'.2 = h.2) ∨ (e' = h.2 ∧ h'.2 = h.2 + 1 ∧ ln j = lc j ∧ c' ≤ 2 * lc j)) (hn : ln j ≤ 30) (fr : ∀ q, q < h.2 → q ≠ la j → q ≠ le j → h'.1 q = h.1 q) :
    DL G h' hb la (va_up le j e') (va_up lc j c') (va_up ln j (ln j + 1)) (va_up lf j f') := by
  have hz : h.2 ≤ h'.2 := by rcases he with z | z <;> omega
  obtain ⟨aj, bj, cj, lj⟩ := x.1 j hj
  refine ⟨fun i hi => ?_, fun i k hi hk hne => ?_⟩
  · by_cases e : i = j
    · subst e
      rw [va_s, va_s, va_s, va_s]
      exact ⟨aj, by rcases he with z | z <;> omega, by rcases he with z | z <;> omega, hL⟩
    · rw [va_n e, va_n e, va_n e, va_n e]
      obtain ⟨a, b, c, l⟩ := x.1 i hi
      obtain ⟨d1, d2⟩ := x.2 i j hi hj e
      obtain ⟨mc, o1⟩ := l.ob
      obtain ⟨g, o2⟩ := l.ar
      obtain ⟨mc', o3⟩ := lj.ob
      obtain ⟨g', o4⟩ := lj.ar
      exact ⟨a, b, c, l.fr hz (fr _ l.2.1 d1 (fun y => by rw [y, o4] at o1; cases o1)) (fr _ l.2.2.2.2.1 (fun y => by rw [y, o3] at o2; cases o2) d2)⟩
  · obtain ⟨d1, d2⟩ := x.2 i k hi hk hne
    refine ⟨d1, ?_⟩
    have li := (x.1 i hi).2.2.2.2.2.2.2.1
    have lk := (x.1 k hk).2.2.2.2.2.2.2.1
    by_cases e : i = j
    · have e2 : k ≠ j := fun y => hne (by rw [e, y])
      rw [e, va_s, va_n e2]
      rw [e] at d2
      rcases he with z | z <;> omega
    · by_cases e2 : k = j
      · rw [e2, va_s, va_n e]
        rw [e2] at d2
        rcases he with z | z <;> omega
      · rw [va_n e, va_n e2]; exact d2
theorem DL.lE {G : gxG} {h h' : gxH} {hb : Nat} {la le lc ln : Nat → Nat} {lf : Nat → Nat → Nat} (x : DL G h hb la le lc ln lf) {j : Nat} (hj : j < 5) (hz : h.2 ≤ h'.2) (fr : ∀ q, q < h.2 → q ≠ la j → q ≠ le j → h'.1 q = h.1 q) : lE hb h h' := by
  obtain ⟨aj, bj, cj, lj⟩ := x.1 j hj
  obtain ⟨mc', o3⟩ := lj.ob
  obtain ⟨g', o4⟩ := lj.ar
  refine ⟨hz, fun q v _ h1 h2 h3 h4 => ?_⟩
  rw [fr q h1 (fun y => by rw [y, o3] at h2; exact h3 _ (Option.some.inj h2).symm) (fun y => by rw [y, o4] at h2; exact h4 _ _ (Option.some.inj h2).symm)]
  exact h2
section MAZ0
variable {G : gxG} {d : Nat} {h : gxH} {hb : Nat} {la le lc ln : Nat → Nat} {lf : Nat → Nat → Nat}
/-- a town in the making, all of it -/
def DY (G : gxG) (h : gxH) (hb ta fo fa : Nat) (la le lc ln : Nat → Nat) (lf : Nat → Nat → Nat) (x : dS) (wv : Value) (nv : Nat → Int64) (nc : Nat → Nat) (elo ehi : Nat) (w : Option gxEv) : Prop := DL G h hb la le lc ln lf ∧ DE G h hb ta fo fa la ln lf x wv nv nc ∧ wvE elo ehi h wv w ∧ hb ≤ elo ∧ ehi ≤ h.2 ∧ (∀ j, j < 5 → (la j < elo ∨ ehi ≤ la j) ∧ (le j < elo ∨ ehi ≤ le j)) ∧ hb ≤ h.2 ∧ gxN G ≤ hb
theorem wvE.gr {h h' : gxH} {lo hi fa : Nat} {wv : Value} {w : Option gxEv} (x : wvE lo hi h wv w) (hf : fcA h fa) (e : ∀ q, lo ≤ q → q < hi → h'.1 q = h.1 q) : wvE lo hi h' wv w := by
  cases w with
  | none => exact x
  | some ev =>
    obtain ⟨r, m, h1, h2, h3⟩ := x
    exact ⟨r, m, h1, h2, h3.fr (fun q a b _ => e q a b) hf⟩
section DYs
variable {ta fo fa : Nat} {x : dS} {wv : Value} {nv : Nat → Int64} {nc : Nat → Nat} {elo ehi : Nat} {w : Option gxEv}
theorem DY.gr {h' : gxH} (y : DY G h hb ta fo fa la le lc ln lf x wv nv nc elo ehi w) (hz : h.2 ≤ h'.2) (e : ∀ q, hb ≤ q → q < h.2 → h'.1 q = h.1 q) : DY G h' hb ta fo fa la le lc ln lf x wv nv nc elo ehi w := by
  obtain ⟨y1, y2, y3, y4, y5, y6, y7, y8⟩ := y
  exact ⟨y1.gr hz e, y2.lE (lE.of hz e), y3.gr y2.2.2.2.1 (fun q a b => e q (by omega) (by omega)), y4, by omega, y6, by omega, y8⟩
/-- one more in the list j -/
theorem c_Dadd (hd : 7 ≤ d) (y : DY G h hb ta fo fa la le lc ln lf x wv nv nc elo ehi w) (j : Nat) (hj : j < 5) (hn : ln j ≤ 30) {v : Nat} (hv : El G h hb x nv nc j (ln j) v) : gxM G mJ2_add d 1 128 [.ref (la j), .ref v] h (gxQi (fun _ h' => ∃ e' c', DY G h' hb ta fo fa la (va_up le j e') (va_up lc j c') (va_up ln j (ln j + 1)) (va_up lf j (fun k => if k < ln j then lf j k else v)) x wv nv nc elo ehi w ∧ h'.2 ≤ h.2 + 1 ∧ h.2 ≤ h'.2 ∧ ∀ q, q < hb → h'.1 q = h.1 q)) := by
  obtain ⟨y1, y2, y3, y4, y5, y6, y7, y8⟩ := y
  obtain ⟨aj, bj, cj, lj⟩ := y1.1 j hj
  obtain ⟨mc, o1⟩ := lj.ob
  obtain ⟨g, o2⟩ := lj.ar
  have hl : gxN G ≤ la j ∧ ∃ vs, h.1 (la j) = some (.inr (32, vs)) := ⟨by omega, _, o1⟩
  have hc : gxN G ≤ le j ∧ ∃ n g, h.1 (le j) = some (gxq 3 n g) := ⟨by omega, _, _, o2⟩
  have ev := hv.el hl hc hj
  refine gxM_post ?_ (gxM_room (Nat.le_refl _) (by omega) (c_LVadd hd lj (by omega) ev.2.1 ev.1 ev.2.2.1 ev.2.2.2 (fun k hk => by
    have := (y2.2.2.2.2.2.2 j k hj hk).el hl hc hj
    exact ⟨this.2.2.1, this.1, this.2.1⟩)))
  rintro o h' ⟨r0, rfl, e', c', L', he, fr⟩
  have hz : h.2 ≤ h'.2 := by rcases he with z | z <;> omega
  have E := y1.lE hj hz fr
  have D2 := y2.lE E
  refine ⟨r0, rfl, e', c', ⟨y1.add y7 hj L' he hn fr, ⟨D2.1, D2.2.1, D2.2.2.1, D2.2.2.2.1, D2.2.2.2.2.1, D2.2.2.2.2.2.1, fun i k hi hk => ?_⟩, y3.gr y2.2.2.2.1 (fun q a b => fr q (by omega) (fun e => by have := (y6 j hj).1; omega) (fun e => by have := (y6 j hj).2; omega)), y4, by omega, fun i hi => ?_, by omega, y8⟩, by rcases he with z | z <;> omega, hz, fun q hq => fr q (by omega) (by omega) (by omega)⟩
  · by_cases e : i = j
    · subst e
      rw [va_s] at hk
      rw [va_s]
      by_cases z : k < ln i
      · rw [if_pos z]; exact D2.2.2.2.2.2.2 i k hi z
      · have : k = ln i := by omega
        subst this
        rw [if_neg z]; exact hv.lE E
    · rw [va_n e] at hk
      rw [va_n e]
      exact D2.2.2.2.2.2.2 i k hi hk
  · obtain ⟨a, b⟩ := y6 i hi
    refine ⟨a, ?_⟩
    by_cases e : i = j
    · subst e
      rw [va_s]
      rcases he with z | z <;> omega
    · rw [va_n e]; exact b
end DYs
end MAZ0
/-- names, plain -/
def cdF (a b : Option Nat) : Int32 := match a with
  | some p => nI p
  | none => match b with
    | some s => nI (20 + s)
    | none => -1
def NMi (x : dS) (rr P S m : Nat) (nv : Nat → Int64) (nc : Nat → Nat) : Prop := (∀ w, fdF nv nc w m 0 = cdF (spPn x.2 rr P w) (spSn x.2 rr S w)) ∧ (∀ w, spPn x.2 rr P w = none ∨ spSn x.2 rr S w = none) ∧ ∀ k, k < m → nc k < 30
theorem fdF_add (nv : Nat → Int64) (nc : Nat → Nat) (w w0 : Int64) (c0 n : Nat) : ∀ m k, k + m = n → (∀ j, j < n → nc j < 30) → fdF (va_up nv n w0) (va_up nc n c0) w (m + 1) k = if fdF nv nc w m k = -1 then (if w0 = w then nI c0 else -1) else fdF nv nc w m k
  | 0, k, hk, _ => by
    have : k = n := by omega
    subst this
    rw [fdF, fdF, va_s, va_s, fdF, if_pos rfl]
  | m + 1, k, hk, hc => by
    have n1 : ∀ c, c < 30 → ¬ nI c = -1 := by decide +kernel
    rw [fdF, va_n (show k ≠ n by omega), va_n (show k ≠ n by omega)]
    by_cases e : nv k = w
    · rw [if_pos e, fdF, if_pos e, if_neg (n1 _ (hc k (by omega)))]
    · rw [if_neg e, fdF_add nv nc w w0 c0 n m (k + 1) (by omega) hc]
      have : fdF nv nc w (m + 1) k = fdF nv nc w m (k + 1) := by rw [fdF, if_neg e]
      rw [this]
theorem spNm_cg {f g : Nat → Int64} {w : Int64} : ∀ m k, (∀ j, k ≤ j → j < k + m → f j = g j) → spNm f w m k = spNm g w m k
  | 0, _, _ => rfl
  | m + 1, k, h => by rw [spNm, spNm, h k (by omega) (by omega), spNm_cg m (k + 1) (fun j a b => h j (by omega) (by omega))]
theorem spNm_add {f : Nat → Int64} {w : Int64} {n : Nat} : ∀ m k, k + m = n → spNm f w (m + 1) k = match spNm f w m k with
    | some j => some j
    | none => if f n = w then some n else none
  | 0, k, hk => by
    have : k = n := by omega
    subst this
    rw [spNm, spNm]; rfl
  | m + 1, k, hk => by
    rw [spNm]
    by_cases e : f k = w
    · rw [if_pos e, spNm, if_pos e]
    · have h2 : spNm f w (m + 1) k = spNm f w m (k + 1) := by rw [spNm, if_neg e]
      rw [if_neg e, spNm_add (n := n) m (k + 1) (by omega), h2]
theorem n30 : ∀ c, c < 30 → ¬ nI c = -1 := by decide +kernel
theorem cdF_1 {a b : Option Nat} (ha : ∀ p, a = some p → p < 6) (hb : ∀ s, b = some s → s < 10) : cdF a b = -1 ↔ a = none ∧ b = none := by
  cases a with
  | some p => exact ⟨fun e => absurd e (n30 p (by have := ha p rfl; omega)), fun e => by cases e.1⟩
  | none =>
    cases b with
    | some s => exact ⟨fun e => absurd e (n30 (20 + s) (by have := hb s rfl; omega)), fun e => by cases e.2⟩
    | none => exact ⟨fun _ => ⟨rfl, rfl⟩, fun _ => rfl⟩
theorem spPn_lt {L : Nat → Nat → Int64} {rr P : Nat} {w : Int64} (hP : P ≤ 6) : ∀ p, spPn L rr P w = some p → p < 6 := fun p h => by have := spNm_lt0 h; omega
theorem spSn_lt {L : Nat → Nat → Int64} {rr S : Nat} {w : Int64} (hS : S ≤ 10) : ∀ p, spSn L rr S w = some p → p < 10 := fun p h => by have := spNm_lt0 h; omega
/-- the names of people -/
theorem NMi.P {x : dS} {rr P S m : Nat} {nv : Nat → Int64} {nc : Nat → Nat} (h : NMi x rr P S m nv nc) (hP : P ≤ 6) (hS : S ≤ 10) : nmOk (fun w => fdF nv nc w m 0) (spPn x.2 rr P) 0 6 := by
  intro w
  have hw := h.1 w
  refine ⟨fun k hk => ⟨spPn_lt hP k hk, ?_⟩, fun hk => ?_⟩
  · dsimp only
    rw [hw, hk]
    show nI k - nI 0 = nI k
    exact nI_sub (Nat.zero_le _)
  · dsimp only
    rw [hw, hk]
    cases e : spSn x.2 rr S w with
    | none => decide
    | some s =>
      have := spSn_lt hS s e
      have dd : ∀ s, s < 10 → ¬ (0 ≤ nI (20 + s) - nI 0 ∧ nI (20 + s) - nI 0 ≤ nI 6 - 1) := by decide +kernel
      exact dd s this
theorem NMi.S {x : dS} {rr P S m : Nat} {nv : Nat → Int64} {nc : Nat → Nat} (h : NMi x rr P S m nv nc) (hP : P ≤ 6) (hS : S ≤ 10) : nmOk (fun w => fdF nv nc w m 0) (spSn x.2 rr S) 20 10 := by
  intro w
  have hw := h.1 w
  refine ⟨fun k hk => ⟨spSn_lt hS k hk, ?_⟩, fun hk => ?_⟩
  · dsimp only
    have hp : spPn x.2 rr P w = none := (h.2.1 w).resolve_right (by rw [hk]; exact fun e => nomatch e)
    rw [hw, hk, hp]
    show nI (20 + k) - nI 20 = nI k
    rw [nI_sub (by omega), Nat.add_sub_cancel_left]
  · dsimp only
    rw [hw, hk]
    cases e : spPn x.2 rr P w with
    | none => decide
    | some s =>
      have := spPn_lt hP s e
      have dd : ∀ s, s < 6 → ¬ (0 ≤ nI s - nI 20 ∧ nI s - nI 20 ≤ nI 10 - 1) := by decide +kernel
      exact dd s this
theorem NMi.addP {x x' : dS} {P S m : Nat} {nv : Nat → Int64} {nc : Nat → Nat} {w0 : Int64} (h : NMi x 1 P S m nv nc) (hP : P < 6) (hS : S ≤ 10) (hn : fdF nv nc w0 m 0 = -1) (h1 : ∀ k, k ≤ P → x'.2 11 (6 + k) = if k = P then w0 else x.2 11 (6 + k)) (h2 : ∀ k, k < S → x'.2 12 (10 + k) = x.2 12 (10 + k)) : NMi x' 1 (P + 1) S (m + 1) (va_up nv m w0) (va_up nc m P) := by
  have no := (cdF_1 (a := spPn x.2 1 P w0) (b := spSn x.2 1 S w0) (spPn_lt (Nat.le_of_lt hP)) (spSn_lt hS)).mp (by rw [← h.1 w0]; exact hn)
  have eS : ∀ w, spSn x'.2 1 S w = spSn x.2 1 S w := fun w => spNm_cg S 0 (fun j _ hj => h2 j (by omega))
  have eP : ∀ w, spPn x'.2 1 (P + 1) w = match spPn x.2 1 P w with
      | some j => some j
      | none => if w0 = w then some P else none := fun w => by
    have e0 : spNm (fun k => x'.2 11 (6 * 1 + k)) w P 0 = spPn x.2 1 P w := spNm_cg P 0 (fun j _ hj => by
      show x'.2 11 (6 + j) = x.2 11 (6 + j)
      rw [h1 j (by omega), if_neg (by omega)])
    have := spNm_add (f := fun k => x'.2 11 (6 * 1 + k)) (w := w) (n := P) P 0 (by omega)
    rw [e0] at this
    show spNm (fun k => x'.2 11 (6 * 1 + k)) w (P + 1) 0 = _
    rw [this]
    have e1 : x'.2 11 (6 * 1 + P) = w0 := by show x'.2 11 (6 + P) = w0; rw [h1 P (Nat.le_refl _), if_pos rfl]
    simp only [e1]
  refine ⟨fun w => ?_, fun w => ?_, fun k hk => ?_⟩
  · rw [fdF_add nv nc w w0 P m m 0 (by omega) h.2.2, h.1 w, eS w, eP w]
    cases e : spPn x.2 1 P w with
    | some p =>
      rw [if_neg (show ¬ cdF (some p) (spSn x.2 1 S w) = -1 from n30 p (by have := spPn_lt (Nat.le_of_lt hP) p e; omega))]
    | none =>
      dsimp only
      by_cases ew : w0 = w
      · subst ew
        rw [no.2]; simp [cdF]
      · simp only [ew, if_false]
        by_cases z : cdF none (spSn x.2 1 S w) = -1
        · rw [if_pos z, z]
        · rw [if_neg z]
  · rw [eS w, eP w]
    rcases h.2.1 w with z | z
    · by_cases ew : w0 = w
      · subst ew; exact Or.inr no.2
      · left; rw [z]; exact if_neg ew
    · exact Or.inr z
  · by_cases e : k = m
    · rw [e, va_s]; omega
    · rw [va_n e]; exact h.2.2 k (by omega)
theorem NMi.addS {x x' : dS} {P S m : Nat} {nv : Nat → Int64} {nc : Nat → Nat} {w0 : Int64} (h : NMi x 1 P S m nv nc) (hP : P ≤ 6) (hS : S < 10) (hn : fdF nv nc w0 m 0 = -1) (h1 : ∀ k, k ≤ S → x'.2 12 (10 + k) = if k = S then w0 else x.2 12 (10 + k)) (h2 : ∀ k, k < P → x'.2 11 (6 + k) = x.2 11 (6 + k)) : NMi x' 1 P (S + 1) (m + 1) (va_up nv m w0) (va_up nc m (20 + S)) := by
  have no := (cdF_1 (a := spPn x.2 1 P w0) (b := spSn x.2 1 S w0) (spPn_lt hP) (spSn_lt (Nat.le_of_lt hS))).mp (by rw [← h.1 w0]; exact hn)
  have eP : ∀ w, spPn x'.2 1 P w = spPn x.2 1 P w := fun w => spNm_cg P 0 (fun j _ hj => h2 j (by omega))
  have eS : ∀ w, spSn x'.2 1 (S + 1) w = match spSn x.2 1 S w with
      | some j => some j
      | none => if w0 = w then some S else none := fun w => by
    have e0 : spNm (fun k => x'.2 12 (10 * 1 + k)) w S 0 = spSn x.2 1 S w := spNm_cg S 0 (fun j _ hj => by
      show x'.2 12 (10 + j) = x.2 12 (10 + j)
      rw [h1 j (by omega), if_neg (by omega)])
    have := spNm_add (f := fun k => x'.2 12 (10 * 1 + k)) (w := w) (n := S) S 0 (by omega)
    rw [e0] at this
    show spNm (fun k => x'.2 12 (10 * 1 + k)) w (S + 1) 0 = _
    rw [this]
    have e1 : x'.2 12 (10 * 1 + S) = w0 := by show x'.2 12 (10 + S) = w0; rw [h1 S (Nat.le_refl _), if_pos rfl]
    simp only [e1]
  refine ⟨fun w => ?_, fun w => ?_, fun k hk => ?_⟩
  · rw [fdF_add nv nc w w0 (20 + S) m m 0 (by omega) h.2.2, h.1 w, eP w, eS w]
    cases e : spPn x.2 1 P w with
    | some p => rw [if_neg (show ¬ cdF (some p) (spSn x.2 1 S w) = -1 from n30 p (by have := spPn_lt hP p e; omega))]; rfl
    | none =>
      cases e2 : spSn x.2 1 S w with
      | some s => rw [if_neg (show ¬ cdF none (some s) = -1 from n30 (20 + s) (by have := spSn_lt (Nat.le_of_lt hS) s e2; omega))]
      | none =>
        rw [if_pos (show cdF none none = -1 from rfl)]
        by_cases ew : w0 = w
        · rw [if_pos ew]; simp only [ew, if_true]; rfl
        · rw [if_neg ew]; simp only [ew, if_false]; rfl
  · rw [eP w, eS w]
    rcases h.2.1 w with z | z
    · exact Or.inl z
    · by_cases ew : w0 = w
      · subst ew; exact Or.inl no.1
      · right; rw [z]; exact if_neg ew
  · by_cases e : k = m
    · rw [e, va_s]; omega
    · rw [va_n e]; exact h.2.2 k (by omega)
