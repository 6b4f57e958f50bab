/-! ===== COMPONENT B: people, towns ===== -/
set_option maxRecDepth 100000
/-- a person at a -/
def prs (h : gxH) (a : Nat) (kd rk tx : Int32) : Prop := ∃ k, k < 4 ∧ kd = nI k ∧ h.1 a = some (.inr (11 + k, [.int rk, .int tx]))
def inR (lo hi q : Nat) : Prop := lo ≤ q ∧ q < hi
/-- a list in a stretch of the heap -/
def lsR (h : gxH) (lo hi a n : Nat) (f : Nat → Nat) : Prop := inR lo hi a ∧ ∃ (mc : Int32) (e c : Nat) (g : Nat → Option Nat), inR lo hi e ∧ h.1 a = some (.inr (32, [.int mc, .ref e, .int (nI n)])) ∧ h.1 e = some (gxq 3 c g) ∧ n ≤ c ∧ c < 2 ^ 31 ∧ ∀ k, k < n → g k = some (f k)
theorem lsR.ls {h : gxH} {lo hi a n : Nat} {f : Nat → Nat} (x : lsR h lo hi a n f) : gxLs h a n f := by
  obtain ⟨_, mc, e, c, g, _, h1, h2, h3, h4, h5⟩ := x
  exact ⟨mc, e, c, g, h1, h2, h3, h4, h5⟩
/-- what stands at fa is an array of four ints -/
def fcA (h : gxH) (fa : Nat) : Prop := ∃ f, h.1 fa = some (.inl (0, 4, .inl f))
/-- alike but at fa -/
def fE (fa : Nat) (h h' : gxH) : Prop := h'.2 = h.2 ∧ (∀ q, q ≠ fa → h'.1 q = h.1 q) ∧ (fcA h fa → fcA h' fa)
theorem fE.rf (fa : Nat) (h : gxH) : fE fa h h := ⟨rfl, fun _ _ => rfl, fun x => x⟩
theorem fE.tr {fa : Nat} {a b c : gxH} (h : fE fa a b) (k : fE fa b c) : fE fa a c := ⟨k.1.trans h.1, fun q hq => (k.2.1 q hq).trans (h.2.1 q hq), fun x => k.2.2 (h.2.2 x)⟩
theorem fE.up {fa : Nat} (h : gxH) (f : Nat → Int32) : fE fa h (gxup h fa (.inl (0, 4, .inl f))) := ⟨rfl, fun q hq => gxup_ne hq, fun _ => ⟨f, gxup_self _ _ _⟩⟩
/-- an expression -/
def lkE (c : Nat) (x y : Int32) : Int32 := if c = 20 then x * y else if c = 21 then x + y else if c = 22 then x - y else if c = 23 then (if x < y then 1 else 0) else if c = 24 then (if x = y then 1 else 0) else if c = 25 then (if x ≠ 0 ∧ y ≠ 0 then 1 else 0) else (if x ≠ 0 ∨ y ≠ 0 then 1 else 0)
def chE (v : Int32) (c : Nat → Nat) (e : Nat → Int32) : Nat → Int32
  | 0 => v
  | k + 1 => lkE (c k) (chE v c e k) (e k)
def exE (lo hi : Nat) (h : gxH) : Nat → Nat → gxEv → Prop
  | 0, _, _ => False
  | m + 1, r, ev => inR lo hi r ∧
    ((∃ n, h.1 r = some (.inr (17, [.int n])) ∧ ev = fun _ _ _ _ => n) ∨
     (∃ k, k < 4 ∧ h.1 r = some (.inr (16, [.int (nI k)])) ∧ ev = fun a b c d => if k = 0 then a else if k = 1 then b else if k = 2 then c else d) ∨
     (∃ r' ev', h.1 r = some (.inr (18, [.ref r'])) ∧ exE lo hi h m r' ev' ∧ ev = fun a b c d => if ev' a b c d = 0 then 1 else 0) ∨
     (∃ (r' ll n : Nat) (ev' : gxEv) (la lc lr : Nat → Nat) (le : Nat → gxEv), h.1 r = some (.inr (19, [.ref r', .ref ll])) ∧ exE lo hi h m r' ev' ∧ lsR h lo hi ll n la ∧ (∀ k, k < n → inR lo hi (la k) ∧ 20 ≤ lc k ∧ lc k ≤ 26 ∧ h.1 (la k) = some (.inr (lc k, [.ref (lr k)])) ∧ exE lo hi h m (lr k) (le k)) ∧
        ev = fun a b c d => chE (ev' a b c d) lc (fun k => le k a b c d) n))
def wvE (lo hi : Nat) (h : gxH) (wv : Value) (w : Option gxEv) : Prop := match w with
  | none => wv = .null
  | some ev => ∃ r m, m ≤ 24 ∧ wv = .ref r ∧ exE lo hi h m r ev
/-- a town at ta, its facts at fa, all of it in a stretch of the heap -/
def TW (h : gxH) (lo hi ta fa : Nat) (A : Nat → Nat → Int32) (P S E : Nat) (w : Option gxEv) : Prop :=
  inR lo hi ta ∧ inR lo hi fa ∧ fcA h fa ∧ ∃ (nl ol pl sl el fo : Nat) (wv : Value) (pa sa ea : Nat → Nat), inR lo hi fo ∧
    h.1 ta = some (.inr (3, [.ref nl, .ref ol, .ref pl, .ref sl, .ref el, .int (A 10 3), wv, .ref fo])) ∧ h.1 fo = some (.inr (4, [.ref fa])) ∧
    lsR h lo hi pl P pa ∧ lsR h lo hi sl S sa ∧ lsR h lo hi el E ea ∧
    (∀ p, p < P → inR lo hi (pa p) ∧ prs h (pa p) (A 13 p) (A 14 p) (A 15 p)) ∧
    (∀ k, k < S → inR lo hi (sa k) ∧ h.1 (sa k) = some (.inr (15, [.int (A 16 k), .int (A 17 k), .int (A 18 k), .int (A 19 k), .int (A 20 k), .int (A 21 k)]))) ∧
    (∀ e, e < E → inR lo hi (ea e) ∧ ∃ g, h.1 (ea e) = some (.inl (0, 3, .inl g)) ∧ g 0 = A 22 e ∧ g 1 = A 23 e ∧ g 2 = A 24 e) ∧
    wvE lo hi h wv w
/-- alike in a stretch, but at fa -/
def frR (lo hi fa : Nat) (h h' : gxH) : Prop := ∀ q, lo ≤ q → q < hi → q ≠ fa → h'.1 q = h.1 q
section LB0
variable {h h' : gxH} {lo hi fa : Nat}
theorem frR.at {q : Nat} {x : gxE} (fr : frR lo hi fa h h') (hf : fcA h fa) (hq : inR lo hi q) (hx : h.1 q = some x) (hne : ∀ f, x ≠ .inl (0, 4, .inl f)) : h'.1 q = some x := by
  obtain ⟨f, hf⟩ := hf
  rw [fr q hq.1 hq.2 (fun e => by rw [e, hf] at hx; exact hne f (Option.some.inj hx).symm)]
  exact hx
theorem lsR.fr {a n : Nat} {f : Nat → Nat} (x : lsR h lo hi a n f) (fr : frR lo hi fa h h') (hf : fcA h fa) : lsR h' lo hi a n f := by
  obtain ⟨i1, mc, e, c, g, i2, h1, h2, h3, h4, h5⟩ := x
  exact ⟨i1, mc, e, c, g, i2, fr.at hf i1 h1 (fun f q => by cases q), fr.at hf i2 h2 (fun f q => by simp [gxq] at q), h3, h4, h5⟩
theorem exE.fr (fr : frR lo hi fa h h') (hf : fcA h fa) : ∀ {m r ev}, exE lo hi h m r ev → exE lo hi h' m r ev
  | 0, _, _, x => x
  | m + 1, r, ev, x => by
    obtain ⟨i1, x⟩ := x
    refine ⟨i1, ?_⟩
    rcases x with ⟨n, h1, e⟩ | ⟨k, hk, h1, e⟩ | ⟨r', ev', h1, h2, e⟩ | ⟨r', ll, n, ev', la, lc, lr, le, h1, h2, h3, h4, e⟩
    · exact Or.inl ⟨n, fr.at hf i1 h1 (fun f q => by cases q), e⟩
    · exact Or.inr (Or.inl ⟨k, hk, fr.at hf i1 h1 (fun f q => by cases q), e⟩)
    · exact Or.inr (Or.inr (Or.inl ⟨r', ev', fr.at hf i1 h1 (fun f q => by cases q), exE.fr fr hf h2, e⟩))
    · exact Or.inr (Or.inr (Or.inr ⟨r', ll, n, ev', la, lc, lr, le, fr.at hf i1 h1 (fun f q => by cases q), exE.fr fr hf h2, h3.fr fr hf, fun k hk => by
        obtain ⟨j1, j2, j3, j4, j5⟩ := h4 k hk
        exact ⟨j1, j2, j3, fr.at hf j1 j4 (fun f q => by cases q), exE.fr fr hf j5⟩, e⟩))
theorem TW.fr {ta P S E : Nat} {A : Nat → Nat → Int32} {w : Option gxEv} (x : TW h lo hi ta fa A P S E w) (fr : frR lo hi fa h h') (hf' : fcA h' fa) : TW h' lo hi ta fa A P S E w := by
  obtain ⟨i1, i2, hf, nl, ol, pl, sl, el, fo, wv, pa, sa, ea, i3, h1, h2, h3, h4, h5, h6, h7, h8, h9⟩ := x
  refine ⟨i1, i2, hf', nl, ol, pl, sl, el, fo, wv, pa, sa, ea, i3, fr.at hf i1 h1 (fun f q => by cases q), fr.at hf i3 h2 (fun f q => by cases q), h3.fr fr hf, h4.fr fr hf, h5.fr fr hf, fun p hp => ?_, fun k hk => ?_, fun e he => ?_, ?_⟩
  · obtain ⟨j1, k, j2, j3, j4⟩ := h6 p hp
    exact ⟨j1, k, j2, j3, fr.at hf j1 j4 (fun f q => by cases q)⟩
  · obtain ⟨j1, j2⟩ := h7 k hk
    exact ⟨j1, fr.at hf j1 j2 (fun f q => by cases q)⟩
  · obtain ⟨j1, g, j2, j3⟩ := h8 e he
    exact ⟨j1, g, fr.at hf j1 j2 (fun f q => by simp at q), j3⟩
  · cases w with
    | none => exact h9
    | some ev =>
      obtain ⟨r, m, hm, hr, hx⟩ := h9
      exact ⟨r, m, hm, hr, hx.fr fr hf⟩
theorem TW.fE {ta P S E : Nat} {A : Nat → Nat → Int32} {w : Option gxEv} (x : TW h lo hi ta fa A P S E w) (e : fE fa h h') : TW h' lo hi ta fa A P S E w :=
  x.fr (fun q _ _ hq => e.2.1 q hq) (e.2.2 x.2.2.1)
end LB0
section LB
variable {G : gxG} {Y : gxY} {d kc ks pc : Nat} {ls : List (Option Value)} {st : List Value} {h : gxH} {Q : Outcome → gxH → Prop}
theorem k4 {k : Nat} {p : Nat → Prop} (hk : k < 4) (h0 : p 0) (h1 : p 1) (h2 : p 2) (h3 : p 3) : p k := by
  have : k = 0 ∨ k = 1 ∨ k = 2 ∨ k = 3 := by omega
  rcases this with e | e | e | e <;> subst e <;> assumption
theorem c_X12_more {d : Nat} {a : Nat} : gxM G mX12_more d 0 0 [.ref a] h (gxQi (fun r h' => r = 0 ∧ h' = h)) := by
  refine gxM_of rfl (Nat.le_of_ble_eq_true rfl) rfl ?_
  refine gx_iconst (pc := 0) (v := 0) dX12_more_0 (by decide) ?_
  exact gx_ireturn (pc := 1) rfl dX12_more_1 (⟨_, rfl, ⟨rfl, rfl⟩⟩)
theorem c_X13_more {d : Nat} {a : Nat} : gxM G mX13_more d 0 0 [.ref a] h (gxQi (fun r h' => r = 1 ∧ h' = h)) := by
  refine gxM_of rfl (Nat.le_of_ble_eq_true rfl) rfl ?_
  refine gx_iconst (pc := 0) (v := 1) dX13_more_0 (by decide) ?_
  exact gx_ireturn (pc := 1) rfl dX13_more_1 (⟨_, rfl, ⟨rfl, rfl⟩⟩)
theorem c_X12_counts {d : Nat} {a : Nat} : gxM G mX12_counts d 0 0 [.ref a] h (gxQi (fun r h' => r = 1 ∧ h' = h)) := by
  refine gxM_of rfl (Nat.le_of_ble_eq_true rfl) rfl ?_
  refine gx_iconst (pc := 0) (v := 1) dX12_counts_0 (by decide) ?_
  exact gx_zreturn (pc := 1) rfl (by decide) dX12_counts_1 (⟨_, rfl, ⟨rfl, rfl⟩⟩)
theorem c_X15_counts {d : Nat} {a : Nat} : gxM G mX15_counts d 0 0 [.ref a] h (gxQi (fun r h' => r = 0 ∧ h' = h)) := by
  refine gxM_of rfl (Nat.le_of_ble_eq_true rfl) rfl ?_
  refine gx_iconst (pc := 0) (v := 0) dX15_counts_0 (by decide) ?_
  exact gx_zreturn (pc := 1) rfl (by decide) dX15_counts_1 (⟨_, rfl, ⟨rfl, rfl⟩⟩)
theorem c_X12_tells {d : Nat} {a : Nat} : gxM G mX12_tells d 0 0 [.ref a] h (gxQi (fun r h' => r = 1 ∧ h' = h)) := by
  refine gxM_of rfl (Nat.le_of_ble_eq_true rfl) rfl ?_
  refine gx_iconst (pc := 0) (v := 1) dX12_tells_0 (by decide) ?_
  exact gx_zreturn (pc := 1) rfl (by decide) dX12_tells_1 (⟨_, rfl, ⟨rfl, rfl⟩⟩)
theorem c_X14_tells {d : Nat} {a : Nat} : gxM G mX14_tells d 0 0 [.ref a] h (gxQi (fun r h' => r = 0 ∧ h' = h)) := by
  refine gxM_of rfl (Nat.le_of_ble_eq_true rfl) rfl ?_
  refine gx_iconst (pc := 0) (v := 0) dX14_tells_0 (by decide) ?_
  exact gx_zreturn (pc := 1) rfl (by decide) dX14_tells_1 (⟨_, rfl, ⟨rfl, rfl⟩⟩)
theorem c_X12_kind {d : Nat} {a : Nat} : gxM G mX12_kind d 0 0 [.ref a] h (gxQi (fun r h' => r = 0 ∧ h' = h)) := by
  refine gxM_of rfl (Nat.le_of_ble_eq_true rfl) rfl ?_
  refine gx_iconst (pc := 0) (v := 0) dX12_kind_0 (by decide) ?_
  exact gx_ireturn (pc := 1) rfl dX12_kind_1 (⟨_, rfl, ⟨rfl, rfl⟩⟩)
theorem c_X13_kind {d : Nat} {a : Nat} : gxM G mX13_kind d 0 0 [.ref a] h (gxQi (fun r h' => r = 1 ∧ h' = h)) := by
  refine gxM_of rfl (Nat.le_of_ble_eq_true rfl) rfl ?_
  refine gx_iconst (pc := 0) (v := 1) dX13_kind_0 (by decide) ?_
  exact gx_ireturn (pc := 1) rfl dX13_kind_1 (⟨_, rfl, ⟨rfl, rfl⟩⟩)
theorem c_X14_kind {d : Nat} {a : Nat} : gxM G mX14_kind d 0 0 [.ref a] h (gxQi (fun r h' => r = 2 ∧ h' = h)) := by
  refine gxM_of rfl (Nat.le_of_ble_eq_true rfl) rfl ?_
  refine gx_iconst (pc := 0) (v := 2) dX14_kind_0 (by decide) ?_
  exact gx_ireturn (pc := 1) rfl dX14_kind_1 (⟨_, rfl, ⟨rfl, rfl⟩⟩)
theorem c_X15_kind {d : Nat} {a : Nat} : gxM G mX15_kind d 0 0 [.ref a] h (gxQi (fun r h' => r = 3 ∧ h' = h)) := by
  refine gxM_of rfl (Nat.le_of_ble_eq_true rfl) rfl ?_
  refine gx_iconst (pc := 0) (v := 3) dX15_kind_0 (by decide) ?_
  exact gx_ireturn (pc := 1) rfl dX15_kind_1 (⟨_, rfl, ⟨rfl, rfl⟩⟩)
/-- a person cast -/
theorem gx_castP {idx a : Nat} {kd rk tx : Int32} (hp : prs h a kd rk tx) (hl : Cond.classLink Y.1.cls idx "PaidSecrets$Person" ∈ lw_all) (hd : decode Y.2.1 pc = .ok (.checkcast idx, 3)) (kk : gxV G Y d kc ks (pc + 3) ls (.ref a :: st) h Q) : gxV G Y d kc ks pc ls (.ref a :: st) h Q := by
  obtain ⟨k, hk, -, ha⟩ := hp
  revert ha
  refine k4 (p := fun k => h.1 a = some (.inr (11 + k, [.int rk, .int tx])) → _) hk ?_ ?_ ?_ ?_ <;> intro ha
  · exact gx_castS (ci := 11) ha rfl hl hd kk
  · exact gx_castO (ci := 12) ha rfl hl q2517 hd kk
  · exact gx_castO (ci := 13) ha rfl hl q2519 hd kk
  · exact gx_castO (ci := 14) ha rfl hl q2518 hd kk
theorem kPX1_157 {a : Nat} {kd rk tx : Int32} (hp : prs h a kd rk tx) (hY : Y.1.cls = "PaidSecrets") (hd1 : 1 ≤ d) (hst : (st.map fun v => v.category).sum ≤ 8) (hd : decode Y.2.1 pc = .ok (.invokevirtual 157, 3)) (kk : gxV G Y d kc ks (pc + 3) ls (.int (kd) :: st) h Q) : gxV G Y d kc ks pc ls (.ref a :: st) h Q := by
  obtain ⟨k, hk, rfl, ha⟩ := hp
  revert ha kk
  refine k4 (p := fun k => h.1 a = some (.inr (11 + k, [.int rk, .int tx])) → gxV G Y d kc ks (pc + 3) ls (.int (nI k) :: st) h Q → _) hk ?_ ?_ ?_ ?_ <;> intro ha kk
  · exact kX1_157_X12 (kc := kc) (ks := ks) (mc := 0) (ms := 0) hY (c_X12_kind (d := 0)) (gxRc.of (ci := 11) rfl ha) (by omega) hst hd (fun r h1 e => by obtain ⟨rfl, e⟩ := e; subst e; exact kk)
  · exact kX1_157_X13 (kc := kc) (ks := ks) (mc := 0) (ms := 0) hY (c_X13_kind (d := 0)) (gxRc.of (ci := 12) rfl ha) (by omega) hst hd (fun r h1 e => by obtain ⟨rfl, e⟩ := e; subst e; exact kk)
  · exact kX1_157_X14 (kc := kc) (ks := ks) (mc := 0) (ms := 0) hY (c_X14_kind (d := 0)) (gxRc.of (ci := 13) rfl ha) (by omega) hst hd (fun r h1 e => by obtain ⟨rfl, e⟩ := e; subst e; exact kk)
  · exact kX1_157_X15 (kc := kc) (ks := ks) (mc := 0) (ms := 0) hY (c_X15_kind (d := 0)) (gxRc.of (ci := 14) rfl ha) (by omega) hst hd (fun r h1 e => by obtain ⟨rfl, e⟩ := e; subst e; exact kk)
theorem kPX8_72 {a : Nat} {kd rk tx : Int32} (hp : prs h a kd rk tx) (hY : Y.1.cls = "PaidSecrets$Nights") (hd1 : 1 ≤ d) (hst : (st.map fun v => v.category).sum ≤ 8) (hd : decode Y.2.1 pc = .ok (.invokevirtual 72, 3)) (kk : gxV G Y d kc ks (pc + 3) ls (.int (zi (!(decide (kd = 2) || decide (kd = 3)))) :: st) h Q) : gxV G Y d kc ks pc ls (.ref a :: st) h Q := by
  obtain ⟨k, hk, rfl, ha⟩ := hp
  revert ha kk
  refine k4 (p := fun k => h.1 a = some (.inr (11 + k, [.int rk, .int tx])) → gxV G Y d kc ks (pc + 3) ls (.int (zi (!(decide (nI k = 2) || decide (nI k = 3)))) :: st) h Q → _) hk ?_ ?_ ?_ ?_ <;> intro ha kk
  · exact kX8_72_X12 (kc := kc) (ks := ks) (mc := 0) (ms := 0) hY (c_X12_tells (d := 0)) (gxRc.of (ci := 11) rfl ha) (by omega) hst hd (fun r h1 e => by obtain ⟨rfl, e⟩ := e; subst e; exact kk)
  · exact kX8_72_X13 (kc := kc) (ks := ks) (mc := 0) (ms := 0) hY (c_X12_tells (d := 0)) (gxRc.of (ci := 12) rfl ha) (by omega) hst hd (fun r h1 e => by obtain ⟨rfl, e⟩ := e; subst e; exact kk)
  · exact kX8_72_X14 (kc := kc) (ks := ks) (mc := 0) (ms := 0) hY (c_X14_tells (d := 0)) (gxRc.of (ci := 13) rfl ha) (by omega) hst hd (fun r h1 e => by obtain ⟨rfl, e⟩ := e; subst e; exact kk)
  · exact kX8_72_X15 (kc := kc) (ks := ks) (mc := 0) (ms := 0) hY (c_X14_tells (d := 0)) (gxRc.of (ci := 14) rfl ha) (by omega) hst hd (fun r h1 e => by obtain ⟨rfl, e⟩ := e; subst e; exact kk)
theorem kPX3_117 {a : Nat} {kd rk tx : Int32} (hp : prs h a kd rk tx) (hY : Y.1.cls = "PaidSecrets$Talk") (hd1 : 1 ≤ d) (hst : (st.map fun v => v.category).sum ≤ 8) (hd : decode Y.2.1 pc = .ok (.invokevirtual 117, 3)) (kk : gxV G Y d kc ks (pc + 3) ls (.int (zi (!(decide (kd = 2) || decide (kd = 3)))) :: st) h Q) : gxV G Y d kc ks pc ls (.ref a :: st) h Q := by
  obtain ⟨k, hk, rfl, ha⟩ := hp
  revert ha kk
  refine k4 (p := fun k => h.1 a = some (.inr (11 + k, [.int rk, .int tx])) → gxV G Y d kc ks (pc + 3) ls (.int (zi (!(decide (nI k = 2) || decide (nI k = 3)))) :: st) h Q → _) hk ?_ ?_ ?_ ?_ <;> intro ha kk
  · exact kX3_117_X12 (kc := kc) (ks := ks) (mc := 0) (ms := 0) hY (c_X12_tells (d := 0)) (gxRc.of (ci := 11) rfl ha) (by omega) hst hd (fun r h1 e => by obtain ⟨rfl, e⟩ := e; subst e; exact kk)
  · exact kX3_117_X13 (kc := kc) (ks := ks) (mc := 0) (ms := 0) hY (c_X12_tells (d := 0)) (gxRc.of (ci := 12) rfl ha) (by omega) hst hd (fun r h1 e => by obtain ⟨rfl, e⟩ := e; subst e; exact kk)
  · exact kX3_117_X14 (kc := kc) (ks := ks) (mc := 0) (ms := 0) hY (c_X14_tells (d := 0)) (gxRc.of (ci := 13) rfl ha) (by omega) hst hd (fun r h1 e => by obtain ⟨rfl, e⟩ := e; subst e; exact kk)
  · exact kX3_117_X15 (kc := kc) (ks := ks) (mc := 0) (ms := 0) hY (c_X14_tells (d := 0)) (gxRc.of (ci := 14) rfl ha) (by omega) hst hd (fun r h1 e => by obtain ⟨rfl, e⟩ := e; subst e; exact kk)
theorem kPX4_66 {a : Nat} {kd rk tx : Int32} (hp : prs h a kd rk tx) (hY : Y.1.cls = "PaidSecrets$Town") (hd1 : 1 ≤ d) (hst : (st.map fun v => v.category).sum ≤ 8) (hd : decode Y.2.1 pc = .ok (.invokevirtual 66, 3)) (kk : gxV G Y d kc ks (pc + 3) ls (.int ((if kd = 1 then 1 else 0)) :: st) h Q) : gxV G Y d kc ks pc ls (.ref a :: st) h Q := by
  obtain ⟨k, hk, rfl, ha⟩ := hp
  revert ha kk
  refine k4 (p := fun k => h.1 a = some (.inr (11 + k, [.int rk, .int tx])) → gxV G Y d kc ks (pc + 3) ls (.int ((if nI k = 1 then 1 else 0)) :: st) h Q → _) hk ?_ ?_ ?_ ?_ <;> intro ha kk
  · exact kX4_66_X12 (kc := kc) (ks := ks) (mc := 0) (ms := 0) hY (c_X12_more (d := 0)) (gxRc.of (ci := 11) rfl ha) (by omega) hst hd (fun r h1 e => by obtain ⟨rfl, e⟩ := e; subst e; exact kk)
  · exact kX4_66_X13 (kc := kc) (ks := ks) (mc := 0) (ms := 0) hY (c_X13_more (d := 0)) (gxRc.of (ci := 12) rfl ha) (by omega) hst hd (fun r h1 e => by obtain ⟨rfl, e⟩ := e; subst e; exact kk)
  · exact kX4_66_X14 (kc := kc) (ks := ks) (mc := 0) (ms := 0) hY (c_X12_more (d := 0)) (gxRc.of (ci := 13) rfl ha) (by omega) hst hd (fun r h1 e => by obtain ⟨rfl, e⟩ := e; subst e; exact kk)
  · exact kX4_66_X15 (kc := kc) (ks := ks) (mc := 0) (ms := 0) hY (c_X12_more (d := 0)) (gxRc.of (ci := 14) rfl ha) (by omega) hst hd (fun r h1 e => by obtain ⟨rfl, e⟩ := e; subst e; exact kk)
theorem kPX4_79 {a : Nat} {kd rk tx : Int32} (hp : prs h a kd rk tx) (hY : Y.1.cls = "PaidSecrets$Town") (hd1 : 1 ≤ d) (hst : (st.map fun v => v.category).sum ≤ 8) (hd : decode Y.2.1 pc = .ok (.invokevirtual 79, 3)) (kk : gxV G Y d kc ks (pc + 3) ls (.int (zi (decide (¬ kd = 3))) :: st) h Q) : gxV G Y d kc ks pc ls (.ref a :: st) h Q := by
  obtain ⟨k, hk, rfl, ha⟩ := hp
  revert ha kk
  refine k4 (p := fun k => h.1 a = some (.inr (11 + k, [.int rk, .int tx])) → gxV G Y d kc ks (pc + 3) ls (.int (zi (decide (¬ nI k = 3))) :: st) h Q → _) hk ?_ ?_ ?_ ?_ <;> intro ha kk
  · exact kX4_79_X12 (kc := kc) (ks := ks) (mc := 0) (ms := 0) hY (c_X12_counts (d := 0)) (gxRc.of (ci := 11) rfl ha) (by omega) hst hd (fun r h1 e => by obtain ⟨rfl, e⟩ := e; subst e; exact kk)
  · exact kX4_79_X13 (kc := kc) (ks := ks) (mc := 0) (ms := 0) hY (c_X12_counts (d := 0)) (gxRc.of (ci := 12) rfl ha) (by omega) hst hd (fun r h1 e => by obtain ⟨rfl, e⟩ := e; subst e; exact kk)
  · exact kX4_79_X14 (kc := kc) (ks := ks) (mc := 0) (ms := 0) hY (c_X12_counts (d := 0)) (gxRc.of (ci := 13) rfl ha) (by omega) hst hd (fun r h1 e => by obtain ⟨rfl, e⟩ := e; subst e; exact kk)
  · exact kX4_79_X15 (kc := kc) (ks := ks) (mc := 0) (ms := 0) hY (c_X15_counts (d := 0)) (gxRc.of (ci := 14) rfl ha) (by omega) hst hd (fun r h1 e => by obtain ⟨rfl, e⟩ := e; subst e; exact kk)
theorem kFX1_164 {a : Nat} {kd rk tx : Int32} (hp : prs h a kd rk tx) (hY : Y.1.cls = "PaidSecrets") (hd : decode Y.2.1 pc = .ok (.getfield 164, 3)) (kk : gxV G Y d kc ks (pc + 3) ls (.int tx :: st) h Q) : gxV G Y d kc ks pc ls (.ref a :: st) h Q := by
  obtain ⟨k, hk, -, ha⟩ := hp
  revert ha
  refine k4 (p := fun k => h.1 a = some (.inr (11 + k, [.int rk, .int tx])) → _) hk ?_ ?_ ?_ ?_ <;> intro ha
  · exact gx_get (hY ▸ fX1_164_X12) ha rfl hd kk
  · exact gx_get (hY ▸ fX1_164_X13) ha rfl hd kk
  · exact gx_get (hY ▸ fX1_164_X14) ha rfl hd kk
  · exact gx_get (hY ▸ fX1_164_X15) ha rfl hd kk
theorem kFX6_67 {a : Nat} {kd rk tx : Int32} (hp : prs h a kd rk tx) (hY : Y.1.cls = "PaidSecrets$Payers") (hd : decode Y.2.1 pc = .ok (.getfield 67, 3)) (kk : gxV G Y d kc ks (pc + 3) ls (.int tx :: st) h Q) : gxV G Y d kc ks pc ls (.ref a :: st) h Q := by
  obtain ⟨k, hk, -, ha⟩ := hp
  revert ha
  refine k4 (p := fun k => h.1 a = some (.inr (11 + k, [.int rk, .int tx])) → _) hk ?_ ?_ ?_ ?_ <;> intro ha
  · exact gx_get (hY ▸ fX6_67_X12) ha rfl hd kk
  · exact gx_get (hY ▸ fX6_67_X13) ha rfl hd kk
  · exact gx_get (hY ▸ fX6_67_X14) ha rfl hd kk
  · exact gx_get (hY ▸ fX6_67_X15) ha rfl hd kk
theorem kFX3_58 {a : Nat} {kd rk tx : Int32} (hp : prs h a kd rk tx) (hY : Y.1.cls = "PaidSecrets$Talk") (hd : decode Y.2.1 pc = .ok (.getfield 58, 3)) (kk : gxV G Y d kc ks (pc + 3) ls (.int rk :: st) h Q) : gxV G Y d kc ks pc ls (.ref a :: st) h Q := by
  obtain ⟨k, hk, -, ha⟩ := hp
  revert ha
  refine k4 (p := fun k => h.1 a = some (.inr (11 + k, [.int rk, .int tx])) → _) hk ?_ ?_ ?_ ?_ <;> intro ha
  · exact gx_get (hY ▸ fX3_58_X12) ha rfl hd kk
  · exact gx_get (hY ▸ fX3_58_X13) ha rfl hd kk
  · exact gx_get (hY ▸ fX3_58_X14) ha rfl hd kk
  · exact gx_get (hY ▸ fX3_58_X15) ha rfl hd kk
theorem kFX3_125 {a : Nat} {kd rk tx : Int32} (hp : prs h a kd rk tx) (hY : Y.1.cls = "PaidSecrets$Talk") (hd : decode Y.2.1 pc = .ok (.getfield 125, 3)) (kk : gxV G Y d kc ks (pc + 3) ls (.int tx :: st) h Q) : gxV G Y d kc ks pc ls (.ref a :: st) h Q := by
  obtain ⟨k, hk, -, ha⟩ := hp
  revert ha
  refine k4 (p := fun k => h.1 a = some (.inr (11 + k, [.int rk, .int tx])) → _) hk ?_ ?_ ?_ ?_ <;> intro ha
  · exact gx_get (hY ▸ fX3_125_X12) ha rfl hd kk
  · exact gx_get (hY ▸ fX3_125_X13) ha rfl hd kk
  · exact gx_get (hY ▸ fX3_125_X14) ha rfl hd kk
  · exact gx_get (hY ▸ fX3_125_X15) ha rfl hd kk
end LB
