/-! ===== COMPONENT BL: chains in the making ===== -/
set_option maxRecDepth 100000
theorem exE.gr {h h' : gxH} {lo hi : Nat} (e : ∀ q, lo ≤ q → q < hi → h'.1 q = h.1 q) : ∀ {m r ev}, exE lo hi h m r ev → exE lo hi h' m r ev
  | 0, _, _, x => x
  | m + 1, r, ev, x => by
    have mv : ∀ {q v}, inR lo hi q → h.1 q = some v → h'.1 q = some v := fun i hv => by rw [e _ i.1 i.2]; exact hv
    obtain ⟨i1, x⟩ := x
    refine ⟨i1, ?_⟩
    rcases x with ⟨n, a1, e1⟩ | ⟨k, hk, a1, e1⟩ | ⟨r', ev', a1, a2, e1⟩ | ⟨r', ll, n, ev', la, lc, lr, le, a1, a2, ⟨i2, mc, e1, c, g, i3, b1, b2, b3⟩, a4, e2⟩
    · exact Or.inl ⟨n, mv i1 a1, e1⟩
    · exact Or.inr (Or.inl ⟨k, hk, mv i1 a1, e1⟩)
    · exact Or.inr (Or.inr (Or.inl ⟨r', ev', mv i1 a1, exE.gr e a2, e1⟩))
    · exact Or.inr (Or.inr (Or.inr ⟨r', ll, n, ev', la, lc, lr, le, mv i1 a1, exE.gr e a2, ⟨i2, mc, e1, c, g, i3, mv i2 b1, mv i3 b2, b3⟩, fun k hk => by
        obtain ⟨j1, j2, j3, j4, j5⟩ := a4 k hk
        exact ⟨j1, j2, j3, mv j1 j4, exE.gr e j5⟩, e2⟩))
theorem exE.up {h : gxH} {lo hi : Nat} : ∀ {m m' r ev}, m ≤ m' → exE lo hi h m r ev → exE lo hi h m' r ev
  | 0, _, _, _, _, x => absurd x (by unfold exE; exact id)
  | m + 1, 0, _, _, hm, _ => by omega
  | m + 1, m' + 1, r, ev, hm, x => by
    obtain ⟨i1, x⟩ := x
    refine ⟨i1, ?_⟩
    rcases x with x | x | ⟨r', ev', a1, a2, e1⟩ | ⟨r', ll, n, ev', la, lc, lr, le, a1, a2, a3, a4, e2⟩
    · exact Or.inl x
    · exact Or.inr (Or.inl x)
    · exact Or.inr (Or.inr (Or.inl ⟨r', ev', a1, exE.up (by omega) a2, e1⟩))
    · exact Or.inr (Or.inr (Or.inr ⟨r', ll, n, ev', la, lc, lr, le, a1, exE.up (by omega) a2, a3, fun k hk => by
        obtain ⟨j1, j2, j3, j4, j5⟩ := a4 k hk
        exact ⟨j1, j2, j3, j4, exE.up (by omega) j5⟩, e2⟩))
/-- an expression in a stretch of its own, apart from two cells -/
def eX (h : gxH) (lo m r : Nat) (ev : gxEv) (ll le : Nat) : Prop := ∃ bl bh, lo ≤ bl ∧ bh ≤ h.2 ∧ (ll < bl ∨ bh ≤ ll) ∧ (le < bl ∨ bh ≤ le) ∧ exE bl bh h m r ev
theorem eX.gr {h h' : gxH} {lo m r : Nat} {ev : gxEv} {ll le : Nat} (x : eX h lo m r ev ll le) (hz : h.2 ≤ h'.2) (e : ∀ q, lo ≤ q → q < h.2 → q ≠ ll → q ≠ le → h'.1 q = h.1 q) : eX h' lo m r ev ll le := by
  obtain ⟨bl, bh, h1, h2, h3, h4, h5⟩ := x
  exact ⟨bl, bh, h1, by omega, h3, h4, h5.gr (fun q a b => e q (by omega) (by omega) (by omega) (by omega))⟩
theorem eX.ex {h : gxH} {lo m r : Nat} {ev : gxEv} {ll le : Nat} (x : eX h lo m r ev ll le) : exE lo h.2 h m r ev := by
  obtain ⟨bl, bh, h1, h2, h3, h4, h5⟩ := x
  exact h5.mo h1 h2
/-- a chain with its links -/
def CL (G : gxG) (h : gxH) (lo m a1 ca : Nat) (ev0 ev : gxEv) (nl bl bh : Nat) : Prop := ∃ (ll le cap : Nat) (la lc lr : Nat → Nat) (les : Nat → gxEv), inR lo h.2 ca ∧ inR lo h.2 ll ∧ inR lo h.2 le ∧ h.1 ca = some (.inr (19, [.ref a1, .ref ll])) ∧ LV G h ll le cap nl la ∧ (cap = 1 ∨ cap ≤ 2 * nl) ∧ eX h lo m a1 ev0 ll le ∧
    (∀ k, k < nl → inR lo h.2 (la k) ∧ 20 ≤ lc k ∧ lc k ≤ 26 ∧ h.1 (la k) = some (.inr (lc k, [.ref (lr k)])) ∧ eX h lo m (lr k) (les k) ll le) ∧ (ev = fun a b c d => chE (ev0 a b c d) lc (fun k => les k a b c d) nl) ∧ (ll < bl ∨ bh ≤ ll) ∧ (le < bl ∨ bh ≤ le)
/-- one, and perhaps links behind it -/
def CQ (G : gxG) (h : gxH) (lo m a1 : Nat) (cv : Value) (ev0 ev : gxEv) (nl : Nat) : Prop :=
  (cv = .null ∧ nl = 0 ∧ ev = ev0 ∧ exE lo h.2 h m a1 ev0) ∨ ∃ ca, cv = .ref ca ∧ CL G h lo m a1 ca ev0 ev nl 0 0
theorem CL.gr {G : gxG} {h h' : gxH} {lo m a1 ca : Nat} {ev0 ev : gxEv} {nl bl bh : Nat} (x : CL G h lo m a1 ca ev0 ev nl bl bh) (hz : h.2 ≤ h'.2) (e : ∀ q, lo ≤ q → q < h.2 → h'.1 q = h.1 q) : CL G h' lo m a1 ca ev0 ev nl bl bh := by
  have mr : ∀ {q}, inR lo h.2 q → inR lo h'.2 q := fun z => ⟨z.1, Nat.lt_of_lt_of_le z.2 hz⟩
  obtain ⟨ll, le, cap, la, lc, lr, les, y2, y3, y4, y5, y6, y7, y8, y9, y10⟩ := x
  refine ⟨ll, le, cap, la, lc, lr, les, mr y2, mr y3, mr y4, by rw [e _ y2.1 y2.2]; exact y5, y6.fr hz (e _ y3.1 y3.2) (e _ y4.1 y4.2), y7, y8.gr hz (fun q a b _ _ => e q a b), fun k hk => ?_, y10⟩
  obtain ⟨j1, j2, j3, j4, j5⟩ := y9 k hk
  exact ⟨mr j1, j2, j3, by rw [e _ j1.1 j1.2]; exact j4, j5.gr hz (fun q a b _ _ => e q a b)⟩
theorem CQ.gr {G : gxG} {h h' : gxH} {lo m a1 : Nat} {cv : Value} {ev0 ev : gxEv} {nl : Nat} (x : CQ G h lo m a1 cv ev0 ev nl) (hz : h.2 ≤ h'.2) (e : ∀ q, lo ≤ q → q < h.2 → h'.1 q = h.1 q) : CQ G h' lo m a1 cv ev0 ev nl := by
  rcases x with ⟨y1, y2, y3, y4⟩ | ⟨ca, y1, y2⟩
  · exact Or.inl ⟨y1, y2, y3, (y4.gr e).mo (Nat.le_refl _) hz⟩
  · exact Or.inr ⟨ca, y1, y2.gr hz e⟩
/-- what it comes to -/
theorem CQ.fin {G : gxG} {h : gxH} {lo m a1 : Nat} {cv : Value} {ev0 ev : gxEv} {nl : Nat} (x : CQ G h lo m a1 cv ev0 ev nl) : (cv = .null ∧ exE lo h.2 h (m + 1) a1 ev) ∨ ∃ ca, cv = .ref ca ∧ exE lo h.2 h (m + 1) ca ev := by
  rcases x with ⟨y1, y2, y3, y4⟩ | ⟨ca, y1, ll, le, cap, la, lc, lr, les, y2, y3, y4, y5, y6, y7, y8, y9, y10⟩
  · exact Or.inl ⟨y1, by rw [y3]; exact y4.up (by omega)⟩
  · refine Or.inr ⟨ca, y1, y2, Or.inr (Or.inr (Or.inr ⟨a1, ll, nl, ev0, la, lc, lr, les, y5, y8.ex, y6.lsR y3 y4, fun k hk => ?_, y10.1⟩))⟩
    obtain ⟨j1, j2, j3, j4, j5⟩ := y9 k hk
    exact ⟨j1, j2, j3, j4, j5.ex⟩
section MBL
variable {G : gxG} {d : Nat} {h : gxH}
/-- the chain is begun, if it isn't -/
theorem c_chain (hd : 6 ≤ d) {lo m a1 : Nat} {cv : Value} {ev0 ev : gxEv} {nl : Nat} (hlo : gxN G ≤ lo) {h0 : gxH} (hlz : lo ≤ h0.2) (hz : h0.2 ≤ h.2) (hfr : ∀ q, lo ≤ q → q < h0.2 → h.1 q = h0.1 q) (hQ : CQ G h0 lo m a1 cv ev0 ev nl) : gxM G mX2_chain d 3 6 [.ref a1, cv] h (gxQr (fun ca h' => h.2 ≤ h'.2 ∧ h'.2 ≤ h.2 + 3 ∧ (∀ q, q < h.2 → h'.1 q = h.1 q) ∧ CL G h' lo m a1 ca ev0 ev nl h0.2 h.2)) := by
  rcases hQ with ⟨rfl, rfl, rfl, x1⟩ | ⟨ca, rfl, hC⟩
  · refine gxM_of rfl (Nat.le_of_ble_eq_true rfl) rfl ?_
    refine gx_aload_nN (pc := 0) dX2_chain_0 rfl ?_
    refine gx_ifnonnullN (pc := 1) dX2_chain_1 ?_
    refine nX2_318 (kc := 2) (ks := 4) (pc := 4) rfl dX2_chain_4 ?_
    have ha : (gxadd h (.inr (19, [.null, .null]))).1 h.2 = some (.inr (19, [.null, .null])) := gxadd_self _ _
    have f1 : ∀ q, q ≠ h.2 → (gxadd h (.inr (19, [.null, .null]))).1 q = h.1 q := fun q hq => gxadd_ne hq
    have s1 : (gxadd h (.inr (19, [.null, .null]))).2 = h.2 + 1 := rfl
    generalize gxadd h (.inr (19, [.null, .null])) = h1 at *
    refine gx_dup (pc := 7) dX2_chain_7 rfl ?_
    refine gx_aload_n (pc := 8) dX2_chain_8 rfl ?_
    refine gx_r0 ?_
    refine kX2_320 (kc := 0) (ks := 0) (mc := 2) (ms := 4) (pc := 9) rfl (c_chaini (d := d - 1) (by omega) (by omega) (by omega) ha a1) (by omega) (Nat.le_of_ble_eq_true rfl) dX2_chain_9 (fun h2 e2 => ?_)
    obtain ⟨s2, e2, l2, f2⟩ := e2
    rw [s1] at l2 s2 e2
    have fr : ∀ q, q < h.2 → h2.1 q = h.1 q := fun q hq => by rw [f2 q (by omega) (by omega), f1 q (by omega)]
    refine gx_goto (pc := 12) 16 dX2_chain_12 (by decide) ?_
    refine gx_areturn (pc := 16) rfl (Or.inl ⟨_, rfl⟩) (Or.inr ⟨_, rfl⟩) dX2_chain_16 ⟨_, rfl, by omega, by omega, fr, h.2 + 1, h.2 + 1 + 1, 1, fun _ => 0, fun _ => 0, fun _ => 0, fun _ => ev, ⟨by omega, by omega⟩, ⟨by omega, by omega⟩, ⟨by omega, by omega⟩, e2, l2, Or.inl rfl, ⟨lo, h0.2, Nat.le_refl _, by omega, by omega, by omega, x1.gr (fun q a b => by rw [fr q (by omega), hfr q a b])⟩, fun k hk => by omega, rfl, Or.inr (by omega), Or.inr (by omega)⟩
  · have hC' : CL G h lo m a1 ca ev0 ev nl h0.2 h.2 := by
      have mr : ∀ {q}, inR lo h0.2 q → inR lo h.2 q := fun z => ⟨z.1, Nat.lt_of_lt_of_le z.2 hz⟩
      obtain ⟨ll, le, cap, la, lc, lr, les, y2, y3, y4, y5, y6, y7, y8, y9, y10, _⟩ := hC
      refine ⟨ll, le, cap, la, lc, lr, les, mr y2, mr y3, mr y4, by rw [hfr _ y2.1 y2.2]; exact y5, y6.fr hz (hfr _ y3.1 y3.2) (hfr _ y4.1 y4.2), y7, y8.gr hz (fun q a b _ _ => hfr q a b), fun k hk => ?_, y10, Or.inl y3.2, Or.inl y4.2⟩
      obtain ⟨j1, j2, j3, j4, j5⟩ := y9 k hk
      exact ⟨mr j1, j2, j3, by rw [hfr _ j1.1 j1.2]; exact j4, j5.gr hz (fun q a b _ _ => hfr q a b)⟩
    refine gxM_room (Nat.zero_le _) (Nat.zero_le _) ?_
    refine gxM_of rfl (Nat.le_of_ble_eq_true rfl) rfl ?_
    refine gx_aload_n (pc := 0) dX2_chain_0 rfl ?_
    refine gx_ifnonnull (pc := 1) 15 dX2_chain_1 (by decide) ?_
    refine gx_aload_n (pc := 15) dX2_chain_15 rfl ?_
    exact gx_areturn (pc := 16) rfl (Or.inl ⟨_, rfl⟩) (Or.inr ⟨_, rfl⟩) dX2_chain_16 ⟨_, rfl, by omega, by omega, fun _ _ => rfl, hC'⟩
/-- a link's kind may stand in a list -/
theorem lk_el {c a : Nat} {vs : List Value} (h1 : 20 ≤ c) (h2 : c ≤ 26) (ha : h.1 a = some (.inr (c, vs))) : elO G h a := by
  have hc : c = 20 ∨ c = 21 ∨ c = 22 ∨ c = 23 ∨ c = 24 ∨ c = 25 ∨ c = 26 := by omega
  rcases hc with e | e | e | e | e | e | e <;> subst e
  · exact Or.inl ⟨20, _, _, ha, rfl, q2556⟩
  · exact Or.inl ⟨21, _, _, ha, rfl, q2557⟩
  · exact Or.inl ⟨22, _, _, ha, rfl, q2558⟩
  · exact Or.inl ⟨23, _, _, ha, rfl, q2559⟩
  · exact Or.inl ⟨24, _, _, ha, rfl, q2560⟩
  · exact Or.inl ⟨25, _, _, ha, rfl, q2561⟩
  · exact Or.inl ⟨26, _, _, ha, rfl, q2562⟩
theorem CL.ll {lo m a1 ca : Nat} {ev0 ev : gxEv} {nl bl bh : Nat} (x : CL G h lo m a1 ca ev0 ev nl bl bh) : ∃ (ll : Nat) (mc : Int32) (v : Value), h.1 ca = some (.inr (19, [.ref a1, .ref ll])) ∧ h.1 ll = some (.inr (32, [.int mc, v, .int (nI nl)])) := by
  obtain ⟨ll, le, cap, la, lc, lr, les, y2, y3, y4, y5, y6, y7, y8, y9, y10⟩ := x
  obtain ⟨mc, o1⟩ := y6.ob
  exact ⟨ll, mc, _, y5, o1⟩
/-- one more link -/
theorem c_linkadd (hd : 7 ≤ d) {lo m a1 ca ll : Nat} {ev0 ev : gxEv} {nl bl bh : Nat} (hlo : gxN G ≤ lo) (hC : CL G h lo m a1 ca ev0 ev nl bl bh) (hll : h.1 ca = some (.inr (19, [.ref a1, .ref ll]))) (hnl : nl ≤ 500) {a e c : Nat} {eve : gxEv} (ha : inR lo h.2 a) (hc1 : 20 ≤ c) (hc2 : c ≤ 26) (hva : h.1 a = some (.inr (c, [.ref e]))) (hbl : lo ≤ bl) (hbh : bh ≤ h.2) (he : exE bl bh h m e eve) : gxM G mJ2_add d 1 2000 [.ref ll, .ref a] h (gxQi (fun _ h' => CQ G h' lo m a1 (.ref ca) ev0 (fun x y u v => lkE c (ev x y u v) (eve x y u v)) (nl + 1) ∧ h.2 ≤ h'.2 ∧ h'.2 ≤ h.2 + 1 ∧ ∀ q, q < lo → h'.1 q = h.1 q)) := by
  obtain ⟨ll', le, cap, la, lc, lr, les, y2, y3, y4, y5, y6, y7, y8, y9, y10, o1, o2⟩ := hC
  have el : ll' = ll := by
    have := Option.some.inj (y5.symm.trans hll)
    injection this with this
    injection this with _ this
    injection this with _ this
    injection this with this
    injection this
  subst el
  obtain ⟨mc, q1⟩ := y6.ob
  obtain ⟨g, q2⟩ := y6.ar
  have ne : ∀ {q c vs}, h.1 q = some (.inr (c, vs)) → c ≤ 26 → q ≠ ll' ∧ q ≠ le := fun hq hc => ⟨fun e => by rw [e, q1] at hq; injection hq with hq; injection hq with hq; injection hq with hq; omega, fun e => by rw [e, q2] at hq; simp [gxq] at hq⟩
  refine gxM_post ?_ (gxM_room (Nat.le_refl _) (by omega) (c_LVadd hd y6 (by omega) (lk_el hc1 hc2 hva) ha.2 (ne hva hc2).1 (ne hva hc2).2 (fun k hk => by
    obtain ⟨j1, j2, j3, j4, j5⟩ := y9 k hk
    exact ⟨(ne j4 j3).1, j1.2, lk_el j2 j3 j4⟩)))
  rintro o h' ⟨r0, rfl, e', c', L', hz, fr⟩
  have hz' : h.2 ≤ h'.2 := by rcases hz with z | z <;> omega
  have mr : ∀ {q}, inR lo h.2 q → inR lo h'.2 q := fun z => ⟨z.1, Nat.lt_of_lt_of_le z.2 hz'⟩
  have e4 : inR lo h'.2 e' := by
    rcases hz with z | z
    · rw [z.1]; exact mr y4
    · exact ⟨by have := y4.1; have := y4.2; omega, by omega⟩
  have mvX : ∀ {r ev}, eX h lo m r ev ll' le → eX h' lo m r ev ll' e' := fun x => by
    obtain ⟨bl, bh, h1, h2, h3, h4, h5⟩ := x
    refine ⟨bl, bh, h1, by omega, h3, ?_, h5.gr (fun q a b => fr q (by omega) (by omega) (by omega))⟩
    rcases hz with z | z
    · rw [z.1]; exact h4
    · omega
  refine ⟨r0, rfl, Or.inr ⟨ca, rfl, ll', e', c', (fun k => if k < nl then la k else a), (fun k => if k < nl then lc k else c), (fun k => if k < nl then lr k else e), (fun k => if k < nl then les k else eve), mr y2, mr y3, e4, by rw [fr _ y2.2 (ne y5 (by omega)).1 (ne y5 (by omega)).2]; exact y5, L', ?_, mvX y8, fun k hk => ?_, ?_, Or.inr (Nat.zero_le _), Or.inr (Nat.zero_le _)⟩, hz', by rcases hz with z | z <;> omega, fun q hq => fr q (by have := y2.1; have := y2.2; omega) (by have := y3.1; omega) (by have := y4.1; omega)⟩
  · rcases hz with z | z
    · rw [z.2.1]; omega
    · right; omega
  · by_cases z : k < nl
    · obtain ⟨j1, j2, j3, j4, j5⟩ := y9 k z
      simp only [z, if_true]
      exact ⟨mr j1, j2, j3, by rw [fr _ j1.2 (ne j4 j3).1 (ne j4 j3).2]; exact j4, mvX j5⟩
    · simp only [z, if_false]
      exact ⟨mr ha, hc1, hc2, by rw [fr _ ha.2 (ne hva hc2).1 (ne hva hc2).2]; exact hva, mvX ⟨bl, bh, hbl, hbh, o1, o2, he⟩⟩
  · funext x y u v
    have cg : ∀ j, j ≤ nl → chE (ev0 x y u v) (fun k => if k < nl then lc k else c) (fun k => (if k < nl then les k else eve) x y u v) j = chE (ev0 x y u v) lc (fun k => les k x y u v) j := by
      intro j
      induction j with
      | zero => intro _; rfl
      | succ j ih => intro hj; rw [chE, chE, ih (by omega), if_pos (by omega), if_pos (by omega)]
    rw [chE, cg nl (Nat.le_refl _), y10]
    simp only [Nat.lt_irrefl, if_false]
end MBL
