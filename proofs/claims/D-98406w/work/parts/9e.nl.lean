/-! ===== COMPONENT BL: chains in the making ===== -/
set_option maxRecDepth 100000
theorem exE.gr {h h' : gxH} {lo hi : Nat} (e : ∀ q, lo ≤ q → q < hi → h'.1 q = h.1 q) : ∀ {m r ev}, exE lo hi h m r ev → exE lo hi h' m r ev
  | 0, _, _, x => x
  | m + 1, r, ev, x => by
    have mv : ∀ {q v}, inR lo hi q → h.1 q = some v → h'.1 q = some v := fun i hv => by rw [e _ i.1 i.2]; exact hv
    obtain ⟨i1, x⟩ := x
    refine ⟨i1, ?_⟩
    rcases x with ⟨n, a1, e1⟩ | ⟨k, hk, a1, e1⟩ | ⟨r', ev', a1, a2, e1⟩ | ⟨r', ll, n, ev', la, lc, lr, le, a1, a2, ⟨i2, mc, e1, c, g, i3, b1, b2, b3⟩, a4, e2⟩
    · exact Or.inl ⟨n, mv i1 a1, e1⟩
    · exact Or.inr (Or.inl ⟨k, hk, mv i1 a1, e1⟩)
    · exact Or.inr (Or.inr (Or.inl ⟨r', ev', mv i1 a1, exE.gr e a2, e1⟩))
    · exact Or.inr (Or.inr (Or.inr ⟨r', ll, n, ev', la, lc, lr, le, mv i1 a1, exE.gr e a2, ⟨i2, mc, e1, c, g, i3, mv i2 b1, mv i3 b2, b3⟩, fun k hk => by
        obtain ⟨j1, j2, j3, j4, j5⟩ := a4 k hk
        exact ⟨j1, j2, j3, mv j1 j4, exE.gr e j5⟩, e2⟩))
theorem exE.up {h : gxH} {lo hi : Nat} : ∀ {m m' r ev}, m ≤ m' → exE lo hi h m r ev → exE lo hi h m' r ev
  | 0, _, _, _, _, x => absurd x (by unfold exE; exact id)
  | m + 1, 0, _, _, hm, _ => by omega
  | m + 1, m' + 1, r, ev, hm, x => by
    obtain ⟨i1, x⟩ := x
    refine ⟨i1, ?_⟩
    rcases x with x | x | ⟨r', ev', a1, a2, e1⟩ | ⟨r', ll, n, ev', la, lc, lr, le, a1, a2, a3, a4, e2⟩
    · exact Or.inl x
    · exact Or.inr (Or.inl x)
    · exact Or.inr (Or.inr (Or.inl ⟨r', ev', a1, exE.up (by omega) a2, e1⟩))
    · exact Or.inr (Or.inr (Or.inr ⟨r', ll, n, ev', la, lc, lr, le, a1, exE.up (by omega) a2, a3, fun k hk => by
        obtain ⟨j1, j2, j3, j4, j5⟩ := a4 k hk
        exact ⟨j1, j2, j3, j4, exE.up (by omega) j5⟩, e2⟩))
/-- one, and perhaps links behind it -/
def CQ (G : gxG) (h : gxH) (lo m a1 : Nat) (cv : Value) (ev0 ev : gxEv) (nl : Nat) : Prop := exE lo h.2 h m a1 ev0 ∧
  ((cv = .null ∧ nl = 0 ∧ ev = ev0) ∨ ∃ (ca ll le cap : Nat) (la lc lr : Nat → Nat) (les : Nat → gxEv), cv = .ref ca ∧ inR lo h.2 ca ∧ inR lo h.2 ll ∧ inR lo h.2 le ∧ h.1 ca = some (.inr (19, [.ref a1, .ref ll])) ∧ LV G h ll le cap nl la ∧ (cap = 1 ∨ cap ≤ 2 * nl) ∧ 1 ≤ nl ∧
    (∀ k, k < nl → inR lo h.2 (la k) ∧ 20 ≤ lc k ∧ lc k ≤ 26 ∧ h.1 (la k) = some (.inr (lc k, [.ref (lr k)])) ∧ exE lo h.2 h m (lr k) (les k)) ∧ ev = fun a b c d => chE (ev0 a b c d) lc (fun k => les k a b c d) nl)
theorem CQ.gr {G : gxG} {h h' : gxH} {lo m a1 : Nat} {cv : Value} {ev0 ev : gxEv} {nl : Nat} (x : CQ G h lo m a1 cv ev0 ev nl) (hz : h.2 ≤ h'.2) (e : ∀ q, lo ≤ q → q < h.2 → h'.1 q = h.1 q) : CQ G h' lo m a1 cv ev0 ev nl := by
  have mr : ∀ {q}, inR lo h.2 q → inR lo h'.2 q := fun z => ⟨z.1, Nat.lt_of_lt_of_le z.2 hz⟩
  obtain ⟨x1, x2⟩ := x
  refine ⟨(x1.gr e).mo (Nat.le_refl _) hz, ?_⟩
  rcases x2 with x2 | ⟨ca, ll, le, cap, la, lc, lr, les, y1, y2, y3, y4, y5, y6, y7, y8, y9, y10⟩
  · exact Or.inl x2
  · refine Or.inr ⟨ca, ll, le, cap, la, lc, lr, les, y1, mr y2, mr y3, mr y4, by rw [e _ y2.1 y2.2]; exact y5, y6.fr hz (e _ y3.1 y3.2) (e _ y4.1 y4.2), y7, y8, fun k hk => ?_, y10⟩
    obtain ⟨j1, j2, j3, j4, j5⟩ := y9 k hk
    exact ⟨mr j1, j2, j3, by rw [e _ j1.1 j1.2]; exact j4, (j5.gr e).mo (Nat.le_refl _) hz⟩
/-- what it comes to -/
theorem CQ.fin {G : gxG} {h : gxH} {lo m a1 : Nat} {cv : Value} {ev0 ev : gxEv} {nl : Nat} (x : CQ G h lo m a1 cv ev0 ev nl) : (cv = .null ∧ exE lo h.2 h (m + 1) a1 ev) ∨ ∃ ca, cv = .ref ca ∧ exE lo h.2 h (m + 1) ca ev := by
  obtain ⟨x1, x2⟩ := x
  rcases x2 with ⟨y1, y2, y3⟩ | ⟨ca, ll, le, cap, la, lc, lr, les, y1, y2, y3, y4, y5, y6, y7, y8, y9, y10⟩
  · exact Or.inl ⟨y1, by rw [y3]; exact x1.up (by omega)⟩
  · exact Or.inr ⟨ca, y1, y2, Or.inr (Or.inr (Or.inr ⟨a1, ll, nl, ev0, la, lc, lr, les, y5, x1, y6.lsR y3 y4, y9, y10⟩))⟩
section MBL
variable {G : gxG} {d : Nat} {h : gxH}
/-- the chain is begun, if it isn't -/
theorem c_chain (hd : 6 ≤ d) {lo m a1 : Nat} {cv : Value} {ev0 ev : gxEv} {nl : Nat} (hlo : gxN G ≤ lo) (hlz : lo ≤ h.2) (hQ : CQ G h lo m a1 cv ev0 ev nl) : gxM G mX2_chain d 3 6 [.ref a1, cv] h (gxQr (fun ca h' => h.2 ≤ h'.2 ∧ h'.2 ≤ h.2 + 3 ∧ (∀ q, q < h.2 → h'.1 q = h.1 q) ∧ exE lo h'.2 h' m a1 ev0 ∧ ∃ (ll le cap : Nat) (la lc lr : Nat → Nat) (les : Nat → gxEv), inR lo h'.2 ca ∧ inR lo h'.2 ll ∧ inR lo h'.2 le ∧ h'.1 ca = some (.inr (19, [.ref a1, .ref ll])) ∧ LV G h' ll le cap nl la ∧ (cap = 1 ∨ cap ≤ 2 * nl) ∧
    (∀ k, k < nl → inR lo h'.2 (la k) ∧ 20 ≤ lc k ∧ lc k ≤ 26 ∧ h'.1 (la k) = some (.inr (lc k, [.ref (lr k)])) ∧ exE lo h'.2 h' m (lr k) (les k)) ∧ ev = fun a b c d => chE (ev0 a b c d) lc (fun k => les k a b c d) nl)) := by
  obtain ⟨x1, x2⟩ := hQ
  rcases x2 with ⟨rfl, rfl, rfl⟩ | ⟨ca, ll, le, cap, la, lc, lr, les, rfl, y2, y3, y4, y5, y6, y7, y8, y9, y10⟩
  · refine gxM_of rfl (Nat.le_of_ble_eq_true rfl) rfl ?_
    refine gx_aload_nN (pc := 0) dX2_chain_0 rfl ?_
    refine gx_ifnonnullN (pc := 1) dX2_chain_1 ?_
    refine nX2_318 (kc := 2) (ks := 4) (pc := 4) rfl dX2_chain_4 ?_
    have ha : (gxadd h (.inr (19, [.null, .null]))).1 h.2 = some (.inr (19, [.null, .null])) := gxadd_self _ _
    have f1 : ∀ q, q ≠ h.2 → (gxadd h (.inr (19, [.null, .null]))).1 q = h.1 q := fun q hq => gxadd_ne hq
    have s1 : (gxadd h (.inr (19, [.null, .null]))).2 = h.2 + 1 := rfl
    generalize gxadd h (.inr (19, [.null, .null])) = h1 at *
    refine gx_dup (pc := 7) dX2_chain_7 rfl ?_
    refine gx_aload_n (pc := 8) dX2_chain_8 rfl ?_
    refine gx_r0 ?_
    refine kX2_320 (kc := 0) (ks := 0) (mc := 2) (ms := 4) (pc := 9) rfl (c_chaini (d := d - 1) (by omega) (by omega) (by omega) ha a1) (by omega) (Nat.le_of_ble_eq_true rfl) dX2_chain_9 (fun h2 e2 => ?_)
    obtain ⟨s2, e2, l2, f2⟩ := e2
    rw [s1] at l2 s2 e2
    have fr : ∀ q, q < h.2 → h2.1 q = h.1 q := fun q hq => by rw [f2 q (by omega) (by omega), f1 q (by omega)]
    refine gx_goto (pc := 12) 16 dX2_chain_12 (by decide) ?_
    refine gx_areturn (pc := 16) rfl (Or.inl ⟨_, rfl⟩) (Or.inr ⟨_, rfl⟩) dX2_chain_16 ⟨_, rfl, by omega, by omega, fr, (x1.gr (fun q _ b => fr q b)).mo (Nat.le_refl _) (by omega), h.2 + 1, h.2 + 1 + 1, 1, fun _ => 0, fun _ => 0, fun _ => 0, fun _ => ev, ⟨by omega, by omega⟩, ⟨by omega, by omega⟩, ⟨by omega, by omega⟩, e2, l2, Or.inl rfl, fun k hk => by omega, rfl⟩
  · refine gxM_room (Nat.zero_le _) (Nat.zero_le _) ?_
    refine gxM_of rfl (Nat.le_of_ble_eq_true rfl) rfl ?_
    refine gx_aload_n (pc := 0) dX2_chain_0 rfl ?_
    refine gx_ifnonnull (pc := 1) 15 dX2_chain_1 (by decide) ?_
    refine gx_aload_n (pc := 15) dX2_chain_15 rfl ?_
    exact gx_areturn (pc := 16) rfl (Or.inl ⟨_, rfl⟩) (Or.inr ⟨_, rfl⟩) dX2_chain_16 ⟨_, rfl, by omega, by omega, fun _ _ => rfl, x1, ll, le, cap, la, lc, lr, les, y2, y3, y4, y5, y6, y7, y9, y10⟩
end MBL
