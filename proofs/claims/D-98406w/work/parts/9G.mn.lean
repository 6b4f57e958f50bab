/-! ===== COMPONENT AN: lent; a person; counts ===== -/
set_option maxRecDepth 100000
section AN0
variable {G : gxG} {Y : gxY} {d kc ks pc : Nat} {ls : List (Option Value)} {st : List Value} {h : gxH} {Q : Outcome → gxH → Prop}
theorem gxV_post {Q1 : Outcome → gxH → Prop} (hq : ∀ o h', Q o h' → Q1 o h') (x : gxV G Y d kc ks pc ls st h Q) : gxV G Y d kc ks pc ls st h Q1 := by
  intro p e R s m args below meth c H locs cells slots la A T hT X
  obtain ⟨t, b1, o, h', L, c1, c2, c3, c4⟩ := x p e R s m args below meth c H locs cells slots la A T hT X
  exact ⟨t, b1, o, h', L, c1, c2, hq _ _ c3, c4⟩
/-- nothing such: the exception is made and thrown -/
theorem gx_nsee {pc3 pc4 pc7 : Nat} (e3 : pc3 = pc + 3) (e4 : pc4 = pc + 4) (e7 : pc7 = pc + 7) (hY : Y.1.cls = "PaidSecrets") (hN : gxN G ≤ h.2) (hd1 : 6 ≤ d) (h0 : decode Y.2.1 pc = .ok (.new 150, 3)) (h3 : decode Y.2.1 pc3 = .ok (.dup, 1)) (h4 : decode Y.2.1 pc4 = .ok (.invokespecial 152, 3)) (h7 : decode Y.2.1 pc7 = .ok (.athrow, 1)) (ho : gxout Y pc7 = true) (kk : ∀ h', h'.2 = h.2 + 1 → lowE h.2 h h' → (∃ fs, h'.1 h.2 = some (.inr (35, fs))) → Q (.threw h.2) h') : gxV G Y d (kc + 1) (ks + 6) pc ls [] h Q := by
  subst e3
  subst e4
  subst e7
  refine nX1_150 (pc := pc) hY h0 ?_
  refine gx_dup (pc := pc + 3) h3 rfl ?_
  refine gx_thr (pc := pc + 4) (ci := 35) (names := ["java/lang/RuntimeException", "java/lang/Exception"]) (cls0 := "java/util/NoSuchElementException") tyJ18 rfl in_J18 tyJ18_ok nmJ18 (by decide) rfl rfl rfl rfl q1780 q771 (by decide +kernel) (by decide +kernel) gxw_ch3 (Or.inl q1788) (Or.inl q1787) (hY ▸ q1786) (gxadd_self _ _) hN (by decide) rfl (by show 2 + 4 ≤ d; omega) (Nat.le_of_ble_eq_true rfl) h4 (fun u v => ?_)
  refine gx_athrow (pc := pc + 7) h7 ?_
  refine gxT_out ho (kk _ rfl (fun q hq => ?_) ⟨_, gxup_self _ _ _⟩)
  rw [gxup_ne (by omega)]
  exact gxadd_ne (by omega)
end AN0
/-- the worth does not look beyond a row's first 86 -/
theorem spWorth_row {A : Nat → Nat → Int32} {P S E : Nat} {w : Option gxEv} (hM : mT A P S E w) {s s' : Nat → Int32} (hs' : ∀ j, j < 86 → s' j = s j) (w' : Option gxEv) (P' : Nat) : ∀ f k, k < S → spWorth w' (setS A s') P' f k = spWorth w' (setS A s) P' f k := by
  intro f
  induction f with
  | zero => intro k _; rfl
  | succ f ih =>
    intro k hk
    obtain ⟨p, hp, ep⟩ := hM.2.2.2.2.2.2.1 k hk
    have hP6 := hM.2.1
    have hS10 := hM.2.2.2.1
    have c : (A 17 k).toNatClampNeg = p := by rw [ep]; exact nI_clamp (by omega)
    have b : spBase w' (setS A s') P' k (s' k) = spBase w' (setS A s) P' k (s k) := by
      unfold spBase
      simp only [setS_50, setS_ne (show (13 : Nat) ≠ 50 by decide), setS_ne (show (17 : Nat) ≠ 50 by decide), setS_ne (show (18 : Nat) ≠ 50 by decide), c]
      rw [hs' k (by omega), hs' 85 (by omega), hs' (70 + p) (by omega)]
    rw [spWorth, spWorth]
    simp only [setS_50, setS_ne (show (19 : Nat) ≠ 50 by decide)]
    rw [hs' 76 (by omega), b]
    rcases hM.2.2.2.2.2.2.2.1 k hk with e | ⟨o, ho, e⟩
    · have m1 : ((-1 : Int32) < 0) := by decide
      rw [e]; simp only [m1, if_true]
    · rw [e, nI_clamp (by omega), ih o (by omega)]
theorem spW_row {A : Nat → Nat → Int32} {P S E : Nat} {w : Option gxEv} (hM : mT A P S E w) {s s' : Nat → Int32} (hs' : ∀ j, j < 86 → s' j = s j) {k : Nat} (hk : k < S) : spW w (setS A s') P k = spW w (setS A s) P k := spWorth_row hM hs' w P _ k hk
theorem spLend_lt {s : Nat → Int32} {p q : Nat} {n : Int32} {j : Nat} (hj : j < 86) : spLend s p q n j = s j := by simp only [spLend, upd]; rw [if_neg (by omega), if_neg (by omega)]
theorem TT.low {h h' : gxH} {lo hi tk ta fa P S E : Nat} {A : Nat → Nat → Int32} {s : Nat → Int32} {w : Option gxEv} {b : Bool} (hX : TT h lo hi tk ta fa A s P S E w b) (l : lowE h.2 h h') (hlt : tk + 6 ≤ h.2) (hhi : hi ≤ h.2) : TT h' lo hi tk ta fa A s P S E w b := by
  refine ⟨hX.1.fr (fun q q1 q2 _ => l q (by omega)) ?_, hX.2.1.fr (fun q _ q2 => l q (by omega)), hX.2.2⟩
  obtain ⟨f, hf⟩ := hX.1.2.2.1
  have := hX.1.2.1.2
  exact ⟨f, by rw [l fa (by omega)]; exact hf⟩
theorem BH.tE {G : gxG} {h h' : gxH} {bl be bc n tk ta fa : Nat} {bf : Nat → Nat} {s : Nat → Int32} {b : Bool} (hB : BH G h bl be bc n bf) (hK : TK h tk ta s b) (hf : fcA h fa) (e : tE tk fa h h') : BH G h' bl be bc n bf := by
  have o := e.o hK hf
  obtain ⟨y1, y2, y3⟩ := hB
  refine ⟨y1, by rw [e.1]; exact y2, ?_⟩
  rcases y3 with ⟨u1, u2, mc, t, u3, u4⟩ | ⟨u1, u2, u3, u4, u5, u6, g, ⟨mc, u7, u8⟩, u9⟩
  · exact Or.inl ⟨u1, u2, mc, t, u3, o.2 bl _ u4 (fun v q => by cases q) (fun n f q => by cases q)⟩
  · exact Or.inr ⟨u1, u2, by rw [e.1]; exact u3, u4, u5, u6, g, ⟨mc, o.2 bl _ u7 (fun v q => by cases q) (fun n f q => by cases q), o.2 be _ u8 (fun v q => by simp [gxq] at q) (fun n f q => by simp [gxq] at q)⟩, u9⟩
theorem BH.low {G : gxG} {h h' : gxH} {bl be bc n : Nat} {bf : Nat → Nat} (hB : BH G h bl be bc n bf) (l : lowE h.2 h h') (hz : h.2 ≤ h'.2) : BH G h' bl be bc n bf := by
  obtain ⟨y1, y2, y3⟩ := hB
  refine ⟨y1, by omega, ?_⟩
  rcases y3 with ⟨u1, u2, mc, t, u3, u4⟩ | ⟨u1, u2, u3, u4, u5, u6, g, ⟨mc, u7, u8⟩, u9⟩
  · exact Or.inl ⟨u1, u2, mc, t, u3, by rw [l bl y2]; exact u4⟩
  · exact Or.inr ⟨u1, u2, by omega, u4, u5, u6, g, ⟨mc, by rw [l bl y2]; exact u7, by rw [l be u3]; exact u8⟩, u9⟩
/-- kept, and the talk changed, in one view -/
def KF (G : gxG) (h h' : gxH) (tk ta fa bl be bc n : Nat) (bf : Nat → Nat) (s s' : Nat → Int32) (b : Bool) : Prop := ∃ be' bc', TK h' h.2 ta s b ∧ TK h' tk ta s' b ∧ BH G h' bl be' bc' (kpN n) (bfN bf n h.2) ∧ h.2 + 6 ≤ h'.2 ∧ h'.2 ≤ h.2 + 7 ∧ ((be' = be ∧ bc' = bc) ∨ (be' = h.2 + 6 ∧ h'.2 = h.2 + 7)) ∧ (∀ q, q < h.2 → q ≠ bl → (bc = 0 ∨ q ≠ be) → (q < tk ∨ tk + 6 ≤ q) → q ≠ fa → h'.1 q = h.1 q) ∧ fcA h' fa
section AN
variable {G : gxG} {d : Nat} {h : gxH} {x r tk tr gl sl bl py pt ng ft mk lo hi ta fa P S E be bc n : Nat} {gg : Int64} {A : Nat → Nat → Int32} {s : Nat → Int32} {w : Option gxEv} {b : Bool} {bf : Nat → Nat}
theorem KT.kf {h' : gxH} {s' : Nat → Int32} (hk : KT G h h' tk ta fa bl be bc n bf s s' b) (hB : BH G h bl be bc n bf) (hX : TT h lo hi tk ta fa A s P S E w b) (hlt : tk + 6 ≤ h.2) (hhi : hi ≤ h.2) (dbl : bl < lo ∨ hi ≤ bl) (dbe : bc = 0 ∨ be < lo ∨ hi ≤ be) : KF G h h' tk ta fa bl be bc n bf s s' b := by
  obtain ⟨h1, hp, K, e⟩ := hk
  have X1 := hp.tt hB hX hlt hhi dbl dbe
  obtain ⟨be', bc', k1, k2, k3, k4, k5, k6⟩ := hp
  have hfa := hX.1.2.1.2
  refine ⟨be', bc', k1.fr (fun q q1 q2 => e.2.1 q (by omega) (by omega)), K, k2.tE X1.2.1 X1.1.2.2.1 e, by rw [e.1]; exact k3, by rw [e.1]; exact k4, by rw [e.1]; exact k5, fun q q1 q2 q3 q4 q5 => by rw [e.2.1 q q4 q5]; exact k6 q q1 q2 q3, e.2.2 X1.1.2.2.1⟩
theorem out_ne {lo hi q a : Nat} (d : a < lo ∨ hi ≤ a) (h1 : lo ≤ q) (h2 : q < hi) : q ≠ a := by omega
theorem out_ne2 {lo hi q a c : Nat} (d : c = 0 ∨ a < lo ∨ hi ≤ a) (h1 : lo ≤ q) (h2 : q < hi) : c = 0 ∨ q ≠ a := by omega
theorem lend71 (hN : gxN G ≤ lo) (hX0 : mT A P S E w) (hd : 96 ≤ d) {h2 : gxH} {p' q' k' : Nat} (hp' : p' < P) (hq' : q' < P) (hk' : k' < S) (hhi : hi ≤ h.2) (hlt : tk + 6 ≤ h.2) (hxz : x < h.2) (dbl : bl < lo ∨ hi ≤ bl) (dbe : bc = 0 ∨ be < lo ∨ hi ≤ be)
    (y1 : p' ≠ q') (y2 : A 17 k' = nI q') (y3 : ¬ (s k' >>> (nI p' &&& 31)) &&& 1 = 0) (y4 : ¬ s 122 = 12) (K2 : TK h2 tk ta (spLend s p' q' (spW w (setS A s) P k')) true) (E2 : ∀ q, q < h.2 → (q < tk ∨ tk + 6 ≤ q) → q ≠ fa → h2.1 q = h.1 q) (X2 : TT h2 lo hi tk ta fa A (spLend s p' q' (spW w (setS A s) P k')) P S E w true) (B2 : BH G h2 bl be bc n bf) (s2 : h2.2 = h.2 + 6) (hx2 : XF h2 x r tk tr gl sl bl py pt ng ft gg mk) (hxb : x ≠ bl ∧ (bc = 0 ∨ x ≠ be)) (N2 : TK h2 h.2 ta s true) :
    ∀ (h3 : gxH) (n1 : Nat) (f1 : Nat → Nat), n1 < 16 → h3.2 = h2.2 → (∀ q, q ≠ bl → (bc = 0 ∨ q ≠ be) → h3.1 q = h2.1 q) → BH G h3 bl be bc n1 f1 → BT h3 n1 f1 → kpN n = n1 + 1 → (∀ k, k < n1 + 1 → bfN bf n h.2 k = if k < n1 then f1 k else h.2) → gxV G mX1_lend d 1 64 71 [some (.ref x), some (.int (nI p')), some (.int (nI q')), some (.int (nI k')), some (.ref h.2)] [] h3 (gxQi (fun v h' => v = spW w (setS A s) P k' ∧ KF G h h' tk ta fa bl be bc n bf s (spLend s p' q' (spW w (setS A s) P k')) true)) := by
  have hS10 := hX0.2.2.2.1
  intro h3 n1 f1 hn1 z1 z2 B3 T3 z3 z4
  have hx : h3.1 x = some (.inr (0, [.ref r, .ref tk, .ref tr, .ref gl, .ref sl, .ref bl, .ref py, .ref pt, .ref ng, .ref ft, .long gg, .ref mk])) := by rw [z2 x hxb.1 hxb.2]; exact hx2
  have N3 : TK h3 h.2 ta s true := N2.BHf B2 (fun q _ q1 q2 => z2 q q1 q2) (by omega)
  have K3 : TK h3 tk ta _ true := K2.BHf B2 (fun q _ q1 q2 => z2 q q1 q2) (by omega)
  obtain ⟨_, _, _, _, _, hnt, _⟩ := id N3
  obtain ⟨_, _, hbl⟩ := B3.sz
  refine gx_aload_n (pc := 71) dX1_lend_71 rfl ?_
  refine gx_get (pc := 72) fX1_60 hx rfl dX1_lend_72 ?_
  refine gx_aload (pc := 75) dX1_lend_75 rfl ?_
  refine gx_r0 ?_
  refine kX1_236 (kc := 0) (ks := 0) (mc := 1) (ms := 64) (pc := 77) rfl (c_BHadd (d := d - 1) (by omega) B3 hn1 (fun k hk => (T3 k hk).1) (fun k hk => (T3 k hk).2) ⟨_, hnt⟩ (by omega)) (gxRc.of rfl hbl) (by omega) (Nat.le_of_ble_eq_true rfl) dX1_lend_77 (fun r4 h4 e4 => ?_)
  obtain ⟨be', bc', B4, s3, s4, be4, f4⟩ := e4
  rw [z1, s2] at f4 s3 s4 be4
  have fr : ∀ q, q < h.2 + 6 → q ≠ bl → (bc = 0 ∨ q ≠ be) → h4.1 q = h2.1 q := fun q q1 q2 q3 => by rw [f4 q q1 q2 q3, z2 q q2 q3]
  have N4 : TK h4 h.2 ta s true := N2.BHf B2 (fun q q1 q2 q3 => fr q (by omega) q2 q3) (by omega)
  have K4 : TK h4 tk ta _ true := K2.BHf B2 (fun q q1 q2 q3 => fr q (by omega) q2 q3) (by omega)
  have fr2 : ∀ q, lo ≤ q → q < hi → h4.1 q = h2.1 q := fun q q1 q2 => fr q (by omega) (out_ne dbl q1 q2) (out_ne2 dbe q1 q2)
  have X4 : TT h4 lo hi tk ta fa A (spLend s p' q' (spW w (setS A s) P k')) P S E w true := by
    refine ⟨X2.1.fr (fun q q1 q2 _ => fr2 q q1 q2) ?_, K4, X2.2.2⟩
    obtain ⟨f, hf⟩ := X2.1.2.2.1
    exact ⟨f, by rw [fr2 fa X2.1.2.1.1 X2.1.2.1.2]; exact hf⟩
  have hx : h4.1 x = some (.inr (0, [.ref r, .ref tk, .ref tr, .ref gl, .ref sl, .ref bl, .ref py, .ref pt, .ref ng, .ref ft, .long gg, .ref mk])) := by rw [fr x (by omega) hxb.1 hxb.2]; exact hx2
  obtain ⟨_, _, _, _, _, htk, _⟩ := id K4
  refine gx_pop (pc := 80) dX1_lend_80 rfl ?_
  refine gx_aload_n (pc := 81) dX1_lend_81 rfl ?_
  refine gx_get (pc := 82) fX1_40 hx rfl dX1_lend_82 ?_
  refine gx_iload_n (pc := 85) dX1_lend_85 rfl ?_
  refine kX1_210 (kc := 0) (ks := 0) (mc := 0) (ms := 0) (pc := 86) rfl (c_Tworth hN k' hk' (d - 1) h4 (by omega) X4) (gxRc.of rfl htk) (by omega) (Nat.le_of_ble_eq_true rfl) dX1_lend_86 (fun r5 h5 e5 => ?_)
  obtain ⟨rfl, e5⟩ := e5
  have B5 := B4.tE (fa := fa) (tk := tk) K4 X4.1.2.2.1 e5.t
  refine gx_ireturn (pc := 89) rfl dX1_lend_89 ⟨_, rfl, spW_row hX0 (fun j hj => spLend_lt hj) hk', be', bc', N4.fE X4.1.2.2.1 e5, K4.fE X4.1.2.2.1 e5, ?_, by rw [e5.1]; omega, by rw [e5.1]; omega, ?_, fun q q1 q2 q3 q4 q5 => ?_, e5.2.2 X4.1.2.2.1⟩
  · rw [z3]
    obtain ⟨y1, y2, y3⟩ := B5
    refine ⟨y1, y2, ?_⟩
    rcases y3 with ⟨u1, u2, u3⟩ | ⟨u1, u2, u3, u4, u5, u6, g, u7, u8, u9⟩
    · omega
    · exact Or.inr ⟨u1, u2, u3, u4, u5, u6, g, u7, fun k hk => by rw [u8 k hk, z4 k hk], u9⟩
  · rw [e5.1]
    rcases be4 with z | ⟨z, z'⟩
    · exact Or.inl z
    · exact Or.inr ⟨z, by omega⟩
  · rw [e5.2.1 q q5, fr q (by omega) q2 q3, E2 q q1 q4 q5]
theorem c_Xlend (nz : gxN G ≤ h.2) (hN : gxN G ≤ lo) (hn : gxN G ≤ tk) (hxz : x < h.2) (hf : fa < tk ∨ tk + 6 ≤ fa) (dj : tk + 6 ≤ lo ∨ hi ≤ tk) (hO : XF h x r tk tr gl sl bl py pt ng ft gg mk) (hX : TT h lo hi tk ta fa A s P S E w b) (hlt : tk + 6 ≤ h.2) (hhi : hi ≤ h.2) (dbl : bl < lo ∨ hi ≤ bl) (dbe : bc = 0 ∨ be < lo ∨ hi ≤ be) (hB : BH G h bl be bc n bf) (hT : BT h n bf) (hn16 : n ≤ 16) (hb : b = true) (dbt : ∀ k, k < n → bf k < tk ∨ tk + 6 ≤ bf k) (dbf : ∀ k, k < n → bf k ≠ fa) (hd : 96 ≤ d) (p q k : Int32) : gxM G mX1_lend d 7 139 [.ref x, .int p, .int q, .int k] h (gxQi (fun v h' => (¬ (∃ p' q' k', p' < P ∧ q' < P ∧ k' < S ∧ p = nI p' ∧ q = nI q' ∧ k = nI k' ∧ p' ≠ q' ∧ A 17 k' = nI q' ∧ ¬ (s k' >>> (nI p' &&& 31)) &&& 1 = 0 ∧ ¬ s 122 = 12) ∧ v = -1 ∧ lowE h.2 h h' ∧ (h'.2 = h.2 ∨ h'.2 = h.2 + 6)) ∨ ∃ p' q' k', p' < P ∧ q' < P ∧ k' < S ∧ p = nI p' ∧ q = nI q' ∧ k = nI k' ∧ p' ≠ q' ∧ A 17 k' = nI q' ∧ ¬ (s k' >>> (nI p' &&& 31)) &&& 1 = 0 ∧ ¬ s 122 = 12 ∧ v = spW w (setS A s) P k' ∧ KF G h h' tk ta fa bl be bc n bf s (spLend s p' q' (spW w (setS A s) P k')) true)) := by
  subst hb
  have hx := hO
  have hP6 := hX.2.2.2.1
  have hS10 := hX.2.2.2.2.2.1
  obtain ⟨_, _, _, _, _, htk, _⟩ := id hX.2.1
  refine gxM_of rfl (Nat.le_of_ble_eq_true rfl) rfl ?_
  have N : ¬ (∃ p' q' k', p' < P ∧ q' < P ∧ k' < S ∧ p = nI p' ∧ q = nI q' ∧ k = nI k' ∧ p' ≠ q' ∧ A 17 k' = nI q' ∧ ¬ (s k' >>> (nI p' &&& 31)) &&& 1 = 0 ∧ ¬ s 122 = 12) → gxV G mX1_lend d 7 139 24 [some (.ref x), some (.int p), some (.int q), some (.int k), none] [] h (gxQi (fun v h' => (¬ (∃ p' q' k', p' < P ∧ q' < P ∧ k' < S ∧ p = nI p' ∧ q = nI q' ∧ k = nI k' ∧ p' ≠ q' ∧ A 17 k' = nI q' ∧ ¬ (s k' >>> (nI p' &&& 31)) &&& 1 = 0 ∧ ¬ s 122 = 12) ∧ v = -1 ∧ lowE h.2 h h' ∧ (h'.2 = h.2 ∨ h'.2 = h.2 + 6)) ∨ ∃ p' q' k', p' < P ∧ q' < P ∧ k' < S ∧ p = nI p' ∧ q = nI q' ∧ k = nI k' ∧ p' ≠ q' ∧ A 17 k' = nI q' ∧ ¬ (s k' >>> (nI p' &&& 31)) &&& 1 = 0 ∧ ¬ s 122 = 12 ∧ v = spW w (setS A s) P k' ∧ KF G h h' tk ta fa bl be bc n bf s (spLend s p' q' (spW w (setS A s) P k')) true)) := by
    intro hh
    refine gx_iconst (pc := 24) (v := (-1)) dX1_lend_24 (by decide) ?_
    exact gx_ireturn (pc := 25) rfl dX1_lend_25 (⟨_, rfl, Or.inl ⟨hh, rfl, fun _ _ => rfl, Or.inl rfl⟩⟩)
  refine gx_aload_n (pc := 0) dX1_lend_0 rfl ?_
  refine gx_iload_n (pc := 1) dX1_lend_1 rfl ?_
  refine kX1_146 (kc := 7) (ks := 139) (mc := 0) (ms := 0) (pc := 2) rfl (c_XisPerson (d := d - 1) (by omega) hO.O hX p) (gxRc.of rfl hx) (by omega) (Nat.le_of_ble_eq_true rfl) dX1_lend_2 (fun r1 h1 e1 => ?_)
  obtain ⟨e1, e2⟩ := e1
  subst h1
  refine gx_if_eq (pc := 5) 24 dX1_lend_5 (by decide) (fun c1 => ?_) (fun c1 => ?_)
  · rcases e1 with ⟨z, rfl⟩ | ⟨z, rfl⟩
    · exact absurd c1 (by decide)
    · exact N (fun ⟨p', q', k', h1, h2, h3, h4, _⟩ => z ⟨p', h1, h4⟩)
  · rcases e1 with ⟨⟨p', hp', ep⟩, rfl⟩ | ⟨z, rfl⟩
    · refine gx_aload_n (pc := 8) dX1_lend_8 rfl ?_
      refine gx_iload_n (pc := 9) dX1_lend_9 rfl ?_
      refine kX1_146 (kc := 7) (ks := 139) (mc := 0) (ms := 0) (pc := 10) rfl (c_XisPerson (d := d - 1) (by omega) hO.O hX q) (gxRc.of rfl hx) (by omega) (Nat.le_of_ble_eq_true rfl) dX1_lend_10 (fun r1 h1 e1 => ?_)
      obtain ⟨e1, e2⟩ := e1
      subst h1
      refine gx_if_eq (pc := 13) 24 dX1_lend_13 (by decide) (fun c2 => ?_) (fun c2 => ?_)
      · rcases e1 with ⟨z, rfl⟩ | ⟨z, rfl⟩
        · exact absurd c2 (by decide)
        · exact N (fun ⟨p', q', k', h1, h2, h3, h4, h5, _⟩ => z ⟨q', h2, h5⟩)
      · rcases e1 with ⟨⟨q', hq', eq⟩, rfl⟩ | ⟨z, rfl⟩
        · refine gx_aload_n (pc := 16) dX1_lend_16 rfl ?_
          refine gx_iload_n (pc := 17) dX1_lend_17 rfl ?_
          refine kX1_186 (kc := 7) (ks := 139) (mc := 0) (ms := 0) (pc := 18) rfl (c_XisSecret (d := d - 1) (by omega) hO.O hX k) (gxRc.of rfl hx) (by omega) (Nat.le_of_ble_eq_true rfl) dX1_lend_18 (fun r1 h1 e1 => ?_)
          obtain ⟨e1, e2⟩ := e1
          subst h1
          refine gx_if_ne (pc := 21) 26 dX1_lend_21 (by decide) (fun c3 => ?_) (fun c3 => ?_)
          · rcases e1 with ⟨⟨k', hk', ek⟩, rfl⟩ | ⟨z, rfl⟩
            · subst ep
              subst eq
              subst ek
              refine gx_aload_n (pc := 26) dX1_lend_26 rfl ?_
              refine gx_get (pc := 27) fX1_40 hx rfl dX1_lend_27 ?_
              refine kX1_232 (kc := 1) (ks := 64) (mc := 6) (ms := 75) (pc := 30) rfl (c_copied (d := d - 1) nz (by omega) hlt hX.2.1) (gxRc.of rfl htk) (by omega) (Nat.le_of_ble_eq_true rfl) dX1_lend_30 (fun r1 h1 e1 => ?_)
              obtain ⟨rfl, K1, s1, l1⟩ := e1
              have X1 := hX.low l1 hlt hhi
              have O1 : XF h1 x r tk tr gl sl bl py pt ng ft gg mk := by show h1.1 x = _; rw [l1 x hxz]; exact hO
              have hx := O1
              have B1 := hB.low l1 (by omega)
              clear htk
              obtain ⟨_, _, _, _, _, htk, _⟩ := id X1.2.1
              refine gx_astore (pc := 33) dX1_lend_33 (by decide) rfl ?_
              refine gx_aload_n (pc := 35) dX1_lend_35 rfl ?_
              refine gx_get (pc := 36) fX1_40 hx rfl dX1_lend_36 ?_
              refine gx_iload_n (pc := 39) dX1_lend_39 rfl ?_
              refine gx_iload_n (pc := 40) dX1_lend_40 rfl ?_
              refine gx_iload_n (pc := 41) dX1_lend_41 rfl ?_
              refine kX1_268 (kc := 1) (ks := 64) (mc := 0) (ms := 0) (pc := 42) rfl (c_Xlends (d := d - 1) hN hn (by omega) hf dj X1 p' q' k' hp' hq' hk') (gxRc.of rfl htk) (by omega) (Nat.le_of_ble_eq_true rfl) dX1_lend_42 (fun r2 h2 e2 => ?_)
              have hfa := hX.1.2.1.2
              refine gx_if_ne (pc := 45) 50 dX1_lend_45 (by decide) (fun c4 => ?_) (fun c4 => ?_)
              · rcases e2 with ⟨_, rfl, _⟩ | ⟨⟨y1, y2, y3, y4⟩, rfl, K2, E2⟩
                · exact absurd rfl c4
                · have X2 : TT h2 lo hi tk ta fa A (spLend s p' q' (spW w (setS A s) P k')) P S E w true := ⟨X1.1.tE E2 dj, K2, X1.2.2⟩
                  have B2 := B1.tE X1.2.1 X1.1.2.2.1 E2
                  have s2 : h2.2 = h.2 + 6 := by rw [E2.1]; exact s1
                  have hx2 : h2.1 x = some (.inr (0, [.ref r, .ref tk, .ref tr, .ref gl, .ref sl, .ref bl, .ref py, .ref pt, .ref ng, .ref ft, .long gg, .ref mk])) := (E2.o X1.2.1 X1.1.2.2.1).2 x _ O1 (fun v q => by cases q) (fun n f q => by cases q)
                  have hxb : x ≠ bl ∧ (bc = 0 ∨ x ≠ be) := by
                    obtain ⟨z1, z2, z3⟩ := B2
                    rcases z3 with ⟨y1, y2, mc, t, y3, y4⟩ | ⟨y1, y2, y3, y4, y5, y6, g, ⟨mc, y7, y8⟩, y9⟩
                    · refine ⟨fun e => ?_, Or.inl y2⟩
                      rw [← e, hx2] at y4; cases y4
                    · refine ⟨fun e => ?_, Or.inr (fun e => ?_)⟩
                      · rw [← e, hx2] at y7; cases y7
                      · rw [← e, hx2] at y8; simp [gxq] at y8
                  have T2 : BT h2 n bf := fun k hk => by
                    obtain ⟨⟨vs, hvs⟩, hlt⟩ := hT k hk
                    exact ⟨⟨vs, by rw [E2.2.1 _ (dbt k hk) (dbf k hk), l1 _ hlt]; exact hvs⟩, by omega⟩
                  have N2 : TK h2 h.2 ta s true := K1.fr (fun q q1 q2 => E2.2.1 q (by omega) (by omega))
                  have K71 := lend71 (G := G) (d := d) (r := r) (tr := tr) (gl := gl) (sl := sl) (py := py) (pt := pt) (ng := ng) (ft := ft) (mk := mk) (gg := gg) (h := h) (n := n) (bf := bf) (E := E) hN X1.2.2 hd hp' hq' hk' hhi hlt hxz dbl dbe y1 y2 y3 y4 K2 (fun q q1 q2 q3 => by rw [E2.2.1 q q2 q3, l1 q q1]) X2 B2 s2 hx2 hxb N2
                  have wk : ∀ ls st h3, gxV G mX1_lend d 1 64 71 ls st h3 (gxQi (fun v h' => v = spW w (setS A s) P k' ∧ KF G h h' tk ta fa bl be bc n bf s (spLend s p' q' (spW w (setS A s) P k')) true)) → gxV G mX1_lend d 1 64 71 ls st h3 (gxQi (fun v h' => (¬ (∃ p'' q'' k'', p'' < P ∧ q'' < P ∧ k'' < S ∧ nI p' = nI p'' ∧ nI q' = nI q'' ∧ nI k' = nI k'' ∧ p'' ≠ q'' ∧ A 17 k'' = nI q'' ∧ ¬ (s k'' >>> (nI p'' &&& 31)) &&& 1 = 0 ∧ ¬ s 122 = 12) ∧ v = -1 ∧ lowE h.2 h h' ∧ (h'.2 = h.2 ∨ h'.2 = h.2 + 6)) ∨ ∃ p'' q'' k'', p'' < P ∧ q'' < P ∧ k'' < S ∧ nI p' = nI p'' ∧ nI q' = nI q'' ∧ nI k' = nI k'' ∧ p'' ≠ q'' ∧ A 17 k'' = nI q'' ∧ ¬ (s k'' >>> (nI p'' &&& 31)) &&& 1 = 0 ∧ ¬ s 122 = 12 ∧ v = spW w (setS A s) P k'' ∧ KF G h h' tk ta fa bl be bc n bf s (spLend s p'' q'' (spW w (setS A s) P k'')) true)) := fun ls st h3 hv => gxV_post (fun o h' ho => by
                    obtain ⟨v, rfl, ho⟩ := ho
                    exact ⟨v, rfl, Or.inr ⟨p', q', k', hp', hq', hk', rfl, rfl, rfl, y1, y2, y3, y4, ho⟩⟩) hv
                  obtain ⟨_, _, hbl⟩ := B2.sz
                  have hx := hx2
                  refine gx_aload_n (pc := 50) dX1_lend_50 rfl ?_
                  refine gx_get (pc := 51) fX1_60 hx rfl dX1_lend_51 ?_
                  refine kX1_131 (kc := 1) (ks := 64) (mc := 0) (ms := 0) (pc := 54) rfl (c_sizeZ (d := d - 1) hbl) (gxRc.of rfl hbl) (by omega) (Nat.le_of_ble_eq_true rfl) dX1_lend_54 (fun r3 h3 e3 => ?_)
                  obtain ⟨rfl, e3⟩ := e3
                  subst h3
                  refine gx_bipush (pc := 57) (v := 16) dX1_lend_57 (by decide) ?_
                  refine gx_icmp_ne (pc := 59) 71 dX1_lend_59 (by decide) (fun c5 => ?_) (fun c5 => ?_)
                  · have hne : ¬ n = 16 := fun e => c5 (by rw [e]; rfl)
                    refine wk _ _ _ ?_
                    exact K71 h2 n bf (by omega) rfl (fun _ _ _ => rfl) B2 T2 (by unfold kpN; rw [if_neg hne]) (fun k hk => by simp only [bfN]; rw [if_neg hne])
                  · have hne : n = 16 := (nI_eq (b := 16) (by omega) (by decide)).mp c5
                    subst hne
                    refine gx_aload_n (pc := 62) dX1_lend_62 rfl ?_
                    refine gx_get (pc := 63) fX1_60 hx rfl dX1_lend_63 ?_
                    refine gx_iconst (pc := 66) (v := 0) dX1_lend_66 (by decide) ?_
                    refine kX1_229 (kc := 1) (ks := 64) (mc := 0) (ms := 0) (pc := 67) rfl (c_BHrem (d := d - 1) (by omega) B2 0 (by decide) (fun k hk => (T2 k hk).1)) (gxRc.of rfl hbl) (by omega) (Nat.le_of_ble_eq_true rfl) dX1_lend_67 (fun r3 h3 e3 => ?_)
                    obtain ⟨rfl, B3, z1, z2⟩ := e3
                    refine gx_pop (pc := 70) dX1_lend_70 rfl ?_
                    refine wk _ _ _ ?_
                    refine K71 h3 15 (fun j => bf (j + 1)) (by decide) z1 z2 ?_ (fun k hk => ?_) rfl (fun k hk => ?_)
                    · have : (fun j => if j < 0 then bf j else bf (j + 1)) = fun j => bf (j + 1) := by funext j; rw [if_neg (by omega)]
                      rw [this] at B3
                      exact B3
                    · obtain ⟨⟨vs, hvs⟩, hlt⟩ := T2 (k + 1) (by omega)
                      have := B2.ne (Or.inl ⟨vs, hvs⟩)
                      exact ⟨⟨vs, by rw [z2 _ this.1 this.2]; exact hvs⟩, by rw [z1]; exact hlt⟩
                    · simp only [bfN, if_true]
              · rcases e2 with ⟨z, _, e2⟩ | ⟨_, rfl, _⟩
                · subst h2
                  refine gx_iconst (pc := 48) (v := (-1)) dX1_lend_48 (by decide) ?_
                  refine gx_ireturn (pc := 49) rfl dX1_lend_49 ⟨_, rfl, Or.inl ⟨?_, rfl, l1, Or.inr s1⟩⟩
                  rintro ⟨p1, q1, k1, h1, h2, h3, h4, h5, h6, h7, h8⟩
                  have e1 : p' = p1 := (nI_eq (by omega) (by omega)).mp h4
                  have e2 : q' = q1 := (nI_eq (by omega) (by omega)).mp h5
                  have e3 : k' = k1 := (nI_eq (by omega) (by omega)).mp h6
                  subst e1; subst e2; subst e3
                  exact z ⟨h7, h8⟩
                · exact absurd c4 (by decide)
            · exact absurd rfl c3
          · rcases e1 with ⟨z, rfl⟩ | ⟨z, rfl⟩
            · exact absurd c3 (by decide)
            · exact N (fun ⟨p', q', k', h1, h2, h3, h4, h5, h6, _⟩ => z ⟨k', h3, h6⟩)
        · exact absurd rfl c2
    · exact absurd rfl c1
end AN
