/-! ===== COMPONENT AK: told, paid, risen, a quarter gone, lent, undone ===== -/
set_option maxRecDepth 100000
section AK
variable {G : gxG} {d : Nat} {h : gxH} {x r tk tr gl sl bl py pt ng ft mk lo hi ta fa P S E be bc n : Nat} {gg : Int64} {A : Nat → Nat → Int32} {s : Nat → Int32} {w : Option gxEv} {b : Bool} {bf : Nat → Nat}
/-- what is asked of the talks behind -/
def BT (h : gxH) (n : Nat) (bf : Nat → Nat) : Prop := ∀ k, k < n → (∃ vs, h.1 (bf k) = some (.inr (2, vs))) ∧ bf k < h.2
theorem c_Xkeeps (hd : 8 ≤ d) (nz : gxN G ≤ h.2) (hO : XF h x r tk tr gl sl bl py pt ng ft gg mk) (hK : TK h tk ta s b) (hlt : tk + 6 ≤ h.2) (hB : BH G h bl be bc n bf) (hT : BT h n bf) (hn : n ≤ 16) : gxM G mX1_keeps d 7 139 [.ref x] h (gxQv (fun h' => KP G h h' ta bl be bc n bf s b)) := by
  have hx := hO
  have hxb : x ≠ bl ∧ (bc = 0 ∨ x ≠ be) := by
    obtain ⟨z1, z2, z3⟩ := hB
    rcases z3 with ⟨y1, y2, mc, t, y3, y4⟩ | ⟨y1, y2, y3, y4, y5, y6, g, ⟨mc, y7, y8⟩, y9⟩
    · refine ⟨fun e => ?_, Or.inl y2⟩
      rw [← e, hx] at y4; cases y4
    · refine ⟨fun e => ?_, Or.inr (fun e => ?_)⟩
      · rw [← e, hx] at y7; cases y7
      · rw [← e, hx] at y8; simp [gxq] at y8
  obtain ⟨_, _, hbl⟩ := hB.sz
  refine gxM_of rfl (Nat.le_of_ble_eq_true rfl) rfl ?_
  have K21 : ∀ (h1 : gxH) (n1 : Nat) (f1 : Nat → Nat), n1 < 16 → h1.2 = h.2 → (∀ q, q ≠ bl → (bc = 0 ∨ q ≠ be) → h1.1 q = h.1 q) → BH G h1 bl be bc n1 f1 → BT h1 n1 f1 → kpN n = n1 + 1 → (∀ k, k < n1 + 1 → bfN bf n h.2 k = if k < n1 then f1 k else h.2) → gxV G mX1_keeps d 7 139 21 [some (.ref x)] [] h1 (gxQv (fun h' => KP G h h' ta bl be bc n bf s b)) := by
    intro h1 n1 f1 hn1 z1 z2 B1 T1 z3 z4
    have hx : h1.1 x = some (.inr (0, [.ref r, .ref tk, .ref tr, .ref gl, .ref sl, .ref bl, .ref py, .ref pt, .ref ng, .ref ft, .long gg, .ref mk])) := by rw [z2 x hxb.1 hxb.2]; exact hO
    have K1 : TK h1 tk ta s b := hK.BHf hB (fun q _ q1 q2 => z2 q q1 q2) hlt
    obtain ⟨_, _, _, _, _, htk, _⟩ := id K1
    refine gx_aload_n (pc := 21) dX1_keeps_21 rfl ?_
    refine gx_get (pc := 22) fX1_60 hx rfl dX1_keeps_22 ?_
    refine gx_aload_n (pc := 25) dX1_keeps_25 rfl ?_
    refine gx_get (pc := 26) fX1_40 hx rfl dX1_keeps_26 ?_
    refine kX1_232 (kc := 1) (ks := 64) (mc := 6) (ms := 75) (pc := 29) rfl (c_copied (d := d - 1) (by rw [z1]; exact nz) (by omega) (by omega) K1) (gxRc.of rfl htk) (by omega) (Nat.le_of_ble_eq_true rfl) dX1_keeps_29 (fun r2 h2 e2 => ?_)
    obtain ⟨rfl, K2, s2, l2⟩ := e2
    rw [z1] at K2 s2 l2 ⊢
    have B2 : BH G h2 bl be bc n1 f1 := by
      obtain ⟨y1, y2, y3⟩ := B1
      refine ⟨y1, by omega, ?_⟩
      rcases y3 with ⟨u1, u2, mc, t, u3, u4⟩ | ⟨u1, u2, u3, u4, u5, u6, g, ⟨mc, u7, u8⟩, u9⟩
      · exact Or.inl ⟨u1, u2, mc, t, u3, by rw [l2 bl (by omega)]; exact u4⟩
      · exact Or.inr ⟨u1, u2, by omega, u4, u5, u6, g, ⟨mc, by rw [l2 bl (by omega)]; exact u7, by rw [l2 be (by omega)]; exact u8⟩, u9⟩
    have t2 : ∀ k, k < n1 → ∃ vs, h2.1 (f1 k) = some (.inr (2, vs)) := fun k hk => by
      obtain ⟨⟨vs, hvs⟩, hlt⟩ := T1 k hk
      exact ⟨vs, by rw [l2 _ (by omega)]; exact hvs⟩
    obtain ⟨_, _, _, _, _, hnt, _⟩ := id K2
    obtain ⟨_, _, hbl2⟩ := B2.sz
    refine gx_r0 ?_
    refine kX1_236 (kc := 0) (ks := 0) (mc := 1) (ms := 64) (pc := 32) rfl (c_BHadd (d := d - 1) (by omega) B2 hn1 t2 (fun k hk => by have := (T1 k hk).2; omega) ⟨_, hnt⟩ (by omega)) (gxRc.of rfl hbl2) (by omega) (Nat.le_of_ble_eq_true rfl) dX1_keeps_32 (fun r3 h3 e3 => ?_)
    obtain ⟨be', bc', B3, s3, s4, be3, f3⟩ := e3
    rw [s2] at f3 s3 s4 be3
    have fr : ∀ q, q < h.2 → q ≠ bl → (bc = 0 ∨ q ≠ be) → h3.1 q = h.1 q := fun q q1 q2 q3 => by rw [f3 q (by omega) q2 q3, l2 q q1, z2 q q2 q3]
    have K3 : TK h3 h.2 ta s b := K2.BHf B2 (fun q q1 q2 q3 => f3 q (by omega) q2 q3) (by omega)
    refine gx_pop (pc := 35) dX1_keeps_35 rfl ?_
    refine gx_return (pc := 36) rfl dX1_keeps_36 ⟨rfl, be', bc', K3, ?_, by omega, by omega, ?_, fr⟩
    · rw [z3]
      obtain ⟨y1, y2, y3⟩ := B3
      refine ⟨y1, y2, ?_⟩
      rcases y3 with ⟨u1, u2, u3⟩ | ⟨u1, u2, u3, u4, u5, u6, g, u7, u8, u9⟩
      · omega
      · exact Or.inr ⟨u1, u2, u3, u4, u5, u6, g, u7, fun k hk => by rw [u8 k hk, z4 k hk], u9⟩
    · rcases be3 with z | ⟨z, z'⟩
      · exact Or.inl z
      · exact Or.inr ⟨z, by omega⟩
  refine gx_aload_n (pc := 0) dX1_keeps_0 rfl ?_
  refine gx_get (pc := 1) fX1_60 hx rfl dX1_keeps_1 ?_
  refine kX1_131 (kc := 7) (ks := 139) (mc := 0) (ms := 0) (pc := 4) rfl (c_sizeZ (d := d - 1) hbl) (gxRc.of rfl hbl) (by omega) (Nat.le_of_ble_eq_true rfl) dX1_keeps_4 (fun r1 h1 e1 => ?_)
  obtain ⟨rfl, e1⟩ := e1
  subst h1
  refine gx_bipush (pc := 7) (v := 16) dX1_keeps_7 (by decide) ?_
  refine gx_icmp_ne (pc := 9) 21 dX1_keeps_9 (by decide) (fun c1 => ?_) (fun c1 => ?_)
  · have hne : ¬ n = 16 := fun e => c1 (by rw [e]; rfl)
    exact K21 h n bf (by omega) rfl (fun _ _ _ => rfl) hB hT (by unfold kpN; rw [if_neg hne]) (fun k hk => by simp only [bfN]; rw [if_neg hne])
  · have hne : n = 16 := (nI_eq (b := 16) (by omega) (by decide)).mp c1
    subst hne
    refine gx_aload_n (pc := 12) dX1_keeps_12 rfl ?_
    refine gx_get (pc := 13) fX1_60 hx rfl dX1_keeps_13 ?_
    refine gx_iconst (pc := 16) (v := 0) dX1_keeps_16 (by decide) ?_
    refine kX1_229 (kc := 7) (ks := 139) (mc := 0) (ms := 0) (pc := 17) rfl (c_BHrem (d := d - 1) (by omega) hB 0 (by decide) (fun k hk => (hT k hk).1)) (gxRc.of rfl hbl) (by omega) (Nat.le_of_ble_eq_true rfl) dX1_keeps_17 (fun r1 h1 e1 => ?_)
    obtain ⟨rfl, B1, z1, z2⟩ := e1
    refine gx_pop (pc := 20) dX1_keeps_20 rfl ?_
    refine K21 h1 15 (fun j => bf (j + 1)) (by decide) z1 z2 ?_ (fun k hk => ?_) rfl (fun k hk => ?_)
    · have : (fun j => if j < 0 then bf j else bf (j + 1)) = fun j => bf (j + 1) := by funext j; rw [if_neg (by omega)]
      rw [this] at B1
      exact B1
    · obtain ⟨⟨vs, hvs⟩, hlt⟩ := hT (k + 1) (by omega)
      have := hB.ne (Or.inl ⟨vs, hvs⟩)
      exact ⟨⟨vs, by rw [z2 _ this.1 this.2]; exact hvs⟩, by rw [z1]; exact hlt⟩
    · simp only [bfN, if_true]
/-- what keeps leaves of the rest -/
theorem KP.xf {h' : gxH} (hp : KP G h h' ta bl be bc n bf s b) (hO : XF h x r tk tr gl sl bl py pt ng ft gg mk) (hB : BH G h bl be bc n bf) (hxz : x < h.2) : XF h' x r tk tr gl sl bl py pt ng ft gg mk := by
  obtain ⟨be', bc', k1, k2, k3, k4, k5, k6⟩ := hp
  have hx := hO
  have hxb : x ≠ bl ∧ (bc = 0 ∨ x ≠ be) := by
    obtain ⟨z1, z2, z3⟩ := hB
    rcases z3 with ⟨y1, y2, mc, t, y3, y4⟩ | ⟨y1, y2, y3, y4, y5, y6, g, ⟨mc, y7, y8⟩, y9⟩
    · refine ⟨fun e => ?_, Or.inl y2⟩
      rw [← e, hx] at y4; cases y4
    · refine ⟨fun e => ?_, Or.inr (fun e => ?_)⟩
      · rw [← e, hx] at y7; cases y7
      · rw [← e, hx] at y8; simp [gxq] at y8
  show h'.1 x = _
  rw [k6 x hxz hxb.1 hxb.2]; exact hO
theorem KP.tt {h' : gxH} (hp : KP G h h' ta bl be bc n bf s b) (hB : BH G h bl be bc n bf) (hX : TT h lo hi tk ta fa A s P S E w b) (hlt : tk + 6 ≤ h.2) (hhi : hi ≤ h.2) (dbl : bl < lo ∨ hi ≤ bl) (dbe : bc = 0 ∨ be < lo ∨ hi ≤ be) : TT h' lo hi tk ta fa A s P S E w b := by
  obtain ⟨be', bc', k1, k2, k3, k4, k5, k6⟩ := hp
  have fr : ∀ q, lo ≤ q → q < hi → h'.1 q = h.1 q := fun q q1 q2 => k6 q (by omega) (by omega) (by omega)
  refine ⟨hX.1.fr (fun q q1 q2 _ => fr q q1 q2) ?_, hX.2.1.BHf hB k6 hlt, hX.2.2⟩
  obtain ⟨f, hf⟩ := hX.1.2.2.1
  exact ⟨f, by rw [fr fa hX.1.2.1.1 hX.1.2.1.2]; exact hf⟩
/-- kept, then the talk changed -/
def KT (G : gxG) (h h' : gxH) (tk ta fa bl be bc n : Nat) (bf : Nat → Nat) (s s' : Nat → Int32) (b : Bool) : Prop := ∃ h1, KP G h h1 ta bl be bc n bf s b ∧ TK h' tk ta s' b ∧ tE tk fa h1 h'
theorem c_Xquarter (nz : gxN G ≤ h.2) (hN : gxN G ≤ lo) (hn : gxN G ≤ tk) (hxz : x < h.2) (hf : fa < tk ∨ tk + 6 ≤ fa) (dj : tk + 6 ≤ lo ∨ hi ≤ tk) (hO : XF h x r tk tr gl sl bl py pt ng ft gg mk) (hX : TT h lo hi tk ta fa A s P S E w b) (hlt : tk + 6 ≤ h.2) (hhi : hi ≤ h.2) (dbl : bl < lo ∨ hi ≤ bl) (dbe : bc = 0 ∨ be < lo ∨ hi ≤ be) (hB : BH G h bl be bc n bf) (hT : BT h n bf) (hn16 : n ≤ 16) (hd : 9 ≤ d) : gxM G mX1_quarter d 7 139 [.ref x] h (gxQi (fun v h' => v = spFined (setS A s) P ∧ KT G h h' tk ta fa bl be bc n bf s (spPass (setS A s) P) b)) := by
  have hx := hO
  refine gxM_of rfl (Nat.le_of_ble_eq_true rfl) rfl ?_
  refine gx_aload_n (pc := 0) dX1_quarter_0 rfl ?_
  refine gx_r0 ?_
  refine kX1_243 (kc := 0) (ks := 0) (mc := 7) (ms := 139) (pc := 1) rfl (c_Xkeeps (d := d - 1) (by omega) nz hO hX.2.1 hlt hB hT hn16) (gxRc.of rfl hx) (by omega) (Nat.le_of_ble_eq_true rfl) dX1_quarter_1 (fun h1 e1 => ?_)
  have O1 := e1.xf hO hB hxz
  have X1 := e1.tt hB hX hlt hhi dbl dbe
  have hx := O1
  obtain ⟨_, _, _, _, _, htk, _⟩ := id X1.2.1
  refine gx_aload_n (pc := 4) dX1_quarter_4 rfl ?_
  refine gx_get (pc := 5) fX1_40 hx rfl dX1_quarter_5 ?_
  refine kX1_265 (kc := 0) (ks := 0) (mc := 0) (ms := 0) (pc := 8) rfl (c_Xends (d := d - 1) hn (by omega) hf dj X1) (gxRc.of rfl htk) (by omega) (Nat.le_of_ble_eq_true rfl) dX1_quarter_8 (fun r2 h2 e2 => ?_)
  obtain ⟨rfl, K2, E2⟩ := e2
  exact gx_ireturn (pc := 11) rfl dX1_quarter_11 (⟨_, rfl, ⟨rfl, h1, e1, K2, E2⟩⟩)
theorem c_Xrise (nz : gxN G ≤ h.2) (hN : gxN G ≤ lo) (hn : gxN G ≤ tk) (hxz : x < h.2) (hf : fa < tk ∨ tk + 6 ≤ fa) (dj : tk + 6 ≤ lo ∨ hi ≤ tk) (hO : XF h x r tk tr gl sl bl py pt ng ft gg mk) (hX : TT h lo hi tk ta fa A s P S E w b) (hlt : tk + 6 ≤ h.2) (hhi : hi ≤ h.2) (dbl : bl < lo ∨ hi ≤ bl) (dbe : bc = 0 ∨ be < lo ∨ hi ≤ be) (hB : BH G h bl be bc n bf) (hT : BT h n bf) (hn16 : n ≤ 16) (hd : 9 ≤ d) (p : Int32) : gxM G mX1_rise d 7 139 [.ref x, .int p] h (gxQi (fun v h' => (¬ (∃ p', p' < P ∧ p = nI p' ∧ ¬ s (70 + p') = 9) ∧ v = -1 ∧ h' = h) ∨ ∃ p', p' < P ∧ p = nI p' ∧ ¬ s (70 + p') = 9 ∧ v = s (70 + p') + 1 ∧ KT G h h' tk ta fa bl be bc n bf s (upd s (70 + p') (s (70 + p') + 1)) b)) := by
  have hx := hO
  have hP6 := hX.2.2.2.1
  obtain ⟨kn, aw, rk, fi, ne, htk, hkn, haw, hrk, hfi, hne, ekn, eaw, erk, efi, ene⟩ := id hX.2.1
  refine gxM_of rfl (Nat.le_of_ble_eq_true rfl) rfl ?_
  have N : ¬ (∃ p', p' < P ∧ p = nI p' ∧ ¬ s (70 + p') = 9) → gxV G mX1_rise d 7 139 22 [some (.ref x), some (.int p)] [] h (gxQi (fun v h' => (¬ (∃ p', p' < P ∧ p = nI p' ∧ ¬ s (70 + p') = 9) ∧ v = -1 ∧ h' = h) ∨ ∃ p', p' < P ∧ p = nI p' ∧ ¬ s (70 + p') = 9 ∧ v = s (70 + p') + 1 ∧ KT G h h' tk ta fa bl be bc n bf s (upd s (70 + p') (s (70 + p') + 1)) b)) := by
    intro hh
    refine gx_iconst (pc := 22) (v := (-1)) dX1_rise_22 (by decide) ?_
    exact gx_ireturn (pc := 23) rfl dX1_rise_23 (⟨_, rfl, Or.inl ⟨hh, rfl, rfl⟩⟩)
  refine gx_aload_n (pc := 0) dX1_rise_0 rfl ?_
  refine gx_iload_n (pc := 1) dX1_rise_1 rfl ?_
  refine kX1_146 (kc := 7) (ks := 139) (mc := 0) (ms := 0) (pc := 2) rfl (c_XisPerson (d := d - 1) (by omega) hO.O hX p) (gxRc.of rfl hx) (by omega) (Nat.le_of_ble_eq_true rfl) dX1_rise_2 (fun r1 h1 e1 => ?_)
  obtain ⟨e1, e2⟩ := e1
  subst h1
  refine gx_if_eq (pc := 5) 22 dX1_rise_5 (by decide) (fun c1 => ?_) (fun c1 => ?_)
  · rcases e1 with ⟨z, rfl⟩ | ⟨z, rfl⟩
    · exact absurd c1 (by decide)
    · exact N (fun ⟨p', h1, h2, _⟩ => z ⟨p', h1, h2⟩)
  · rcases e1 with ⟨⟨p', hp', ep⟩, rfl⟩ | ⟨z, rfl⟩
    · subst ep
      refine gx_aload_n (pc := 8) dX1_rise_8 rfl ?_
      refine gx_get (pc := 9) fX1_40 hx rfl dX1_rise_9 ?_
      refine gx_get (pc := 12) fX1_160 htk rfl dX1_rise_12 ?_
      refine gx_iload_n (pc := 15) dX1_rise_15 rfl ?_
      refine gx_iald (pc := 16) (p') hrk (by first | rfl | simp only [gx_lit, nI_add, pk_mul]) (by omega) (by decide) dX1_rise_16 ?_
      rw [erk p' (by omega)]
      refine gx_bipush (pc := 17) (v := 9) dX1_rise_17 (by decide) ?_
      refine gx_icmp_ne (pc := 19) 24 dX1_rise_19 (by decide) (fun c2 => ?_) (fun c2 => ?_)
      · have c2' : ¬ s (70 + p') = 9 := c2
        refine gx_aload_n (pc := 24) dX1_rise_24 rfl ?_
        refine gx_r0 ?_
        refine kX1_243 (kc := 0) (ks := 0) (mc := 7) (ms := 139) (pc := 25) rfl (c_Xkeeps (d := d - 1) (by omega) nz hO hX.2.1 hlt hB hT hn16) (gxRc.of rfl hx) (by omega) (Nat.le_of_ble_eq_true rfl) dX1_rise_25 (fun h1 e1 => ?_)
        have O1 := e1.xf hO hB hxz
        have X1 := e1.tt hB hX hlt hhi dbl dbe
        have hx := O1
        clear htk
        obtain ⟨_, _, _, _, _, htk, _⟩ := id X1.2.1
        refine gx_aload_n (pc := 28) dX1_rise_28 rfl ?_
        refine gx_get (pc := 29) fX1_40 hx rfl dX1_rise_29 ?_
        refine gx_iload_n (pc := 32) dX1_rise_32 rfl ?_
        refine kX1_262 (kc := 0) (ks := 0) (mc := 0) (ms := 0) (pc := 33) rfl (c_Xrises (d := d - 1) hn hf X1.2.1 p' (by omega)) (gxRc.of rfl htk) (by omega) (Nat.le_of_ble_eq_true rfl) dX1_rise_33 (fun r2 h2 e2 => ?_)
        rcases e2 with ⟨z, _⟩ | ⟨_, rfl, K2, E2⟩
        · exact absurd z c2'
        · have hf1 := X1.1.2.2.1
          have hx2 : h2.1 x = h1.1 x := by
            have := (E2.o X1.2.1 hf1).2 x _ O1 (fun v q => by cases q) (fun n f q => by cases q)
            rw [this, O1]
          have hx : h2.1 x = some (.inr (0, [.ref r, .ref tk, .ref tr, .ref gl, .ref sl, .ref bl, .ref py, .ref pt, .ref ng, .ref ft, .long gg, .ref mk])) := by rw [hx2]; exact O1
          clear htk hkn haw hrk hfi hne
          obtain ⟨kn2, aw2, rk2, fi2, ne2, htk, hkn, haw, hrk, hfi, hne, _, _, erk2, _, _⟩ := id K2
          refine gx_pop (pc := 36) dX1_rise_36 rfl ?_
          refine gx_aload_n (pc := 37) dX1_rise_37 rfl ?_
          refine gx_get (pc := 38) fX1_40 hx rfl dX1_rise_38 ?_
          refine gx_get (pc := 41) fX1_160 htk rfl dX1_rise_41 ?_
          refine gx_iload_n (pc := 44) dX1_rise_44 rfl ?_
          refine gx_iald (pc := 45) (p') hrk (by first | rfl | simp only [gx_lit, nI_add, pk_mul]) (by omega) (by decide) dX1_rise_45 ?_
          rw [erk2 p' (by omega)]
          exact gx_ireturn (pc := 46) rfl dX1_rise_46 (⟨_, rfl, Or.inr ⟨p', hp', rfl, c2', by simp [upd], h1, e1, K2, E2⟩⟩)
      · exact N (fun ⟨q, h1, h2, h3⟩ => by
          have : p' = q := (nI_eq (by omega) (by omega)).mp h2
          subst this
          exact h3 c2)
    · exact absurd rfl c1
theorem c_Xtell (nz : gxN G ≤ h.2) (hN : gxN G ≤ lo) (hn : gxN G ≤ tk) (hxz : x < h.2) (hf : fa < tk ∨ tk + 6 ≤ fa) (dj : tk + 6 ≤ lo ∨ hi ≤ tk) (hO : XF h x r tk tr gl sl bl py pt ng ft gg mk) (hX : TT h lo hi tk ta fa A s P S E w b) (hlt : tk + 6 ≤ h.2) (hhi : hi ≤ h.2) (dbl : bl < lo ∨ hi ≤ bl) (dbe : bc = 0 ∨ be < lo ∨ hi ≤ be) (hB : BH G h bl be bc n bf) (hT : BT h n bf) (hn16 : n ≤ 16) (hd : 96 ≤ d) (h16 : ∀ k, k < S → A 16 k = 0 ∨ A 16 k = 1) (p q k : Int32) : gxM G mX1_tell d 7 139 [.ref x, .int p, .int q, .int k] h (gxQi (fun v h' => (¬ (∃ p' q' k', p' < P ∧ q' < P ∧ k' < S ∧ p = nI p' ∧ q = nI q' ∧ k = nI k' ∧ p' ≠ q' ∧ spCan (setS A s) p' q' k' = true) ∧ v = -1 ∧ h' = h) ∨ ∃ p' q' k', p' < P ∧ q' < P ∧ k' < S ∧ p = nI p' ∧ q = nI q' ∧ k = nI k' ∧ p' ≠ q' ∧ spCan (setS A s) p' q' k' = true ∧ v = spW w (setS A (spTell (setS A s) p' q' k')) P k' ∧ KT G h h' tk ta fa bl be bc n bf s (spTell (setS A s) p' q' k') b)) := by
  have hx := hO
  have hP6 := hX.2.2.2.1
  have hS10 := hX.2.2.2.2.2.1
  obtain ⟨_, _, _, _, _, htk, _⟩ := id hX.2.1
  refine gxM_of rfl (Nat.le_of_ble_eq_true rfl) rfl ?_
  have N : ¬ (∃ p' q' k', p' < P ∧ q' < P ∧ k' < S ∧ p = nI p' ∧ q = nI q' ∧ k = nI k' ∧ p' ≠ q' ∧ spCan (setS A s) p' q' k' = true) → gxV G mX1_tell d 7 139 37 [some (.ref x), some (.int p), some (.int q), some (.int k)] [] h (gxQi (fun v h' => (¬ (∃ p' q' k', p' < P ∧ q' < P ∧ k' < S ∧ p = nI p' ∧ q = nI q' ∧ k = nI k' ∧ p' ≠ q' ∧ spCan (setS A s) p' q' k' = true) ∧ v = -1 ∧ h' = h) ∨ ∃ p' q' k', p' < P ∧ q' < P ∧ k' < S ∧ p = nI p' ∧ q = nI q' ∧ k = nI k' ∧ p' ≠ q' ∧ spCan (setS A s) p' q' k' = true ∧ v = spW w (setS A (spTell (setS A s) p' q' k')) P k' ∧ KT G h h' tk ta fa bl be bc n bf s (spTell (setS A s) p' q' k') b)) := by
    intro hh
    refine gx_iconst (pc := 37) (v := (-1)) dX1_tell_37 (by decide) ?_
    exact gx_ireturn (pc := 38) rfl dX1_tell_38 (⟨_, rfl, Or.inl ⟨hh, rfl, rfl⟩⟩)
  refine gx_aload_n (pc := 0) dX1_tell_0 rfl ?_
  refine gx_iload_n (pc := 1) dX1_tell_1 rfl ?_
  refine kX1_146 (kc := 7) (ks := 139) (mc := 0) (ms := 0) (pc := 2) rfl (c_XisPerson (d := d - 1) (by omega) hO.O hX p) (gxRc.of rfl hx) (by omega) (Nat.le_of_ble_eq_true rfl) dX1_tell_2 (fun r1 h1 e1 => ?_)
  obtain ⟨e1, e2⟩ := e1
  subst h1
  refine gx_if_eq (pc := 5) 37 dX1_tell_5 (by decide) (fun c1 => ?_) (fun c1 => ?_)
  · rcases e1 with ⟨z, rfl⟩ | ⟨z, rfl⟩
    · exact absurd c1 (by decide)
    · exact N (fun ⟨p', q', k', h1, h2, h3, h4, _⟩ => z ⟨p', h1, h4⟩)
  · rcases e1 with ⟨⟨p', hp', ep⟩, rfl⟩ | ⟨z, rfl⟩
    · refine gx_aload_n (pc := 8) dX1_tell_8 rfl ?_
      refine gx_iload_n (pc := 9) dX1_tell_9 rfl ?_
      refine kX1_146 (kc := 7) (ks := 139) (mc := 0) (ms := 0) (pc := 10) rfl (c_XisPerson (d := d - 1) (by omega) hO.O hX q) (gxRc.of rfl hx) (by omega) (Nat.le_of_ble_eq_true rfl) dX1_tell_10 (fun r1 h1 e1 => ?_)
      obtain ⟨e1, e2⟩ := e1
      subst h1
      refine gx_if_eq (pc := 13) 37 dX1_tell_13 (by decide) (fun c2 => ?_) (fun c2 => ?_)
      · rcases e1 with ⟨z, rfl⟩ | ⟨z, rfl⟩
        · exact absurd c2 (by decide)
        · exact N (fun ⟨p', q', k', h1, h2, h3, h4, h5, _⟩ => z ⟨q', h2, h5⟩)
      · rcases e1 with ⟨⟨q', hq', eq⟩, rfl⟩ | ⟨z, rfl⟩
        · refine gx_aload_n (pc := 16) dX1_tell_16 rfl ?_
          refine gx_iload_n (pc := 17) dX1_tell_17 rfl ?_
          refine kX1_186 (kc := 7) (ks := 139) (mc := 0) (ms := 0) (pc := 18) rfl (c_XisSecret (d := d - 1) (by omega) hO.O hX k) (gxRc.of rfl hx) (by omega) (Nat.le_of_ble_eq_true rfl) dX1_tell_18 (fun r1 h1 e1 => ?_)
          obtain ⟨e1, e2⟩ := e1
          subst h1
          refine gx_if_eq (pc := 21) 37 dX1_tell_21 (by decide) (fun c3 => ?_) (fun c3 => ?_)
          · rcases e1 with ⟨z, rfl⟩ | ⟨z, rfl⟩
            · exact absurd c3 (by decide)
            · exact N (fun ⟨p', q', k', h1, h2, h3, h4, h5, h6, _⟩ => z ⟨k', h3, h6⟩)
          · rcases e1 with ⟨⟨k', hk', ek⟩, rfl⟩ | ⟨z, rfl⟩
            · subst ep
              subst eq
              subst ek
              refine gx_aload_n (pc := 24) dX1_tell_24 rfl ?_
              refine gx_get (pc := 25) fX1_40 hx rfl dX1_tell_25 ?_
              refine gx_iload_n (pc := 28) dX1_tell_28 rfl ?_
              refine gx_iload_n (pc := 29) dX1_tell_29 rfl ?_
              refine gx_iload_n (pc := 30) dX1_tell_30 rfl ?_
              refine kX1_240 (kc := 7) (ks := 139) (mc := 0) (ms := 0) (pc := 31) rfl (c_mayTell (d := d - 1) (by omega) hX p' q' k' hp' hq' hk') (gxRc.of rfl htk) (by omega) (Nat.le_of_ble_eq_true rfl) dX1_tell_31 (fun r1 h1 e1 => ?_)
              obtain ⟨rfl, e1⟩ := e1
              subst h1
              refine gx_if_ne (pc := 34) 39 dX1_tell_34 (by decide) (fun c4 => ?_) (fun c4 => ?_)
              · have z := zi_ne0 c4
                rw [Bool.and_eq_true, Bool.not_eq_true', decide_eq_false_iff_not] at z
                refine gx_aload_n (pc := 39) dX1_tell_39 rfl ?_
                refine gx_r0 ?_
                refine kX1_243 (kc := 0) (ks := 0) (mc := 7) (ms := 139) (pc := 40) rfl (c_Xkeeps (d := d - 1) (by omega) nz hO hX.2.1 hlt hB hT hn16) (gxRc.of rfl hx) (by omega) (Nat.le_of_ble_eq_true rfl) dX1_tell_40 (fun h1 e1 => ?_)
                have O1 := e1.xf hO hB hxz
                have X1 := e1.tt hB hX hlt hhi dbl dbe
                have hx := O1
                clear htk
                obtain ⟨_, _, _, _, _, htk, _⟩ := id X1.2.1
                refine gx_aload_n (pc := 43) dX1_tell_43 rfl ?_
                refine gx_get (pc := 44) fX1_40 hx rfl dX1_tell_44 ?_
                refine gx_iload_n (pc := 47) dX1_tell_47 rfl ?_
                refine gx_iload_n (pc := 48) dX1_tell_48 rfl ?_
                refine gx_iload_n (pc := 49) dX1_tell_49 rfl ?_
                refine kX1_246 (kc := 0) (ks := 0) (mc := 0) (ms := 0) (pc := 50) rfl (c_Xtells (d := d - 1) hn (by omega) hf dj X1 p' q' k' hp' hq' hk' z.1 (h16 k' hk')) (gxRc.of rfl htk) (by omega) (Nat.le_of_ble_eq_true rfl) dX1_tell_50 (fun h2 e2 => ?_)
                obtain ⟨K2, E2⟩ := e2
                have hf1 := X1.1.2.2.1
                have hx : h2.1 x = some (.inr (0, [.ref r, .ref tk, .ref tr, .ref gl, .ref sl, .ref bl, .ref py, .ref pt, .ref ng, .ref ft, .long gg, .ref mk])) := (E2.o X1.2.1 hf1).2 x _ O1 (fun v q => by cases q) (fun n f q => by cases q)
                have X2 : TT h2 lo hi tk ta fa A (spTell (setS A s) p' q' k') P S E w b := ⟨X1.1.tE E2 dj, K2, X1.2.2⟩
                clear htk
                obtain ⟨_, _, _, _, _, htk, _⟩ := id K2
                refine gx_aload_n (pc := 53) dX1_tell_53 rfl ?_
                refine gx_get (pc := 54) fX1_40 hx rfl dX1_tell_54 ?_
                refine gx_iload_n (pc := 57) dX1_tell_57 rfl ?_
                refine kX1_210 (kc := 0) (ks := 0) (mc := 0) (ms := 0) (pc := 58) rfl (c_Tworth hN k' hk' (d - 1) h2 (by omega) X2) (gxRc.of rfl htk) (by omega) (Nat.le_of_ble_eq_true rfl) dX1_tell_58 (fun r3 h3 e3 => ?_)
                obtain ⟨rfl, e3⟩ := e3
                exact gx_ireturn (pc := 61) rfl dX1_tell_61 (⟨_, rfl, Or.inr ⟨p', q', k', hp', hq', hk', rfl, rfl, rfl, z.1, z.2, rfl, h1, e1, K2.fE X2.1.2.2.1 e3, E2.tr e3.t⟩⟩)
              · have z := zi_eq0 c4
                refine N (fun ⟨p1, q1, k1, h1, h2, h3, h4, h5, h6, h7, h8⟩ => ?_)
                have e1 : p' = p1 := (nI_eq (by omega) (by omega)).mp h4
                have e2 : q' = q1 := (nI_eq (by omega) (by omega)).mp h5
                have e3 : k' = k1 := (nI_eq (by omega) (by omega)).mp h6
                subst e1; subst e2; subst e3
                rw [h8, decide_eq_false h7] at z
                cases z
            · exact absurd rfl c3
        · exact absurd rfl c2
    · exact absurd rfl c1
theorem c_Xpay (nz : gxN G ≤ h.2) (hN : gxN G ≤ lo) (hn : gxN G ≤ tk) (hxz : x < h.2) (hf : fa < tk ∨ tk + 6 ≤ fa) (dj : tk + 6 ≤ lo ∨ hi ≤ tk) (hO : XF h x r tk tr gl sl bl py pt ng ft gg mk) (hX : TT h lo hi tk ta fa A s P S E w b) (hlt : tk + 6 ≤ h.2) (hhi : hi ≤ h.2) (dbl : bl < lo ∨ hi ≤ bl) (dbe : bc = 0 ∨ be < lo ∨ hi ≤ be) (hB : BH G h bl be bc n bf) (hT : BT h n bf) (hn16 : n ≤ 16) (hd : 96 ≤ d) (p set : Int32) : gxM G mX1_pay d 7 139 [.ref x, .int p, .int set] h (gxQi (fun v h' => (¬ (∃ p', p' < P ∧ p = nI p' ∧ (0 ≤ set ∧ set ≤ nI (2 ^ S - 1)) ∧ spCanPay w (setS A s) P S p' set = true) ∧ v = -1 ∧ fE fa h h') ∨ ∃ p', p' < P ∧ p = nI p' ∧ (0 ≤ set ∧ set ≤ nI (2 ^ S - 1)) ∧ spCanPay w (setS A s) P S p' set = true ∧ v = spWs w (setS A (spPay s p' set)) P set S ∧ ∃ h0, fE fa h h0 ∧ KT G h0 h' tk ta fa bl be bc n bf s (spPay s p' set) b)) := by
  have hx := hO
  have hP6 := hX.2.2.2.1
  obtain ⟨_, _, _, _, _, htk, _⟩ := id hX.2.1
  refine gxM_of rfl (Nat.le_of_ble_eq_true rfl) rfl ?_
  have N : ∀ h1, fE fa h h1 → ¬ (∃ p', p' < P ∧ p = nI p' ∧ (0 ≤ set ∧ set ≤ nI (2 ^ S - 1)) ∧ spCanPay w (setS A s) P S p' set = true) → gxV G mX1_pay d 7 139 32 [some (.ref x), some (.int p), some (.int set)] [] h1 (gxQi (fun v h' => (¬ (∃ p', p' < P ∧ p = nI p' ∧ (0 ≤ set ∧ set ≤ nI (2 ^ S - 1)) ∧ spCanPay w (setS A s) P S p' set = true) ∧ v = -1 ∧ fE fa h h') ∨ ∃ p', p' < P ∧ p = nI p' ∧ (0 ≤ set ∧ set ≤ nI (2 ^ S - 1)) ∧ spCanPay w (setS A s) P S p' set = true ∧ v = spWs w (setS A (spPay s p' set)) P set S ∧ ∃ h0, fE fa h h0 ∧ KT G h0 h' tk ta fa bl be bc n bf s (spPay s p' set) b)) := by
    intro h1 e1 hh
    refine gx_iconst (pc := 32) (v := (-1)) dX1_pay_32 (by decide) ?_
    exact gx_ireturn (pc := 33) rfl dX1_pay_33 (⟨_, rfl, Or.inl ⟨hh, rfl, e1⟩⟩)
  refine gx_aload_n (pc := 0) dX1_pay_0 rfl ?_
  refine gx_iload_n (pc := 1) dX1_pay_1 rfl ?_
  refine kX1_146 (kc := 7) (ks := 139) (mc := 0) (ms := 0) (pc := 2) rfl (c_XisPerson (d := d - 1) (by omega) hO.O hX p) (gxRc.of rfl hx) (by omega) (Nat.le_of_ble_eq_true rfl) dX1_pay_2 (fun r1 h1 e1 => ?_)
  obtain ⟨e1, e2⟩ := e1
  subst h1
  refine gx_if_eq (pc := 5) 32 dX1_pay_5 (by decide) (fun c1 => ?_) (fun c1 => ?_)
  · rcases e1 with ⟨z, rfl⟩ | ⟨z, rfl⟩
    · exact absurd c1 (by decide)
    · exact N h (fE.rf _ _) (fun ⟨p', h1, h2, _⟩ => z ⟨p', h1, h2⟩)
  · rcases e1 with ⟨⟨p', hp', ep⟩, rfl⟩ | ⟨z, rfl⟩
    · refine gx_iload_n (pc := 8) dX1_pay_8 rfl ?_
      refine gx_iconst (pc := 9) (v := 0) dX1_pay_9 (by decide) ?_
      refine gx_aload_n (pc := 10) dX1_pay_10 rfl ?_
      refine kX1_250 (kc := 7) (ks := 139) (mc := 0) (ms := 0) (pc := 11) rfl (c_every (d := d - 1) (by omega) hO.O hX) (gxRc.of rfl hx) (by omega) (Nat.le_of_ble_eq_true rfl) dX1_pay_11 (fun r1 h1 e1 => ?_)
      obtain ⟨rfl, e1⟩ := e1
      subst h1
      refine kX1_140 (kc := 7) (ks := 139) (mc := 0) (ms := 0) (pc := 14) rfl (c_Xwithin (d := d - 1) set 0 (nI (2 ^ S - 1))) (by omega) (Nat.le_of_ble_eq_true rfl) dX1_pay_14 (fun r1 h1 e1 => ?_)
      obtain ⟨rfl, e1⟩ := e1
      subst h1
      refine gx_if_eq (pc := 17) 32 dX1_pay_17 (by decide) (fun c2 => ?_) (fun c2 => ?_)
      · have z := zi_eq0 c2
        refine N h (fE.rf _ _) (fun ⟨p', h1, h2, h3, _⟩ => ?_)
        rw [decide_eq_true h3.1, decide_eq_true h3.2] at z
        cases z
      · have z := zi_ne0 c2
        rw [Bool.and_eq_true, decide_eq_true_eq, decide_eq_true_eq] at z
        subst ep
        refine gx_aload_n (pc := 20) dX1_pay_20 rfl ?_
        refine gx_get (pc := 21) fX1_40 hx rfl dX1_pay_21 ?_
        refine gx_iload_n (pc := 24) dX1_pay_24 rfl ?_
        refine gx_iload_n (pc := 25) dX1_pay_25 rfl ?_
        refine kX1_253 (kc := 7) (ks := 139) (mc := 0) (ms := 0) (pc := 26) rfl (c_mayPay (d := d - 1) hN (by omega) hX p' hp' set z.1) (gxRc.of rfl htk) (by omega) (Nat.le_of_ble_eq_true rfl) dX1_pay_26 (fun r1 h0 e0 => ?_)
        obtain ⟨rfl, e0⟩ := e0
        have hf0 := hX.1.2.2.1
        have O0 : XF h0 x r tk tr gl sl bl py pt ng ft gg mk := e0.at hf0 hO (fun f q => by cases q)
        have X0 := hX.fE e0
        refine gx_if_ne (pc := 29) 34 dX1_pay_29 (by decide) (fun c3 => ?_) (fun c3 => ?_)
        · have z3 := zi_ne0 c3
          have B0 : BH G h0 bl be bc n bf := by
            obtain ⟨y1, y2, y3⟩ := hB
            refine ⟨y1, by rw [e0.1]; exact y2, ?_⟩
            rcases y3 with ⟨u1, u2, mc, t, u3, u4⟩ | ⟨u1, u2, u3, u4, u5, u6, g, ⟨mc, u7, u8⟩, u9⟩
            · exact Or.inl ⟨u1, u2, mc, t, u3, e0.at hf0 u4 (fun f q => by cases q)⟩
            · exact Or.inr ⟨u1, u2, by rw [e0.1]; exact u3, u4, u5, u6, g, ⟨mc, e0.at hf0 u7 (fun f q => by cases q), e0.at hf0 u8 (fun f q => by simp [gxq] at q)⟩, u9⟩
          have T0 : BT h0 n bf := fun k hk => by
            obtain ⟨⟨vs, hvs⟩, hlt⟩ := hT k hk
            exact ⟨⟨vs, e0.at hf0 hvs (fun f q => by cases q)⟩, by rw [e0.1]; exact hlt⟩
          have hx := O0
          refine gx_aload_n (pc := 34) dX1_pay_34 rfl ?_
          refine gx_r0 ?_
          refine kX1_243 (kc := 0) (ks := 0) (mc := 7) (ms := 139) (pc := 35) rfl (c_Xkeeps (d := d - 1) (by omega) (by rw [e0.1]; exact nz) O0 X0.2.1 (by rw [e0.1]; exact hlt) B0 T0 hn16) (gxRc.of rfl hx) (by omega) (Nat.le_of_ble_eq_true rfl) dX1_pay_35 (fun h1 e1 => ?_)
          have O1 := e1.xf O0 B0 (by rw [e0.1]; exact hxz)
          have X1 := e1.tt B0 X0 (by rw [e0.1]; exact hlt) (by rw [e0.1]; exact hhi) dbl dbe
          have hx := O1
          clear htk
          obtain ⟨_, _, _, _, _, htk, _⟩ := id X1.2.1
          refine gx_aload_n (pc := 38) dX1_pay_38 rfl ?_
          refine gx_get (pc := 39) fX1_40 hx rfl dX1_pay_39 ?_
          refine gx_iload_n (pc := 42) dX1_pay_42 rfl ?_
          refine gx_iload_n (pc := 43) dX1_pay_43 rfl ?_
          refine kX1_256 (kc := 0) (ks := 0) (mc := 0) (ms := 0) (pc := 44) rfl (c_Xpays (d := d - 1) hn hf X1.2.1 p' set) (gxRc.of rfl htk) (by omega) (Nat.le_of_ble_eq_true rfl) dX1_pay_44 (fun h2 e2 => ?_)
          obtain ⟨K2, E2⟩ := e2
          have hf1 := X1.1.2.2.1
          have hx : h2.1 x = some (.inr (0, [.ref r, .ref tk, .ref tr, .ref gl, .ref sl, .ref bl, .ref py, .ref pt, .ref ng, .ref ft, .long gg, .ref mk])) := (E2.o X1.2.1 hf1).2 x _ O1 (fun v q => by cases q) (fun n f q => by cases q)
          have X2 : TT h2 lo hi tk ta fa A (spPay s p' set) P S E w b := ⟨X1.1.tE E2 dj, K2, X1.2.2⟩
          clear htk
          obtain ⟨_, _, _, _, _, htk, _⟩ := id K2
          refine gx_aload_n (pc := 47) dX1_pay_47 rfl ?_
          refine gx_get (pc := 48) fX1_40 hx rfl dX1_pay_48 ?_
          refine gx_iload_n (pc := 51) dX1_pay_51 rfl ?_
          refine kX1_259 (kc := 0) (ks := 0) (mc := 0) (ms := 0) (pc := 52) rfl (c_Tworths (d := d - 1) hN (by omega) X2 set) (gxRc.of rfl htk) (by omega) (Nat.le_of_ble_eq_true rfl) dX1_pay_52 (fun r3 h3 e3 => ?_)
          obtain ⟨rfl, e3⟩ := e3
          exact gx_ireturn (pc := 55) rfl dX1_pay_55 (⟨_, rfl, Or.inr ⟨p', hp', rfl, z, z3, rfl, h0, e0, h1, e1, K2.fE X2.1.2.2.1 e3, E2.tr e3.t⟩⟩)
        · have z3 := zi_eq0 c3
          refine N h0 e0 (fun ⟨p1, h1, h2, h3, h4⟩ => ?_)
          have e1 : p' = p1 := (nI_eq (by omega) (by omega)).mp h2
          subst e1
          rw [h4] at z3
          cases z3
    · exact absurd rfl c1
theorem c_Xundo (nz : gxN G ≤ h.2) (hxn : gxN G ≤ x) (hd : 3 ≤ d) (hO : XF h x r tk tr gl sl bl py pt ng ft gg mk) (hB : BH G h bl be bc n bf) (hT : BT h n bf) (hn16 : n ≤ 16) : gxM G mX1_undo d 0 0 [.ref x] h (gxQi (fun v h' => (n = 0 ∧ v = 0 ∧ h' = h) ∨ ∃ n', n = n' + 1 ∧ v = 1 ∧ XF h' x r (bf n') tr gl sl bl py pt ng ft gg mk ∧ BH G h' bl be bc n' bf ∧ h'.2 = h.2 ∧ ∀ q, q ≠ x → q ≠ bl → (bc = 0 ∨ q ≠ be) → h'.1 q = h.1 q)) := by
  have hx := hO
  have hxb : x ≠ bl ∧ (bc = 0 ∨ x ≠ be) := by
    obtain ⟨z1, z2, z3⟩ := hB
    rcases z3 with ⟨y1, y2, mc, t, y3, y4⟩ | ⟨y1, y2, y3, y4, y5, y6, g, ⟨mc, y7, y8⟩, y9⟩
    · refine ⟨fun e => ?_, Or.inl y2⟩
      rw [← e, hx] at y4; cases y4
    · refine ⟨fun e => ?_, Or.inr (fun e => ?_)⟩
      · rw [← e, hx] at y7; cases y7
      · rw [← e, hx] at y8; simp [gxq] at y8
  obtain ⟨_, _, hbl⟩ := hB.sz
  have nx := hxn
  refine gxM_of rfl (Nat.le_of_ble_eq_true rfl) rfl ?_
  refine gx_aload_n (pc := 0) dX1_undo_0 rfl ?_
  refine gx_get (pc := 1) fX1_60 hx rfl dX1_undo_1 ?_
  refine kX1_271 (kc := 0) (ks := 0) (mc := 0) (ms := 0) (pc := 4) rfl (c_isEmptyZ (d := d - 1) (by omega) hbl) (gxRc.of rfl hbl) (by omega) (Nat.le_of_ble_eq_true rfl) dX1_undo_4 (fun r1 h1 e1 => ?_)
  obtain ⟨rfl, e1⟩ := e1
  subst h1
  refine gx_if_eq (pc := 7) 12 dX1_undo_7 (by decide) (fun c1 => ?_) (fun c1 => ?_)
  · have z := zi_eq0 c1
    rw [decide_eq_false_iff_not] at z
    obtain ⟨n', rfl⟩ : ∃ n', n = n' + 1 := ⟨n - 1, by omega⟩
    refine gx_aload_n (pc := 12) dX1_undo_12 rfl ?_
    refine gx_aload_n (pc := 13) dX1_undo_13 rfl ?_
    refine gx_get (pc := 14) fX1_60 hx rfl dX1_undo_14 ?_
    refine gx_aload_n (pc := 17) dX1_undo_17 rfl ?_
    refine gx_get (pc := 18) fX1_60 hx rfl dX1_undo_18 ?_
    refine kX1_131 (kc := 0) (ks := 0) (mc := 0) (ms := 0) (pc := 21) rfl (c_sizeZ (d := d - 1) hbl) (gxRc.of rfl hbl) (by omega) (Nat.le_of_ble_eq_true rfl) dX1_undo_21 (fun r1 h1 e1 => ?_)
    obtain ⟨rfl, e1⟩ := e1
    subst h1
    refine gx_iconst (pc := 24) (v := 1) dX1_undo_24 (by decide) ?_
    refine gx_isub (pc := 25) dX1_undo_25 ?_
    rw [nI_pred]
    refine kX1_229 (kc := 0) (ks := 0) (mc := 0) (ms := 0) (pc := 26) rfl (c_BHrem (d := d - 1) (by omega) hB n' (by omega) (fun k hk => (hT k hk).1)) (gxRc.of rfl hbl) (by omega) (Nat.le_of_ble_eq_true rfl) dX1_undo_26 (fun r1 h1 e1 => ?_)
    obtain ⟨rfl, B1, z1, z2⟩ := e1
    obtain ⟨⟨vs, htt0⟩, _⟩ := hT n' (by omega)
    have hne := hB.ne (Or.inl ⟨vs, htt0⟩)
    have htt : h1.1 (bf n') = some (.inr (2, vs)) := by rw [z2 _ hne.1 hne.2]; exact htt0
    have hx : h1.1 x = some (.inr (0, [.ref r, .ref tk, .ref tr, .ref gl, .ref sl, .ref bl, .ref py, .ref pt, .ref ng, .ref ft, .long gg, .ref mk])) := by rw [z2 x hxb.1 hxb.2]; exact hO
    refine gx_castS (pc := 29) htt rfl q268 dX1_undo_29 ?_
    refine gx_put (pc := 32) fX1_40 hx nx (by first | exact Nat.le_of_ble_eq_true rfl | simp) tX1_1 rfl rfl dX1_undo_32 ?_
    refine gx_iconst (pc := 35) (v := 1) dX1_undo_35 (by decide) ?_
    have B2 : BH G (gxup h1 x (.inr (0, [.ref r, .ref (bf n'), .ref tr, .ref gl, .ref sl, .ref bl, .ref py, .ref pt, .ref ng, .ref ft, .long gg, .ref mk]))) bl be bc n' bf := by
      obtain ⟨y1, y2, y3⟩ := B1
      refine ⟨y1, y2, ?_⟩
      rcases y3 with ⟨u1, u2, mc, t, u3, u4⟩ | ⟨u1, u2, u3, u4, u5, u6, g, ⟨mc, u7, u8⟩, u9, u10⟩
      · exact Or.inl ⟨u1, u2, mc, t, u3, by rw [gxup_ne (Ne.symm hxb.1)]; exact u4⟩
      · exact Or.inr ⟨u1, u2, u3, u4, u5, by omega, g, ⟨mc, by rw [gxup_ne (Ne.symm hxb.1)]; exact u7, by rw [gxup_ne (Ne.symm (hxb.2.resolve_left (by omega)))]; exact u8⟩, fun k hk => by rw [u9 k (by omega)]; exact congrArg some (if_pos hk), u10⟩
    exact gx_zreturn (pc := 36) rfl (by decide) dX1_undo_36 (⟨_, rfl, Or.inr ⟨n', rfl, rfl, gxup_self _ _ _, B2, z1, fun q q0 q1 q2 => by rw [gxup_ne q0]; exact z2 q q1 q2⟩⟩)
  · have z := zi_ne0 c1
    rw [decide_eq_true_eq] at z
    refine gx_iconst (pc := 10) (v := 0) dX1_undo_10 (by decide) ?_
    exact gx_zreturn (pc := 11) rfl (by decide) dX1_undo_11 (⟨_, rfl, Or.inl ⟨z, rfl, rfl⟩⟩)
end AK
