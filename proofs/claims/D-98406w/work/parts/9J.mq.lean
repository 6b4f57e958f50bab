/-! ===== COMPONENT AQ: the whole of mark, counts, a person ===== -/
set_option maxRecDepth 100000
section AQ
variable {G : gxG} {d : Nat} {h : gxH} {x r tk tr gl sl bl py pt ng ft mk lo hi ta fa P S E be bc n se sc sn : Nat} {gg : Int64} {A : Nat → Nat → Int32} {s : Nat → Int32} {w : Option gxEv} {b : Bool} {bf : Nat → Nat} {sv : Nat → Int32}
/-- the marks: talks mt, lines mg, seen ml -/
def MK (G : gxG) (h : gxH) (ta : Nat) (b : Bool) (mf : Nat → Option Nat) (mt mg ml : Nat → Nat) (ms : Nat → Nat → Int32) (mse msc mn : Nat → Nat) (msv : Nat → Nat → Int32) : Prop :=
  ∀ m, m < 4 → ∀ a, mf m = some a → a < h.2 ∧ h.1 a = some (.inr (31, [.ref (mt m), .ref (mg m), .ref (ml m)])) ∧ mt m + 6 ≤ h.2 ∧ TK h (mt m) ta (ms m) b ∧ SN G h (ml m) (mse m) (msc m) (mn m) (msv m) ∧ mn m ≤ 10
theorem c_Xmark (hd : 10 ≤ d) (nz : gxN G ≤ h.2) (nx : gxN G ≤ x) (nmk : gxN G ≤ mk) (hmz : mk < h.2) (hxz : x < h.2) (hO : XF h x r tk tr gl sl bl py pt ng ft gg mk) (hK : TK h tk ta s b) (hlt : tk + 6 ≤ h.2) (hL : SN G h sl se sc sn sv) (hn : sn ≤ 10) (hB : BH G h bl be bc n bf) {mf : Nat → Option Nat} {mt mg ml mse msc mn : Nat → Nat} {ms msv : Nat → Nat → Int32} (hmk : h.1 mk = some (gxq 6 4 mf)) (hMK : MK G h ta b mf mt mg ml ms mse msc mn msv) (wh back : Int32) (hbk : back = 0 ∨ back = 1) : gxM G mX1_mark d 19 483 [.ref x, .int wh, .int back] h (gxQi (fun v h' => (¬ (∃ m, m < 4 ∧ wh = nI m ∧ (back = 0 ∨ ¬ mf m = none)) ∧ v = 0 ∧ h' = h) ∨ (∃ m, m < 4 ∧ wh = nI m ∧ back = 0 ∧ v = 1 ∧ h'.1 mk = some (gxq 6 4 (va_up mf m (some h.2))) ∧ h'.1 h.2 = some (.inr (31, [.ref (h.2 + 1), .ref gl, .ref (h.2 + 7)])) ∧ TK h' (h.2 + 1) ta s b ∧ (∃ se' sc', SN G h' (h.2 + 7) se' sc' sn sv ∧ h.2 + 7 < se') ∧ h.2 + 7 < h'.2 ∧ h'.2 ≤ h.2 + 19 ∧ ∀ q, q < h.2 → q ≠ mk → h'.1 q = h.1 q) ∨ (∃ m, m < 4 ∧ wh = nI m ∧ back = 1 ∧ ¬ mf m = none ∧ v = 1 ∧ XF h' x r h.2 tr (mg m) (h.2 + 6) bl py pt ng ft gg mk ∧ TK h' h.2 ta (ms m) b ∧ (∃ se' sc', SN G h' (h.2 + 6) se' sc' (mn m) (msv m) ∧ h.2 + 6 < se') ∧ BH G h' bl be bc 0 bf ∧ h.2 + 6 < h'.2 ∧ h'.2 ≤ h.2 + 18 ∧ ∀ q, q < h.2 → q ≠ x → q ≠ bl → (bc = 0 ∨ q ≠ be) → h'.1 q = h.1 q))) := by
  have hx := hO
  refine gxM_of rfl (Nat.le_of_ble_eq_true rfl) rfl ?_
  have N : ¬ (∃ m, m < 4 ∧ wh = nI m ∧ (back = 0 ∨ ¬ mf m = none)) → gxV G mX1_mark d 19 483 22 [some (.ref x), some (.int wh), some (.int back)] [] h (gxQi (fun v h' => (¬ (∃ m, m < 4 ∧ wh = nI m ∧ (back = 0 ∨ ¬ mf m = none)) ∧ v = 0 ∧ h' = h) ∨ (∃ m, m < 4 ∧ wh = nI m ∧ back = 0 ∧ v = 1 ∧ h'.1 mk = some (gxq 6 4 (va_up mf m (some h.2))) ∧ h'.1 h.2 = some (.inr (31, [.ref (h.2 + 1), .ref gl, .ref (h.2 + 7)])) ∧ TK h' (h.2 + 1) ta s b ∧ (∃ se' sc', SN G h' (h.2 + 7) se' sc' sn sv ∧ h.2 + 7 < se') ∧ h.2 + 7 < h'.2 ∧ h'.2 ≤ h.2 + 19 ∧ ∀ q, q < h.2 → q ≠ mk → h'.1 q = h.1 q) ∨ (∃ m, m < 4 ∧ wh = nI m ∧ back = 1 ∧ ¬ mf m = none ∧ v = 1 ∧ XF h' x r h.2 tr (mg m) (h.2 + 6) bl py pt ng ft gg mk ∧ TK h' h.2 ta (ms m) b ∧ (∃ se' sc', SN G h' (h.2 + 6) se' sc' (mn m) (msv m) ∧ h.2 + 6 < se') ∧ BH G h' bl be bc 0 bf ∧ h.2 + 6 < h'.2 ∧ h'.2 ≤ h.2 + 18 ∧ ∀ q, q < h.2 → q ≠ x → q ≠ bl → (bc = 0 ∨ q ≠ be) → h'.1 q = h.1 q))) := by
    intro hh
    refine gx_iconst (pc := 22) (v := 0) dX1_mark_22 (by decide) ?_
    exact gx_zreturn (pc := 23) rfl (by decide) dX1_mark_23 (⟨_, rfl, Or.inl ⟨hh, rfl, rfl⟩⟩)
  refine gx_iload_n (pc := 0) dX1_mark_0 rfl ?_
  refine gx_iconst (pc := 1) (v := 0) dX1_mark_1 (by decide) ?_
  refine gx_iconst (pc := 2) (v := 3) dX1_mark_2 (by decide) ?_
  refine kX1_140 (kc := 19) (ks := 483) (mc := 0) (ms := 0) (pc := 3) rfl (c_Xwithin (d := d - 1) wh 0 3) (by omega) (Nat.le_of_ble_eq_true rfl) dX1_mark_3 (fun r1 h1 e1 => ?_)
  obtain ⟨rfl, e1⟩ := e1
  subst h1
  refine gx_if_eq (pc := 6) 22 dX1_mark_6 (by decide) (fun c1 => ?_) (fun c1 => ?_)
  · refine N (fun ⟨m, hm, e, _⟩ => wi_out c1 ?_)
    rw [e]
    exact ⟨nI_le (a := 0) (by omega) (by omega), nI_le (b := 3) (by omega) (by omega)⟩
  · have z1 := wi_in c1
    obtain ⟨m, hm, em⟩ := nI_of2 (M := 3) (n := 3) (by decide) (Int32.not_lt.mpr z1.1) z1.2
    subst em
    have hm4 : m < 4 := by omega
    have K24 : (back = 0 ∨ ∃ a, mf m = some a) → gxV G mX1_mark d 19 483 24 [some (.ref x), some (.int (nI m)), some (.int back)] [] h (gxQi (fun v h' => (¬ (∃ m', m' < 4 ∧ nI m = nI m' ∧ (back = 0 ∨ ¬ mf m' = none)) ∧ v = 0 ∧ h' = h) ∨ (∃ m', m' < 4 ∧ nI m = nI m' ∧ back = 0 ∧ v = 1 ∧ h'.1 mk = some (gxq 6 4 (va_up mf m' (some h.2))) ∧ h'.1 h.2 = some (.inr (31, [.ref (h.2 + 1), .ref gl, .ref (h.2 + 7)])) ∧ TK h' (h.2 + 1) ta s b ∧ (∃ se' sc', SN G h' (h.2 + 7) se' sc' sn sv ∧ h.2 + 7 < se') ∧ h.2 + 7 < h'.2 ∧ h'.2 ≤ h.2 + 19 ∧ ∀ q, q < h.2 → q ≠ mk → h'.1 q = h.1 q) ∨ (∃ m', m' < 4 ∧ nI m = nI m' ∧ back = 1 ∧ ¬ mf m' = none ∧ v = 1 ∧ XF h' x r h.2 tr (mg m') (h.2 + 6) bl py pt ng ft gg mk ∧ TK h' h.2 ta (ms m') b ∧ (∃ se' sc', SN G h' (h.2 + 6) se' sc' (mn m') (msv m') ∧ h.2 + 6 < se') ∧ BH G h' bl be bc 0 bf ∧ h.2 + 6 < h'.2 ∧ h'.2 ≤ h.2 + 18 ∧ ∀ q, q < h.2 → q ≠ x → q ≠ bl → (bc = 0 ∨ q ≠ be) → h'.1 q = h.1 q))) := by
      intro hc
      refine gx_iload_n (pc := 24) dX1_mark_24 rfl ?_
      refine gx_if_ne (pc := 25) 61 dX1_mark_25 (by decide) (fun c2 => ?_) (fun c2 => ?_)
      · have hb1 : back = 1 := hbk.resolve_left c2
        obtain ⟨a, ha⟩ := hc.resolve_left c2
        obtain ⟨y1, y2, y3, y4, y5, y6⟩ := hMK m hm4 a ha
        refine gxV_post ?_ (c_Xback hd nz nx hxz hO hB hmk hmz m hm4 ha y2 y1 y4 y3 y5 y6 _)
        rintro o h' ⟨v, rfl, ho⟩
        exact ⟨v, rfl, Or.inr (Or.inr ⟨m, hm4, rfl, hb1, (by rw [ha]; exact fun e => nomatch e), ho⟩)⟩
      · have hb0 : back = 0 := Decidable.byContradiction (fun e => by
          first | exact absurd c2 e | exact absurd e c2)
        subst hb0
        refine gxV_post ?_ (c_Xlays hd nz nmk hmz hxz hO hK hlt hL hn hmk m hm4)
        rintro o h' ⟨v, rfl, ho⟩
        exact ⟨v, rfl, Or.inr (Or.inl ⟨m, hm4, rfl, rfl, ho⟩)⟩
    refine gx_iload_n (pc := 9) dX1_mark_9 rfl ?_
    refine gx_if_eq (pc := 10) 24 dX1_mark_10 (by decide) (fun c2 => ?_) (fun c2 => ?_)
    · exact K24 (Or.inl c2)
    · have hb1 : back = 1 := hbk.resolve_left c2
      cases hmf : mf m with
      | none =>
        refine gx_aload_n (pc := 13) dX1_mark_13 rfl ?_
        refine gx_get (pc := 14) fX1_95 hx rfl dX1_mark_14 ?_
        refine gx_iload_n (pc := 17) dX1_mark_17 rfl ?_
        refine gx_aald (pc := 18) (m) hmk (fun _ => rfl) (by first | rfl | simp only [gx_lit, nI_add, pk_mul]) (by omega) (by decide) dX1_mark_18 ?_
        rw [hmf]
        refine gx_ifnonnullN (pc := 19) dX1_mark_19 ?_
        refine N (fun ⟨m', hm', e, ho⟩ => ?_)
        have : m = m' := (nI_eq (by omega) (by omega)).mp e
        subst this
        rcases ho with z | z
        · exact c2 z
        · exact z hmf
      | some a =>
        refine gx_aload_n (pc := 13) dX1_mark_13 rfl ?_
        refine gx_get (pc := 14) fX1_95 hx rfl dX1_mark_14 ?_
        refine gx_iload_n (pc := 17) dX1_mark_17 rfl ?_
        refine gx_aald (pc := 18) (m) hmk (fun _ => rfl) (by first | rfl | simp only [gx_lit, nI_add, pk_mul]) (by omega) (by decide) dX1_mark_18 ?_
        rw [hmf]
        refine gx_ifnonnull (pc := 19) 24 dX1_mark_19 (by decide) ?_
        exact K24 (Or.inr ⟨a, hmf⟩)
/-- what is counted -/
def spCnC (w : Option gxEv) (A : Nat → Nat → Int32) (s : Nat → Int32) (P S E gn sn n : Nat) (tz : Int32) (what : Int32) : Int32 :=
  if what = 0 then nI P else if what = 1 then nI S else if what = 2 then nI E else if what = 3 then A 10 3 else if what = 4 then s 85 else if what = 5 then spWs w (setS A s) P (nI (2 ^ S - 1)) S else if what = 6 then nI gn else if what = 7 then nI sn else if what = 8 then s 122 else if what = 9 then nI n else tz
/-- the reader's own cell -/
def RO (h : gxH) (r : Nat) (dv : Value) (tz at' dp : Int32) : Prop := h.1 r = some (.inr (1, [.ref (r + 1), .ref (r + 2), .ref (r + 3), dv, .ref (r + 4), .int tz, .ref (r + 5), .ref (r + 6), .ref (r + 7), .int at', .int dp]))
theorem c_Xcount (hN : gxN G ≤ lo) (hd : 96 ≤ d) (hO : XF h x r tk tr gl sl bl py pt ng ft gg mk) (hX : TT h lo hi tk ta fa A s P S E w b) {gn : Nat} {gm sm bm : Int32} {gv sv bv dv : Value} {tz at' dp : Int32} (hgl : h.1 gl = some (.inr (32, [.int gm, gv, .int (nI gn)]))) (hsl' : h.1 sl = some (.inr (32, [.int sm, sv, .int (nI sn)]))) (hbl : h.1 bl = some (.inr (32, [.int bm, bv, .int (nI n)]))) (hr : RO h r dv tz at' dp) (what : Int32) : gxM G mX1_count d 0 0 [.ref x, .int what] h (gxQi (fun v h' => ((¬ (0 ≤ what ∧ what ≤ 10) ∧ v = -1) ∨ ((0 ≤ what ∧ what ≤ 10) ∧ v = spCnC w A s P S E gn sn n tz what)) ∧ fE fa h h')) := by
  have hx := hO
  have hX0 := hX
  have hss := hsl'
  obtain ⟨hT, hK, hM⟩ := hX; have hT0 := hT; obtain ⟨i1, i2, hf, nl, ol, pl, sl, el, fo, wv, pa, sa, ea, i3, ht, hfo, hpl, hsl, hel, hpa, hsa, hea, hwv⟩ := hT; have hpl0 := hpl.ls; have hsl0 := hsl.ls; have hel0 := hel.ls; have hpl := hpl0; have hsl := hsl0; have hel := hel0; obtain ⟨_, _, _, _, hpl, _⟩ := hpl; obtain ⟨_, _, _, _, hsl, _⟩ := hsl; obtain ⟨_, _, _, _, hel, _⟩ := hel
  obtain ⟨kn, aw, rk, fi, ne, htk, _⟩ := id hK
  refine gxM_of rfl (Nat.le_of_ble_eq_true rfl) rfl ?_
  refine gx_iload_n (pc := 0) dX1_count_0 rfl ?_
  by_cases hw : 0 ≤ what ∧ what ≤ 10
  · obtain ⟨m, hm, rfl⟩ := nI_of2 (M := 10) (n := 10) (by decide) (Int32.not_lt.mpr hw.1) hw.2
    have fin : ∀ v h1, fE fa h h1 → v = spCnC w A s P S E gn sn n tz (nI m) → (fun v h' => ((¬ (0 ≤ nI m ∧ nI m ≤ 10) ∧ v = -1) ∨ ((0 ≤ nI m ∧ nI m ≤ 10) ∧ v = spCnC w A s P S E gn sn n tz (nI m))) ∧ fE fa h h') v h1 := fun v h1 e1 e2 => ⟨Or.inr ⟨hw, e2⟩, e1⟩
    have hm8 : m = 0 ∨ m = 1 ∨ m = 2 ∨ m = 3 ∨ m = 4 ∨ m = 5 ∨ m = 6 ∨ m = 7 ∨ m = 8 ∨ m = 9 ∨ m = 10 := by omega
    rcases hm8 with e | e | e | e | e | e | e | e | e | e | e <;> subst e
    · refine gx_tableIn (pc := 1) 60 dX1_count_1 (by decide) (by decide) rfl rfl ?_
      refine gx_aload_n (pc := 60) dX1_count_60 rfl ?_
      refine kX1_138 (kc := 0) (ks := 0) (mc := 0) (ms := 0) (pc := 61) rfl (c_people (d := d - 1) (by omega) hO.O hX0) (gxRc.of rfl hx) (by omega) (Nat.le_of_ble_eq_true rfl) dX1_count_61 (fun r1 h1 e1 => ?_)
      obtain ⟨rfl, e1⟩ := e1
      subst h1
      exact gx_ireturn (pc := 64) rfl dX1_count_64 (⟨_, rfl, fin _ _ (fE.rf _ _) rfl⟩)
    · refine gx_tableIn (pc := 1) 65 dX1_count_1 (by decide) (by decide) rfl rfl ?_
      refine gx_aload_n (pc := 65) dX1_count_65 rfl ?_
      refine kX1_144 (kc := 0) (ks := 0) (mc := 0) (ms := 0) (pc := 66) rfl (c_secrets (d := d - 1) (by omega) hO.O hX0) (gxRc.of rfl hx) (by omega) (Nat.le_of_ble_eq_true rfl) dX1_count_66 (fun r1 h1 e1 => ?_)
      obtain ⟨rfl, e1⟩ := e1
      subst h1
      exact gx_ireturn (pc := 69) rfl dX1_count_69 (⟨_, rfl, fin _ _ (fE.rf _ _) rfl⟩)
    · refine gx_tableIn (pc := 1) 70 dX1_count_1 (by decide) (by decide) rfl rfl ?_
      refine gx_aload_n (pc := 70) dX1_count_70 rfl ?_
      refine kX1_119 (kc := 0) (ks := 0) (mc := 0) (ms := 0) (pc := 71) rfl (c_now (d := d - 1) hO.O hX0) (gxRc.of rfl hx) (by omega) (Nat.le_of_ble_eq_true rfl) dX1_count_71 (fun r1 h1 e3 => ?_)
      obtain ⟨rfl, e3⟩ := e3
      subst h1
      refine gx_get (pc := 74) fX1_361 ht rfl dX1_count_74 ?_
      refine kX1_131 (kc := 0) (ks := 0) (mc := 0) (ms := 0) (pc := 77) rfl (c_size (d := d - 1) hel0) (gxRc.of rfl hel) (by omega) (Nat.le_of_ble_eq_true rfl) dX1_count_77 (fun r1 h1 e1 => ?_)
      obtain ⟨rfl, e1⟩ := e1
      subst h1
      exact gx_ireturn (pc := 80) rfl dX1_count_80 (⟨_, rfl, fin _ _ (fE.rf _ _) rfl⟩)
    · refine gx_tableIn (pc := 1) 81 dX1_count_1 (by decide) (by decide) rfl rfl ?_
      refine gx_aload_n (pc := 81) dX1_count_81 rfl ?_
      refine kX1_119 (kc := 0) (ks := 0) (mc := 0) (ms := 0) (pc := 82) rfl (c_now (d := d - 1) hO.O hX0) (gxRc.of rfl hx) (by omega) (Nat.le_of_ble_eq_true rfl) dX1_count_82 (fun r1 h1 e3 => ?_)
      obtain ⟨rfl, e3⟩ := e3
      subst h1
      refine gx_get (pc := 85) fX1_390 ht rfl dX1_count_85 ?_
      exact gx_ireturn (pc := 88) rfl dX1_count_88 (⟨_, rfl, fin _ _ (fE.rf _ _) rfl⟩)
    · refine gx_tableIn (pc := 1) 89 dX1_count_1 (by decide) (by decide) rfl rfl ?_
      refine gx_aload_n (pc := 89) dX1_count_89 rfl ?_
      refine gx_get (pc := 90) fX1_40 hx rfl dX1_count_90 ?_
      refine gx_get (pc := 93) fX1_393 htk rfl dX1_count_93 ?_
      exact gx_ireturn (pc := 96) rfl dX1_count_96 (⟨_, rfl, fin _ _ (fE.rf _ _) rfl⟩)
    · refine gx_tableIn (pc := 1) 97 dX1_count_1 (by decide) (by decide) rfl rfl ?_
      refine gx_aload_n (pc := 97) dX1_count_97 rfl ?_
      refine gx_get (pc := 98) fX1_40 hx rfl dX1_count_98 ?_
      refine kX1_284 (kc := 0) (ks := 0) (mc := 0) (ms := 0) (pc := 101) rfl (c_Tall (d := d - 1) hN (by omega) hX0) (gxRc.of rfl htk) (by omega) (Nat.le_of_ble_eq_true rfl) dX1_count_101 (fun r1 h1 e1 => ?_)
      obtain ⟨rfl, e1⟩ := e1
      exact gx_ireturn (pc := 104) rfl dX1_count_104 (⟨_, rfl, fin _ _ e1 rfl⟩)
    · refine gx_tableIn (pc := 1) 105 dX1_count_1 (by decide) (by decide) rfl rfl ?_
      refine gx_aload_n (pc := 105) dX1_count_105 rfl ?_
      refine gx_get (pc := 106) fX1_52 hx rfl dX1_count_106 ?_
      refine kX1_131 (kc := 0) (ks := 0) (mc := 0) (ms := 0) (pc := 109) rfl (c_sizeZ (d := d - 1) hgl) (gxRc.of rfl hgl) (by omega) (Nat.le_of_ble_eq_true rfl) dX1_count_109 (fun r1 h1 e1 => ?_)
      obtain ⟨rfl, e1⟩ := e1
      subst h1
      exact gx_ireturn (pc := 112) rfl dX1_count_112 (⟨_, rfl, fin _ _ (fE.rf _ _) rfl⟩)
    · refine gx_tableIn (pc := 1) 113 dX1_count_1 (by decide) (by decide) rfl rfl ?_
      refine gx_aload_n (pc := 113) dX1_count_113 rfl ?_
      refine gx_get (pc := 114) fX1_56 hx rfl dX1_count_114 ?_
      refine kX1_131 (kc := 0) (ks := 0) (mc := 0) (ms := 0) (pc := 117) rfl (c_sizeZ (d := d - 1) hss) (gxRc.of rfl hss) (by omega) (Nat.le_of_ble_eq_true rfl) dX1_count_117 (fun r1 h1 e1 => ?_)
      obtain ⟨rfl, e1⟩ := e1
      subst h1
      exact gx_ireturn (pc := 120) rfl dX1_count_120 (⟨_, rfl, fin _ _ (fE.rf _ _) rfl⟩)
    · refine gx_tableIn (pc := 1) 121 dX1_count_1 (by decide) (by decide) rfl rfl ?_
      refine gx_aload_n (pc := 121) dX1_count_121 rfl ?_
      refine gx_get (pc := 122) fX1_40 hx rfl dX1_count_122 ?_
      refine gx_get (pc := 125) fX1_396 htk rfl dX1_count_125 ?_
      exact gx_ireturn (pc := 128) rfl dX1_count_128 (⟨_, rfl, fin _ _ (fE.rf _ _) rfl⟩)
    · refine gx_tableIn (pc := 1) 129 dX1_count_1 (by decide) (by decide) rfl rfl ?_
      refine gx_aload_n (pc := 129) dX1_count_129 rfl ?_
      refine gx_get (pc := 130) fX1_60 hx rfl dX1_count_130 ?_
      refine kX1_131 (kc := 0) (ks := 0) (mc := 0) (ms := 0) (pc := 133) rfl (c_sizeZ (d := d - 1) hbl) (gxRc.of rfl hbl) (by omega) (Nat.le_of_ble_eq_true rfl) dX1_count_133 (fun r1 h1 e1 => ?_)
      obtain ⟨rfl, e1⟩ := e1
      subst h1
      exact gx_ireturn (pc := 136) rfl dX1_count_136 (⟨_, rfl, fin _ _ (fE.rf _ _) rfl⟩)
    · refine gx_tableIn (pc := 1) 137 dX1_count_1 (by decide) (by decide) rfl rfl ?_
      refine gx_aload_n (pc := 137) dX1_count_137 rfl ?_
      refine gx_get (pc := 138) fX1_24 hx rfl dX1_count_138 ?_
      refine gx_get (pc := 141) fX1_103 hr rfl dX1_count_141 ?_
      exact gx_ireturn (pc := 144) rfl dX1_count_144 (⟨_, rfl, fin _ _ (fE.rf _ _) rfl⟩)
  · have hx2 : what.toInt < 0 ∨ 10 < what.toInt := by
      rcases Decidable.em (0 ≤ what) with z | z
      · right
        have : ¬ what ≤ 10 := fun y => hw ⟨z, y⟩
        rw [Int32.le_iff_toInt_le] at this
        have e9 : (10 : Int32).toInt = 10 := by decide
        omega
      · left
        rw [Int32.le_iff_toInt_le] at z
        have e0 : (0 : Int32).toInt = 0 := by decide
        omega
    refine gx_tableOut (pc := 1) 145 dX1_count_1 hx2 rfl ?_
    refine gx_iconst (pc := 145) (v := (-1)) dX1_count_145 (by decide) ?_
    exact gx_ireturn (pc := 146) rfl dX1_count_146 (⟨_, rfl, ⟨Or.inl ⟨hw, rfl⟩, fE.rf _ _⟩⟩)
end AQ
