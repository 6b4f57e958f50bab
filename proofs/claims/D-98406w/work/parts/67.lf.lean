/-! ===== COMPONENT F: talk, asked ===== -/
set_option maxRecDepth 100000
def spNtS (s : Nat → Int32) (p : Nat) : Nat → Int32
  | 0 => 0
  | o + 1 => spNtS s p o + (s (86 + 6 * o + p) - s (86 + 6 * p + o))
theorem shl0 (x : Int32) : (0 : Int32) <<< x = 0 := by
  apply Int32.toBitVec_inj.mp
  rw [Int32.toBitVec_shiftLeft]
  simp
/-- a talk at a, of a town at ta, told by a row -/
def TK (h : gxH) (a ta : Nat) (s : Nat → Int32) (b : Bool) : Prop := ∃ kn aw rk fi ne : Nat → Int32,
  h.1 a = some (.inr (2, [.ref ta, .ref (a + 1), .ref (a + 2), .ref (a + 3), .ref (a + 4), .ref (a + 5), .int (s 76), .int (s 77), .int (s 78), .int (s 122), .int (s 85)])) ∧
  h.1 (a + 1) = some (.inl (0, 10, .inl kn)) ∧ h.1 (a + 2) = some (.inl (0, 36, .inl aw)) ∧ h.1 (a + 3) = some (.inl (0, 6, .inl rk)) ∧ h.1 (a + 4) = some (.inl (0, 6, .inl fi)) ∧ h.1 (a + 5) = some (.inl (0, 6, .inl ne)) ∧
  (∀ k, k < 10 → kn k = s k) ∧ (∀ p q k, p < 6 → q < 6 → k < 10 → hs (aw (6 * p + q)) (nI k) = hs (s (10 + 10 * p + k)) (nI q)) ∧ (∀ p, p < 6 → rk p = s (70 + p)) ∧ (∀ p, p < 6 → fi p = s (79 + p)) ∧ (∀ p, p < 6 → b = true → ne p = spNtS s p 6)
theorem fE.at {fa q : Nat} {h h' : gxH} {x : gxE} (e : fE fa h h') (hf : fcA h fa) (hx : h.1 q = some x) (hne : ∀ f, x ≠ .inl (0, 4, .inl f)) : h'.1 q = some x := by
  obtain ⟨f, hf⟩ := hf
  rw [e.2.1 q (fun k => by rw [k, hf] at hx; exact hne f (Option.some.inj hx).symm)]
  exact hx
theorem TK.fE {fa a ta : Nat} {h h' : gxH} {s : Nat → Int32} {b : Bool} (x : TK h a ta s b) (hf : fcA h fa) (e : fE fa h h') : TK h' a ta s b := by
  obtain ⟨kn, aw, rk, fi, ne, h0, h1, h2, h3, h4, h5, r⟩ := x
  exact ⟨kn, aw, rk, fi, ne, e.at hf h0 (fun f q => by cases q), e.at hf h1 (fun f q => by simp at q), e.at hf h2 (fun f q => by simp at q), e.at hf h3 (fun f q => by simp at q), e.at hf h4 (fun f q => by simp at q), e.at hf h5 (fun f q => by simp at q), r⟩
theorem spBs_S (w : Option gxEv) (A : Nat → Nat → Int32) (s : Nat → Int32) (P k : Nat) (set : Int32) : spBs w A P k set (s 85) (s (70 + (A 17 k).toNatClampNeg)) = spBase w (setS A s) P k set := by
  unfold spBs spBase
  rw [setS_ne (q := 13) (by decide), setS_ne (q := 17) (by decide), setS_ne (q := 18) (by decide), setS_50]
  cases w <;> rfl
/-- towns and talk together -/
def TT (h : gxH) (lo hi a ta fa : Nat) (A : Nat → Nat → Int32) (s : Nat → Int32) (P S E : Nat) (w : Option gxEv) (b : Bool) : Prop := TW h lo hi ta fa A P S E w ∧ TK h a ta s b ∧ mT A P S E w
theorem TT.fE {h h' : gxH} {lo hi a ta fa P S E : Nat} {A : Nat → Nat → Int32} {s : Nat → Int32} {w : Option gxEv} {b : Bool} (x : TT h lo hi a ta fa A s P S E w b) (e : fE fa h h') : TT h' lo hi a ta fa A s P S E w b := ⟨x.1.fE e, x.2.1.fE x.1.2.2.1 e, x.2.2⟩
section LF
variable {G : gxG} {d : Nat} {h : gxH} {lo hi a ta fa P S E : Nat} {A : Nat → Nat → Int32} {s : Nat → Int32} {w : Option gxEv} {b : Bool}
theorem c_Tsecret (hd : 3 ≤ d) (hX : TT h lo hi a ta fa A s P S E w b) (k : Nat) (hk : k < S) : gxM G mX3_secret d 0 0 [.ref a, .int (nI k)] h (gxQr (fun r h' => h' = h ∧ h.1 r = some (.inr (15, [.int (A 16 k), .int (A 17 k), .int (A 18 k), .int (A 19 k), .int (A 20 k), .int (A 21 k)])))) := by
  obtain ⟨hT, hK, hM⟩ := hX; have hT0 := hT; obtain ⟨i1, i2, hf, nl, ol, pl, sl, el, fo, wv, pa, sa, ea, i3, ht, hfo, hpl, hsl, hel, hpa, hsa, hea, hwv⟩ := hT; have hpl0 := hpl.ls; have hsl0 := hsl.ls; have hel0 := hel.ls; have hpl := hpl0; have hsl := hsl0; have hel := hel0; obtain ⟨_, _, _, _, hpl, _⟩ := hpl; obtain ⟨_, _, _, _, hsl, _⟩ := hsl; obtain ⟨_, _, _, _, hel, _⟩ := hel; obtain ⟨kn, aw, rk, fi, ne, ha, hkn, haw, hrk, hfi, hne, ekn, eaw, erk, efi, ene⟩ := hK
  obtain ⟨_, hse⟩ := hsa k hk
  refine gxM_of rfl (Nat.le_of_ble_eq_true rfl) rfl ?_
  refine gx_aload_n (pc := 0) dX3_secret_0 rfl ?_
  refine gx_get (pc := 1) fX3_27 ha rfl dX3_secret_1 ?_
  refine gx_get (pc := 4) fX3_31 ht rfl dX3_secret_4 ?_
  refine gx_iload_n (pc := 7) dX3_secret_7 rfl ?_
  refine kX3_43 (kc := 0) (ks := 0) (mc := 0) (ms := 0) (pc := 8) rfl (c_get (d := d - 1) (by omega) hsl0 k hk) (gxRc.of rfl hsl) (by omega) (Nat.le_of_ble_eq_true rfl) dX3_secret_8 (fun r1 h1 e1 => ?_)
  obtain ⟨rfl, e1⟩ := e1
  subst h1
  refine gx_castS (pc := 11) hse rfl q429 dX3_secret_11 ?_
  exact gx_areturn (pc := 14) rfl (Or.inl ⟨_, rfl⟩) (Or.inr ⟨_, rfl⟩) dX3_secret_14 (⟨_, rfl, ⟨rfl, hse⟩⟩)
theorem c_Tbare (hN : gxN G ≤ lo) (hd : 79 ≤ d) (hX : TT h lo hi a ta fa A s P S E w b) (k : Nat) (hk : k < S) (set : Int32) : gxM G mX3_bare d 0 0 [.ref a, .int (nI k), .int set] h (gxQi (fun r h' => r = spBase w (setS A s) P k set ∧ fE fa h h')) := by
  have hX0 := hX
  obtain ⟨hT, hK, hM⟩ := hX; have hT0 := hT; obtain ⟨i1, i2, hf, nl, ol, pl, sl, el, fo, wv, pa, sa, ea, i3, ht, hfo, hpl, hsl, hel, hpa, hsa, hea, hwv⟩ := hT; have hpl0 := hpl.ls; have hsl0 := hsl.ls; have hel0 := hel.ls; have hpl := hpl0; have hsl := hsl0; have hel := hel0; obtain ⟨_, _, _, _, hpl, _⟩ := hpl; obtain ⟨_, _, _, _, hsl, _⟩ := hsl; obtain ⟨_, _, _, _, hel, _⟩ := hel; obtain ⟨kn, aw, rk, fi, ne, ha, hkn, haw, hrk, hfi, hne, ekn, eaw, erk, efi, ene⟩ := hK
  obtain ⟨p, hp, hwh⟩ := hM.2.2.2.2.2.2.1 k hk
  have hP6 := hM.2.1
  have hS10 := hM.2.2.2.1
  refine gxM_of rfl (Nat.le_of_ble_eq_true rfl) rfl ?_
  refine gx_aload_n (pc := 0) dX3_bare_0 rfl ?_
  refine gx_get (pc := 1) fX3_27 ha rfl dX3_bare_1 ?_
  refine gx_iload_n (pc := 4) dX3_bare_4 rfl ?_
  refine gx_iload_n (pc := 5) dX3_bare_5 rfl ?_
  refine gx_aload_n (pc := 6) dX3_bare_6 rfl ?_
  refine gx_get (pc := 7) fX3_72 ha rfl dX3_bare_7 ?_
  refine gx_aload_n (pc := 10) dX3_bare_10 rfl ?_
  refine gx_get (pc := 11) fX3_18 ha rfl dX3_bare_11 ?_
  refine gx_aload_n (pc := 14) dX3_bare_14 rfl ?_
  refine gx_iload_n (pc := 15) dX3_bare_15 rfl ?_
  refine kX3_86 (kc := 0) (ks := 0) (mc := 0) (ms := 0) (pc := 16) rfl (c_Tsecret (d := d - 1) (by omega) hX0 k hk) (gxRc.of rfl ha) (by omega) (Nat.le_of_ble_eq_true rfl) dX3_bare_16 (fun r1 h1 e1 => ?_)
  obtain ⟨e1, hse⟩ := e1
  subst h1
  refine gx_get (pc := 19) fX3_90 hse rfl dX3_bare_19 ?_
  rw [hwh]
  refine gx_iald (pc := 22) (p) hrk (by first | rfl | simp only [gx_lit, nI_add, pk_mul]) (by omega) (by decide) dX3_bare_22 ?_
  rw [erk p (by omega)]
  refine kX3_93 (kc := 0) (ks := 0) (mc := 0) (ms := 0) (pc := 23) rfl (c_bare (d := d - 1) hN (by omega) hT0 hP6 hS10 k hk set (s 85) (s (70 + p))) (gxRc.of rfl ht) (by omega) (Nat.le_of_ble_eq_true rfl) dX3_bare_23 (fun r1 h1 e1 => ?_)
  obtain ⟨rfl, e1⟩ := e1
  exact gx_ireturn (pc := 26) rfl dX3_bare_26 (⟨_, rfl, ⟨by rw [← spBs_S, hwh, nI_clamp (by omega)], e1⟩⟩)
theorem c_Tworth (hN : gxN G ≤ lo) : ∀ k, k < S → ∀ d h, 81 + k ≤ d → TT h lo hi a ta fa A s P S E w b → gxM G mX3_worth d 0 0 [.ref a, .int (nI k)] h (gxQi (fun r h' => r = spW w (setS A s) P k ∧ fE fa h h')) := by
  intro k
  induction k using Nat.strongRecOn with
  | ind k IH =>
    intro hk d h hd hX
    have hX0 := hX
    obtain ⟨hT, hK, hM⟩ := hX; have hT0 := hT; obtain ⟨i1, i2, hf, nl, ol, pl, sl, el, fo, wv, pa, sa, ea, i3, ht, hfo, hpl, hsl, hel, hpa, hsa, hea, hwv⟩ := hT; have hpl0 := hpl.ls; have hsl0 := hsl.ls; have hel0 := hel.ls; have hpl := hpl0; have hsl := hsl0; have hel := hel0; obtain ⟨_, _, _, _, hpl, _⟩ := hpl; obtain ⟨_, _, _, _, hsl, _⟩ := hsl; obtain ⟨_, _, _, _, hel, _⟩ := hel; obtain ⟨kn, aw, rk, fi, ne, ha, hkn, haw, hrk, hfi, hne, ekn, eaw, erk, efi, ene⟩ := hK
    have hMs : mT (setS A s) P S E w := mSA_T hM
    have hS10 := hM.2.2.2.1
    refine gxM_of rfl (Nat.le_of_ble_eq_true rfl) rfl ?_
    refine gx_aload_n (pc := 0) dX3_worth_0 rfl ?_
    refine gx_get (pc := 1) fX3_60 ha rfl dX3_worth_1 ?_
    refine gx_iload_n (pc := 4) dX3_worth_4 rfl ?_
    refine kX3_97 (kc := 0) (ks := 0) (mc := 0) (ms := 0) (pc := 5) rfl (c_has (d := d - 1) (s 76) (nI k)) (by omega) (Nat.le_of_ble_eq_true rfl) dX3_worth_5 (fun r1 h1 e1 => ?_)
    obtain ⟨rfl, e1⟩ := e1
    subst h1
    refine gx_if_eq (pc := 8) 13 dX3_worth_8 (by decide) (fun c1 => ?_) (fun c1 => ?_)
    · have z1 := zi_eq0 c1
      refine gx_aload_n (pc := 13) dX3_worth_13 rfl ?_
      refine gx_iload_n (pc := 14) dX3_worth_14 rfl ?_
      refine kX3_86 (kc := 0) (ks := 0) (mc := 0) (ms := 0) (pc := 15) rfl (c_Tsecret (d := d - 1) (by omega) hX0 k hk) (gxRc.of rfl ha) (by omega) (Nat.le_of_ble_eq_true rfl) dX3_worth_15 (fun r1 h1 e1 => ?_)
      obtain ⟨e1, hse⟩ := e1
      subst h1
      refine gx_get (pc := 18) fX3_101 hse rfl dX3_worth_18 ?_
      refine gx_istore_n (pc := 21) dX3_worth_21 (by decide) rfl ?_
      refine gx_aload_n (pc := 22) dX3_worth_22 rfl ?_
      refine gx_iload_n (pc := 23) dX3_worth_23 rfl ?_
      refine gx_aload_n (pc := 24) dX3_worth_24 rfl ?_
      refine gx_get (pc := 25) fX3_9 ha rfl dX3_worth_25 ?_
      refine gx_iload_n (pc := 28) dX3_worth_28 rfl ?_
      refine gx_iald (pc := 29) (k) hkn (by first | rfl | simp only [gx_lit, nI_add, pk_mul]) (by omega) (by decide) dX3_worth_29 ?_
      rw [ekn k (by omega)]
      refine kX3_104 (kc := 0) (ks := 0) (mc := 0) (ms := 0) (pc := 30) rfl (c_Tbare (d := d - 1) hN (by omega) hX0 k hk (s k)) (gxRc.of rfl ha) (by omega) (Nat.le_of_ble_eq_true rfl) dX3_worth_30 (fun r1 h1 e1 => ?_)
      obtain ⟨rfl, e1⟩ := e1
      have hX1 := hX0.fE e1
      obtain ⟨_, _, _, _, _, ha, _⟩ := hX1.2.1
      have sw : spW w (setS A s) P k = spBase w (setS A s) P k (s k) + (if A 19 k < 0 then 0 else spWorth w (setS A s) P k (A 19 k).toNatClampNeg) := by
        show spWorth w (setS A s) P (k + 1) k = _
        rw [spWorth, setS_50, z1, setS_ne (q := 19) (by decide)]
        rfl
      refine gx_iload_n (pc := 33) dX3_worth_33 rfl ?_
      refine gx_iconst (pc := 34) (v := (-1)) dX3_worth_34 (by decide) ?_
      refine gx_icmp_ne (pc := 35) 42 dX3_worth_35 (by decide) (fun c2 => ?_) (fun c2 => ?_)
      · rcases hM.2.2.2.2.2.2.2.1 k hk with e | ⟨o, ho, e⟩
        · exact absurd e c2
        · rw [e]
          refine gx_aload_n (pc := 42) dX3_worth_42 rfl ?_
          refine gx_iload_n (pc := 43) dX3_worth_43 rfl ?_
          refine kX3_107 (kc := 0) (ks := 0) (mc := 0) (ms := 0) (pc := 44) rfl (IH o ho (by omega) (d - 1) h1 (by omega) hX1) (gxRc.of rfl ha) (by omega) (Nat.le_of_ble_eq_true rfl) dX3_worth_44 (fun r2 h2 e2 => ?_)
          obtain ⟨rfl, e2⟩ := e2
          refine gx_iadd (pc := 47) dX3_worth_47 ?_
          exact gx_ireturn (pc := 48) rfl dX3_worth_48 (⟨_, rfl, ⟨by rw [sw, e, if_neg (nI_pos (by omega)), nI_clamp (by omega), spWorth_fuel hMs o (by omega) k ho]; rfl, e1.tr e2⟩⟩)
      · have c2' : A 19 k = -1 := c2
        refine gx_iconst (pc := 38) (v := 0) dX3_worth_38 (by decide) ?_
        refine gx_goto (pc := 39) 47 dX3_worth_39 (by decide) ?_
        refine gx_iadd (pc := 47) dX3_worth_47 ?_
        exact gx_ireturn (pc := 48) rfl dX3_worth_48 (⟨_, rfl, ⟨by rw [sw, c2', if_pos (by decide)], e1⟩⟩)
    · have z1 := zi_ne0 c1
      refine gx_iconst (pc := 11) (v := 0) dX3_worth_11 (by decide) ?_
      exact gx_ireturn (pc := 12) rfl dX3_worth_12 (⟨_, rfl, ⟨by show _ = spWorth w (setS A s) P (k + 1) k; rw [spWorth, setS_50, if_pos z1], fE.rf _ _⟩⟩)
theorem c_Tknown (hd : 1 ≤ d) (hX : TT h lo hi a ta fa A s P S E w b) (p : Int32) : gxM G mX3_known d 0 0 [.ref a, .int p] h (gxQi (fun r h' => r = spKnown (setS A s) p S ∧ h' = h)) := by
  have hX0 := hX
  obtain ⟨hT, hK, hM⟩ := hX; have hT0 := hT; obtain ⟨i1, i2, hf, nl, ol, pl, sl, el, fo, wv, pa, sa, ea, i3, ht, hfo, hpl, hsl, hel, hpa, hsa, hea, hwv⟩ := hT; have hpl0 := hpl.ls; have hsl0 := hsl.ls; have hel0 := hel.ls; have hpl := hpl0; have hsl := hsl0; have hel := hel0; obtain ⟨_, _, _, _, hpl, _⟩ := hpl; obtain ⟨_, _, _, _, hsl, _⟩ := hsl; obtain ⟨_, _, _, _, hel, _⟩ := hel; obtain ⟨kn, aw, rk, fi, ne, ha, hkn, haw, hrk, hfi, hne, ekn, eaw, erk, efi, ene⟩ := hK
  have hS10 := hM.2.2.2.1
  refine gxM_of rfl (Nat.le_of_ble_eq_true rfl) rfl ?_
  have L : ∀ m k, m + k = S → gxV G mX3_known d 0 0 4 [some (.ref a), some (.int p), some (.int (spKnown (setS A s) p k)), some (.int (nI k))] [] h (gxQi (fun r h' => r = spKnown (setS A s) p S ∧ h' = h)) := by
    intro m
    induction m with
    | zero =>
      intro k hk
      have : k = S := by omega
      subst this
      refine gx_iload_n (pc := 4) dX3_known_4 rfl ?_
      refine gx_aload_n (pc := 5) dX3_known_5 rfl ?_
      refine gx_get (pc := 6) fX3_27 ha rfl dX3_known_6 ?_
      refine gx_get (pc := 9) fX3_31 ht rfl dX3_known_9 ?_
      refine kX3_37 (kc := 0) (ks := 0) (mc := 0) (ms := 0) (pc := 12) rfl (c_size (d := d - 1) hsl0) (gxRc.of rfl hsl) (by omega) (Nat.le_of_ble_eq_true rfl) dX3_known_12 (fun r1 h1 e1 => ?_)
      obtain ⟨rfl, e1⟩ := e1
      subst h1
      refine gx_icmp_ge (pc := 15) 43 dX3_known_15 (by decide) (fun c1 => ?_) (fun c1 => ?_)
      · refine gx_iload_n (pc := 43) dX3_known_43 rfl ?_
        exact gx_ireturn (pc := 44) rfl dX3_known_44 (⟨_, rfl, ⟨rfl, rfl⟩⟩)
      · exact absurd (nI_le (Nat.le_refl _) (by omega)) c1
    | succ m ih =>
      intro k hk
      have K37 : ∀ v, v = spKnown (setS A s) p (k + 1) → gxV G mX3_known d 0 0 37 [some (.ref a), some (.int p), some (.int v), some (.int (nI k))] [] h (gxQi (fun r h' => r = spKnown (setS A s) p S ∧ h' = h)) := by
        intro v hv
        subst hv
        refine gx_iincc (pc := 37) (c := 1) dX3_known_37 rfl (by decide) (by decide) rfl ?_
        refine gx_goto (pc := 40) 4 dX3_known_40 (by decide) ?_
        rw [nI_1]
        exact ih (k + 1) (by omega)
      have bit : (((s k >>> (p &&& 31)) &&& 1) = 1 ∨ ((s k >>> (p &&& 31)) &&& 1) = 0) := (bit01 _).symm
      refine gx_iload_n (pc := 4) dX3_known_4 rfl ?_
      refine gx_aload_n (pc := 5) dX3_known_5 rfl ?_
      refine gx_get (pc := 6) fX3_27 ha rfl dX3_known_6 ?_
      refine gx_get (pc := 9) fX3_31 ht rfl dX3_known_9 ?_
      refine kX3_37 (kc := 0) (ks := 0) (mc := 0) (ms := 0) (pc := 12) rfl (c_size (d := d - 1) hsl0) (gxRc.of rfl hsl) (by omega) (Nat.le_of_ble_eq_true rfl) dX3_known_12 (fun r1 h1 e1 => ?_)
      obtain ⟨rfl, e1⟩ := e1
      subst h1
      refine gx_icmp_ge (pc := 15) 43 dX3_known_15 (by decide) (fun c1 => ?_) (fun c1 => ?_)
      · exact absurd c1 (nI_ge (by omega) (by omega))
      · refine gx_aload_n (pc := 18) dX3_known_18 rfl ?_
        refine gx_get (pc := 19) fX3_9 ha rfl dX3_known_19 ?_
        refine gx_iload_n (pc := 22) dX3_known_22 rfl ?_
        refine gx_iald (pc := 23) (k) hkn (by first | rfl | simp only [gx_lit, nI_add, pk_mul]) (by omega) (by decide) dX3_known_23 ?_
        rw [ekn k (by omega)]
        refine gx_iload_n (pc := 24) dX3_known_24 rfl ?_
        refine kX3_97 (kc := 0) (ks := 0) (mc := 0) (ms := 0) (pc := 25) rfl (c_has (d := d - 1) (s k) p) (by omega) (Nat.le_of_ble_eq_true rfl) dX3_known_25 (fun r1 h1 e1 => ?_)
        obtain ⟨rfl, e1⟩ := e1
        subst h1
        refine gx_if_eq (pc := 28) 37 dX3_known_28 (by decide) (fun c2 => ?_) (fun c2 => ?_)
        · have z := zi_eq0 c2
          rw [hs, decide_eq_false_iff_not] at z
          have b0 := bit.resolve_left z
          exact K37 _ (by rw [spKnown, setS_50, b0, show (0 : Int32) <<< (nI k &&& 31) = 0 from shl0 _, Int32.or_zero])
        · have z := zi_ne0 c2
          rw [hs, decide_eq_true_eq] at z
          refine gx_iload_n (pc := 31) dX3_known_31 rfl ?_
          refine gx_iconst (pc := 32) (v := 1) dX3_known_32 (by decide) ?_
          refine gx_iload_n (pc := 33) dX3_known_33 rfl ?_
          refine gx_ishl (pc := 34) dX3_known_34 ?_
          refine gx_ior (pc := 35) dX3_known_35 ?_
          refine gx_istore_n (pc := 36) dX3_known_36 (by decide) rfl ?_
          exact K37 _ (by rw [spKnown, setS_50, z])
  refine gx_iconst (pc := 0) (v := 0) dX3_known_0 (by decide) ?_
  refine gx_istore_n (pc := 1) dX3_known_1 (by decide) rfl ?_
  refine gx_iconst (pc := 2) (v := 0) dX3_known_2 (by decide) ?_
  refine gx_istore_n (pc := 3) dX3_known_3 (by decide) rfl ?_
  exact L S 0 (by omega)
end LF
