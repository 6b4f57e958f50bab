/-! ===== COMPONENT P: ear, secret, least ===== -/
set_option maxRecDepth 100000
theorem spChc_eq {A : Nat → Nat → Int32} {k p : Nat} (hp : p < 6) (e : A 22 k = nI p) : spChc A k p = spChance A k := by
  unfold spChc spChance
  rw [e, nI_clamp (by omega)]
  by_cases h1 : A 13 p = 1 <;> simp [h1, spMin, zi]
theorem spErr_ear {A : Nat → Nat → Int32} {p : Nat} (hp : p < 6) (q : Int32) : ∀ m e, oChc A p (spErr A (nI p) q m e) = spEar A (nI p) q m e
  | 0, _ => rfl
  | m + 1, e => by
    rw [spErr, spEar]
    split
    · rename_i hh
      show spChc A e p = _
      exact spChc_eq hp hh.1
    · exact spErr_ear hp q m (e + 1)
theorem spEar_no {A : Nat → Nat → Int32} {p q : Int32} : ∀ m e, (∀ k, e ≤ k → k < e + m → ¬ (A 22 k = p ∧ A 23 k = q)) → spEar A p q m e = -1
  | 0, _, _ => rfl
  | m + 1, e, h => by
    rw [spEar, if_neg (h e (by omega) (by omega))]
    exact spEar_no m (e + 1) (fun k h1 h2 => h k (by omega) (by omega))
section LP
variable {G : gxG} {d : Nat} {h : gxH} {x tk lo hi ta fa P S E : Nat} {A : Nat → Nat → Int32} {s : Nat → Int32} {w : Option gxEv} {b : Bool}
theorem c_Xear (hd : 5 ≤ d) (hO : XO h x tk) (hX : TT h lo hi tk ta fa A s P S E w b) (p q : Int32) : gxM G mX1_ear d 0 0 [.ref x, .int p, .int q] h (gxQi (fun r h' => r = spEar A p q E 0 ∧ h' = h)) := by
  have hX0 := hX
  obtain ⟨hT, hK, hM⟩ := hX; have hT0 := hT; obtain ⟨i1, i2, hf, nl, ol, pl, sl, el, fo, wv, pa, sa, ea, i3, ht, hfo, hpl, hsl, hel, hpa, hsa, hea, hwv⟩ := hT; have hpl0 := hpl.ls; have hsl0 := hsl.ls; have hel0 := hel.ls; have hpl := hpl0; have hsl := hsl0; have hel := hel0; obtain ⟨_, _, _, _, hpl, _⟩ := hpl; obtain ⟨_, _, _, _, hsl, _⟩ := hsl; obtain ⟨_, _, _, _, hel, _⟩ := hel; obtain ⟨kn, aw, rk, fi, ne, ha, hkn, haw, hrk, hfi, hne, ekn, eaw, erk, efi, ene⟩ := hK; obtain ⟨_, _, _, _, _, _, _, _, _, _, _, hx⟩ := id hO
  have hP6 := hM.2.1
  have hE := hM.2.2.2.2.2.1
  have hE2 := hM.2.2.2.2.2.2.2.2.1
  refine gxM_of rfl (Nat.le_of_ble_eq_true rfl) rfl ?_
  have N : (¬ inN p P ∨ ¬ inN q P) → gxV G mX1_ear d 0 0 28 [some (.ref x), some (.int p), some (.int q)] [] h (gxQi (fun r h' => r = spEar A p q E 0 ∧ h' = h)) := by
    intro hh
    refine gx_iconst (pc := 28) (v := (-1)) dX1_ear_28 (by decide) ?_
    exact gx_ireturn (pc := 29) rfl dX1_ear_29 (⟨_, rfl, ⟨(spEar_no E 0 (fun k _ hk e => by obtain ⟨⟨p', hp', e1⟩, ⟨q', hq', e2⟩, _⟩ := hE2 k (by omega); rcases hh with z | z; exact z ⟨p', hp', by rw [← e.1, e1]⟩; exact z ⟨q', hq', by rw [← e.2, e2]⟩)).symm, rfl⟩⟩)
  refine gx_aload_n (pc := 0) dX1_ear_0 rfl ?_
  refine gx_iload_n (pc := 1) dX1_ear_1 rfl ?_
  refine kX1_146 (kc := 0) (ks := 0) (mc := 0) (ms := 0) (pc := 2) rfl (c_XisPerson (d := d - 1) (by omega) hO hX0 p) (gxRc.of rfl hx) (by omega) (Nat.le_of_ble_eq_true rfl) dX1_ear_2 (fun r1 h1 e1 => ?_)
  obtain ⟨e1, e2⟩ := e1
  subst h1
  refine gx_if_eq (pc := 5) 28 dX1_ear_5 (by decide) (fun c1 => ?_) (fun c1 => ?_)
  · rcases e1 with ⟨z, rfl⟩ | ⟨z, rfl⟩
    · exact absurd c1 (by decide)
    · exact N (Or.inl z)
  · rcases e1 with ⟨⟨p', hp', rfl⟩, rfl⟩ | ⟨z, rfl⟩
    · refine gx_aload_n (pc := 8) dX1_ear_8 rfl ?_
      refine gx_iload_n (pc := 9) dX1_ear_9 rfl ?_
      refine kX1_146 (kc := 0) (ks := 0) (mc := 0) (ms := 0) (pc := 10) rfl (c_XisPerson (d := d - 1) (by omega) hO hX0 q) (gxRc.of rfl hx) (by omega) (Nat.le_of_ble_eq_true rfl) dX1_ear_10 (fun r1 h1 e1 => ?_)
      obtain ⟨e1, e2⟩ := e1
      subst h1
      refine gx_if_eq (pc := 13) 28 dX1_ear_13 (by decide) (fun c2 => ?_) (fun c2 => ?_)
      · rcases e1 with ⟨z, rfl⟩ | ⟨z, rfl⟩
        · exact absurd c2 (by decide)
        · exact N (Or.inr z)
      · refine gx_aload_n (pc := 16) dX1_ear_16 rfl ?_
        refine kX1_119 (kc := 0) (ks := 0) (mc := 0) (ms := 0) (pc := 17) rfl (c_now (d := d - 1) hO hX0) (gxRc.of rfl hx) (by omega) (Nat.le_of_ble_eq_true rfl) dX1_ear_17 (fun r1 h1 e3 => ?_)
        obtain ⟨rfl, e3⟩ := e3
        subst h1
        refine gx_iload_n (pc := 20) dX1_ear_20 rfl ?_
        refine gx_iload_n (pc := 21) dX1_ear_21 rfl ?_
        refine kX1_225 (kc := 0) (ks := 0) (mc := 0) (ms := 0) (pc := 22) rfl (c_Tear (d := d - 1) (by omega) hT0 hP6 hE p' hp' q) (gxRc.of rfl ht) (by omega) (Nat.le_of_ble_eq_true rfl) dX1_ear_22 (fun r1 h1 e3 => ?_)
        obtain ⟨rfl, e3⟩ := e3
        subst h1
        refine gx_goto (pc := 25) 29 dX1_ear_25 (by decide) ?_
        exact gx_ireturn (pc := 29) rfl dX1_ear_29 (⟨_, rfl, ⟨spErr_ear (by omega) q E 0, rfl⟩⟩)
    · exact absurd rfl c1
theorem c_XleastP (hN : gxN G ≤ lo) (hd : 96 ≤ d) (hO : XO h x tk) (hX : TT h lo hi tk ta fa A s P S E w b) (p : Int32) : gxM G mX1_least d 0 0 [.ref x, .int p] h (gxQi (fun r h' => ((¬ inN p P ∧ r = -1) ∨ ∃ p', p' < P ∧ p = nI p' ∧ r = spLeast w (setS A s) P S p') ∧ fE fa h h')) := by
  have hX0 := hX
  obtain ⟨hT, hK, hM⟩ := hX; have hT0 := hT; obtain ⟨i1, i2, hf, nl, ol, pl, sl, el, fo, wv, pa, sa, ea, i3, ht, hfo, hpl, hsl, hel, hpa, hsa, hea, hwv⟩ := hT; have hpl0 := hpl.ls; have hsl0 := hsl.ls; have hel0 := hel.ls; have hpl := hpl0; have hsl := hsl0; have hel := hel0; obtain ⟨_, _, _, _, hpl, _⟩ := hpl; obtain ⟨_, _, _, _, hsl, _⟩ := hsl; obtain ⟨_, _, _, _, hel, _⟩ := hel; obtain ⟨kn, aw, rk, fi, ne, ha, hkn, haw, hrk, hfi, hne, ekn, eaw, erk, efi, ene⟩ := hK; obtain ⟨_, _, _, _, _, _, _, _, _, _, _, hx⟩ := id hO
  refine gxM_of rfl (Nat.le_of_ble_eq_true rfl) rfl ?_
  refine gx_aload_n (pc := 0) dX1_least_0 rfl ?_
  refine gx_iload_n (pc := 1) dX1_least_1 rfl ?_
  refine kX1_146 (kc := 0) (ks := 0) (mc := 0) (ms := 0) (pc := 2) rfl (c_XisPerson (d := d - 1) (by omega) hO hX0 p) (gxRc.of rfl hx) (by omega) (Nat.le_of_ble_eq_true rfl) dX1_least_2 (fun r1 h1 e1 => ?_)
  obtain ⟨e1, e2⟩ := e1
  subst h1
  refine gx_if_eq (pc := 5) 19 dX1_least_5 (by decide) (fun c1 => ?_) (fun c1 => ?_)
  · rcases e1 with ⟨z, rfl⟩ | ⟨z, rfl⟩
    · exact absurd c1 (by decide)
    · refine gx_iconst (pc := 19) (v := (-1)) dX1_least_19 (by decide) ?_
      exact gx_ireturn (pc := 20) rfl dX1_least_20 (⟨_, rfl, ⟨Or.inl ⟨z, rfl⟩, fE.rf _ _⟩⟩)
  · rcases e1 with ⟨⟨p', hp', rfl⟩, rfl⟩ | ⟨z, rfl⟩
    · refine gx_aload_n (pc := 8) dX1_least_8 rfl ?_
      refine gx_get (pc := 9) fX1_40 hx rfl dX1_least_9 ?_
      refine gx_iload_n (pc := 12) dX1_least_12 rfl ?_
      refine kX1_287 (kc := 0) (ks := 0) (mc := 0) (ms := 0) (pc := 13) rfl (c_Xleast (d := d - 1) hN (by omega) hX0 p' hp') (gxRc.of rfl ha) (by omega) (Nat.le_of_ble_eq_true rfl) dX1_least_13 (fun r1 h1 e3 => ?_)
      obtain ⟨rfl, e3⟩ := e3
      refine gx_goto (pc := 16) 20 dX1_least_16 (by decide) ?_
      exact gx_ireturn (pc := 20) rfl dX1_least_20 (⟨_, rfl, ⟨Or.inr ⟨p', hp', rfl, rfl⟩, e3⟩⟩)
    · exact absurd rfl c1
theorem c_Xsecret (hN : gxN G ≤ lo) (hd : 93 ≤ d) (hO : XO h x tk) (hX : TT h lo hi tk ta fa A s P S E w b) (h16 : ∀ k, k < S → A 16 k = 0 ∨ A 16 k = 1) (k what : Int32) : gxM G mX1_secret d 0 0 [.ref x, .int k, .int what] h (gxQi (fun r h' => ((¬ (inN k S ∧ (0 ≤ what ∧ what ≤ 9)) ∧ r = -1) ∨ ((0 ≤ what ∧ what ≤ 9) ∧ ∃ k', k' < S ∧ k = nI k' ∧ r = spSecret w (setS A s) P k' what)) ∧ fE fa h h')) := by
  have hX0 := hX
  obtain ⟨hT, hK, hM⟩ := hX; have hT0 := hT; obtain ⟨i1, i2, hf, nl, ol, pl, sl, el, fo, wv, pa, sa, ea, i3, ht, hfo, hpl, hsl, hel, hpa, hsa, hea, hwv⟩ := hT; have hpl0 := hpl.ls; have hsl0 := hsl.ls; have hel0 := hel.ls; have hpl := hpl0; have hsl := hsl0; have hel := hel0; obtain ⟨_, _, _, _, hpl, _⟩ := hpl; obtain ⟨_, _, _, _, hsl, _⟩ := hsl; obtain ⟨_, _, _, _, hel, _⟩ := hel; obtain ⟨kn, aw, rk, fi, ne, ha, hkn, haw, hrk, hfi, hne, ekn, eaw, erk, efi, ene⟩ := hK; obtain ⟨_, _, _, _, _, _, _, _, _, _, _, hx⟩ := id hO
  have hP6 := hM.2.1
  have hS10 := hM.2.2.2.1
  refine gxM_of rfl (Nat.le_of_ble_eq_true rfl) rfl ?_
  refine gx_aload_n (pc := 0) dX1_secret_0 rfl ?_
  refine gx_iload_n (pc := 1) dX1_secret_1 rfl ?_
  refine kX1_186 (kc := 0) (ks := 0) (mc := 0) (ms := 0) (pc := 2) rfl (c_XisSecret (d := d - 1) (by omega) hO hX0 k) (gxRc.of rfl hx) (by omega) (Nat.le_of_ble_eq_true rfl) dX1_secret_2 (fun r1 h1 e1 => ?_)
  obtain ⟨e1, e2⟩ := e1
  subst h1
  refine gx_if_ne (pc := 5) 10 dX1_secret_5 (by decide) (fun c1 => ?_) (fun c1 => ?_)
  · rcases e1 with ⟨⟨k', hk', rfl⟩, rfl⟩ | ⟨z, rfl⟩
    · obtain ⟨_, hse⟩ := hsa k' hk'
      have hO0 := hO
      refine gx_aload_n (pc := 10) dX1_secret_10 rfl ?_
      refine kX1_119 (kc := 0) (ks := 0) (mc := 0) (ms := 0) (pc := 11) rfl (c_now (d := d - 1) hO hX0) (gxRc.of rfl hx) (by omega) (Nat.le_of_ble_eq_true rfl) dX1_secret_11 (fun r1 h1 e3 => ?_)
      obtain ⟨rfl, e3⟩ := e3
      subst h1
      refine gx_get (pc := 14) fX1_135 ht rfl dX1_secret_14 ?_
      refine gx_iload_n (pc := 17) dX1_secret_17 rfl ?_
      refine kX1_153 (kc := 0) (ks := 0) (mc := 0) (ms := 0) (pc := 18) rfl (c_get (d := d - 1) (by omega) hsl0 k' hk') (gxRc.of rfl hsl) (by omega) (Nat.le_of_ble_eq_true rfl) dX1_secret_18 (fun r1 h1 e3 => ?_)
      obtain ⟨rfl, e3⟩ := e3
      subst h1
      refine gx_castS (pc := 21) hse rfl q1329 dX1_secret_21 ?_
      refine gx_astore_n (pc := 24) dX1_secret_24 (by decide) rfl ?_
      refine gx_iload_n (pc := 25) dX1_secret_25 rfl ?_
      by_cases hw : 0 ≤ what ∧ what ≤ 9
      · obtain ⟨m, hm, rfl⟩ := nI_of2 (M := 9) (n := 9) (by decide) (Int32.not_lt.mpr hw.1) hw.2
        have fin : ∀ r h1, fE fa h h1 → r = spSecret w (setS A s) P k' (nI m) → (fun r h' => ((¬ (inN (nI k') S ∧ (0 ≤ nI m ∧ nI m ≤ 9)) ∧ r = -1) ∨ ((0 ≤ nI m ∧ nI m ≤ 9) ∧ ∃ k2, k2 < S ∧ nI k' = nI k2 ∧ r = spSecret w (setS A s) P k2 (nI m))) ∧ fE fa h h') r h1 := fun r h1 g1 g2 => ⟨Or.inr ⟨hw, k', hk', rfl, g2⟩, g1⟩
        have hm8 : m = 0 ∨ m = 1 ∨ m = 2 ∨ m = 3 ∨ m = 4 ∨ m = 5 ∨ m = 6 ∨ m = 7 ∨ m = 8 ∨ m = 9 := by omega
        rcases hm8 with e | e | e | e | e | e | e | e | e | e <;> subst e
        · refine gx_tableIn (pc := 26) 80 dX1_secret_26 (by decide) (by decide) rfl rfl ?_
          refine gx_aload_n (pc := 80) dX1_secret_80 rfl ?_
          refine gx_get (pc := 81) fX1_191 hse rfl dX1_secret_81 ?_
          refine gx_if_eq (pc := 84) 91 dX1_secret_84 (by decide) (fun c2 => ?_) (fun c2 => ?_)
          · refine gx_iconst (pc := 91) (v := 0) dX1_secret_91 (by decide) ?_
            exact gx_ireturn (pc := 92) rfl dX1_secret_92 (⟨_, rfl, fin _ _ (fE.rf _ _) c2.symm⟩)
          · have z := (h16 k' hk').resolve_left c2
            refine gx_iconst (pc := 87) (v := 1) dX1_secret_87 (by decide) ?_
            refine gx_goto (pc := 88) 92 dX1_secret_88 (by decide) ?_
            exact gx_ireturn (pc := 92) rfl dX1_secret_92 (⟨_, rfl, fin _ _ (fE.rf _ _) z.symm⟩)
        · refine gx_tableIn (pc := 26) 93 dX1_secret_26 (by decide) (by decide) rfl rfl ?_
          refine gx_aload_n (pc := 93) dX1_secret_93 rfl ?_
          refine gx_get (pc := 94) fX1_195 hse rfl dX1_secret_94 ?_
          exact gx_ireturn (pc := 97) rfl dX1_secret_97 (⟨_, rfl, fin _ _ (fE.rf _ _) rfl⟩)
        · refine gx_tableIn (pc := 26) 98 dX1_secret_26 (by decide) (by decide) rfl rfl ?_
          refine gx_aload_n (pc := 98) dX1_secret_98 rfl ?_
          refine gx_get (pc := 99) fX1_198 hse rfl dX1_secret_99 ?_
          exact gx_ireturn (pc := 102) rfl dX1_secret_102 (⟨_, rfl, fin _ _ (fE.rf _ _) rfl⟩)
        · refine gx_tableIn (pc := 26) 103 dX1_secret_26 (by decide) (by decide) rfl rfl ?_
          refine gx_aload_n (pc := 103) dX1_secret_103 rfl ?_
          refine gx_get (pc := 104) fX1_201 hse rfl dX1_secret_104 ?_
          exact gx_ireturn (pc := 107) rfl dX1_secret_107 (⟨_, rfl, fin _ _ (fE.rf _ _) rfl⟩)
        · refine gx_tableIn (pc := 26) 108 dX1_secret_26 (by decide) (by decide) rfl rfl ?_
          refine gx_aload_n (pc := 108) dX1_secret_108 rfl ?_
          refine gx_get (pc := 109) fX1_40 hx rfl dX1_secret_109 ?_
          refine gx_get (pc := 112) fX1_204 ha rfl dX1_secret_112 ?_
          refine gx_iload_n (pc := 115) dX1_secret_115 rfl ?_
          refine gx_iald (pc := 116) (k') hkn (by first | rfl | simp only [gx_lit, nI_add, pk_mul]) (by omega) (by decide) dX1_secret_116 ?_
          rw [ekn k' (by omega)]
          exact gx_ireturn (pc := 117) rfl dX1_secret_117 (⟨_, rfl, fin _ _ (fE.rf _ _) rfl⟩)
        · refine gx_tableIn (pc := 26) 118 dX1_secret_26 (by decide) (by decide) rfl rfl ?_
          refine gx_aload_n (pc := 118) dX1_secret_118 rfl ?_
          refine kX1_119 (kc := 0) (ks := 0) (mc := 0) (ms := 0) (pc := 119) rfl (c_now (d := d - 1) hO hX0) (gxRc.of rfl hx) (by omega) (Nat.le_of_ble_eq_true rfl) dX1_secret_119 (fun r1 h1 e3 => ?_)
          obtain ⟨rfl, e3⟩ := e3
          subst h1
          refine gx_aload_n (pc := 122) dX1_secret_122 rfl ?_
          refine gx_get (pc := 123) fX1_40 hx rfl dX1_secret_123 ?_
          refine gx_get (pc := 126) fX1_204 ha rfl dX1_secret_126 ?_
          refine gx_iload_n (pc := 129) dX1_secret_129 rfl ?_
          refine gx_iald (pc := 130) (k') hkn (by first | rfl | simp only [gx_lit, nI_add, pk_mul]) (by omega) (by decide) dX1_secret_130 ?_
          rw [ekn k' (by omega)]
          refine kX1_207 (kc := 0) (ks := 0) (mc := 0) (ms := 0) (pc := 131) rfl (c_knowers (d := d - 1) (by omega) hT0 hP6 (s k')) (gxRc.of rfl ht) (by omega) (Nat.le_of_ble_eq_true rfl) dX1_secret_131 (fun r1 h1 e3 => ?_)
          obtain ⟨rfl, e3⟩ := e3
          subst h1
          exact gx_ireturn (pc := 134) rfl dX1_secret_134 (⟨_, rfl, fin _ _ (fE.rf _ _) rfl⟩)
        · refine gx_tableIn (pc := 26) 135 dX1_secret_26 (by decide) (by decide) rfl rfl ?_
          refine gx_aload_n (pc := 135) dX1_secret_135 rfl ?_
          refine gx_get (pc := 136) fX1_40 hx rfl dX1_secret_136 ?_
          refine gx_iload_n (pc := 139) dX1_secret_139 rfl ?_
          refine kX1_210 (kc := 0) (ks := 0) (mc := 0) (ms := 0) (pc := 140) rfl (c_Tworth hN k' hk' (d - 1) h (by omega) hX0) (gxRc.of rfl ha) (by omega) (Nat.le_of_ble_eq_true rfl) dX1_secret_140 (fun r1 h1 e3 => ?_)
          obtain ⟨rfl, e3⟩ := e3
          exact gx_ireturn (pc := 143) rfl dX1_secret_143 (⟨_, rfl, fin _ _ e3 rfl⟩)
        · refine gx_tableIn (pc := 26) 144 dX1_secret_26 (by decide) (by decide) rfl rfl ?_
          have bb := bit01 (s 76 >>> (nI k' &&& 31))
          refine gx_aload_n (pc := 144) dX1_secret_144 rfl ?_
          refine gx_get (pc := 145) fX1_40 hx rfl dX1_secret_145 ?_
          refine gx_get (pc := 148) fX1_213 ha rfl dX1_secret_148 ?_
          refine gx_iload_n (pc := 151) dX1_secret_151 rfl ?_
          refine kX1_176 (kc := 0) (ks := 0) (mc := 0) (ms := 0) (pc := 152) rfl (c_has (d := d - 1) (s 76) (nI k')) (by omega) (Nat.le_of_ble_eq_true rfl) dX1_secret_152 (fun r1 h1 e3 => ?_)
          obtain ⟨rfl, e3⟩ := e3
          subst h1
          refine gx_if_eq (pc := 155) 162 dX1_secret_155 (by decide) (fun c2 => ?_) (fun c2 => ?_)
          · have z := zi_eq0 c2
            rw [hs, decide_eq_false_iff_not] at z
            refine gx_iconst (pc := 162) (v := 0) dX1_secret_162 (by decide) ?_
            exact gx_ireturn (pc := 163) rfl dX1_secret_163 (⟨_, rfl, fin _ _ (fE.rf _ _) (bb.resolve_right z).symm⟩)
          · have z := zi_ne0 c2
            rw [hs, decide_eq_true_eq] at z
            refine gx_iconst (pc := 158) (v := 1) dX1_secret_158 (by decide) ?_
            refine gx_goto (pc := 159) 163 dX1_secret_159 (by decide) ?_
            exact gx_ireturn (pc := 163) rfl dX1_secret_163 (⟨_, rfl, fin _ _ (fE.rf _ _) z.symm⟩)
        · refine gx_tableIn (pc := 26) 164 dX1_secret_26 (by decide) (by decide) rfl rfl ?_
          have bb := bit01 (s 77 >>> (nI k' &&& 31))
          refine gx_aload_n (pc := 164) dX1_secret_164 rfl ?_
          refine gx_get (pc := 165) fX1_40 hx rfl dX1_secret_165 ?_
          refine gx_get (pc := 168) fX1_216 ha rfl dX1_secret_168 ?_
          refine gx_iload_n (pc := 171) dX1_secret_171 rfl ?_
          refine kX1_176 (kc := 0) (ks := 0) (mc := 0) (ms := 0) (pc := 172) rfl (c_has (d := d - 1) (s 77) (nI k')) (by omega) (Nat.le_of_ble_eq_true rfl) dX1_secret_172 (fun r1 h1 e3 => ?_)
          obtain ⟨rfl, e3⟩ := e3
          subst h1
          refine gx_if_eq (pc := 175) 182 dX1_secret_175 (by decide) (fun c2 => ?_) (fun c2 => ?_)
          · have z := zi_eq0 c2
            rw [hs, decide_eq_false_iff_not] at z
            refine gx_iconst (pc := 182) (v := 0) dX1_secret_182 (by decide) ?_
            exact gx_ireturn (pc := 183) rfl dX1_secret_183 (⟨_, rfl, fin _ _ (fE.rf _ _) (bb.resolve_right z).symm⟩)
          · have z := zi_ne0 c2
            rw [hs, decide_eq_true_eq] at z
            refine gx_iconst (pc := 178) (v := 1) dX1_secret_178 (by decide) ?_
            refine gx_goto (pc := 179) 183 dX1_secret_179 (by decide) ?_
            exact gx_ireturn (pc := 183) rfl dX1_secret_183 (⟨_, rfl, fin _ _ (fE.rf _ _) z.symm⟩)
        · refine gx_tableIn (pc := 26) 184 dX1_secret_26 (by decide) (by decide) rfl rfl ?_
          refine gx_aload_n (pc := 184) dX1_secret_184 rfl ?_
          refine gx_get (pc := 185) fX1_219 hse rfl dX1_secret_185 ?_
          exact gx_ireturn (pc := 188) rfl dX1_secret_188 (⟨_, rfl, fin _ _ (fE.rf _ _) rfl⟩)
      · have hx2 : what.toInt < 0 ∨ 9 < what.toInt := by
          rcases Decidable.em (0 ≤ what) with z | z
          · right
            have : ¬ what ≤ 9 := fun y => hw ⟨z, y⟩
            rw [Int32.le_iff_toInt_le] at this
            have e9 : (9 : Int32).toInt = 9 := by decide
            omega
          · left
            rw [Int32.le_iff_toInt_le] at z
            have e0 : (0 : Int32).toInt = 0 := by decide
            omega
        refine gx_tableOut (pc := 26) 189 dX1_secret_26 hx2 rfl ?_
        refine gx_iconst (pc := 189) (v := (-1)) dX1_secret_189 (by decide) ?_
        exact gx_ireturn (pc := 190) rfl dX1_secret_190 (⟨_, rfl, ⟨Or.inl ⟨fun hh => hw hh.2, rfl⟩, fE.rf _ _⟩⟩)
    · exact absurd rfl c1
  · rcases e1 with ⟨z, rfl⟩ | ⟨z, rfl⟩
    · exact absurd c1 (by decide)
    · refine gx_iconst (pc := 8) (v := (-1)) dX1_secret_8 (by decide) ?_
      exact gx_ireturn (pc := 9) rfl dX1_secret_9 (⟨_, rfl, ⟨Or.inl ⟨fun hh => z hh.1, rfl⟩, fE.rf _ _⟩⟩)
end LP
