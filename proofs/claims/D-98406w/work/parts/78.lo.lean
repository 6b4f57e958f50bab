/-! ===== COMPONENT O: what is asked of it ===== -/
set_option maxRecDepth 100000
/-- the component's object -/
def XO (h : gxH) (x tk : Nat) : Prop := ∃ (r tr gl sl bl py pt ng ft mk : Nat) (g : Int64), h.1 x = some (.inr (0, [.ref r, .ref tk, .ref tr, .ref gl, .ref sl, .ref bl, .ref py, .ref pt, .ref ng, .ref ft, .long g, .ref mk]))
theorem XO.fE {h h' : gxH} {x tk fa : Nat} (y : XO h x tk) (hf : fcA h fa) (e : fE fa h h') : XO h' x tk := by
  obtain ⟨r, tr, gl, sl, bl, py, pt, ng, ft, mk, g, hx⟩ := y
  exact ⟨r, tr, gl, sl, bl, py, pt, ng, ft, mk, g, e.at hf hx (fun f q => by cases q)⟩
theorem inN_le {p : Int32} {N : Nat} (hN : N ≤ 1000) : (decide (0 ≤ p) && decide (p ≤ nI N - 1)) = true ↔ inN p N := by
  cases N with
  | zero =>
    constructor
    · intro hh
      simp only [Bool.and_eq_true, decide_eq_true_eq] at hh
      have : p ≤ -1 := hh.2
      exact absurd (Int32.le_trans hh.1 this) (by decide)
    · rintro ⟨j, hj, _⟩; omega
  | succ N =>
    rw [nI_pred]
    constructor
    · intro hh
      simp only [Bool.and_eq_true, decide_eq_true_eq] at hh
      obtain ⟨j, hj, rfl⟩ := nI_of (Int32.not_lt.mpr hh.1)
      exact ⟨j, by have := (nI_leI hj (by omega)).mp hh.2; omega, rfl⟩
    · rintro ⟨j, hj, rfl⟩
      simp only [Bool.and_eq_true, decide_eq_true_eq]
      exact ⟨nI_pos' (by omega), nI_le (by omega) (by omega)⟩
section LO
variable {G : gxG} {d : Nat} {h : gxH} {x tk lo hi ta fa P S E : Nat} {A : Nat → Nat → Int32} {s : Nat → Int32} {w : Option gxEv} {b : Bool}
theorem c_now (hO : XO h x tk) (hX : TT h lo hi tk ta fa A s P S E w b) : gxM G mX1_now d 0 0 [.ref x] h (gxQr (fun r h' => r = ta ∧ h' = h)) := by
  obtain ⟨hT, hK, hM⟩ := hX; have hT0 := hT; obtain ⟨i1, i2, hf, nl, ol, pl, sl, el, fo, wv, pa, sa, ea, i3, ht, hfo, hpl, hsl, hel, hpa, hsa, hea, hwv⟩ := hT; have hpl0 := hpl.ls; have hsl0 := hsl.ls; have hel0 := hel.ls; have hpl := hpl0; have hsl := hsl0; have hel := hel0; obtain ⟨_, _, _, _, hpl, _⟩ := hpl; obtain ⟨_, _, _, _, hsl, _⟩ := hsl; obtain ⟨_, _, _, _, hel, _⟩ := hel; obtain ⟨kn, aw, rk, fi, ne, ha, hkn, haw, hrk, hfi, hne, ekn, eaw, erk, efi, ene⟩ := hK; obtain ⟨_, _, _, _, _, _, _, _, _, _, _, hx⟩ := id hO
  refine gxM_of rfl (Nat.le_of_ble_eq_true rfl) rfl ?_
  refine gx_aload_n (pc := 0) dX1_now_0 rfl ?_
  refine gx_get (pc := 1) fX1_40 hx rfl dX1_now_1 ?_
  refine gx_get (pc := 4) fX1_125 ha rfl dX1_now_4 ?_
  exact gx_areturn (pc := 7) rfl (Or.inl ⟨_, rfl⟩) (Or.inr ⟨_, rfl⟩) dX1_now_7 (⟨_, rfl, ⟨rfl, rfl⟩⟩)
theorem c_people (hd : 1 ≤ d) (hO : XO h x tk) (hX : TT h lo hi tk ta fa A s P S E w b) : gxM G mX1_people d 0 0 [.ref x] h (gxQi (fun r h' => r = nI P ∧ h' = h)) := by
  have hX0 := hX
  obtain ⟨hT, hK, hM⟩ := hX; have hT0 := hT; obtain ⟨i1, i2, hf, nl, ol, pl, sl, el, fo, wv, pa, sa, ea, i3, ht, hfo, hpl, hsl, hel, hpa, hsa, hea, hwv⟩ := hT; have hpl0 := hpl.ls; have hsl0 := hsl.ls; have hel0 := hel.ls; have hpl := hpl0; have hsl := hsl0; have hel := hel0; obtain ⟨_, _, _, _, hpl, _⟩ := hpl; obtain ⟨_, _, _, _, hsl, _⟩ := hsl; obtain ⟨_, _, _, _, hel, _⟩ := hel; obtain ⟨kn, aw, rk, fi, ne, ha, hkn, haw, hrk, hfi, hne, ekn, eaw, erk, efi, ene⟩ := hK; obtain ⟨_, _, _, _, _, _, _, _, _, _, _, hx⟩ := id hO
  refine gxM_of rfl (Nat.le_of_ble_eq_true rfl) rfl ?_
  refine gx_aload_n (pc := 0) dX1_people_0 rfl ?_
  refine kX1_119 (kc := 0) (ks := 0) (mc := 0) (ms := 0) (pc := 1) rfl (c_now (d := d - 1) hO hX0) (gxRc.of rfl hx) (by omega) (Nat.le_of_ble_eq_true rfl) dX1_people_1 (fun r1 h1 e1 => ?_)
  obtain ⟨rfl, e1⟩ := e1
  subst h1
  refine gx_get (pc := 4) fX1_128 ht rfl dX1_people_4 ?_
  refine kX1_131 (kc := 0) (ks := 0) (mc := 0) (ms := 0) (pc := 7) rfl (c_size (d := d - 1) hpl0) (gxRc.of rfl hpl) (by omega) (Nat.le_of_ble_eq_true rfl) dX1_people_7 (fun r1 h1 e1 => ?_)
  obtain ⟨rfl, e1⟩ := e1
  subst h1
  exact gx_ireturn (pc := 10) rfl dX1_people_10 (⟨_, rfl, ⟨rfl, rfl⟩⟩)
theorem c_secrets (hd : 1 ≤ d) (hO : XO h x tk) (hX : TT h lo hi tk ta fa A s P S E w b) : gxM G mX1_secrets d 0 0 [.ref x] h (gxQi (fun r h' => r = nI S ∧ h' = h)) := by
  have hX0 := hX
  obtain ⟨hT, hK, hM⟩ := hX; have hT0 := hT; obtain ⟨i1, i2, hf, nl, ol, pl, sl, el, fo, wv, pa, sa, ea, i3, ht, hfo, hpl, hsl, hel, hpa, hsa, hea, hwv⟩ := hT; have hpl0 := hpl.ls; have hsl0 := hsl.ls; have hel0 := hel.ls; have hpl := hpl0; have hsl := hsl0; have hel := hel0; obtain ⟨_, _, _, _, hpl, _⟩ := hpl; obtain ⟨_, _, _, _, hsl, _⟩ := hsl; obtain ⟨_, _, _, _, hel, _⟩ := hel; obtain ⟨kn, aw, rk, fi, ne, ha, hkn, haw, hrk, hfi, hne, ekn, eaw, erk, efi, ene⟩ := hK; obtain ⟨_, _, _, _, _, _, _, _, _, _, _, hx⟩ := id hO
  refine gxM_of rfl (Nat.le_of_ble_eq_true rfl) rfl ?_
  refine gx_aload_n (pc := 0) dX1_secrets_0 rfl ?_
  refine kX1_119 (kc := 0) (ks := 0) (mc := 0) (ms := 0) (pc := 1) rfl (c_now (d := d - 1) hO hX0) (gxRc.of rfl hx) (by omega) (Nat.le_of_ble_eq_true rfl) dX1_secrets_1 (fun r1 h1 e1 => ?_)
  obtain ⟨rfl, e1⟩ := e1
  subst h1
  refine gx_get (pc := 4) fX1_135 ht rfl dX1_secrets_4 ?_
  refine kX1_131 (kc := 0) (ks := 0) (mc := 0) (ms := 0) (pc := 7) rfl (c_size (d := d - 1) hsl0) (gxRc.of rfl hsl) (by omega) (Nat.le_of_ble_eq_true rfl) dX1_secrets_7 (fun r1 h1 e1 => ?_)
  obtain ⟨rfl, e1⟩ := e1
  subst h1
  exact gx_ireturn (pc := 10) rfl dX1_secrets_10 (⟨_, rfl, ⟨rfl, rfl⟩⟩)
theorem c_XisPerson (hd : 2 ≤ d) (hO : XO h x tk) (hX : TT h lo hi tk ta fa A s P S E w b) (p : Int32) : gxM G mX1_isPerson d 0 0 [.ref x, .int p] h (gxQi (fun r h' => ((inN p P ∧ r = 1) ∨ (¬ inN p P ∧ r = 0)) ∧ h' = h)) := by
  have hX0 := hX
  obtain ⟨hT, hK, hM⟩ := hX; have hT0 := hT; obtain ⟨i1, i2, hf, nl, ol, pl, sl, el, fo, wv, pa, sa, ea, i3, ht, hfo, hpl, hsl, hel, hpa, hsa, hea, hwv⟩ := hT; have hpl0 := hpl.ls; have hsl0 := hsl.ls; have hel0 := hel.ls; have hpl := hpl0; have hsl := hsl0; have hel := hel0; obtain ⟨_, _, _, _, hpl, _⟩ := hpl; obtain ⟨_, _, _, _, hsl, _⟩ := hsl; obtain ⟨_, _, _, _, hel, _⟩ := hel; obtain ⟨kn, aw, rk, fi, ne, ha, hkn, haw, hrk, hfi, hne, ekn, eaw, erk, efi, ene⟩ := hK; obtain ⟨_, _, _, _, _, _, _, _, _, _, _, hx⟩ := id hO
  have hP6 := hM.2.1
  have il := inN_le (p := p) (N := P) (by omega)
  refine gxM_of rfl (Nat.le_of_ble_eq_true rfl) rfl ?_
  refine gx_iload_n (pc := 0) dX1_isPerson_0 rfl ?_
  refine gx_iconst (pc := 1) (v := 0) dX1_isPerson_1 (by decide) ?_
  refine gx_aload_n (pc := 2) dX1_isPerson_2 rfl ?_
  refine kX1_138 (kc := 0) (ks := 0) (mc := 0) (ms := 0) (pc := 3) rfl (c_people (d := d - 1) (by omega) hO hX0) (gxRc.of rfl hx) (by omega) (Nat.le_of_ble_eq_true rfl) dX1_isPerson_3 (fun r1 h1 e1 => ?_)
  obtain ⟨rfl, e1⟩ := e1
  subst h1
  refine gx_iconst (pc := 6) (v := 1) dX1_isPerson_6 (by decide) ?_
  refine gx_isub (pc := 7) dX1_isPerson_7 ?_
  refine kX1_140 (kc := 0) (ks := 0) (mc := 0) (ms := 0) (pc := 8) rfl (c_Xwithin (d := d - 1) p 0 (nI P - 1)) (by omega) (Nat.le_of_ble_eq_true rfl) dX1_isPerson_8 (fun r1 h1 e1 => ?_)
  obtain ⟨rfl, e1⟩ := e1
  subst h1
  cases e : (decide (0 ≤ p) && decide (p ≤ nI P - 1)) with
  | true =>
    exact gx_zreturn (pc := 11) rfl (by decide) dX1_isPerson_11 (⟨_, rfl, ⟨Or.inl ⟨il.mp e, rfl⟩, rfl⟩⟩)
  | false =>
    exact gx_zreturn (pc := 11) rfl (by decide) dX1_isPerson_11 (⟨_, rfl, ⟨Or.inr ⟨fun hh => (by rw [il.mpr hh] at e; cases e), rfl⟩, rfl⟩⟩)
theorem c_XisSecret (hd : 2 ≤ d) (hO : XO h x tk) (hX : TT h lo hi tk ta fa A s P S E w b) (p : Int32) : gxM G mX1_isSecret d 0 0 [.ref x, .int p] h (gxQi (fun r h' => ((inN p S ∧ r = 1) ∨ (¬ inN p S ∧ r = 0)) ∧ h' = h)) := by
  have hX0 := hX
  obtain ⟨hT, hK, hM⟩ := hX; have hT0 := hT; obtain ⟨i1, i2, hf, nl, ol, pl, sl, el, fo, wv, pa, sa, ea, i3, ht, hfo, hpl, hsl, hel, hpa, hsa, hea, hwv⟩ := hT; have hpl0 := hpl.ls; have hsl0 := hsl.ls; have hel0 := hel.ls; have hpl := hpl0; have hsl := hsl0; have hel := hel0; obtain ⟨_, _, _, _, hpl, _⟩ := hpl; obtain ⟨_, _, _, _, hsl, _⟩ := hsl; obtain ⟨_, _, _, _, hel, _⟩ := hel; obtain ⟨kn, aw, rk, fi, ne, ha, hkn, haw, hrk, hfi, hne, ekn, eaw, erk, efi, ene⟩ := hK; obtain ⟨_, _, _, _, _, _, _, _, _, _, _, hx⟩ := id hO
  have hP6 := hM.2.2.2.1
  have il := inN_le (p := p) (N := S) (by omega)
  refine gxM_of rfl (Nat.le_of_ble_eq_true rfl) rfl ?_
  refine gx_iload_n (pc := 0) dX1_isSecret_0 rfl ?_
  refine gx_iconst (pc := 1) (v := 0) dX1_isSecret_1 (by decide) ?_
  refine gx_aload_n (pc := 2) dX1_isSecret_2 rfl ?_
  refine kX1_144 (kc := 0) (ks := 0) (mc := 0) (ms := 0) (pc := 3) rfl (c_secrets (d := d - 1) (by omega) hO hX0) (gxRc.of rfl hx) (by omega) (Nat.le_of_ble_eq_true rfl) dX1_isSecret_3 (fun r1 h1 e1 => ?_)
  obtain ⟨rfl, e1⟩ := e1
  subst h1
  refine gx_iconst (pc := 6) (v := 1) dX1_isSecret_6 (by decide) ?_
  refine gx_isub (pc := 7) dX1_isSecret_7 ?_
  refine kX1_140 (kc := 0) (ks := 0) (mc := 0) (ms := 0) (pc := 8) rfl (c_Xwithin (d := d - 1) p 0 (nI S - 1)) (by omega) (Nat.le_of_ble_eq_true rfl) dX1_isSecret_8 (fun r1 h1 e1 => ?_)
  obtain ⟨rfl, e1⟩ := e1
  subst h1
  cases e : (decide (0 ≤ p) && decide (p ≤ nI S - 1)) with
  | true =>
    exact gx_zreturn (pc := 11) rfl (by decide) dX1_isSecret_11 (⟨_, rfl, ⟨Or.inl ⟨il.mp e, rfl⟩, rfl⟩⟩)
  | false =>
    exact gx_zreturn (pc := 11) rfl (by decide) dX1_isSecret_11 (⟨_, rfl, ⟨Or.inr ⟨fun hh => (by rw [il.mpr hh] at e; cases e), rfl⟩, rfl⟩⟩)
theorem c_every (hd : 2 ≤ d) (hO : XO h x tk) (hX : TT h lo hi tk ta fa A s P S E w b) : gxM G mX1_every d 0 0 [.ref x] h (gxQi (fun r h' => r = nI (2 ^ S - 1) ∧ h' = h)) := by
  have hX0 := hX
  obtain ⟨hT, hK, hM⟩ := hX; have hT0 := hT; obtain ⟨i1, i2, hf, nl, ol, pl, sl, el, fo, wv, pa, sa, ea, i3, ht, hfo, hpl, hsl, hel, hpa, hsa, hea, hwv⟩ := hT; have hpl0 := hpl.ls; have hsl0 := hsl.ls; have hel0 := hel.ls; have hpl := hpl0; have hsl := hsl0; have hel := hel0; obtain ⟨_, _, _, _, hpl, _⟩ := hpl; obtain ⟨_, _, _, _, hsl, _⟩ := hsl; obtain ⟨_, _, _, _, hel, _⟩ := hel; obtain ⟨kn, aw, rk, fi, ne, ha, hkn, haw, hrk, hfi, hne, ekn, eaw, erk, efi, ene⟩ := hK; obtain ⟨_, _, _, _, _, _, _, _, _, _, _, hx⟩ := id hO
  have hS10 := hM.2.2.2.1
  refine gxM_of rfl (Nat.le_of_ble_eq_true rfl) rfl ?_
  refine gx_iconst (pc := 0) (v := 1) dX1_every_0 (by decide) ?_
  refine gx_aload_n (pc := 1) dX1_every_1 rfl ?_
  refine kX1_144 (kc := 0) (ks := 0) (mc := 0) (ms := 0) (pc := 2) rfl (c_secrets (d := d - 1) (by omega) hO hX0) (gxRc.of rfl hx) (by omega) (Nat.le_of_ble_eq_true rfl) dX1_every_2 (fun r1 h1 e1 => ?_)
  obtain ⟨rfl, e1⟩ := e1
  subst h1
  refine gx_ishl (pc := 5) dX1_every_5 ?_
  refine gx_iconst (pc := 6) (v := 1) dX1_every_6 (by decide) ?_
  refine gx_isub (pc := 7) dX1_every_7 ?_
  exact gx_ireturn (pc := 8) rfl dX1_every_8 (⟨_, rfl, ⟨spAll_eq S (by omega), rfl⟩⟩)
theorem c_Xaware (hd : 3 ≤ d) (hO : XO h x tk) (hX : TT h lo hi tk ta fa A s P S E w b) (p q k : Int32) : gxM G mX1_aware d 0 0 [.ref x, .int p, .int q, .int k] h (gxQi (fun r h' => ((¬ (two p q P ∧ inN k S) ∧ r = -1) ∨ (two p q P ∧ ∃ p' k', p' < P ∧ k' < S ∧ p = nI p' ∧ k = nI k' ∧ r = (s (10 + 10 * p' + k') >>> (q &&& 31)) &&& 1)) ∧ h' = h)) := by
  have hX0 := hX
  obtain ⟨hT, hK, hM⟩ := hX; have hT0 := hT; obtain ⟨i1, i2, hf, nl, ol, pl, sl, el, fo, wv, pa, sa, ea, i3, ht, hfo, hpl, hsl, hel, hpa, hsa, hea, hwv⟩ := hT; have hpl0 := hpl.ls; have hsl0 := hsl.ls; have hel0 := hel.ls; have hpl := hpl0; have hsl := hsl0; have hel := hel0; obtain ⟨_, _, _, _, hpl, _⟩ := hpl; obtain ⟨_, _, _, _, hsl, _⟩ := hsl; obtain ⟨_, _, _, _, hel, _⟩ := hel; obtain ⟨kn, aw, rk, fi, ne, ha, hkn, haw, hrk, hfi, hne, ekn, eaw, erk, efi, ene⟩ := hK; obtain ⟨_, _, _, _, _, _, _, _, _, _, _, hx⟩ := id hO
  have hP6 := hM.2.1
  have hS10 := hM.2.2.2.1
  refine gxM_of rfl (Nat.le_of_ble_eq_true rfl) rfl ?_
  have N : ¬ (two p q P ∧ inN k S) → gxV G mX1_aware d 0 0 58 [some (.ref x), some (.int p), some (.int q), some (.int k)] [] h (gxQi (fun r h' => ((¬ (two p q P ∧ inN k S) ∧ r = -1) ∨ (two p q P ∧ ∃ p' k', p' < P ∧ k' < S ∧ p = nI p' ∧ k = nI k' ∧ r = (s (10 + 10 * p' + k') >>> (q &&& 31)) &&& 1)) ∧ h' = h)) := by
    intro hh
    refine gx_iconst (pc := 58) (v := (-1)) dX1_aware_58 (by decide) ?_
    exact gx_ireturn (pc := 59) rfl dX1_aware_59 (⟨_, rfl, ⟨Or.inl ⟨hh, rfl⟩, rfl⟩⟩)
  refine gx_aload_n (pc := 0) dX1_aware_0 rfl ?_
  refine gx_iload_n (pc := 1) dX1_aware_1 rfl ?_
  refine kX1_146 (kc := 0) (ks := 0) (mc := 0) (ms := 0) (pc := 2) rfl (c_XisPerson (d := d - 1) (by omega) hO hX0 p) (gxRc.of rfl hx) (by omega) (Nat.le_of_ble_eq_true rfl) dX1_aware_2 (fun r1 h1 e1 => ?_)
  obtain ⟨e1, e2⟩ := e1
  subst h1
  refine gx_if_eq (pc := 5) 58 dX1_aware_5 (by decide) (fun c1 => ?_) (fun c1 => ?_)
  · rcases e1 with ⟨z, rfl⟩ | ⟨z, rfl⟩
    · exact absurd c1 (by decide)
    · exact N (fun hh => z hh.1.1)
  · rcases e1 with ⟨z1, rfl⟩ | ⟨z, rfl⟩
    · refine gx_aload_n (pc := 8) dX1_aware_8 rfl ?_
      refine gx_iload_n (pc := 9) dX1_aware_9 rfl ?_
      refine kX1_146 (kc := 0) (ks := 0) (mc := 0) (ms := 0) (pc := 10) rfl (c_XisPerson (d := d - 1) (by omega) hO hX0 q) (gxRc.of rfl hx) (by omega) (Nat.le_of_ble_eq_true rfl) dX1_aware_10 (fun r1 h1 e1 => ?_)
      obtain ⟨e1, e2⟩ := e1
      subst h1
      refine gx_if_eq (pc := 13) 58 dX1_aware_13 (by decide) (fun c2 => ?_) (fun c2 => ?_)
      · rcases e1 with ⟨z, rfl⟩ | ⟨z, rfl⟩
        · exact absurd c2 (by decide)
        · exact N (fun hh => z hh.1.2.1)
      · rcases e1 with ⟨z2, rfl⟩ | ⟨z, rfl⟩
        · refine gx_iload_n (pc := 16) dX1_aware_16 rfl ?_
          refine gx_iload_n (pc := 17) dX1_aware_17 rfl ?_
          refine gx_icmp_eq (pc := 18) 58 dX1_aware_18 (by decide) (fun c3 => ?_) (fun c3 => ?_)
          · exact N (fun hh => hh.1.2.2 c3)
          · refine gx_aload_n (pc := 21) dX1_aware_21 rfl ?_
            refine gx_iload_n (pc := 22) dX1_aware_22 rfl ?_
            refine kX1_186 (kc := 0) (ks := 0) (mc := 0) (ms := 0) (pc := 23) rfl (c_XisSecret (d := d - 1) (by omega) hO hX0 k) (gxRc.of rfl hx) (by omega) (Nat.le_of_ble_eq_true rfl) dX1_aware_23 (fun r1 h1 e1 => ?_)
            obtain ⟨e1, e2⟩ := e1
            subst h1
            refine gx_if_eq (pc := 26) 58 dX1_aware_26 (by decide) (fun c4 => ?_) (fun c4 => ?_)
            · rcases e1 with ⟨z, rfl⟩ | ⟨z, rfl⟩
              · exact absurd c4 (by decide)
              · exact N (fun hh => z hh.2)
            · rcases e1 with ⟨z3, rfl⟩ | ⟨z, rfl⟩
              · have tw : two p q P := ⟨z1, z2, c3⟩
                obtain ⟨p', hp', ep⟩ := z1
                obtain ⟨q', hq', eq⟩ := z2
                obtain ⟨k', hk', ek⟩ := z3
                have bb := bit01 (s (10 + 10 * p' + k') >>> (nI q' &&& 31))
                have ew := eaw p' q' k' (by omega) (by omega) (by omega)
                refine gx_aload_n (pc := 29) dX1_aware_29 rfl ?_
                refine gx_get (pc := 30) fX1_40 hx rfl dX1_aware_30 ?_
                refine gx_get (pc := 33) fX1_222 ha rfl dX1_aware_33 ?_
                refine gx_bipush (pc := 36) (v := 6) dX1_aware_36 (by decide) ?_
                refine gx_iload_n (pc := 38) dX1_aware_38 rfl ?_
                refine gx_imul (pc := 39) dX1_aware_39 ?_
                refine gx_iload_n (pc := 40) dX1_aware_40 rfl ?_
                refine gx_iadd (pc := 41) dX1_aware_41 ?_
                rw [show (6 : Int32) * p + q = nI (6 * p' + q') by rw [ep, eq, show (6 : Int32) = nI 6 from rfl, pk_mul, nI_add]]
                refine gx_iald (pc := 42) ((6*p'+q')) haw (by first | rfl | simp only [gx_lit, nI_add, pk_mul]) (by omega) (by decide) dX1_aware_42 ?_
                refine gx_iload_n (pc := 43) dX1_aware_43 rfl ?_
                rw [ek]
                refine kX1_176 (kc := 0) (ks := 0) (mc := 0) (ms := 0) (pc := 44) rfl (c_has (d := d - 1) (aw (6 * p' + q')) (nI k')) (by omega) (Nat.le_of_ble_eq_true rfl) dX1_aware_44 (fun r1 h1 e1 => ?_)
                obtain ⟨rfl, e1⟩ := e1
                subst h1
                rw [ew]
                refine gx_if_eq (pc := 47) 54 dX1_aware_47 (by decide) (fun c5 => ?_) (fun c5 => ?_)
                · have z := zi_eq0 c5
                  rw [hs, decide_eq_false_iff_not] at z
                  refine gx_iconst (pc := 54) (v := 0) dX1_aware_54 (by decide) ?_
                  refine gx_goto (pc := 55) 59 dX1_aware_55 (by decide) ?_
                  exact gx_ireturn (pc := 59) rfl dX1_aware_59 (⟨_, rfl, ⟨Or.inr ⟨tw, p', k', hp', hk', ep, by rw [← ek], by rw [eq]; exact (bb.resolve_right z).symm⟩, rfl⟩⟩)
                · have z := zi_ne0 c5
                  rw [hs, decide_eq_true_eq] at z
                  refine gx_iconst (pc := 50) (v := 1) dX1_aware_50 (by decide) ?_
                  refine gx_goto (pc := 51) 59 dX1_aware_51 (by decide) ?_
                  exact gx_ireturn (pc := 59) rfl dX1_aware_59 (⟨_, rfl, ⟨Or.inr ⟨tw, p', k', hp', hk', ep, by rw [← ek], by rw [eq]; exact z.symm⟩, rfl⟩⟩)
              · exact absurd rfl c4
        · exact absurd rfl c2
    · exact absurd rfl c1
end LO
