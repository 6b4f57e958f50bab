/-! ===== COMPONENT G: sums of worths, who may ===== -/
set_option maxRecDepth 100000
theorem kern : ∀ n, n < 1024 → n ≠ 0 → nI n &&& (nI n - 1) = nI (n &&& (n - 1)) ∧ spBits (nI n) 10 = spBits (nI (n &&& (n - 1))) 10 + 1 ∧ n &&& (n - 1) < n := by decide +kernel
section LG
variable {G : gxG} {d : Nat} {h : gxH} {lo hi a ta fa P S E : Nat} {A : Nat → Nat → Int32} {s : Nat → Int32} {w : Option gxEv} {b : Bool}
theorem c_Xbits (n : Nat) (hn : n < 1024) : gxM G mX1_bits d 0 0 [.int (nI n)] h (gxQi (fun r h' => r = spBits (nI n) 10 ∧ h' = h)) := by
  refine gxM_of rfl (Nat.le_of_ble_eq_true rfl) rfl ?_
  have L : ∀ m k c, k ≤ m → k < 1024 → c + spBits (nI k) 10 = spBits (nI n) 10 → gxV G mX1_bits d 0 0 4 [some (.int (nI n)), some (.int c), some (.int (nI k))] [] h (gxQi (fun r h' => r = spBits (nI n) 10 ∧ h' = h)) := by
    intro m
    induction m with
    | zero =>
      intro k c hk _ hc
      have : k = 0 := by omega
      subst this
      refine gx_iload_n (pc := 4) dX1_bits_4 rfl ?_
      refine gx_if_eq (pc := 5) 20 dX1_bits_5 (by decide) (fun c1 => ?_) (fun c1 => ?_)
      · refine gx_iload_n (pc := 20) dX1_bits_20 rfl ?_
        exact gx_ireturn (pc := 21) rfl dX1_bits_21 (⟨_, rfl, ⟨by rw [← hc, show spBits (nI 0) 10 = 0 by decide +kernel, Int32.add_zero], rfl⟩⟩)
      · exact absurd rfl c1
    | succ m ih =>
      intro k c hk hk2 hc
      refine gx_iload_n (pc := 4) dX1_bits_4 rfl ?_
      refine gx_if_eq (pc := 5) 20 dX1_bits_5 (by decide) (fun c1 => ?_) (fun c1 => ?_)
      · have : k = 0 := (nI_eq (b := 0) (by omega) (by decide)).mp c1
        subst this
        refine gx_iload_n (pc := 20) dX1_bits_20 rfl ?_
        exact gx_ireturn (pc := 21) rfl dX1_bits_21 (⟨_, rfl, ⟨by rw [← hc, show spBits (nI 0) 10 = 0 by decide +kernel, Int32.add_zero], rfl⟩⟩)
      · have k0 : k ≠ 0 := fun e => c1 (by rw [e]; rfl)
        obtain ⟨q1, q2, q3⟩ := kern k hk2 k0
        refine gx_iincc (pc := 8) (c := 1) dX1_bits_8 rfl (by decide) (by decide) rfl ?_
        refine gx_iload_n (pc := 11) dX1_bits_11 rfl ?_
        refine gx_iload_n (pc := 12) dX1_bits_12 rfl ?_
        refine gx_iconst (pc := 13) (v := 1) dX1_bits_13 (by decide) ?_
        refine gx_isub (pc := 14) dX1_bits_14 ?_
        refine gx_iand (pc := 15) dX1_bits_15 ?_
        rw [q1]
        refine gx_istore_n (pc := 16) dX1_bits_16 (by decide) rfl ?_
        refine gx_goto (pc := 17) 4 dX1_bits_17 (by decide) ?_
        refine ih _ _ (by omega) (by omega) ?_
        rw [← hc, q2, Int32.add_assoc, Int32.add_comm 1]
  refine gx_iconst (pc := 0) (v := 0) dX1_bits_0 (by decide) ?_
  refine gx_istore_n (pc := 1) dX1_bits_1 (by decide) rfl ?_
  refine gx_iload_n (pc := 2) dX1_bits_2 rfl ?_
  refine gx_istore_n (pc := 3) dX1_bits_3 (by decide) rfl ?_
  exact L n n 0 (Nat.le_refl _) hn (Int32.zero_add _)
theorem c_Tworths (hN : gxN G ≤ lo) (hd : 93 ≤ d) (hX : TT h lo hi a ta fa A s P S E w b) (set : Int32) : gxM G mX3_worths d 0 0 [.ref a, .int set] h (gxQi (fun r h' => r = spWs w (setS A s) P set S ∧ fE fa h h')) := by
  have hS10 := hX.2.2.2.2.2.1
  refine gxM_of rfl (Nat.le_of_ble_eq_true rfl) rfl ?_
  have L : ∀ m k h1, m + k = S → fE fa h h1 → gxV G mX3_worths d 0 0 4 [some (.ref a), some (.int set), some (.int (spWs w (setS A s) P set k)), some (.int (nI k))] [] h1 (gxQi (fun r h' => r = spWs w (setS A s) P set S ∧ fE fa h h')) := by
    intro m
    induction m with
    | zero =>
      intro k h1 hk e
      have : k = S := by omega
      subst this
      have hX := hX.fE e
      obtain ⟨hT, hK, hM⟩ := hX; have hT0 := hT; obtain ⟨i1, i2, hf, nl, ol, pl, sl, el, fo, wv, pa, sa, ea, i3, ht, hfo, hpl, hsl, hel, hpa, hsa, hea, hwv⟩ := hT; have hpl0 := hpl.ls; have hsl0 := hsl.ls; have hel0 := hel.ls; have hpl := hpl0; have hsl := hsl0; have hel := hel0; obtain ⟨_, _, _, _, hpl, _⟩ := hpl; obtain ⟨_, _, _, _, hsl, _⟩ := hsl; obtain ⟨_, _, _, _, hel, _⟩ := hel; obtain ⟨kn, aw, rk, fi, ne, ha, hkn, haw, hrk, hfi, hne, ekn, eaw, erk, efi, ene⟩ := hK
      refine gx_iload_n (pc := 4) dX3_worths_4 rfl ?_
      refine gx_aload_n (pc := 5) dX3_worths_5 rfl ?_
      refine gx_get (pc := 6) fX3_27 ha rfl dX3_worths_6 ?_
      refine gx_get (pc := 9) fX3_31 ht rfl dX3_worths_9 ?_
      refine kX3_37 (kc := 0) (ks := 0) (mc := 0) (ms := 0) (pc := 12) rfl (c_size (d := d - 1) hsl0) (gxRc.of rfl hsl) (by omega) (Nat.le_of_ble_eq_true rfl) dX3_worths_12 (fun r1 h2 e1 => ?_)
      obtain ⟨rfl, e1⟩ := e1
      subst h2
      refine gx_icmp_ge (pc := 15) 40 dX3_worths_15 (by decide) (fun c1 => ?_) (fun c1 => ?_)
      · refine gx_iload_n (pc := 40) dX3_worths_40 rfl ?_
        exact gx_ireturn (pc := 41) rfl dX3_worths_41 (⟨_, rfl, ⟨rfl, e⟩⟩)
      · exact absurd (nI_le (Nat.le_refl _) (by omega)) c1
    | succ m ih =>
      intro k h1 hk e
      have hX := hX.fE e
      have hX1 := hX
      obtain ⟨hT, hK, hM⟩ := hX; have hT0 := hT; obtain ⟨i1, i2, hf, nl, ol, pl, sl, el, fo, wv, pa, sa, ea, i3, ht, hfo, hpl, hsl, hel, hpa, hsa, hea, hwv⟩ := hT; have hpl0 := hpl.ls; have hsl0 := hsl.ls; have hel0 := hel.ls; have hpl := hpl0; have hsl := hsl0; have hel := hel0; obtain ⟨_, _, _, _, hpl, _⟩ := hpl; obtain ⟨_, _, _, _, hsl, _⟩ := hsl; obtain ⟨_, _, _, _, hel, _⟩ := hel; obtain ⟨kn, aw, rk, fi, ne, ha, hkn, haw, hrk, hfi, hne, ekn, eaw, erk, efi, ene⟩ := hK
      have K34 : ∀ v h2, fE fa h h2 → v = spWs w (setS A s) P set (k + 1) → gxV G mX3_worths d 0 0 34 [some (.ref a), some (.int set), some (.int v), some (.int (nI k))] [] h2 (gxQi (fun r h' => r = spWs w (setS A s) P set S ∧ fE fa h h')) := by
        intro v h2 e2 hv
        subst hv
        refine gx_iincc (pc := 34) (c := 1) dX3_worths_34 rfl (by decide) (by decide) rfl ?_
        refine gx_goto (pc := 37) 4 dX3_worths_37 (by decide) ?_
        rw [nI_1]
        exact ih (k + 1) h2 (by omega) e2
      refine gx_iload_n (pc := 4) dX3_worths_4 rfl ?_
      refine gx_aload_n (pc := 5) dX3_worths_5 rfl ?_
      refine gx_get (pc := 6) fX3_27 ha rfl dX3_worths_6 ?_
      refine gx_get (pc := 9) fX3_31 ht rfl dX3_worths_9 ?_
      refine kX3_37 (kc := 0) (ks := 0) (mc := 0) (ms := 0) (pc := 12) rfl (c_size (d := d - 1) hsl0) (gxRc.of rfl hsl) (by omega) (Nat.le_of_ble_eq_true rfl) dX3_worths_12 (fun r1 h2 e1 => ?_)
      obtain ⟨rfl, e1⟩ := e1
      subst h2
      refine gx_icmp_ge (pc := 15) 40 dX3_worths_15 (by decide) (fun c1 => ?_) (fun c1 => ?_)
      · exact absurd c1 (nI_ge (by omega) (by omega))
      · refine gx_iload_n (pc := 18) dX3_worths_18 rfl ?_
        refine gx_iload_n (pc := 19) dX3_worths_19 rfl ?_
        refine kX3_97 (kc := 0) (ks := 0) (mc := 0) (ms := 0) (pc := 20) rfl (c_has (d := d - 1) set (nI k)) (by omega) (Nat.le_of_ble_eq_true rfl) dX3_worths_20 (fun r1 h2 e1 => ?_)
        obtain ⟨rfl, e1⟩ := e1
        subst h2
        refine gx_if_eq (pc := 23) 34 dX3_worths_23 (by decide) (fun c2 => ?_) (fun c2 => ?_)
        · exact K34 _ h1 e (by rw [spWs, zi_eq0 c2]; simp)
        · refine gx_iload_n (pc := 26) dX3_worths_26 rfl ?_
          refine gx_aload_n (pc := 27) dX3_worths_27 rfl ?_
          refine gx_iload_n (pc := 28) dX3_worths_28 rfl ?_
          refine kX3_107 (kc := 0) (ks := 0) (mc := 0) (ms := 0) (pc := 29) rfl (c_Tworth hN k (by omega) (d - 1) h1 (by omega) hX1) (gxRc.of rfl ha) (by omega) (Nat.le_of_ble_eq_true rfl) dX3_worths_29 (fun r1 h2 e1 => ?_)
          obtain ⟨rfl, e1⟩ := e1
          refine gx_iadd (pc := 32) dX3_worths_32 ?_
          refine gx_istore_n (pc := 33) dX3_worths_33 (by decide) rfl ?_
          exact K34 _ h2 (e.tr e1) (by rw [spWs, zi_ne0 c2]; simp)
  refine gx_iconst (pc := 0) (v := 0) dX3_worths_0 (by decide) ?_
  refine gx_istore_n (pc := 1) dX3_worths_1 (by decide) rfl ?_
  refine gx_iconst (pc := 2) (v := 0) dX3_worths_2 (by decide) ?_
  refine gx_istore_n (pc := 3) dX3_worths_3 (by decide) rfl ?_
  exact L S 0 h (by omega) (fE.rf _ _)
theorem c_Tpurse (hN : gxN G ≤ lo) (hd : 94 ≤ d) (hX : TT h lo hi a ta fa A s P S E w b) (p : Int32) : gxM G mX3_purse d 0 0 [.ref a, .int p] h (gxQi (fun r h' => r = spWs w (setS A s) P (spKnown (setS A s) p S) S ∧ fE fa h h')) := by
  have hX0 := hX
  obtain ⟨hT, hK, hM⟩ := hX; have hT0 := hT; obtain ⟨i1, i2, hf, nl, ol, pl, sl, el, fo, wv, pa, sa, ea, i3, ht, hfo, hpl, hsl, hel, hpa, hsa, hea, hwv⟩ := hT; have hpl0 := hpl.ls; have hsl0 := hsl.ls; have hel0 := hel.ls; have hpl := hpl0; have hsl := hsl0; have hel := hel0; obtain ⟨_, _, _, _, hpl, _⟩ := hpl; obtain ⟨_, _, _, _, hsl, _⟩ := hsl; obtain ⟨_, _, _, _, hel, _⟩ := hel; obtain ⟨kn, aw, rk, fi, ne, ha, hkn, haw, hrk, hfi, hne, ekn, eaw, erk, efi, ene⟩ := hK
  refine gxM_of rfl (Nat.le_of_ble_eq_true rfl) rfl ?_
  refine gx_aload_n (pc := 0) dX3_purse_0 rfl ?_
  refine gx_aload_n (pc := 1) dX3_purse_1 rfl ?_
  refine gx_iload_n (pc := 2) dX3_purse_2 rfl ?_
  refine kX3_114 (kc := 0) (ks := 0) (mc := 0) (ms := 0) (pc := 3) rfl (c_Tknown (d := d - 1) (by omega) hX0 p) (gxRc.of rfl ha) (by omega) (Nat.le_of_ble_eq_true rfl) dX3_purse_3 (fun r1 h1 e1 => ?_)
  obtain ⟨rfl, e1⟩ := e1
  subst h1
  refine kX3_111 (kc := 0) (ks := 0) (mc := 0) (ms := 0) (pc := 6) rfl (c_Tworths (d := d - 1) hN (by omega) hX0 _) (gxRc.of rfl ha) (by omega) (Nat.le_of_ble_eq_true rfl) dX3_purse_6 (fun r1 h1 e1 => ?_)
  obtain ⟨rfl, e1⟩ := e1
  exact gx_ireturn (pc := 9) rfl dX3_purse_9 (⟨_, rfl, ⟨rfl, e1⟩⟩)
theorem c_Tall (hN : gxN G ≤ lo) (hd : 94 ≤ d) (hX : TT h lo hi a ta fa A s P S E w b) : gxM G mX3_all d 0 0 [.ref a] h (gxQi (fun r h' => r = spWs w (setS A s) P (nI (2 ^ S - 1)) S ∧ fE fa h h')) := by
  have hX0 := hX
  obtain ⟨hT, hK, hM⟩ := hX; have hT0 := hT; obtain ⟨i1, i2, hf, nl, ol, pl, sl, el, fo, wv, pa, sa, ea, i3, ht, hfo, hpl, hsl, hel, hpa, hsa, hea, hwv⟩ := hT; have hpl0 := hpl.ls; have hsl0 := hsl.ls; have hel0 := hel.ls; have hpl := hpl0; have hsl := hsl0; have hel := hel0; obtain ⟨_, _, _, _, hpl, _⟩ := hpl; obtain ⟨_, _, _, _, hsl, _⟩ := hsl; obtain ⟨_, _, _, _, hel, _⟩ := hel; obtain ⟨kn, aw, rk, fi, ne, ha, hkn, haw, hrk, hfi, hne, ekn, eaw, erk, efi, ene⟩ := hK
  have hS10 := hM.2.2.2.1
  refine gxM_of rfl (Nat.le_of_ble_eq_true rfl) rfl ?_
  refine gx_aload_n (pc := 0) dX3_all_0 rfl ?_
  refine gx_iconst (pc := 1) (v := 1) dX3_all_1 (by decide) ?_
  refine gx_aload_n (pc := 2) dX3_all_2 rfl ?_
  refine gx_get (pc := 3) fX3_27 ha rfl dX3_all_3 ?_
  refine gx_get (pc := 6) fX3_31 ht rfl dX3_all_6 ?_
  refine kX3_37 (kc := 0) (ks := 0) (mc := 0) (ms := 0) (pc := 9) rfl (c_size (d := d - 1) hsl0) (gxRc.of rfl hsl) (by omega) (Nat.le_of_ble_eq_true rfl) dX3_all_9 (fun r1 h2 e1 => ?_)
  obtain ⟨rfl, e1⟩ := e1
  subst h2
  refine gx_ishl (pc := 12) dX3_all_12 ?_
  refine gx_iconst (pc := 13) (v := 1) dX3_all_13 (by decide) ?_
  refine gx_isub (pc := 14) dX3_all_14 ?_
  rw [show (1 : Int32) <<< (nI S &&& 31) - 1 = nI (2 ^ S - 1) from spAll_eq S (by omega)]
  refine kX3_111 (kc := 0) (ks := 0) (mc := 0) (ms := 0) (pc := 15) rfl (c_Tworths (d := d - 1) hN (by omega) hX0 _) (gxRc.of rfl ha) (by omega) (Nat.le_of_ble_eq_true rfl) dX3_all_15 (fun r1 h1 e1 => ?_)
  obtain ⟨rfl, e1⟩ := e1
  exact gx_ireturn (pc := 18) rfl dX3_all_18 (⟨_, rfl, ⟨rfl, e1⟩⟩)
theorem c_mayTell (hd : 3 ≤ d) (hX : TT h lo hi a ta fa A s P S E w b) (p q k : Nat) (hp : p < P) (hq : q < P) (hk : k < S) : gxM G mX3_mayTell d 0 0 [.ref a, .int (nI p), .int (nI q), .int (nI k)] h (gxQi (fun r h' => r = zi (!decide (p = q) && spCan (setS A s) p q k) ∧ h' = h)) := by
  have hX0 := hX
  obtain ⟨hT, hK, hM⟩ := hX; have hT0 := hT; obtain ⟨i1, i2, hf, nl, ol, pl, sl, el, fo, wv, pa, sa, ea, i3, ht, hfo, hpl, hsl, hel, hpa, hsa, hea, hwv⟩ := hT; have hpl0 := hpl.ls; have hsl0 := hsl.ls; have hel0 := hel.ls; have hpl := hpl0; have hsl := hsl0; have hel := hel0; obtain ⟨_, _, _, _, hpl, _⟩ := hpl; obtain ⟨_, _, _, _, hsl, _⟩ := hsl; obtain ⟨_, _, _, _, hel, _⟩ := hel; obtain ⟨kn, aw, rk, fi, ne, ha, hkn, haw, hrk, hfi, hne, ekn, eaw, erk, efi, ene⟩ := hK
  have hP6 := hM.2.1
  have hS10 := hM.2.2.2.1
  obtain ⟨_, hpe⟩ := hpa p hp
  refine gxM_of rfl (Nat.le_of_ble_eq_true rfl) rfl ?_
  have N : (!decide (p = q) && spCan (setS A s) p q k) = false → gxV G mX3_mayTell d 0 0 55 [some (.ref a), some (.int (nI p)), some (.int (nI q)), some (.int (nI k))] [] h (gxQi (fun r h' => r = zi (!decide (p = q) && spCan (setS A s) p q k) ∧ h' = h)) := by
    intro hn
    refine gx_iconst (pc := 55) (v := 0) dX3_mayTell_55 (by decide) ?_
    exact gx_zreturn (pc := 56) rfl (by decide) dX3_mayTell_56 (⟨_, rfl, ⟨by rw [hn]; rfl, rfl⟩⟩)
  have sc : spCan (setS A s) p q k = (hs (s k) (nI p) && !(decide (A 13 p = 2) || decide (A 13 p = 3)) && decide ((s k >>> (nI q &&& 31)) &&& 1 = 0)) := by
    unfold spCan spSpeaks
    rw [setS_50, setS_ne (q := 13) (by decide)]
  refine gx_iload_n (pc := 0) dX3_mayTell_0 rfl ?_
  refine gx_iload_n (pc := 1) dX3_mayTell_1 rfl ?_
  refine gx_icmp_eq (pc := 2) 55 dX3_mayTell_2 (by decide) (fun c1 => ?_) (fun c1 => ?_)
  · exact N (by rw [decide_eq_true ((nI_eq (by omega) (by omega)).mp c1)]; rfl)
  · have hpq : ¬ p = q := fun e => c1 (by rw [e])
    refine gx_aload_n (pc := 5) dX3_mayTell_5 rfl ?_
    refine gx_get (pc := 6) fX3_27 ha rfl dX3_mayTell_6 ?_
    refine gx_get (pc := 9) fX3_53 ht rfl dX3_mayTell_9 ?_
    refine gx_iload_n (pc := 12) dX3_mayTell_12 rfl ?_
    refine kX3_43 (kc := 0) (ks := 0) (mc := 0) (ms := 0) (pc := 13) rfl (c_get (d := d - 1) (by omega) hpl0 p hp) (gxRc.of rfl hpl) (by omega) (Nat.le_of_ble_eq_true rfl) dX3_mayTell_13 (fun r1 h1 e1 => ?_)
    obtain ⟨rfl, e1⟩ := e1
    subst h1
    refine gx_castP (pc := 16) hpe q430 dX3_mayTell_16 ?_
    refine kPX3_117 (pc := 19) hpe rfl (by omega) (Nat.le_of_ble_eq_true rfl) dX3_mayTell_19 ?_
    refine gx_if_eq (pc := 22) 55 dX3_mayTell_22 (by decide) (fun c2 => ?_) (fun c2 => ?_)
    · exact N (by rw [sc, zi_eq0 c2]; simp)
    · have z2 := zi_ne0 c2
      refine gx_aload_n (pc := 25) dX3_mayTell_25 rfl ?_
      refine gx_get (pc := 26) fX3_9 ha rfl dX3_mayTell_26 ?_
      refine gx_iload_n (pc := 29) dX3_mayTell_29 rfl ?_
      refine gx_iald (pc := 30) (k) hkn (by first | rfl | simp only [gx_lit, nI_add, pk_mul]) (by omega) (by decide) dX3_mayTell_30 ?_
      rw [ekn k (by omega)]
      refine gx_iload_n (pc := 31) dX3_mayTell_31 rfl ?_
      refine kX3_97 (kc := 0) (ks := 0) (mc := 0) (ms := 0) (pc := 32) rfl (c_has (d := d - 1) (s k) (nI p)) (by omega) (Nat.le_of_ble_eq_true rfl) dX3_mayTell_32 (fun r1 h1 e1 => ?_)
      obtain ⟨rfl, e1⟩ := e1
      subst h1
      refine gx_if_eq (pc := 35) 55 dX3_mayTell_35 (by decide) (fun c3 => ?_) (fun c3 => ?_)
      · exact N (by rw [sc, zi_eq0 c3]; simp)
      · have z3 := zi_ne0 c3
        refine gx_aload_n (pc := 38) dX3_mayTell_38 rfl ?_
        refine gx_get (pc := 39) fX3_9 ha rfl dX3_mayTell_39 ?_
        refine gx_iload_n (pc := 42) dX3_mayTell_42 rfl ?_
        refine gx_iald (pc := 43) (k) hkn (by first | rfl | simp only [gx_lit, nI_add, pk_mul]) (by omega) (by decide) dX3_mayTell_43 ?_
        rw [ekn k (by omega)]
        refine gx_iload_n (pc := 44) dX3_mayTell_44 rfl ?_
        refine kX3_97 (kc := 0) (ks := 0) (mc := 0) (ms := 0) (pc := 45) rfl (c_has (d := d - 1) (s k) (nI q)) (by omega) (Nat.le_of_ble_eq_true rfl) dX3_mayTell_45 (fun r1 h1 e1 => ?_)
        obtain ⟨rfl, e1⟩ := e1
        subst h1
        refine gx_if_ne (pc := 48) 55 dX3_mayTell_48 (by decide) (fun c4 => ?_) (fun c4 => ?_)
        · have z4 := zi_ne0 c4
          rw [hs, decide_eq_true_eq] at z4
          exact N (by rw [sc, z4]; simp)
        · have z4 := zi_eq0 c4
          rw [hs, decide_eq_false_iff_not] at z4
          have z5 := (bit01 (s k >>> (nI q &&& 31))).resolve_right z4
          refine gx_iconst (pc := 51) (v := 1) dX3_mayTell_51 (by decide) ?_
          refine gx_goto (pc := 52) 56 dX3_mayTell_52 (by decide) ?_
          exact gx_zreturn (pc := 56) rfl (by decide) dX3_mayTell_56 (⟨_, rfl, ⟨by rw [sc, z2, z3, z5, decide_eq_false hpq]; rfl, rfl⟩⟩)
theorem or_split {x y : Int32} (a : Int32) : (a &&& (x ^^^ -1) = 0 ∧ a &&& y = 0) ↔ a &&& ((x &&& (y ^^^ -1)) ^^^ -1) = 0 := by
  have B : ∀ u v : Int32, u = v ↔ ∀ i, i < 32 → u.toBitVec.getLsbD i = v.toBitVec.getLsbD i := fun u v => ⟨fun e i _ => by rw [e], fun hh => Int32.toBitVec_inj.mp (BitVec.eq_of_getLsbD_eq (fun i hi => hh i hi))⟩
  have z : ∀ i, ((0 : Int32).toBitVec).getLsbD i = false := fun i => by simp
  rw [B, B, B]
  constructor
  · rintro ⟨h1, h2⟩ i hi
    have a1 := h1 i hi
    have a2 := h2 i hi
    rw [z] at *
    simp only [Int32.toBitVec_and, Int32.toBitVec_xor, BitVec.getLsbD_and, BitVec.getLsbD_xor, m1_bit i hi] at *
    revert a1 a2
    cases a.toBitVec.getLsbD i <;> cases x.toBitVec.getLsbD i <;> cases y.toBitVec.getLsbD i <;> simp
  · intro hh
    constructor
    · intro i hi
      have a1 := hh i hi
      rw [z] at *
      simp only [Int32.toBitVec_and, Int32.toBitVec_xor, BitVec.getLsbD_and, BitVec.getLsbD_xor, m1_bit i hi] at *
      revert a1
      cases a.toBitVec.getLsbD i <;> cases x.toBitVec.getLsbD i <;> cases y.toBitVec.getLsbD i <;> simp
    · intro i hi
      have a1 := hh i hi
      rw [z] at *
      simp only [Int32.toBitVec_and, Int32.toBitVec_xor, BitVec.getLsbD_and, BitVec.getLsbD_xor, m1_bit i hi] at *
      revert a1
      cases a.toBitVec.getLsbD i <;> cases x.toBitVec.getLsbD i <;> cases y.toBitVec.getLsbD i <;> simp
end LG
