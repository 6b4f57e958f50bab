/-! ===== COMPONENT K: the fewest by which one can pay ===== -/
set_option maxRecDepth 100000
theorem shlS : ∀ S, S < 11 → (1 : Int32) <<< (nI S &&& 31) = nI (2 ^ S) := by decide +kernel
section LK
variable {G : gxG} {d : Nat} {h : gxH} {lo hi a ta fa P S E : Nat} {A : Nat → Nat → Int32} {s : Nat → Int32} {w : Option gxEv} {b : Bool}
theorem c_isLess (hN : gxN G ≤ lo) (hd : 94 ≤ d) (hX : TT h lo hi a ta fa A s P S E w b) (x y : Nat) (hx : x < 1024) (hy : y < 1024) : gxM G mX3_isLess d 0 0 [.ref a, .int (nI x), .int (nI y)] h (gxQi (fun r h' => ((r = 1 ∧ (spBits (nI x) 10 < spBits (nI y) 10 ∨ (spBits (nI x) 10 = spBits (nI y) 10 ∧ spWs w (setS A s) P (nI x) S < spWs w (setS A s) P (nI y) S))) ∨ (r = 0 ∧ ¬ (spBits (nI x) 10 < spBits (nI y) 10 ∨ (spBits (nI x) 10 = spBits (nI y) 10 ∧ spWs w (setS A s) P (nI x) S < spWs w (setS A s) P (nI y) S)))) ∧ fE fa h h')) := by
  have hX0 := hX
  obtain ⟨hT, hK, hM⟩ := hX; have hT0 := hT; obtain ⟨i1, i2, hf, nl, ol, pl, sl, el, fo, wv, pa, sa, ea, i3, ht, hfo, hpl, hsl, hel, hpa, hsa, hea, hwv⟩ := hT; have hpl0 := hpl.ls; have hsl0 := hsl.ls; have hel0 := hel.ls; have hpl := hpl0; have hsl := hsl0; have hel := hel0; obtain ⟨_, _, _, _, hpl, _⟩ := hpl; obtain ⟨_, _, _, _, hsl, _⟩ := hsl; obtain ⟨_, _, _, _, hel, _⟩ := hel; obtain ⟨kn, aw, rk, fi, ne, ha, hkn, haw, hrk, hfi, hne, ekn, eaw, erk, efi, ene⟩ := hK
  refine gxM_of rfl (Nat.le_of_ble_eq_true rfl) rfl ?_
  generalize hbx : spBits (nI x) 10 = bx
  generalize hby : spBits (nI y) 10 = bY
  have T : (bx < bY ∨ (bx = bY ∧ spWs w (setS A s) P (nI x) S < spWs w (setS A s) P (nI y) S)) → ∀ h1, fE fa h h1 → gxV G mX3_isLess d 0 0 35 [some (.ref a), some (.int (nI x)), some (.int (nI y))] [] h1 (gxQi (fun r h' => ((r = 1 ∧ (bx < bY ∨ (bx = bY ∧ spWs w (setS A s) P (nI x) S < spWs w (setS A s) P (nI y) S))) ∨ (r = 0 ∧ ¬ (bx < bY ∨ (bx = bY ∧ spWs w (setS A s) P (nI x) S < spWs w (setS A s) P (nI y) S)))) ∧ fE fa h h')) := by
    intro hh h1 e
    refine gx_iconst (pc := 35) (v := 1) dX3_isLess_35 (by decide) ?_
    refine gx_goto (pc := 36) 40 dX3_isLess_36 (by decide) ?_
    exact gx_zreturn (pc := 40) rfl (by decide) dX3_isLess_40 (⟨_, rfl, ⟨Or.inl ⟨rfl, hh⟩, e⟩⟩)
  have N : ¬ (bx < bY ∨ (bx = bY ∧ spWs w (setS A s) P (nI x) S < spWs w (setS A s) P (nI y) S)) → ∀ h1, fE fa h h1 → gxV G mX3_isLess d 0 0 39 [some (.ref a), some (.int (nI x)), some (.int (nI y))] [] h1 (gxQi (fun r h' => ((r = 1 ∧ (bx < bY ∨ (bx = bY ∧ spWs w (setS A s) P (nI x) S < spWs w (setS A s) P (nI y) S))) ∨ (r = 0 ∧ ¬ (bx < bY ∨ (bx = bY ∧ spWs w (setS A s) P (nI x) S < spWs w (setS A s) P (nI y) S)))) ∧ fE fa h h')) := by
    intro hh h1 e
    refine gx_iconst (pc := 39) (v := 0) dX3_isLess_39 (by decide) ?_
    exact gx_zreturn (pc := 40) rfl (by decide) dX3_isLess_40 (⟨_, rfl, ⟨Or.inr ⟨rfl, hh⟩, e⟩⟩)
  refine gx_iload_n (pc := 0) dX3_isLess_0 rfl ?_
  refine kX3_134 (kc := 0) (ks := 0) (mc := 0) (ms := 0) (pc := 1) rfl (c_Xbits (d := d - 1) x hx) (by omega) (Nat.le_of_ble_eq_true rfl) dX3_isLess_1 (fun r1 h1 e1 => ?_)
  obtain ⟨rfl, e1⟩ := e1
  subst h1
  refine gx_iload_n (pc := 4) dX3_isLess_4 rfl ?_
  refine kX3_134 (kc := 0) (ks := 0) (mc := 0) (ms := 0) (pc := 5) rfl (c_Xbits (d := d - 1) y hy) (by omega) (Nat.le_of_ble_eq_true rfl) dX3_isLess_5 (fun r1 h1 e1 => ?_)
  obtain ⟨rfl, e1⟩ := e1
  subst h1
  rw [hbx, hby]
  refine gx_icmp_lt (pc := 8) 35 dX3_isLess_8 (by decide) (fun c1 => ?_) (fun c1 => ?_)
  · exact T (Or.inl c1) h (fE.rf _ _)
  · refine gx_iload_n (pc := 11) dX3_isLess_11 rfl ?_
    refine kX3_134 (kc := 0) (ks := 0) (mc := 0) (ms := 0) (pc := 12) rfl (c_Xbits (d := d - 1) x hx) (by omega) (Nat.le_of_ble_eq_true rfl) dX3_isLess_12 (fun r1 h1 e1 => ?_)
    obtain ⟨rfl, e1⟩ := e1
    subst h1
    refine gx_iload_n (pc := 15) dX3_isLess_15 rfl ?_
    refine kX3_134 (kc := 0) (ks := 0) (mc := 0) (ms := 0) (pc := 16) rfl (c_Xbits (d := d - 1) y hy) (by omega) (Nat.le_of_ble_eq_true rfl) dX3_isLess_16 (fun r1 h1 e1 => ?_)
    obtain ⟨rfl, e1⟩ := e1
    subst h1
    rw [hbx, hby]
    refine gx_icmp_ne (pc := 19) 39 dX3_isLess_19 (by decide) (fun c2 => ?_) (fun c2 => ?_)
    · exact N (fun hh => by rcases hh with z | z; exact c1 z; exact c2 z.1) h (fE.rf _ _)
    · refine gx_aload_n (pc := 22) dX3_isLess_22 rfl ?_
      refine gx_iload_n (pc := 23) dX3_isLess_23 rfl ?_
      refine kX3_111 (kc := 0) (ks := 0) (mc := 0) (ms := 0) (pc := 24) rfl (c_Tworths (d := d - 1) hN (by omega) hX0 (nI x)) (gxRc.of rfl ha) (by omega) (Nat.le_of_ble_eq_true rfl) dX3_isLess_24 (fun r1 h1 e1 => ?_)
      obtain ⟨rfl, e1⟩ := e1
      have hX1 := hX0.fE e1
      obtain ⟨_, _, _, _, _, ha, _⟩ := hX1.2.1
      refine gx_aload_n (pc := 27) dX3_isLess_27 rfl ?_
      refine gx_iload_n (pc := 28) dX3_isLess_28 rfl ?_
      refine kX3_111 (kc := 0) (ks := 0) (mc := 0) (ms := 0) (pc := 29) rfl (c_Tworths (d := d - 1) hN (by omega) hX1 (nI y)) (gxRc.of rfl ha) (by omega) (Nat.le_of_ble_eq_true rfl) dX3_isLess_29 (fun r2 h2 e2 => ?_)
      obtain ⟨rfl, e2⟩ := e2
      refine gx_icmp_ge (pc := 32) 39 dX3_isLess_32 (by decide) (fun c3 => ?_) (fun c3 => ?_)
      · exact N (fun hh => by rcases hh with z | z; exact c1 z; exact absurd z.2 (Int32.not_lt.mpr c3)) h2 (e1.tr e2)
      · exact T (Or.inr ⟨c2, Int32.not_le.mp c3⟩) h2 (e1.tr e2)
theorem c_Xleast (hN : gxN G ≤ lo) (hd : 95 ≤ d) (hX : TT h lo hi a ta fa A s P S E w b) (p : Nat) (hp : p < P) : gxM G mX3_least d 0 0 [.ref a, .int (nI p)] h (gxQi (fun r h' => r = spLeast w (setS A s) P S p ∧ fE fa h h')) := by
  have hX0 := hX
  have hS10 := hX.2.2.2.2.2.1
  obtain ⟨hp1, hp2⟩ := pow_S hS10
  have sc : ∀ set, spCanPay w (setS A s) P S p set = (decide ((s 78 >>> (nI p &&& 31)) &&& 1 = 0) && decide (0 < set) && decide (set &&& ((spKnown (setS A s) (nI p) S &&& (s 77 ^^^ (-1))) ^^^ (-1)) = 0) && decide (A 15 p ≤ spWs w (setS A s) P set S)) := fun set => by
    unfold spCanPay
    rw [setS_50, setS_ne (q := 15) (by decide)]
  refine gxM_of rfl (Nat.le_of_ble_eq_true rfl) rfl ?_
  generalize hmay : spKnown (setS A s) (nI p) S &&& (s 77 ^^^ -1) = may at *
  have L : ∀ m k h1, m + k = 2 ^ S → fE fa h h1 → (∀ q, q = spLs w (setS A s) P S p (k - 1) → (q.1 = -1 ∨ ∃ b, b < k ∧ q.1 = nI b ∧ q.2 = spWs w (setS A s) P (nI b) S) → gxV G mX3_least d 0 0 18 [some (.ref a), some (.int (nI p)), some (.int may), some (.int q.1), some (.int (nI k))] [] h1 (gxQi (fun r h' => r = spLeast w (setS A s) P S p ∧ fE fa h h'))) := by
    intro m
    induction m with
    | zero =>
      intro k h1 hk e q hq _
      have : k = 2 ^ S := by omega
      have hX := hX0.fE e
      obtain ⟨hT, hK, hM⟩ := hX; have hT0 := hT; obtain ⟨i1, i2, hf, nl, ol, pl, sl, el, fo, wv, pa, sa, ea, i3, ht, hfo, hpl, hsl, hel, hpa, hsa, hea, hwv⟩ := hT; have hpl0 := hpl.ls; have hsl0 := hsl.ls; have hel0 := hel.ls; have hpl := hpl0; have hsl := hsl0; have hel := hel0; obtain ⟨_, _, _, _, hpl, _⟩ := hpl; obtain ⟨_, _, _, _, hsl, _⟩ := hsl; obtain ⟨_, _, _, _, hel, _⟩ := hel; obtain ⟨kn, aw, rk, fi, ne, ha, hkn, haw, hrk, hfi, hne, ekn, eaw, erk, efi, ene⟩ := hK
      refine gx_iload (pc := 18) dX3_least_18 rfl ?_
      refine gx_iconst (pc := 20) (v := 1) dX3_least_20 (by decide) ?_
      refine gx_aload_n (pc := 21) dX3_least_21 rfl ?_
      refine gx_get (pc := 22) fX3_27 ha rfl dX3_least_22 ?_
      refine gx_get (pc := 25) fX3_31 ht rfl dX3_least_25 ?_
      refine kX3_37 (kc := 0) (ks := 0) (mc := 0) (ms := 0) (pc := 28) rfl (c_size (d := d - 1) hsl0) (gxRc.of rfl hsl) (by omega) (Nat.le_of_ble_eq_true rfl) dX3_least_28 (fun r1 h2 e1 => ?_)
      obtain ⟨rfl, e1⟩ := e1
      subst h2
      refine gx_ishl (pc := 31) dX3_least_31 ?_
      rw [shlS S (by omega), ← this]
      refine gx_icmp_ge (pc := 32) 78 dX3_least_32 (by decide) (fun c1 => ?_) (fun c1 => ?_)
      · refine gx_iload_n (pc := 78) dX3_least_78 rfl ?_
        exact gx_ireturn (pc := 79) rfl dX3_least_79 (⟨_, rfl, ⟨by rw [hq, this]; rfl, e⟩⟩)
      · exact absurd (nI_le (Nat.le_refl _) (by omega)) c1
    | succ m ih =>
      intro k h1 hk e q hq hqb
      have hX := hX0.fE e
      have hX1 := hX
      obtain ⟨hT, hK, hM⟩ := hX; have hT0 := hT; obtain ⟨i1, i2, hf, nl, ol, pl, sl, el, fo, wv, pa, sa, ea, i3, ht, hfo, hpl, hsl, hel, hpa, hsa, hea, hwv⟩ := hT; have hpl0 := hpl.ls; have hsl0 := hsl.ls; have hel0 := hel.ls; have hpl := hpl0; have hsl := hsl0; have hel := hel0; obtain ⟨_, _, _, _, hpl, _⟩ := hpl; obtain ⟨_, _, _, _, hsl, _⟩ := hsl; obtain ⟨_, _, _, _, hel, _⟩ := hel; obtain ⟨kn, aw, rk, fi, ne, ha, hkn, haw, hrk, hfi, hne, ekn, eaw, erk, efi, ene⟩ := hK
      have K72 : ∀ v h2, fE fa h h2 → (v = spLs w (setS A s) P S p k ∧ (v.1 = -1 ∨ ∃ b, b < k + 1 ∧ v.1 = nI b ∧ v.2 = spWs w (setS A s) P (nI b) S)) → gxV G mX3_least d 0 0 72 [some (.ref a), some (.int (nI p)), some (.int may), some (.int v.1), some (.int (nI k))] [] h2 (gxQi (fun r h' => r = spLeast w (setS A s) P S p ∧ fE fa h h')) := by
        intro v h2 e2 hv
        refine gx_iincc (pc := 72) (c := 1) dX3_least_72 rfl (by decide) (by decide) rfl ?_
        refine gx_goto (pc := 75) 18 dX3_least_75 (by decide) ?_
        rw [nI_1]
        exact ih (k + 1) h2 (by omega) e2 v hv.1 hv.2
      have keep : spLs w (setS A s) P S p k = q → ∀ h2, fE fa h h2 → gxV G mX3_least d 0 0 72 [some (.ref a), some (.int (nI p)), some (.int may), some (.int q.1), some (.int (nI k))] [] h2 (gxQi (fun r h' => r = spLeast w (setS A s) P S p ∧ fE fa h h')) := by
        intro hk2 h2 e2
        refine K72 q h2 e2 ⟨hk2.symm, ?_⟩
        rcases hqb with z | ⟨b, z1, z2⟩
        · exact Or.inl z
        · exact Or.inr ⟨b, by omega, z2⟩
      have step : 0 < k → spLs w (setS A s) P S p k = lsStep w (setS A s) P S p q (nI k) := by
        intro h0
        obtain ⟨j, rfl⟩ : ∃ j, k = j + 1 := ⟨k - 1, by omega⟩
        rw [spLs, hq]; rfl
      have no : spCanPay w (setS A s) P S p (nI k) = false → spLs w (setS A s) P S p k = q := by
        intro hh
        rcases Nat.eq_zero_or_pos k with z | z
        · subst z; exact hq.symm
        · rw [step z, lsStep, if_pos (Or.inr hh)]
      refine gx_iload (pc := 18) dX3_least_18 rfl ?_
      refine gx_iconst (pc := 20) (v := 1) dX3_least_20 (by decide) ?_
      refine gx_aload_n (pc := 21) dX3_least_21 rfl ?_
      refine gx_get (pc := 22) fX3_27 ha rfl dX3_least_22 ?_
      refine gx_get (pc := 25) fX3_31 ht rfl dX3_least_25 ?_
      refine kX3_37 (kc := 0) (ks := 0) (mc := 0) (ms := 0) (pc := 28) rfl (c_size (d := d - 1) hsl0) (gxRc.of rfl hsl) (by omega) (Nat.le_of_ble_eq_true rfl) dX3_least_28 (fun r1 h2 e1 => ?_)
      obtain ⟨rfl, e1⟩ := e1
      subst h2
      refine gx_ishl (pc := 31) dX3_least_31 ?_
      rw [shlS S (by omega)]
      refine gx_icmp_ge (pc := 32) 78 dX3_least_32 (by decide) (fun c1 => ?_) (fun c1 => ?_)
      · exact absurd c1 (nI_ge (by omega) (by omega))
      · refine gx_iload (pc := 35) dX3_least_35 rfl ?_
        refine gx_iload_n (pc := 37) dX3_least_37 rfl ?_
        refine gx_iconst (pc := 38) (v := (-1)) dX3_least_38 (by decide) ?_
        refine gx_ixor (pc := 39) dX3_least_39 ?_
        refine gx_iand (pc := 40) dX3_least_40 ?_
        refine gx_if_ne (pc := 41) 72 dX3_least_41 (by decide) (fun c2 => ?_) (fun c2 => ?_)
        · refine keep (no ?_) h1 e
          rw [sc, decide_eq_false c2, Bool.and_false, Bool.false_and]
        · refine gx_aload_n (pc := 44) dX3_least_44 rfl ?_
          refine gx_iload_n (pc := 45) dX3_least_45 rfl ?_
          refine gx_iload (pc := 46) dX3_least_46 rfl ?_
          refine kX3_128 (kc := 0) (ks := 0) (mc := 0) (ms := 0) (pc := 48) rfl (c_mayPay (d := d - 1) hN (by omega) hX1 p hp (nI k) (nI_pos' (by omega))) (gxRc.of rfl ha) (by omega) (Nat.le_of_ble_eq_true rfl) dX3_least_48 (fun r1 h2 e2 => ?_)
          obtain ⟨rfl, e2⟩ := e2
          have E2 := e.tr e2
          refine gx_if_eq (pc := 51) 72 dX3_least_51 (by decide) (fun c3 => ?_) (fun c3 => ?_)
          · exact keep (no (zi_eq0 c3)) h2 E2
          · have can := zi_ne0 c3
            have k0 : 0 < k := by
              rcases Nat.eq_zero_or_pos k with z | z
              · subst z
                rw [sc, show decide ((0 : Int32) < nI 0) = false from rfl] at can
                simp at can
              · exact z
            have st := step k0
            have nb : ¬ spCanPay w (setS A s) P S p (nI k) = false := by rw [can]; decide
            have K69 : spLs w (setS A s) P S p k = (nI k, spWs w (setS A s) P (nI k) S) → ∀ h3, fE fa h h3 → gxV G mX3_least d 0 0 69 [some (.ref a), some (.int (nI p)), some (.int may), some (.int q.1), some (.int (nI k))] [] h3 (gxQi (fun r h' => r = spLeast w (setS A s) P S p ∧ fE fa h h')) := by
              intro hk2 h3 e3
              refine gx_iload (pc := 69) dX3_least_69 rfl ?_
              refine gx_istore_n (pc := 71) dX3_least_71 (by decide) rfl ?_
              exact K72 (nI k, spWs w (setS A s) P (nI k) S) h3 e3 ⟨hk2.symm, Or.inr ⟨k, by omega, rfl, rfl⟩⟩
            refine gx_iload_n (pc := 54) dX3_least_54 rfl ?_
            refine gx_iconst (pc := 55) (v := (-1)) dX3_least_55 (by decide) ?_
            refine gx_icmp_eq (pc := 56) 69 dX3_least_56 (by decide) (fun c4 => ?_) (fun c4 => ?_)
            · have c4' : q.1 = -1 := c4
              refine K69 ?_ h2 E2
              rw [st, lsStep, if_neg (fun hh => by rcases hh with z | z; rw [c4'] at z; exact absurd z.1 (by decide); exact nb z), if_neg (fun hh => by rw [c4'] at hh; exact absurd hh.1 (by decide))]
            · rcases hqb with z | ⟨b, z1, z2, z3⟩
              · exact absurd z c4
              · have qp : 0 ≤ q.1 := by rw [z2]; exact nI_pos' (by omega)
                have hX2 := hX0.fE E2
                obtain ⟨_, _, _, _, _, ha, _⟩ := hX2.2.1
                rw [z2]
                refine gx_aload_n (pc := 59) dX3_least_59 rfl ?_
                refine gx_iload (pc := 60) dX3_least_60 rfl ?_
                refine gx_iload_n (pc := 62) dX3_least_62 rfl ?_
                refine kX3_131 (kc := 0) (ks := 0) (mc := 0) (ms := 0) (pc := 63) rfl (c_isLess (d := d - 1) hN (by omega) hX2 k b (by omega) (by omega)) (gxRc.of rfl ha) (by omega) (Nat.le_of_ble_eq_true rfl) dX3_least_63 (fun r3 h3 e3 => ?_)
                obtain ⟨e3, e4⟩ := e3
                have E3 := E2.tr e4
                rw [← z2] at e3 ⊢
                refine gx_if_eq (pc := 66) 72 dX3_least_66 (by decide) (fun c5 => ?_) (fun c5 => ?_)
                · rcases e3 with ⟨y1, _⟩ | ⟨_, y2⟩
                  · rw [y1] at c5; exact absurd c5 (by decide)
                  · refine keep ?_ h3 E3
                    rw [st, lsStep]
                    by_cases g1 : spBits q.1 10 < spBits (nI k) 10
                    · rw [if_pos (Or.inl ⟨qp, g1⟩)]
                    · rw [if_neg (fun hh => by rcases hh with u | u; exact g1 u.2; exact nb u)]
                      have g2 : spBits (nI k) 10 = spBits q.1 10 := Int32.le_antisymm (Int32.not_lt.mp g1) (Int32.not_lt.mp (fun u => y2 (Or.inl u)))
                      rw [if_pos ⟨qp, g2, by rw [z3, ← z2]; exact Int32.not_lt.mp (fun u => y2 (Or.inr ⟨g2, u⟩))⟩]
                · rcases e3 with ⟨_, y2⟩ | ⟨y1, _⟩
                  · refine K69 ?_ h3 E3
                    rw [st, lsStep]
                    rw [if_neg, if_neg]
                    · intro hh
                      rcases y2 with u | u
                      · rw [hh.2.1] at u; exact absurd u (Int32.lt_irrefl)
                      · have := hh.2.2
                        rw [z3, ← z2] at this
                        exact absurd u.2 (Int32.not_lt.mpr this)
                    · intro hh
                      rcases hh with g | g
                      · rcases y2 with u | u
                        · exact absurd (Int32.lt_trans g.2 u) Int32.lt_irrefl
                        · rw [u.1] at g; exact absurd g.2 Int32.lt_irrefl
                      · exact nb g
                  · exact absurd y1 c5
  obtain ⟨hT, hK, hM⟩ := hX; have hT0 := hT; obtain ⟨i1, i2, hf, nl, ol, pl, sl, el, fo, wv, pa, sa, ea, i3, ht, hfo, hpl, hsl, hel, hpa, hsa, hea, hwv⟩ := hT; have hpl0 := hpl.ls; have hsl0 := hsl.ls; have hel0 := hel.ls; have hpl := hpl0; have hsl := hsl0; have hel := hel0; obtain ⟨_, _, _, _, hpl, _⟩ := hpl; obtain ⟨_, _, _, _, hsl, _⟩ := hsl; obtain ⟨_, _, _, _, hel, _⟩ := hel; obtain ⟨kn, aw, rk, fi, ne, ha, hkn, haw, hrk, hfi, hne, ekn, eaw, erk, efi, ene⟩ := hK
  refine gx_aload_n (pc := 0) dX3_least_0 rfl ?_
  refine gx_iload_n (pc := 1) dX3_least_1 rfl ?_
  refine kX3_114 (kc := 0) (ks := 0) (mc := 0) (ms := 0) (pc := 2) rfl (c_Tknown (d := d - 1) (by omega) hX0 (nI p)) (gxRc.of rfl ha) (by omega) (Nat.le_of_ble_eq_true rfl) dX3_least_2 (fun r1 h1 e1 => ?_)
  obtain ⟨rfl, e1⟩ := e1
  subst h1
  refine gx_aload_n (pc := 5) dX3_least_5 rfl ?_
  refine gx_get (pc := 6) fX3_63 ha rfl dX3_least_6 ?_
  refine gx_iconst (pc := 9) (v := (-1)) dX3_least_9 (by decide) ?_
  refine gx_ixor (pc := 10) dX3_least_10 ?_
  refine gx_iand (pc := 11) dX3_least_11 ?_
  rw [hmay]
  refine gx_istore_n (pc := 12) dX3_least_12 (by decide) rfl ?_
  refine gx_iconst (pc := 13) (v := (-1)) dX3_least_13 (by decide) ?_
  refine gx_istore_n (pc := 14) dX3_least_14 (by decide) rfl ?_
  refine gx_iconst (pc := 15) (v := 0) dX3_least_15 (by decide) ?_
  refine gx_istore (pc := 16) dX3_least_16 (by decide) rfl ?_
  exact L (2 ^ S) 0 h (by omega) (fE.rf _ _) (-1, 0) rfl (Or.inl rfl)
end LK
