/-! ===== COMPONENT I: talk written: pays, rises, ends, tells, lends ===== -/
set_option maxRecDepth 100000
theorem spNtS_irr {s : Nat → Int32} {j : Nat} {v : Int32} {p : Nat} (hp : p < 6) (hj : j < 86 ∨ 122 ≤ j) : ∀ o, o ≤ 6 → spNtS (upd s j v) p o = spNtS s p o
  | 0, _ => rfl
  | o + 1, ho => by
    rw [spNtS, spNtS, spNtS_irr hp hj o (by omega)]
    simp only [upd]
    rw [if_neg (by omega), if_neg (by omega)]
theorem TR.irr {s kn aw rk fi ne : Nat → Int32} {b : Bool} (r : TR s kn aw rk fi ne b) (j : Nat) (v : Int32) (hj : j = 76 ∨ j = 77 ∨ j = 78 ∨ j = 85 ∨ j = 122) : TR (upd s j v) kn aw rk fi ne b := by
  obtain ⟨r1, r2, r3, r4, r5⟩ := r
  refine ⟨fun k hk => ?_, fun p q k hp hq hk => ?_, fun p hp => ?_, fun p hp => ?_, fun p hp hb => ?_⟩
  · rw [r1 k hk]; simp only [upd]; rw [if_neg (by omega)]
  · rw [r2 p q k hp hq hk]; simp only [upd]; rw [if_neg (by omega)]
  · rw [r3 p hp]; simp only [upd]; rw [if_neg (by omega)]
  · rw [r4 p hp]; simp only [upd]; rw [if_neg (by omega)]
  · rw [r5 p hp hb, spNtS_irr hp (by omega) 6 (by omega)]
theorem TR.rk1 {s kn aw rk fi ne : Nat → Int32} {b : Bool} (r : TR s kn aw rk fi ne b) {p : Nat} (hp : p < 6) (v : Int32) : TR (upd s (70 + p) v) kn aw (upd rk p v) fi ne b := by
  obtain ⟨r1, r2, r3, r4, r5⟩ := r
  refine ⟨fun k hk => ?_, fun p' q k hp' hq hk => ?_, fun p' hp' => ?_, fun p' hp' => ?_, fun p' hp' hb => ?_⟩
  · rw [r1 k hk]; simp only [upd]; rw [if_neg (by omega)]
  · rw [r2 p' q k hp' hq hk]; simp only [upd]; rw [if_neg (by omega)]
  · simp only [upd]
    by_cases e : p' = p
    · rw [if_pos e, if_pos (by omega)]
    · rw [if_neg e, if_neg (by omega)]; exact r3 p' hp'
  · rw [r4 p' hp']; simp only [upd]; rw [if_neg (by omega)]
  · rw [r5 p' hp' hb, spNtS_irr hp' (by omega) 6 (by omega)]
theorem TR.fi1 {s kn aw rk fi ne : Nat → Int32} {b : Bool} (r : TR s kn aw rk fi ne b) {p : Nat} (hp : p < 6) (v : Int32) : TR (upd s (79 + p) v) kn aw rk (upd fi p v) ne b := by
  obtain ⟨r1, r2, r3, r4, r5⟩ := r
  refine ⟨fun k hk => ?_, fun p' q k hp' hq hk => ?_, fun p' hp' => ?_, fun p' hp' => ?_, fun p' hp' hb => ?_⟩
  · rw [r1 k hk]; simp only [upd]; rw [if_neg (by omega)]
  · rw [r2 p' q k hp' hq hk]; simp only [upd]; rw [if_neg (by omega)]
  · rw [r3 p' hp']; simp only [upd]; rw [if_neg (by omega)]
  · simp only [upd]
    by_cases e : p' = p
    · rw [if_pos e, if_pos (by omega)]
    · rw [if_neg e, if_neg (by omega)]; exact r4 p' hp'
  · rw [r5 p' hp' hb, spNtS_irr hp' (by omega) 6 (by omega)]
section LI
variable {G : gxG} {d : Nat} {h : gxH} {lo hi a ta fa P S E : Nat} {A : Nat → Nat → Int32} {s : Nat → Int32} {w : Option gxEv} {b : Bool}
theorem c_Xpays (hn : gxN G ≤ a) (hf : fa < a ∨ a + 6 ≤ fa) (hK : TK h a ta s b) (p : Nat) (set : Int32) : gxM G mX3_pays d 0 0 [.ref a, .int (nI p), .int set] h (gxQv (fun h' => TK h' a ta (spPay s p set) b ∧ tE a fa h h')) := by
  obtain ⟨kn, aw, rk, fi, ne, hF, hR⟩ := hK.F
  have na := hn
  refine gxM_of rfl (Nat.le_of_ble_eq_true rfl) rfl ?_
  have hF0 := hF
  obtain ⟨ha, hkn, haw, hrk, hfi, hne⟩ := hF
  refine gx_aload_n (pc := 0) dX3_pays_0 rfl ?_
  refine gx_dup (pc := 1) dX3_pays_1 rfl ?_
  refine gx_get (pc := 2) fX3_66 ha rfl dX3_pays_2 ?_
  refine gx_iconst (pc := 5) (v := 1) dX3_pays_5 (by decide) ?_
  refine gx_iload_n (pc := 6) dX3_pays_6 rfl ?_
  refine gx_ishl (pc := 7) dX3_pays_7 ?_
  refine gx_ior (pc := 8) dX3_pays_8 ?_
  refine gx_put (pc := 9) fX3_66 ha na (by first | exact Nat.le_of_ble_eq_true rfl | simp) tX3_8 rfl rfl dX3_pays_9 ?_
  have hF1 := hF0.ob (.ref ta) (s 76) (s 77) (s 78 ||| (1 <<< (nI p &&& 31))) (s 122) (s 85)
  have E1 := tE.up (a := a) (fa := fa) (i := 0) h (.inr (2, [.ref ta, .ref (a + 1), .ref (a + 2), .ref (a + 3), .ref (a + 4), .ref (a + 5), .int (s 76), .int (s 77), .int (s 78 ||| (1 <<< (nI p &&& 31))), .int (s 122), .int (s 85)])) (by decide) hf
  change gxV _ _ _ _ _ _ _ _ (gxup h a (.inr (2, [.ref ta, .ref (a + 1), .ref (a + 2), .ref (a + 3), .ref (a + 4), .ref (a + 5), .int (s 76), .int (s 77), .int (s 78 ||| (1 <<< (nI p &&& 31))), .int (s 122), .int (s 85)]))) _
  change tE a fa h (gxup h a _) at E1
  generalize gxup h a (.inr (2, [.ref ta, .ref (a + 1), .ref (a + 2), .ref (a + 3), .ref (a + 4), .ref (a + 5), .int (s 76), .int (s 77), .int (s 78 ||| (1 <<< (nI p &&& 31))), .int (s 122), .int (s 85)])) = h1 at *
  obtain ⟨ha, hkn, haw, hrk, hfi, hne⟩ := id hF1
  refine gx_aload_n (pc := 12) dX3_pays_12 rfl ?_
  refine gx_dup (pc := 13) dX3_pays_13 rfl ?_
  refine gx_get (pc := 14) fX3_63 ha rfl dX3_pays_14 ?_
  refine gx_iload_n (pc := 17) dX3_pays_17 rfl ?_
  refine gx_ior (pc := 18) dX3_pays_18 ?_
  refine gx_put (pc := 19) fX3_63 ha na (by first | exact Nat.le_of_ble_eq_true rfl | simp) tX3_7 rfl rfl dX3_pays_19 ?_
  have hF2 := hF1.ob (.ref ta) (s 76) (s 77 ||| set) (s 78 ||| (1 <<< (nI p &&& 31))) (s 122) (s 85)
  have E2 := tE.up (a := a) (fa := fa) (i := 0) h1 (.inr (2, [.ref ta, .ref (a + 1), .ref (a + 2), .ref (a + 3), .ref (a + 4), .ref (a + 5), .int (s 76), .int (s 77 ||| set), .int (s 78 ||| (1 <<< (nI p &&& 31))), .int (s 122), .int (s 85)])) (by decide) hf
  exact gx_return (pc := 22) rfl dX3_pays_22 (⟨rfl, ⟨TK.of (s := spPay s p set) hF2 ((hR.irr 77 _ (by omega)).irr 78 _ (by omega)), E1.tr E2⟩⟩)
theorem c_Xrises (hn : gxN G ≤ a) (hf : fa < a ∨ a + 6 ≤ fa) (hK : TK h a ta s b) (p : Nat) (hp : p < 6) : gxM G mX3_rises d 0 0 [.ref a, .int (nI p)] h (gxQi (fun r h' => (s (70 + p) = 9 ∧ r = 0 ∧ h' = h) ∨ (¬ s (70 + p) = 9 ∧ r = 1 ∧ TK h' a ta (upd s (70 + p) (s (70 + p) + 1)) b ∧ tE a fa h h'))) := by
  obtain ⟨kn, aw, rk, fi, ne, hF, hR⟩ := hK.F
  have nrk : gxN G ≤ a + 3 := by omega
  refine gxM_of rfl (Nat.le_of_ble_eq_true rfl) rfl ?_
  have hF0 := hF
  obtain ⟨ha, hkn, haw, hrk, hfi, hne⟩ := hF
  refine gx_aload_n (pc := 0) dX3_rises_0 rfl ?_
  refine gx_get (pc := 1) fX3_18 ha rfl dX3_rises_1 ?_
  refine gx_iload_n (pc := 4) dX3_rises_4 rfl ?_
  refine gx_iald (pc := 5) (p) hrk (by first | rfl | simp only [gx_lit, nI_add, pk_mul]) (by omega) (by decide) dX3_rises_5 ?_
  rw [hR.2.2.1 p hp]
  refine gx_bipush (pc := 6) (v := 9) dX3_rises_6 (by decide) ?_
  refine gx_icmp_ne (pc := 8) 13 dX3_rises_8 (by decide) (fun c1 => ?_) (fun c1 => ?_)
  · refine gx_aload_n (pc := 13) dX3_rises_13 rfl ?_
    refine gx_get (pc := 14) fX3_18 ha rfl dX3_rises_14 ?_
    refine gx_iload_n (pc := 17) dX3_rises_17 rfl ?_
    refine gx_dup2 (pc := 18) dX3_rises_18 rfl rfl ?_
    refine gx_iald (pc := 19) (p) hrk (by first | rfl | simp only [gx_lit, nI_add, pk_mul]) (by omega) (by decide) dX3_rises_19 ?_
    rw [hR.2.2.1 p hp]
    refine gx_iconst (pc := 20) (v := 1) dX3_rises_20 (by decide) ?_
    refine gx_iadd (pc := 21) dX3_rises_21 ?_
    refine gx_iast (pc := 22) (p) hrk nrk (by first | rfl | simp only [gx_lit, nI_add, pk_mul]) (by omega) (by decide) dX3_rises_22 ?_
    refine gx_iconst (pc := 23) (v := 1) dX3_rises_23 (by decide) ?_
    have hF1 := hF0.urk (upd rk p (s (70 + p) + 1))
    have E1 := tE.up (a := a) (fa := fa) (i := 3) h (.inl (0, 6, .inl (upd rk p (s (70 + p) + 1)))) (by decide) hf
    have e : ∀ j, j = 76 ∨ j = 77 ∨ j = 78 ∨ j = 122 ∨ j = 85 → upd s (70 + p) (s (70 + p) + 1) j = s j := fun j hj => by simp only [upd]; rw [if_neg (by omega)]
    exact gx_zreturn (pc := 24) rfl (by decide) dX3_rises_24 (⟨_, rfl, Or.inr ⟨c1, rfl, TK.of (s := upd s (70 + p) (s (70 + p) + 1)) (by rw [e 76 (by omega), e 77 (by omega), e 78 (by omega), e 122 (by omega), e 85 (by omega)]; exact hF1) (hR.rk1 hp _), E1⟩⟩)
  · refine gx_iconst (pc := 11) (v := 0) dX3_rises_11 (by decide) ?_
    exact gx_zreturn (pc := 12) rfl (by decide) dX3_rises_12 (⟨_, rfl, Or.inl ⟨c1, rfl, rfl⟩⟩)
theorem c_Xtells (hn : gxN G ≤ a) (hd : 4 ≤ d) (hf : fa < a ∨ a + 6 ≤ fa) (dj : a + 6 ≤ lo ∨ hi ≤ a) (hX : TT h lo hi a ta fa A s P S E w b) (p q k : Nat) (hp : p < P) (hq : q < P) (hk : k < S) (hpq : p ≠ q) (h16 : A 16 k = 0 ∨ A 16 k = 1) : gxM G mX3_tells d 0 0 [.ref a, .int (nI p), .int (nI q), .int (nI k)] h (gxQv (fun h' => TK h' a ta (spTell (setS A s) p q k) b ∧ tE a fa h h')) := by
  have hM := hX.2.2
  have hP6 := hM.2.1
  have hS10 := hM.2.2.2.1
  obtain ⟨kn, aw, rk, fi, ne, hF, hR⟩ := hX.2.1.F
  have na := hn
  have nkn : gxN G ≤ a + 1 := by omega
  have naw : gxN G ≤ a + 2 := by omega
  refine gxM_of rfl (Nat.le_of_ble_eq_true rfl) rfl ?_
  have hF0 := hF
  obtain ⟨ha, hkn, haw, hrk, hfi, hne⟩ := hF
  refine gx_aload_n (pc := 0) dX3_tells_0 rfl ?_
  refine gx_get (pc := 1) fX3_9 ha rfl dX3_tells_1 ?_
  refine gx_iload_n (pc := 4) dX3_tells_4 rfl ?_
  refine gx_dup2 (pc := 5) dX3_tells_5 rfl rfl ?_
  refine gx_iald (pc := 6) (k) hkn (by first | rfl | simp only [gx_lit, nI_add, pk_mul]) (by omega) (by decide) dX3_tells_6 ?_
  refine gx_iconst (pc := 7) (v := 1) dX3_tells_7 (by decide) ?_
  refine gx_iload_n (pc := 8) dX3_tells_8 rfl ?_
  refine gx_ishl (pc := 9) dX3_tells_9 ?_
  refine gx_ior (pc := 10) dX3_tells_10 ?_
  refine gx_iast (pc := 11) (k) hkn nkn (by first | rfl | simp only [gx_lit, nI_add, pk_mul]) (by omega) (by decide) dX3_tells_11 ?_
  generalize hg1 : upd kn k (kn k ||| (1 <<< (nI q &&& 31))) = g1
  have hF1 := hF0.ukn g1
  have E1 := tE.up (a := a) (fa := fa) (i := 1) h (.inl (0, 10, .inl g1)) (by decide) hf
  generalize gxup h (a + 1) (.inl (0, 10, .inl g1)) = h1 at *
  clear hF0
  obtain ⟨ha, hkn, haw, hrk, hfi, hne⟩ := id hF1
  refine gx_aload_n (pc := 12) dX3_tells_12 rfl ?_
  refine gx_get (pc := 13) fX3_15 ha rfl dX3_tells_13 ?_
  refine gx_bipush (pc := 16) (v := 6) dX3_tells_16 (by decide) ?_
  refine gx_iload_n (pc := 18) dX3_tells_18 rfl ?_
  refine gx_imul (pc := 19) dX3_tells_19 ?_
  refine gx_iload_n (pc := 20) dX3_tells_20 rfl ?_
  refine gx_iadd (pc := 21) dX3_tells_21 ?_
  refine gx_dup2 (pc := 22) dX3_tells_22 rfl rfl ?_
  refine gx_iald (pc := 23) (((6 * p) + q)) haw (by first | rfl | simp only [gx_lit, nI_add, pk_mul]) (by omega) (by decide) dX3_tells_23 ?_
  refine gx_iconst (pc := 24) (v := 1) dX3_tells_24 (by decide) ?_
  refine gx_iload_n (pc := 25) dX3_tells_25 rfl ?_
  refine gx_ishl (pc := 26) dX3_tells_26 ?_
  refine gx_ior (pc := 27) dX3_tells_27 ?_
  refine gx_iast (pc := 28) (((6 * p) + q)) haw naw (by first | rfl | simp only [gx_lit, nI_add, pk_mul]) (by omega) (by decide) dX3_tells_28 ?_
  generalize hg2 : upd aw (6 * p + q) (aw (6 * p + q) ||| (1 <<< (nI k &&& 31))) = g2
  have hF2 := hF1.uaw g2
  have E2 := tE.up (a := a) (fa := fa) (i := 2) h1 (.inl (0, 36, .inl g2)) (by decide) hf
  generalize gxup h1 (a + 2) (.inl (0, 36, .inl g2)) = h2 at *
  have E2 := E1.tr E2
  clear hF1 E1
  obtain ⟨ha, hkn, haw, hrk, hfi, hne⟩ := id hF2
  refine gx_aload_n (pc := 29) dX3_tells_29 rfl ?_
  refine gx_get (pc := 30) fX3_15 ha rfl dX3_tells_30 ?_
  refine gx_bipush (pc := 33) (v := 6) dX3_tells_33 (by decide) ?_
  refine gx_iload_n (pc := 35) dX3_tells_35 rfl ?_
  refine gx_imul (pc := 36) dX3_tells_36 ?_
  refine gx_iload_n (pc := 37) dX3_tells_37 rfl ?_
  refine gx_iadd (pc := 38) dX3_tells_38 ?_
  refine gx_dup2 (pc := 39) dX3_tells_39 rfl rfl ?_
  refine gx_iald (pc := 40) (((6 * q) + p)) haw (by first | rfl | simp only [gx_lit, nI_add, pk_mul]) (by omega) (by decide) dX3_tells_40 ?_
  refine gx_iconst (pc := 41) (v := 1) dX3_tells_41 (by decide) ?_
  refine gx_iload_n (pc := 42) dX3_tells_42 rfl ?_
  refine gx_ishl (pc := 43) dX3_tells_43 ?_
  refine gx_ior (pc := 44) dX3_tells_44 ?_
  refine gx_iast (pc := 45) (((6 * q) + p)) haw naw (by first | rfl | simp only [gx_lit, nI_add, pk_mul]) (by omega) (by decide) dX3_tells_45 ?_
  generalize hg3 : upd g2 (6 * q + p) (g2 (6 * q + p) ||| (1 <<< (nI k &&& 31))) = g3
  have hF3 := hF2.uaw g3
  have E3 := tE.up (a := a) (fa := fa) (i := 2) h2 (.inl (0, 36, .inl g3)) (by decide) hf
  generalize gxup h2 (a + 2) (.inl (0, 36, .inl g3)) = h3 at *
  have E3 := E2.tr E3
  clear hF2 E2
  obtain ⟨ha, hkn, haw, hrk, hfi, hne⟩ := id hF3
  -- the row without met
  generalize hs3 : upd (upd (upd s k (s k ||| (1 <<< (nI q &&& 31)))) (10 + 10 * p + k) (upd s k (s k ||| (1 <<< (nI q &&& 31))) (10 + 10 * p + k) ||| (1 <<< (nI q &&& 31)))) (10 + 10 * q + k) (upd (upd s k (s k ||| (1 <<< (nI q &&& 31)))) (10 + 10 * p + k) (upd s k (s k ||| (1 <<< (nI q &&& 31))) (10 + 10 * p + k) ||| (1 <<< (nI q &&& 31))) (10 + 10 * q + k) ||| (1 <<< (nI p &&& 31))) = s3
  have hTl : spTell (setS A s) p q k = (if A 16 k = 1 ∧ A 17 k = nI q then upd s3 76 (s3 76 ||| (1 <<< (nI k &&& 31))) else s3) := by
    unfold spTell
    simp only [setS_50]
    rw [setS_ne (q := 16) (by decide), setS_ne (q := 17) (by decide), hs3]
  have hs3e : ∀ j, 70 ≤ j → s3 j = s j := fun j hj => by rw [← hs3]; simp only [upd]; rw [if_neg (by omega), if_neg (by omega), if_neg (by omega)]
  obtain ⟨r1, r2, r3, r4, r5⟩ := hR
  have hR3 : TR s3 g1 g3 rk fi ne b := by
    refine ⟨fun k' hk' => ?_, fun p' q' k' hp' hq' hk' => ?_, fun p' hp' => ?_, fun p' hp' => ?_, fun p' hp' hb => ?_⟩
    · rw [← hg1, ← hs3, r1 k (by omega)]
      simp only [upd]
      rw [if_neg (show ¬ k' = 10 + 10 * q + k by omega), if_neg (show ¬ k' = 10 + 10 * p + k by omega)]
      split
      · rfl
      · exact r1 k' hk'
    · have e1 : hs (g3 (6 * p' + q')) (nI k') = (hs (aw (6 * p' + q')) (nI k') || decide ((p' = p ∧ q' = q ∨ p' = q ∧ q' = p) ∧ k' = k)) := by
        rw [← hg3, ← hg2]
        simp only [upd]
        by_cases a1 : p' = q ∧ q' = p
        · obtain ⟨rfl, rfl⟩ := a1
          rw [if_pos rfl, if_neg (show ¬ 6 * p' + q' = 6 * q' + p' by omega), hs_or _ (by omega) (by omega)]
          simp
        · rw [if_neg (show ¬ 6 * p' + q' = 6 * q + p by omega)]
          by_cases a2 : p' = p ∧ q' = q
          · obtain ⟨rfl, rfl⟩ := a2
            rw [if_pos rfl, hs_or _ (by omega) (by omega)]
            simp
          · rw [if_neg (show ¬ 6 * p' + q' = 6 * p + q by omega)]
            have : ¬ ((p' = p ∧ q' = q ∨ p' = q ∧ q' = p) ∧ k' = k) := fun hh => by rcases hh.1 with z | z; exact a2 z; exact a1 z
            rw [decide_eq_false this, Bool.or_false]
      have e2 : hs (s3 (10 + 10 * p' + k')) (nI q') = (hs (s (10 + 10 * p' + k')) (nI q') || decide ((p' = p ∧ q' = q ∨ p' = q ∧ q' = p) ∧ k' = k)) := by
        rw [← hs3]
        simp only [upd]
        rw [if_neg (show ¬ 10 + 10 * p' + k' = k by omega), if_neg (show ¬ 10 + 10 * q + k = k by omega), if_neg (show ¬ 10 + 10 * p + k = k by omega)]
        by_cases a1 : p' = q ∧ k' = k
        · obtain ⟨rfl, rfl⟩ := a1
          rw [if_pos rfl, if_neg (show ¬ 10 + 10 * p' + k' = 10 + 10 * p + k' by omega), hs_or _ (by omega) (by omega)]
          by_cases a3 : q' = p
          · simp [a3]
          · have : ¬ ((p' = p ∧ q' = p' ∨ p' = p' ∧ q' = p) ∧ k' = k') := fun hh => by rcases hh.1 with z | z; exact hpq z.1.symm; exact a3 z.2
            rw [decide_eq_false this, decide_eq_false a3]
        · rw [if_neg (show ¬ 10 + 10 * p' + k' = 10 + 10 * q + k by omega)]
          by_cases a2 : p' = p ∧ k' = k
          · obtain ⟨rfl, rfl⟩ := a2
            rw [if_pos rfl, hs_or _ (by omega) (by omega)]
            by_cases a3 : q' = q
            · simp [a3]
            · have : ¬ ((p' = p' ∧ q' = q ∨ p' = q ∧ q' = p') ∧ k' = k') := fun hh => by rcases hh.1 with z | z; exact a3 z.2; exact hpq z.1
              rw [decide_eq_false this, decide_eq_false a3]
          · rw [if_neg (show ¬ 10 + 10 * p' + k' = 10 + 10 * p + k by omega)]
            have : ¬ ((p' = p ∧ q' = q ∨ p' = q ∧ q' = p) ∧ k' = k) := fun hh => by rcases hh.1 with z | z; exact a2 ⟨z.1, hh.2⟩; exact a1 ⟨z.1, hh.2⟩
            rw [decide_eq_false this, Bool.or_false]
      rw [e1, e2, r2 p' q' k' hp' hq' hk']
    · rw [hs3e _ (by omega)]; exact r3 p' hp'
    · rw [hs3e _ (by omega)]; exact r4 p' hp'
    · rw [r5 p' hp' hb]
      have : ∀ o, o ≤ 6 → spNtS s3 p' o = spNtS s p' o := by
        intro o
        induction o with
        | zero => intro _; rfl
        | succ o ih => intro ho; rw [spNtS, spNtS, ih (by omega), hs3e _ (by omega), hs3e _ (by omega)]
      exact (this 6 (by omega)).symm
  have hF3' : TF h3 a (.ref ta) g1 g3 rk fi ne (s3 76) (s3 77) (s3 78) (s3 122) (s3 85) := by
    rw [hs3e 76 (by omega), hs3e 77 (by omega), hs3e 78 (by omega), hs3e 122 (by omega), hs3e 85 (by omega)]; exact hF3
  have K3 : TK h3 a ta s3 b := TK.of hF3' hR3
  have X3 : TT h3 lo hi a ta fa A s3 P S E w b := ⟨hX.1.tE E3 dj, K3, hM⟩
  have N : ¬ (A 16 k = 1 ∧ A 17 k = nI q) → gxV G mX3_tells d 0 0 81 [some (.ref a), some (.int (nI p)), some (.int (nI q)), some (.int (nI k))] [] h3 (gxQv (fun h' => TK h' a ta (spTell (setS A s) p q k) b ∧ tE a fa h h')) := by
    intro hh
    exact gx_return (pc := 81) rfl dX3_tells_81 (⟨rfl, ⟨by rw [hTl, if_neg hh]; exact K3, E3⟩⟩)
  refine gx_aload_n (pc := 46) dX3_tells_46 rfl ?_
  refine gx_iload_n (pc := 47) dX3_tells_47 rfl ?_
  refine kX3_86 (kc := 0) (ks := 0) (mc := 0) (ms := 0) (pc := 48) rfl (c_Tsecret (d := d - 1) (by omega) X3 k hk) (gxRc.of rfl ha) (by omega) (Nat.le_of_ble_eq_true rfl) dX3_tells_48 (fun r1 h4 e1 => ?_)
  obtain ⟨e1, hse⟩ := e1
  subst h4
  refine gx_get (pc := 51) fX3_121 hse rfl dX3_tells_51 ?_
  refine gx_if_eq (pc := 54) 81 dX3_tells_54 (by decide) (fun c1 => ?_) (fun c1 => ?_)
  · exact N (fun hh => by rw [hh.1] at c1; exact absurd c1 (by decide))
  · refine gx_aload_n (pc := 57) dX3_tells_57 rfl ?_
    refine gx_iload_n (pc := 58) dX3_tells_58 rfl ?_
    refine kX3_86 (kc := 0) (ks := 0) (mc := 0) (ms := 0) (pc := 59) rfl (c_Tsecret (d := d - 1) (by omega) X3 k hk) (gxRc.of rfl ha) (by omega) (Nat.le_of_ble_eq_true rfl) dX3_tells_59 (fun r1 h4 e1 => ?_)
    obtain ⟨e1, hse2⟩ := e1
    subst h4
    have hse := hse2
    refine gx_get (pc := 62) fX3_90 hse rfl dX3_tells_62 ?_
    refine gx_iload_n (pc := 65) dX3_tells_65 rfl ?_
    refine gx_icmp_ne (pc := 66) 81 dX3_tells_66 (by decide) (fun c2 => ?_) (fun c2 => ?_)
    · exact N (fun hh => c2 hh.2)
    · have c3 : A 16 k = 1 := by
        rcases h16 with z | z
        · exact absurd z c1
        · exact z
      refine gx_aload_n (pc := 69) dX3_tells_69 rfl ?_
      refine gx_dup (pc := 70) dX3_tells_70 rfl ?_
      refine gx_get (pc := 71) fX3_60 ha rfl dX3_tells_71 ?_
      refine gx_iconst (pc := 74) (v := 1) dX3_tells_74 (by decide) ?_
      refine gx_iload_n (pc := 75) dX3_tells_75 rfl ?_
      refine gx_ishl (pc := 76) dX3_tells_76 ?_
      refine gx_ior (pc := 77) dX3_tells_77 ?_
      refine gx_put (pc := 78) fX3_60 ha na (by first | exact Nat.le_of_ble_eq_true rfl | simp) tX3_6 rfl rfl dX3_tells_78 ?_
      have hF4 := hF3'.ob (.ref ta) (s3 76 ||| (1 <<< (nI k &&& 31))) (s3 77) (s3 78) (s3 122) (s3 85)
      have E4 := tE.up (a := a) (fa := fa) (i := 0) h3 (.inr (2, [.ref ta, .ref (a + 1), .ref (a + 2), .ref (a + 3), .ref (a + 4), .ref (a + 5), .int (s3 76 ||| (1 <<< (nI k &&& 31))), .int (s3 77), .int (s3 78), .int (s3 122), .int (s3 85)])) (by decide) hf
      simp only [hs3e 76 (by omega), hs3e 77 (by omega), hs3e 78 (by omega), hs3e 122 (by omega), hs3e 85 (by omega)] at hF4 E4
      exact gx_return (pc := 81) rfl dX3_tells_81 (⟨rfl, ⟨by rw [hTl, if_pos ⟨c3, c2⟩]; exact TK.of (s := upd s3 76 (s3 76 ||| (1 <<< (nI k &&& 31)))) (by simp only [upd, hs3e 76 (by omega), hs3e 77 (by omega), hs3e 78 (by omega), hs3e 122 (by omega), hs3e 85 (by omega)]; exact hF4) (hR3.irr 76 _ (by omega)), E3.tr E4⟩⟩)
/-- who is fined, the quarter's end -/
theorem c_Xends (hn : gxN G ≤ a) (hd : 3 ≤ d) (hf : fa < a ∨ a + 6 ≤ fa) (dj : a + 6 ≤ lo ∨ hi ≤ a) (hX : TT h lo hi a ta fa A s P S E w b) : gxM G mX3_ends d 0 0 [.ref a] h (gxQi (fun r h' => r = spFined (setS A s) P ∧ TK h' a ta (spPass (setS A s) P) b ∧ tE a fa h h')) := by
  have hM := hX.2.2
  have hP6 := hM.2.1
  have na := hn
  have nfi : gxN G ≤ a + 4 := by omega
  refine gxM_of rfl (Nat.le_of_ble_eq_true rfl) rfl ?_
  have sf : ∀ p, spFine (setS A s) p = (!decide (A 15 p = 0) && !hs (s 78) (nI p)) := fun p => by unfold spFine; rw [setS_50, setS_ne (q := 15) (by decide)]
  have lo1 : ∀ j p, p ≤ P → (j < 79 ∨ 85 ≤ j) → spFines (setS A s) p j = s j := fun j p hp hj => by rw [spFines_lo _ _ hj p (by omega), setS_50]
  have L : ∀ m p h1, m + p = P → TK h1 a ta (spFines (setS A s) p) b → tE a fa h h1 → gxV G mX3_ends d 0 0 4 [some (.ref a), some (.int (spFined (setS A s) p)), some (.int (nI p))] [] h1 (gxQi (fun r h' => r = spFined (setS A s) P ∧ TK h' a ta (spPass (setS A s) P) b ∧ tE a fa h h')) := by
    intro m
    induction m with
    | zero =>
      intro p h1 hp K1 E1
      have : p = P := by omega
      subst this
      have T1 := hX.1.tE E1 dj
      obtain ⟨i1, i2, hfc, nl, ol, pl, sl, el, fo, wv, pa, sa, ea, i3, ht, hfo, hpl, hsl, hel, hpa, hsa, hea, hwv⟩ := T1
      have hpl0 := hpl.ls
      have hpl := hpl0
      obtain ⟨_, _, _, _, hpl, _⟩ := hpl
      obtain ⟨kn, aw, rk, fi, ne, hF, hR⟩ := K1.F
      have hF0 := hF
      obtain ⟨ha, hkn, haw, hrk, hfi, hne⟩ := hF
      refine gx_iload_n (pc := 4) dX3_ends_4 rfl ?_
      refine gx_aload_n (pc := 5) dX3_ends_5 rfl ?_
      refine gx_get (pc := 6) fX3_27 ha rfl dX3_ends_6 ?_
      refine gx_get (pc := 9) fX3_53 ht rfl dX3_ends_9 ?_
      refine kX3_37 (kc := 0) (ks := 0) (mc := 0) (ms := 0) (pc := 12) rfl (c_size (d := d - 1) hpl0) (gxRc.of rfl hpl) (by omega) (Nat.le_of_ble_eq_true rfl) dX3_ends_12 (fun r1 h2 e1 => ?_)
      obtain ⟨rfl, e1⟩ := e1
      subst h2
      refine gx_icmp_ge (pc := 15) 74 dX3_ends_15 (by decide) (fun c1 => ?_) (fun c1 => ?_)
      · generalize hs0 : spFines (setS A s) p = s0 at *
        have hs78 : s0 85 = s 85 := by rw [← hs0]; exact lo1 85 p (Nat.le_refl _) (by omega)
        refine gx_aload_n (pc := 74) dX3_ends_74 rfl ?_
        refine gx_iconst (pc := 75) (v := 0) dX3_ends_75 (by decide) ?_
        refine gx_put (pc := 76) fX3_66 ha na (by first | exact Nat.le_of_ble_eq_true rfl | simp) tX3_8 rfl rfl dX3_ends_76 ?_
        have hF1 := hF0.ob (.ref ta) (s0 76) (s0 77) 0 (s0 122) (s0 85)
        have E2 := tE.up (a := a) (fa := fa) (i := 0) h1 (.inr (2, [.ref ta, .ref (a + 1), .ref (a + 2), .ref (a + 3), .ref (a + 4), .ref (a + 5), .int (s0 76), .int (s0 77), .int 0, .int (s0 122), .int (s0 85)])) (by decide) hf
        change gxV _ _ _ _ _ _ _ _ (gxup h1 a (.inr (2, [.ref ta, .ref (a + 1), .ref (a + 2), .ref (a + 3), .ref (a + 4), .ref (a + 5), .int (s0 76), .int (s0 77), .int 0, .int (s0 122), .int (s0 85)]))) _
        change tE a fa h1 (gxup h1 a _) at E2
        generalize gxup h1 a (.inr (2, [.ref ta, .ref (a + 1), .ref (a + 2), .ref (a + 3), .ref (a + 4), .ref (a + 5), .int (s0 76), .int (s0 77), .int 0, .int (s0 122), .int (s0 85)])) = h2 at *
        have E2 := E1.tr E2
        obtain ⟨ha, hkn, haw, hrk, hfi, hne⟩ := id hF1
        refine gx_aload_n (pc := 79) dX3_ends_79 rfl ?_
        refine gx_iconst (pc := 80) (v := 0) dX3_ends_80 (by decide) ?_
        refine gx_put (pc := 81) fX3_63 ha na (by first | exact Nat.le_of_ble_eq_true rfl | simp) tX3_7 rfl rfl dX3_ends_81 ?_
        have hF2 := hF1.ob (.ref ta) (s0 76) 0 0 (s0 122) (s0 85)
        have E3 := tE.up (a := a) (fa := fa) (i := 0) h2 (.inr (2, [.ref ta, .ref (a + 1), .ref (a + 2), .ref (a + 3), .ref (a + 4), .ref (a + 5), .int (s0 76), .int 0, .int 0, .int (s0 122), .int (s0 85)])) (by decide) hf
        change gxV _ _ _ _ _ _ _ _ (gxup h2 a (.inr (2, [.ref ta, .ref (a + 1), .ref (a + 2), .ref (a + 3), .ref (a + 4), .ref (a + 5), .int (s0 76), .int 0, .int 0, .int (s0 122), .int (s0 85)]))) _
        change tE a fa h2 (gxup h2 a _) at E3
        generalize gxup h2 a (.inr (2, [.ref ta, .ref (a + 1), .ref (a + 2), .ref (a + 3), .ref (a + 4), .ref (a + 5), .int (s0 76), .int 0, .int 0, .int (s0 122), .int (s0 85)])) = h3 at *
        have E3 := E2.tr E3
        obtain ⟨ha, hkn, haw, hrk, hfi, hne⟩ := id hF2
        refine gx_aload_n (pc := 84) dX3_ends_84 rfl ?_
        refine gx_dup (pc := 85) dX3_ends_85 rfl ?_
        refine gx_get (pc := 86) fX3_72 ha rfl dX3_ends_86 ?_
        refine gx_iconst (pc := 89) (v := 1) dX3_ends_89 (by decide) ?_
        refine gx_iadd (pc := 90) dX3_ends_90 ?_
        refine gx_put (pc := 91) fX3_72 ha na (by first | exact Nat.le_of_ble_eq_true rfl | simp) tX3_10 rfl rfl dX3_ends_91 ?_
        refine gx_iload_n (pc := 94) dX3_ends_94 rfl ?_
        have hF3 := hF2.ob (.ref ta) (s0 76) 0 0 (s0 122) (s0 85 + 1)
        have E4 := tE.up (a := a) (fa := fa) (i := 0) h3 (.inr (2, [.ref ta, .ref (a + 1), .ref (a + 2), .ref (a + 3), .ref (a + 4), .ref (a + 5), .int (s0 76), .int 0, .int 0, .int (s0 122), .int (s0 85 + 1)])) (by decide) hf
        have fin : TK (gxup h3 a (.inr (2, [.ref ta, .ref (a + 1), .ref (a + 2), .ref (a + 3), .ref (a + 4), .ref (a + 5), .int (s0 76), .int 0, .int 0, .int (s0 122), .int (s0 85 + 1)]))) a ta (spPass (setS A s) p) b := by
          have : spPass (setS A s) p = upd (upd (upd s0 77 0) 78 0) 85 (s0 85 + 1) := by rw [spPass, hs0, setS_50, hs78]
          rw [this]
          exact TK.of (s := upd (upd (upd s0 77 0) 78 0) 85 (s0 85 + 1)) hF3 (((hR.irr 77 _ (by omega)).irr 78 _ (by omega)).irr 85 _ (by omega))
        exact gx_ireturn (pc := 95) rfl dX3_ends_95 (⟨_, rfl, ⟨rfl, fin, E3.tr E4⟩⟩)
      · exact absurd (nI_le (Nat.le_refl _) (by omega)) c1
    | succ m ih =>
      intro p h1 hp K1 E1
      have T1 := hX.1.tE E1 dj
      obtain ⟨i1, i2, hfc, nl, ol, pl, sl, el, fo, wv, pa, sa, ea, i3, ht, hfo, hpl, hsl, hel, hpa, hsa, hea, hwv⟩ := T1
      have hpl0 := hpl.ls
      have hpl := hpl0
      obtain ⟨_, _, _, _, hpl, _⟩ := hpl
      obtain ⟨_, hpe⟩ := hpa p (by omega)
      obtain ⟨kn, aw, rk, fi, ne, hF, hR⟩ := K1.F
      have hF0 := hF
      obtain ⟨ha, hkn, haw, hrk, hfi, hne⟩ := hF
      have K68 : ∀ v h2, v = spFined (setS A s) (p + 1) → TK h2 a ta (spFines (setS A s) (p + 1)) b → tE a fa h h2 → gxV G mX3_ends d 0 0 68 [some (.ref a), some (.int v), some (.int (nI p))] [] h2 (gxQi (fun r h' => r = spFined (setS A s) P ∧ TK h' a ta (spPass (setS A s) P) b ∧ tE a fa h h')) := by
        intro v h2 hv K2 E2
        subst hv
        refine gx_iincc (pc := 68) (c := 1) dX3_ends_68 rfl (by decide) (by decide) rfl ?_
        refine gx_goto (pc := 71) 4 dX3_ends_71 (by decide) ?_
        rw [nI_1]
        exact ih (p + 1) h2 (by omega) K2 E2
      refine gx_iload_n (pc := 4) dX3_ends_4 rfl ?_
      refine gx_aload_n (pc := 5) dX3_ends_5 rfl ?_
      refine gx_get (pc := 6) fX3_27 ha rfl dX3_ends_6 ?_
      refine gx_get (pc := 9) fX3_53 ht rfl dX3_ends_9 ?_
      refine kX3_37 (kc := 0) (ks := 0) (mc := 0) (ms := 0) (pc := 12) rfl (c_size (d := d - 1) hpl0) (gxRc.of rfl hpl) (by omega) (Nat.le_of_ble_eq_true rfl) dX3_ends_12 (fun r1 h2 e1 => ?_)
      obtain ⟨rfl, e1⟩ := e1
      subst h2
      refine gx_icmp_ge (pc := 15) 74 dX3_ends_15 (by decide) (fun c1 => ?_) (fun c1 => ?_)
      · exact absurd c1 (nI_ge (by omega) (by omega))
      · refine gx_aload_n (pc := 18) dX3_ends_18 rfl ?_
        refine gx_get (pc := 19) fX3_27 ha rfl dX3_ends_19 ?_
        refine gx_get (pc := 22) fX3_53 ht rfl dX3_ends_22 ?_
        refine gx_iload_n (pc := 25) dX3_ends_25 rfl ?_
        refine kX3_43 (kc := 0) (ks := 0) (mc := 0) (ms := 0) (pc := 26) rfl (c_get (d := d - 1) (by omega) hpl0 p (by omega)) (gxRc.of rfl hpl) (by omega) (Nat.le_of_ble_eq_true rfl) dX3_ends_26 (fun r1 h2 e1 => ?_)
        obtain ⟨rfl, e1⟩ := e1
        subst h2
        refine gx_castP (pc := 29) hpe q430 dX3_ends_29 ?_
        refine kFX3_125 (pc := 32) hpe rfl dX3_ends_32 ?_
        refine gx_if_eq (pc := 35) 68 dX3_ends_35 (by decide) (fun c2 => ?_) (fun c2 => ?_)
        · have nf : spFine (setS A s) p = false := by rw [sf, c2]; rfl
          exact K68 _ h1 (by rw [spFined, nf]; rfl) (by rw [spFines, nf]; exact K1) E1
        · refine gx_aload_n (pc := 38) dX3_ends_38 rfl ?_
          refine gx_get (pc := 39) fX3_66 ha rfl dX3_ends_39 ?_
          rw [lo1 78 p (by omega) (by omega)]
          refine gx_iload_n (pc := 42) dX3_ends_42 rfl ?_
          refine kX3_97 (kc := 0) (ks := 0) (mc := 0) (ms := 0) (pc := 43) rfl (c_has (d := d - 1) (s 78) (nI p)) (by omega) (Nat.le_of_ble_eq_true rfl) dX3_ends_43 (fun r1 h2 e1 => ?_)
          obtain ⟨rfl, e1⟩ := e1
          subst h2
          refine gx_if_eq (pc := 46) 52 dX3_ends_46 (by decide) (fun c3 => ?_) (fun c3 => ?_)
          · have nf : spFine (setS A s) p = true := by rw [sf, decide_eq_false c2, zi_eq0 c3]; rfl
            refine gx_aload_n (pc := 52) dX3_ends_52 rfl ?_
            refine gx_get (pc := 53) fX3_21 ha rfl dX3_ends_53 ?_
            refine gx_iload_n (pc := 56) dX3_ends_56 rfl ?_
            refine gx_dup2 (pc := 57) dX3_ends_57 rfl rfl ?_
            refine gx_iald (pc := 58) (p) hfi (by first | rfl | simp only [gx_lit, nI_add, pk_mul]) (by omega) (by decide) dX3_ends_58 ?_
            refine gx_iconst (pc := 59) (v := 1) dX3_ends_59 (by decide) ?_
            refine gx_iadd (pc := 60) dX3_ends_60 ?_
            refine gx_iast (pc := 61) (p) hfi nfi (by first | rfl | simp only [gx_lit, nI_add, pk_mul]) (by omega) (by decide) dX3_ends_61 ?_
            rw [hR.2.2.2.1 p (by omega)]
            generalize hv : spFines (setS A s) p (79 + p) + 1 = v
            have hF1 := hF0.ufi (upd fi p v)
            have E2 := tE.up (a := a) (fa := fa) (i := 4) h1 (.inl (0, 6, .inl (upd fi p v))) (by decide) hf
            generalize gxup h1 (a + 4) (.inl (0, 6, .inl (upd fi p v))) = h2 at *
            refine gx_iload_n (pc := 62) dX3_ends_62 rfl ?_
            refine gx_iconst (pc := 63) (v := 1) dX3_ends_63 (by decide) ?_
            refine gx_iload_n (pc := 64) dX3_ends_64 rfl ?_
            refine gx_ishl (pc := 65) dX3_ends_65 ?_
            refine gx_ior (pc := 66) dX3_ends_66 ?_
            refine gx_istore_n (pc := 67) dX3_ends_67 (by decide) rfl ?_
            refine K68 _ h2 (by rw [spFined, if_pos nf]) ?_ (E1.tr E2)
            rw [spFines, if_pos nf, hv]
            have e : ∀ j, j = 76 ∨ j = 77 ∨ j = 78 ∨ j = 122 ∨ j = 85 → upd (spFines (setS A s) p) (79 + p) v j = spFines (setS A s) p j := fun j hj => by simp only [upd]; rw [if_neg (by omega)]
            exact TK.of (s := upd (spFines (setS A s) p) (79 + p) v) (by rw [e 76 (by omega), e 77 (by omega), e 78 (by omega), e 122 (by omega), e 85 (by omega)]; exact hF1) (hR.fi1 (by omega) v)
          · have nf : spFine (setS A s) p = false := by rw [sf, zi_ne0 c3]; simp
            refine gx_goto (pc := 49) 68 dX3_ends_49 (by decide) ?_
            exact K68 _ h1 (by rw [spFined, nf]; rfl) (by rw [spFines, nf]; exact K1) E1
  refine gx_iconst (pc := 0) (v := 0) dX3_ends_0 (by decide) ?_
  refine gx_istore_n (pc := 1) dX3_ends_1 (by decide) rfl ?_
  refine gx_iconst (pc := 2) (v := 0) dX3_ends_2 (by decide) ?_
  refine gx_istore_n (pc := 3) dX3_ends_3 (by decide) rfl ?_
  exact L P 0 h (by omega) (by rw [spFines, setS_50]; exact hX.2.1) (tE.rf _ _ _)
end LI
