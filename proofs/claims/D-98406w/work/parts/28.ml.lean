/-! ===== MODEL L: count, person, secret; years drawn ===== -/
set_option maxRecDepth 100000
theorem gx_ldcw {G : gxG} {Y : gxY} {d kc ks pc : Nat} {ls : List (Option Value)} {st : List Value} {h : gxH} {Q : Outcome → gxH → Prop} {i : Nat} {v : Int32} (hc : Cond.constant Y.1.cls i v ∈ lw_all) (hd : decode Y.2.1 pc = .ok (.ldc_w i, 3)) (kk : gxV G Y d kc ks (pc + 3) ls (.int v :: st) h Q) : gxV G Y d kc ks pc ls st h Q := by
  intro p e R s m args below meth c H locs cells slots la A
  exact lv_ldcw A.2.1.1 A.2.1.2.1 A.2.1.2.2.2.2.2.1 (gx_hts A args _ hc) hd (kk p e R s m args below meth c H locs cells slots la A)
def spDn (n : Nat) : Nat := (12345 + 1103515245 * n) % 2147483648
theorem spDn_lt (n : Nat) : spDn n < 2 ^ 31 := Nat.mod_lt _ (by decide)
/-- one ear's whisper: how many, the seed, the row -/
abbrev whT : Type := Int32 × Nat × (Nat → Int32)
def whStep (A : Nat → Nat → Int32) (S : Nat) (q : whT) (k : Nat) : whT :=
  if spChance A k ≤ nI (spDn q.2.1 / 65536 % 10) ∨ S = 0 then (q.1, spDn q.2.1, q.2.2)
  else if spCan (setS A q.2.2) (A 22 k).toNatClampNeg (A 23 k).toNatClampNeg (spDn (spDn q.2.1) / 65536 % S) then (q.1 + 1, spDn (spDn q.2.1), spTell (setS A q.2.2) (A 22 k).toNatClampNeg (A 23 k).toNatClampNeg (spDn (spDn q.2.1) / 65536 % S))
  else (q.1, spDn (spDn q.2.1), q.2.2)
def spWh (A : Nat → Nat → Int32) (S n : Nat) (row : Nat → Int32) : Nat → whT
  | 0 => (0, n, row)
  | k + 1 => whStep A S (spWh A S n row k) k
def qdRow (w : Option gxEv) (A : Nat → Nat → Int32) (P S : Nat) (row : Nat → Int32) : Nat → Nat → Int32
  | 0 => row
  | p + 1 => if 0 < A 15 p ∧ 0 < spLeast w (setS A (qdRow w A P S row p)) P S p then spPay (qdRow w A P S row p) p (spLeast w (setS A (qdRow w A P S row p)) P S p) else qdRow w A P S row p
def spYr (w : Option gxEv) (A : Nat → Nat → Int32) (P S E n0 : Nat) : Nat → whT
  | 0 => (0, n0, A 50)
  | t + 1 => ((spYr w A P S E n0 t).1 + (spWh A S (spYr w A P S E n0 t).2.1 (spYr w A P S E n0 t).2.2 E).1, (spWh A S (spYr w A P S E n0 t).2.1 (spYr w A P S E n0 t).2.2 E).2.1,
      if (t + 1) % 10 = 0 then spPass (setS A (qdRow w A P S (spWh A S (spYr w A P S E n0 t).2.1 (spYr w A P S E n0 t).2.2 E).2.2 P)) P else (spWh A S (spYr w A P S E n0 t).2.1 (spYr w A P S E n0 t).2.2 E).2.2)
section ML
variable {G : gxG} {d : Nat} {h : gxH} {b : Nat} {σ : mS} {P S E : Nat} {w : Option gxEv}
theorem c_draws (hb : gxN G ≤ b) (n m : Nat) (hn : n < 2 ^ 31) (hg : σ.2.1.2 = lN n) (hm0 : 0 < m) (hm : m < 2 ^ 31) : mMi G mX10_draws d [.ref b, .int (nI m)] h b σ (fun r σ' => r = nI (spDn n / 65536 % m) ∧ σ' = mG σ (lN (spDn n))) := by
  refine gxM_of rfl (Nat.le_of_ble_eq_true rfl) rfl ?_
  refine gx_aload_n (pc := 0) dX10_draws_0 rfl ?_
  refine gx_aload_n (pc := 1) dX10_draws_1 rfl ?_
  refine m_getG (pc := 2) rfl fX10_543 dX10_draws_2 ?_
  rw [hg]
  refine gx_ldc2 (pc := 5) q2499 dX10_draws_5 ?_
  refine gx_lmul (pc := 8) dX10_draws_8 ?_
  refine gx_ldc2 (pc := 9) q2500 dX10_draws_9 ?_
  refine gx_ladd (pc := 12) dX10_draws_12 ?_
  refine gx_ldc2 (pc := 13) q2501 dX10_draws_13 ?_
  refine gx_lrem (pc := 16) dX10_draws_16 (by decide) ?_
  have e1 : lN n * 1103515245 + 12345 - (lN n * 1103515245 + 12345) / 2147483648 * 2147483648 = lN (spDn n) := by
    have e2 : lN n * 1103515245 + 12345 = lN (12345 + 1103515245 * n) := by
      rw [show (1103515245 : Int64) = lN 1103515245 from rfl, show (12345 : Int64) = lN 12345 from rfl, lN_mul, lN_add, Nat.mul_comm, Nat.add_comm]
    rw [e2, show (2147483648 : Int64) = lN 2147483648 from rfl]
    exact pk_lRem (by omega) (by decide) (by decide)
  rw [e1]
  refine m_putG (pc := 17) rfl hb fX10_543 tX10_69 dX10_draws_17 ?_
  refine gx_aload_n (pc := 20) dX10_draws_20 rfl ?_
  refine m_getG (pc := 21) rfl fX10_543 dX10_draws_21 ?_
  have e3 : (mG σ (lN (spDn n))).2.1.2 = lN (spDn n) := rfl
  rw [e3]
  have hl := spDn_lt n
  refine gx_ldc2 (pc := 24) q2502 dX10_draws_24 ?_
  refine gx_ldiv (pc := 27) dX10_draws_27 (by decide) ?_
  refine gx_iload_n (pc := 28) dX10_draws_28 rfl ?_
  refine gx_i2l (pc := 29) dX10_draws_29 ?_
  rw [show lN (spDn n) / 65536 = lN (spDn n / 65536) from pk_lDiv (b := 65536) (by omega) (by decide) (by decide), nI_l hm]
  refine gx_lrem (pc := 30) dX10_draws_30 (fun e => absurd ((pk_lEQ (a := m) (b := 0) (by omega) (by decide)).mp e) (by omega)) ?_
  refine gx_l2i (pc := 31) dX10_draws_31 ?_
  rw [pk_lRem (by omega) hm0 (by omega), lN_i]
  exact m_ret (pc := 32) rfl dX10_draws_32 (⟨rfl, rfl⟩)
theorem mRow_mG (σ : mS) (v : Int64) (s : Nat → Int32) : mRow (mG σ v) s = mG (mRow σ s) v := rfl
theorem mRow_mRow (σ : mS) (s t : Nat → Int32) : mRow (mRow σ s) t = mRow σ t := by
  simp only [mRow, mSA_A, mSA_mSA, setS_setS]
theorem mG_A (σ : mS) (v : Int64) : (mG σ v).2.2.1 = σ.2.2.1 := rfl
theorem mG_mG (σ : mS) (v u : Int64) : mG (mG σ v) u = mG σ u := rfl
theorem mRow_AA (σ : mS) (s : Nat → Int32) : (mRow σ s).2.2.1 = setS σ.2.2.1 s := rfl
theorem wSG {σ τ : mS} (h : wS σ τ) (v : Int64) : wS (mG σ v) (mG τ v) := by
  obtain ⟨A', hA, rfl⟩ := h
  exact ⟨A', hA, rfl⟩
theorem c_whispers (hb : gxN G ≤ b) (hd : 2 ≤ d) (hT : mT σ.2.2.1 P S E w) (n : Nat) (hn : n < 2 ^ 31) (hg : σ.2.1.2 = lN n) : mMi G mX10_whispers d [.ref b] h b σ (fun r σ' => r = (spWh σ.2.2.1 S n (σ.2.2.1 50) E).1 ∧ σ' = mG (mRow σ (spWh σ.2.2.1 S n (σ.2.2.1 50) E).2.2) (lN (spWh σ.2.2.1 S n (σ.2.2.1 50) E).2.1)) := by
  have hP := hT.2.1
  have hS := hT.2.2.1
  have hS10 := hT.2.2.2.1
  have hE := hT.2.2.2.2.1
  have hE30 := hT.2.2.2.2.2.1
  refine gxM_of rfl (Nat.le_of_ble_eq_true rfl) rfl ?_
  have hlt : ∀ k, (spWh σ.2.2.1 S n (σ.2.2.1 50) k).2.1 < 2 ^ 31 := by
    intro k
    cases k with
    | zero => exact hn
    | succ k =>
      simp only [spWh, whStep]
      split
      · exact spDn_lt _
      · split <;> exact spDn_lt _
  have L : ∀ m k, m + k = E → ∀ x3 : Option Value, gxV G mX10_whispers d 0 0 4 [some (.ref b), some (.int (spWh σ.2.2.1 S n (σ.2.2.1 50) k).1), some (.int (nI k)), x3] [] (mput h b (mG (mRow σ (spWh σ.2.2.1 S n (σ.2.2.1 50) k).2.2) (lN (spWh σ.2.2.1 S n (σ.2.2.1 50) k).2.1))) (mQi h b (fun r σ' => r = (spWh σ.2.2.1 S n (σ.2.2.1 50) E).1 ∧ σ' = mG (mRow σ (spWh σ.2.2.1 S n (σ.2.2.1 50) E).2.2) (lN (spWh σ.2.2.1 S n (σ.2.2.1 50) E).2.1))) := by
    intro m
    induction m with
    | zero =>
      intro k hk x3
      refine gx_iload_n (pc := 4) dX10_whispers_4 rfl ?_
      refine gx_aload_n (pc := 5) dX10_whispers_5 rfl ?_
      refine m_getA (pc := 6) rfl fX10_13 rfl (by decide) dX10_whispers_6 ?_
      refine gx_iconst (pc := 9) (v := 2) dX10_whispers_9 (by decide) ?_
      refine m_iald (pc := 10) 10 (2) 8 rfl (by decide) rfl (by first | rfl | simp only [gx_lit, nI_add, pk_mul]) (by omega) (by decide) dX10_whispers_10 ?_
      have e0 : ∀ q r, (mG (mRow σ q) r).2.2.1 10 2 = nI E := fun q r => hE
      rw [e0]
      refine gx_icmp_ge (pc := 11) 100 dX10_whispers_11 (by decide) (fun c1 => ?_) (fun c1 => ?_)
      · refine gx_iload_n (pc := 100) dX10_whispers_100 rfl ?_
        exact m_ret (pc := 101) rfl dX10_whispers_101 (⟨by rw [show k = E by omega], by rw [show k = E by omega]⟩)
      · exact absurd (nI_le (by omega) (by omega)) c1
    | succ m ih =>
      intro k hk x3
      refine gx_iload_n (pc := 4) dX10_whispers_4 rfl ?_
      refine gx_aload_n (pc := 5) dX10_whispers_5 rfl ?_
      refine m_getA (pc := 6) rfl fX10_13 rfl (by decide) dX10_whispers_6 ?_
      refine gx_iconst (pc := 9) (v := 2) dX10_whispers_9 (by decide) ?_
      refine m_iald (pc := 10) 10 (2) 8 rfl (by decide) rfl (by first | rfl | simp only [gx_lit, nI_add, pk_mul]) (by omega) (by decide) dX10_whispers_10 ?_
      have e0 : ∀ q r, (mG (mRow σ q) r).2.2.1 10 2 = nI E := fun q r => hE
      rw [e0]
      refine gx_icmp_ge (pc := 11) 100 dX10_whispers_11 (by decide) (fun c1 => ?_) (fun c1 => ?_)
      · exact absurd c1 (nI_ge (by omega) (by omega))
      · have K94 : ∀ (q : whT) (x3 : Option Value), q = spWh σ.2.2.1 S n (σ.2.2.1 50) (k + 1) → gxV G mX10_whispers d 0 0 94 [some (.ref b), some (.int q.1), some (.int (nI k)), x3] [] (mput h b (mG (mRow σ q.2.2) (lN q.2.1))) (mQi h b (fun r σ' => r = (spWh σ.2.2.1 S n (σ.2.2.1 50) E).1 ∧ σ' = mG (mRow σ (spWh σ.2.2.1 S n (σ.2.2.1 50) E).2.2) (lN (spWh σ.2.2.1 S n (σ.2.2.1 50) E).2.1))) := by
          intro q x3 hq
          subst hq
          refine gx_iincc (pc := 94) (c := 1) dX10_whispers_94 rfl (by decide) (by decide) rfl ?_
          refine gx_goto (pc := 97) 4 dX10_whispers_97 (by decide) ?_
          rw [nI_1]
          exact ih (k + 1) (by omega) x3
        have hzl := hlt k
        generalize hq : spWh σ.2.2.1 S n (σ.2.2.1 50) k = q at *
        obtain ⟨q1, q2, q3⟩ := q
        have hstep : spWh σ.2.2.1 S n (σ.2.2.1 50) (k + 1) = whStep σ.2.2.1 S (q1, q2, q3) k := by rw [spWh, hq]
        obtain ⟨⟨f, hf, hf2⟩, ⟨t, ht, ht2⟩, hft⟩ := hT.2.2.2.2.2.2.2.2.1 k (by omega)
        have hd1 := spDn_lt q2
        refine gx_aload_n (pc := 14) dX10_whispers_14 rfl ?_
        refine gx_bipush (pc := 15) (v := 10) dX10_whispers_15 (by decide) ?_
        refine kX10_554 (pc := 17) rfl (c_draws (d := d - 1) (m := 10) hb q2 hzl rfl (by decide) (by decide)) (by omega) (Nat.le_of_ble_eq_true rfl) dX10_whispers_17 (fun r1 σ1 e1 => ?_)
        obtain ⟨rfl, hσ⟩ := e1
        subst σ1
        refine gx_aload_n (pc := 20) dX10_whispers_20 rfl ?_
        refine gx_iload_n (pc := 21) dX10_whispers_21 rfl ?_
        refine kX10_454 (pc := 22) rfl (c_chanceOf (d := d - 1) (by omega) k f (by omega) (by omega) hf2) (by omega) (Nat.le_of_ble_eq_true rfl) dX10_whispers_22 (fun r1 σ1 e1 => ?_)
        obtain ⟨rfl, hσ⟩ := e1
        subst σ1
        have e2 : spChance (mG (mG (mRow σ q3) (lN q2)) (lN (spDn q2))).2.2.1 k = spChance σ.2.2.1 k := by
          rw [mG_A, mG_A, mRow_AA]; unfold spChance; rw [setS_ne (by decide), setS_ne (by decide), setS_ne (by decide)]
        rw [e2]
        rw [mG_mG]
        refine gx_icmp_ge (pc := 25) 94 dX10_whispers_25 (by decide) (fun c2 => ?_) (fun c2 => ?_)
        · refine K94 (q1, spDn q2, q3) _ ?_
          rw [hstep, whStep, if_pos (Or.inl c2)]
        · refine gx_aload_n (pc := 28) dX10_whispers_28 rfl ?_
          refine m_getA (pc := 29) rfl fX10_13 rfl (by decide) dX10_whispers_29 ?_
          refine gx_iconst (pc := 32) (v := 1) dX10_whispers_32 (by decide) ?_
          refine m_iald (pc := 33) 10 (1) 8 rfl (by decide) rfl (by first | rfl | simp only [gx_lit, nI_add, pk_mul]) (by omega) (by decide) dX10_whispers_33 ?_
          have e4 : (mG (mRow σ q3) (lN (spDn q2))).2.2.1 10 1 = nI S := hS
          rw [e4]
          refine gx_if_ne (pc := 34) 40 dX10_whispers_34 (by decide) (fun c3 => ?_) (fun c3 => ?_)
          · have hS0 : S ≠ 0 := fun e => c3 (by rw [e]; rfl)
            have hno : ¬ (spChance σ.2.2.1 k ≤ nI (spDn (q1, q2, q3).2.1 / 65536 % 10) ∨ S = 0) := by
              rintro (hh | hh)
              · exact c2 hh
              · exact hS0 hh
            refine gx_aload_n (pc := 40) dX10_whispers_40 rfl ?_
            refine gx_aload_n (pc := 41) dX10_whispers_41 rfl ?_
            refine m_getA (pc := 42) rfl fX10_13 rfl (by decide) dX10_whispers_42 ?_
            refine gx_iconst (pc := 45) (v := 1) dX10_whispers_45 (by decide) ?_
            refine m_iald (pc := 46) 10 (1) 8 rfl (by decide) rfl (by first | rfl | simp only [gx_lit, nI_add, pk_mul]) (by omega) (by decide) dX10_whispers_46 ?_
            rw [e4]
            refine kX10_554 (pc := 47) rfl (c_draws (d := d - 1) (m := S) hb (spDn q2) hd1 rfl (by omega) (by omega)) (by omega) (Nat.le_of_ble_eq_true rfl) dX10_whispers_47 (fun r1 σ1 e1 => ?_)
            obtain ⟨rfl, hσ⟩ := e1
            subst σ1
            rw [mG_mG]
            have hc : spDn (spDn q2) / 65536 % S < S := Nat.mod_lt _ (by omega)
            generalize hcc : spDn (spDn q2) / 65536 % S = c at *
            refine gx_istore_n (pc := 50) dX10_whispers_50 (by decide) rfl ?_
            refine gx_aload_n (pc := 51) dX10_whispers_51 rfl ?_
            refine gx_aload_n (pc := 52) dX10_whispers_52 rfl ?_
            refine m_getA (pc := 53) rfl fX10_50 rfl (by decide) dX10_whispers_53 ?_
            refine gx_iload_n (pc := 56) dX10_whispers_56 rfl ?_
            refine m_iald (pc := 57) 22 (k) 60 rfl (by decide) rfl (by first | rfl | simp only [gx_lit, nI_add, pk_mul]) (by omega) (by decide) dX10_whispers_57 ?_
            refine gx_aload_n (pc := 58) dX10_whispers_58 rfl ?_
            refine m_getA (pc := 59) rfl fX10_53 rfl (by decide) dX10_whispers_59 ?_
            refine gx_iload_n (pc := 62) dX10_whispers_62 rfl ?_
            refine m_iald (pc := 63) 23 (k) 60 rfl (by decide) rfl (by first | rfl | simp only [gx_lit, nI_add, pk_mul]) (by omega) (by decide) dX10_whispers_63 ?_
            refine gx_iload_n (pc := 64) dX10_whispers_64 rfl ?_
            have e6 : ∀ j, j ≠ 50 → (mG (mRow σ q3) (lN (spDn (spDn q2)))).2.2.1 j = σ.2.2.1 j := fun j hj => mRow_A hj
            rw [e6 22 (by decide), e6 23 (by decide), hf2, ht2]
            refine kX10_464 (pc := 65) rfl (c_canTell (d := d - 1) (by omega) f t c (by omega) (by omega)) (by omega) (Nat.le_of_ble_eq_true rfl) dX10_whispers_65 (fun r1 σ1 e1 => ?_)
            obtain ⟨rfl, hσ⟩ := e1
            subst σ1
            rw [mG_A, mRow_AA]
            refine gx_if_ne (pc := 68) 74 dX10_whispers_68 (by decide) (fun c4 => ?_) (fun c4 => ?_)
            · have hcan : spCan (setS σ.2.2.1 q3) f t c = true := by
                cases e : spCan (setS σ.2.2.1 q3) f t c with
                | true => rfl
                | false => rw [e] at c4; exact absurd rfl c4
              refine gx_aload_n (pc := 74) dX10_whispers_74 rfl ?_
              refine gx_aload_n (pc := 75) dX10_whispers_75 rfl ?_
              refine m_getA (pc := 76) rfl fX10_50 rfl (by decide) dX10_whispers_76 ?_
              refine gx_iload_n (pc := 79) dX10_whispers_79 rfl ?_
              refine m_iald (pc := 80) 22 (k) 60 rfl (by decide) rfl (by first | rfl | simp only [gx_lit, nI_add, pk_mul]) (by omega) (by decide) dX10_whispers_80 ?_
              refine gx_aload_n (pc := 81) dX10_whispers_81 rfl ?_
              refine m_getA (pc := 82) rfl fX10_53 rfl (by decide) dX10_whispers_82 ?_
              refine gx_iload_n (pc := 85) dX10_whispers_85 rfl ?_
              refine m_iald (pc := 86) 23 (k) 60 rfl (by decide) rfl (by first | rfl | simp only [gx_lit, nI_add, pk_mul]) (by omega) (by decide) dX10_whispers_86 ?_
              refine gx_iload_n (pc := 87) dX10_whispers_87 rfl ?_
              rw [e6 22 (by decide), e6 23 (by decide), hf2, ht2]
              refine kX10_470 (pc := 88) rfl (c_tells' (d := d - 1) hb f t c (by omega) (by omega) (by omega)) (by omega) (Nat.le_of_ble_eq_true rfl) dX10_whispers_88 (fun σ1 e1 => ?_)
              refine gx_iincc (pc := 91) (c := 1) dX10_whispers_91 rfl (by decide) (by decide) rfl ?_
              have e8 : σ1 = mG (mRow σ (spTell (setS σ.2.2.1 q3) f t c)) (lN (spDn (spDn q2))) := by
                rw [e1, mRow_mG, mRow_mRow, mG_A, mRow_AA]
              rw [e8]
              refine K94 (q1 + 1, spDn (spDn q2), spTell (setS σ.2.2.1 q3) f t c) _ ?_
              rw [hstep, whStep, if_neg hno]
              simp only [hcc, hf2, ht2, nI_clamp (show f < 2 ^ 31 by omega), nI_clamp (show t < 2 ^ 31 by omega), hcan, if_true]
            · have hcan : spCan (setS σ.2.2.1 q3) f t c = false := by
                cases e : spCan (setS σ.2.2.1 q3) f t c with
                | false => rfl
                | true => rw [e] at c4; exact absurd c4 (by decide)
              refine gx_goto (pc := 71) 94 dX10_whispers_71 (by decide) ?_
              refine K94 (q1, spDn (spDn q2), q3) _ ?_
              rw [hstep, whStep, if_neg hno]
              simp only [hcc, hf2, ht2, nI_clamp (show f < 2 ^ 31 by omega), nI_clamp (show t < 2 ^ 31 by omega), hcan]
              rfl
          · refine gx_goto (pc := 37) 94 dX10_whispers_37 (by decide) ?_
            refine K94 (q1, spDn q2, q3) _ ?_
            have hS0 : S = 0 := (nI_eq (b := 0) (by omega) (by decide)).mp c3
            rw [hstep, whStep, if_pos (Or.inr hS0)]
  refine gx_iconst (pc := 0) (v := 0) dX10_whispers_0 (by decide) ?_
  refine gx_istore_n (pc := 1) dX10_whispers_1 (by decide) rfl ?_
  refine gx_iconst (pc := 2) (v := 0) dX10_whispers_2 (by decide) ?_
  refine gx_istore_n (pc := 3) dX10_whispers_3 (by decide) rfl ?_
  have e0 : mG (mRow σ (σ.2.2.1 50)) (lN n) = σ := by
    rw [mRow, setS_J, setJ_self, ← hg]; rfl
  have L0 := L E 0 (by omega) none
  have e1 : mG (mRow σ (spWh σ.2.2.1 S n (σ.2.2.1 50) 0).2.2) (lN (spWh σ.2.2.1 S n (σ.2.2.1 50) 0).2.1) = σ := e0
  rw [e1] at L0
  exact L0
end ML
