/-! ===== MODEL ND: tokens ===== -/
set_option maxRecDepth 100000
theorem lgc0 {x y : Int64} : lg_cmp x y = 0 ↔ x = y := by
  constructor
  · intro h
    exact Int64.le_antisymm ((lg_cmp_le x y).mp (by rw [h]; decide)) ((lg_cmp_ge x y).mp (by rw [h]; decide))
  · rintro rfl
    unfold lg_cmp
    rw [if_neg (by simp), if_pos rfl]
/-- place, begin, token, word, told -/
abbrev tkV : Type := Nat × Nat × Int32 × Int64 × Int32
def tkP (σ : mS) (q : tkV) : mS := (upd (upd (upd (upd σ.1 4 (nI q.1)) 5 (nI q.2.1)) 6 q.2.2.1) 8 q.2.2.2.2, (q.2.2.2.1, σ.2.1.2), σ.2.2)
theorem tkP4 (σ : mS) (q : tkV) : (tkP σ q).1 4 = nI q.1 := by simp [tkP, upd]
theorem tkP5 (σ : mS) (q : tkV) : (tkP σ q).1 5 = nI q.2.1 := by simp [tkP, upd]
theorem tkP6 (σ : mS) (q : tkV) : (tkP σ q).1 6 = q.2.2.1 := by simp [tkP, upd]
theorem tkP8 (σ : mS) (q : tkV) : (tkP σ q).1 8 = q.2.2.2.2 := by simp [tkP, upd]
theorem tkPw (σ : mS) (q : tkV) : (tkP σ q).2.1.1 = q.2.2.2.1 := rfl
theorem tkPA (σ : mS) (q : tkV) : (tkP σ q).2.2 = σ.2.2 := rfl
theorem tkPne (σ : mS) (q : tkV) {k : Nat} (h4 : k ≠ 4) (h5 : k ≠ 5) (h6 : k ≠ 6) (h8 : k ≠ 8) : (tkP σ q).1 k = σ.1 k := by simp [tkP, upd, h4, h5, h6, h8]
theorem mI4 (σ : mS) (q : tkV) (v : Nat) : mI (tkP σ q) 4 (nI v) = tkP σ (v, q.2) := by
  simp only [mI, tkP]; congr 1; funext z
  by_cases h4 : z = 4 <;> by_cases h5 : z = 5 <;> by_cases h6 : z = 6 <;> by_cases h8 : z = 8 <;> simp [upd, h4, h5, h6, h8]
theorem mI5 (σ : mS) (q : tkV) (v : Nat) : mI (tkP σ q) 5 (nI v) = tkP σ (q.1, v, q.2.2) := by
  simp only [mI, tkP]; congr 1; funext z
  by_cases h4 : z = 4 <;> by_cases h5 : z = 5 <;> by_cases h6 : z = 6 <;> by_cases h8 : z = 8 <;> simp [upd, h4, h5, h6, h8]
theorem mI6 (σ : mS) (q : tkV) (v : Int32) : mI (tkP σ q) 6 v = tkP σ (q.1, q.2.1, v, q.2.2.2) := by
  simp only [mI, tkP]; congr 1; funext z
  by_cases h4 : z = 4 <;> by_cases h5 : z = 5 <;> by_cases h6 : z = 6 <;> by_cases h8 : z = 8 <;> simp [upd, h4, h5, h6, h8]
theorem mI8 (σ : mS) (q : tkV) (v : Int32) : mI (tkP σ q) 8 v = tkP σ (q.1, q.2.1, q.2.2.1, q.2.2.2.1, v) := by
  simp only [mI, tkP]; congr 1; funext z
  by_cases h4 : z = 4 <;> by_cases h5 : z = 5 <;> by_cases h6 : z = 6 <;> by_cases h8 : z = 8 <;> simp [upd, h4, h5, h6, h8]
theorem mWw (σ : mS) (q : tkV) (v : Int64) : mW (tkP σ q) v = tkP σ (q.1, q.2.1, q.2.2.1, v, q.2.2.2.2) := rfl
theorem tkP_tkP (σ : mS) (q r : tkV) : tkP (tkP σ q) r = tkP σ r := by
  simp only [tkP]; congr 1; funext z
  by_cases h4 : z = 4 <;> by_cases h5 : z = 5 <;> by_cases h6 : z = 6 <;> by_cases h8 : z = 8 <;> simp [upd, h4, h5, h6, h8]
theorem tkP_self {σ : mS} {p b : Nat} (hp : σ.1 4 = nI p) (hb : σ.1 5 = nI b) : tkP σ (p, b, σ.1 6, σ.2.1.1, σ.1 8) = σ := by
  have : upd (upd (upd (upd σ.1 4 (nI p)) 5 (nI b)) 6 (σ.1 6)) 8 (σ.1 8) = σ.1 := by
    funext z
    by_cases h4 : z = 4 <;> by_cases h5 : z = 5 <;> by_cases h6 : z = 6 <;> by_cases h8 : z = 8 <;> simp [upd, h4, h5, h6, h8, hp, hb]
  simp only [tkP, this]
/-- what is gone past ahead of a token -/
def tkSk (t : Nat → Int32) : Nat → Nat → Nat
  | 0, p => p
  | m + 1, p => if t p = 32 ∨ t p = 10 then tkSk t m (p + 1) else p
theorem tkSk_le (t : Nat → Int32) : ∀ m p, p ≤ tkSk t m p ∧ tkSk t m p ≤ p + m
  | 0, p => ⟨Nat.le_refl _, Nat.le_refl _⟩
  | m + 1, p => by
    have := tkSk_le t m (p + 1)
    rw [tkSk]; split <;> omega
/-- letters: where they end, the word -/
def tkLt (t : Nat → Int32) : Nat → Nat → Nat → Int64 → Nat × Int64
  | 0, p, _, w => (p, w)
  | m + 1, p, k, w => if 97 ≤ t p ∧ t p ≤ 122 then tkLt t m (p + 1) (k + 1) (if k < 8 then w * 27 + (t p).toInt64 - 96 else w) else (p, w)
theorem tkLt_le (t : Nat → Int32) : ∀ m p k w, p ≤ (tkLt t m p k w).1 ∧ (tkLt t m p k w).1 ≤ p + m
  | 0, p, _, _ => ⟨Nat.le_refl _, Nat.le_refl _⟩
  | m + 1, p, k, w => by
    have := tkLt_le t m (p + 1) (k + 1) (if k < 8 then w * 27 + (t p).toInt64 - 96 else w)
    rw [tkLt]; split
    · omega
    · simp only []; omega
def tkDg (t : Nat → Int32) : Nat → Nat → Nat → Int32 → Nat × Int32
  | 0, p, _, w => (p, w)
  | m + 1, p, k, w => if 48 ≤ t p ∧ t p ≤ 57 then tkDg t m (p + 1) (k + 1) (if k < 4 then w * 10 + t p - 48 else w) else (p, w)
theorem tkDg_le (t : Nat → Int32) : ∀ m p k w, p ≤ (tkDg t m p k w).1 ∧ (tkDg t m p k w).1 ≤ p + m
  | 0, p, _, _ => ⟨Nat.le_refl _, Nat.le_refl _⟩
  | m + 1, p, k, w => by
    have := tkDg_le t m (p + 1) (k + 1) (if k < 4 then w * 10 + t p - 48 else w)
    rw [tkDg]; split
    · omega
    · simp only []; omega
/-- a token that begins at p -/
def tkAt (t : Nat → Int32) (z p : Nat) : tkV :=
  if p = z then (p, p, 0, 0, 0)
  else if 97 ≤ t p ∧ t p ≤ 122 then (let x := tkLt t (z - p) p 0 0; (x.1, p, if 8 < x.1 - p then 4 else 1, x.2, 0))
  else if 48 ≤ t p ∧ t p ≤ 57 then (let x := tkDg t (z - p) p 0 0; (x.1, p, if 4 < x.1 - p then 4 else 2, 0, x.2))
  else (p + 1, p, if (40 ≤ t p ∧ t p ≤ 43) ∨ t p = 45 ∨ (59 ≤ t p ∧ t p ≤ 61) then 3 else 4, 0, 0)
def tkN (t : Nat → Int32) (z p : Nat) : tkV := tkAt t z (tkSk t (z - p) p)
theorem tkAt_le {t : Nat → Int32} {z p : Nat} (h : p ≤ z) : p ≤ (tkAt t z p).1 ∧ (tkAt t z p).1 ≤ z ∧ (tkAt t z p).2.1 = p := by
  have l1 := tkLt_le t (z - p) p 0 0
  have l2 := tkDg_le t (z - p) p 0 0
  unfold tkAt
  split
  · dsimp only; omega
  · split
    · dsimp only; omega
    · split
      · dsimp only; omega
      · dsimp only; omega
theorem tkN_le {t : Nat → Int32} {z p : Nat} (h : p ≤ z) : p ≤ (tkN t z p).2.1 ∧ (tkN t z p).2.1 ≤ (tkN t z p).1 ∧ (tkN t z p).1 ≤ z := by
  have l := tkSk_le t (z - p) p
  have := tkAt_le (t := t) (z := z) (p := tkSk t (z - p) p) (by omega)
  unfold tkN; omega
section ND
variable {G : gxG} {d : Nat} {h : gxH} {b : Nat} {σ : mS}
theorem c_signAt {z : Nat} (hz : σ.1 3 = nI z) (hz1 : z ≤ 1000) (p : Nat) (hp : p ≤ z) : mMi G mX10_signAt d [.ref b, .int (nI p)] h b σ (fun r σ' => r = (if p < z then σ.2.2.1 2 p else 0) ∧ σ' = σ) := by
  refine gxM_of rfl (Nat.le_of_ble_eq_true rfl) rfl ?_
  refine gx_iload_n (pc := 0) dX10_signAt_0 rfl ?_
  refine gx_aload_n (pc := 1) dX10_signAt_1 rfl ?_
  refine m_getI (pc := 2) rfl fX10_184 rfl (by decide) dX10_signAt_2 ?_
  rw [hz]
  refine gx_icmp_ge (pc := 5) 17 dX10_signAt_5 (by decide) (fun c1 => ?_) (fun c1 => ?_)
  · have : ¬ p < z := fun hh => absurd c1 (nI_ge hh (by omega))
    refine gx_iconst (pc := 17) (v := 0) dX10_signAt_17 (by decide) ?_
    exact m_ret (pc := 18) rfl dX10_signAt_18 (⟨by rw [if_neg this], rfl⟩)
  · have : p < z := (nI_ltI (by omega) (by omega)).mp (Int32.not_le.mp c1)
    refine gx_aload_n (pc := 8) dX10_signAt_8 rfl ?_
    refine m_getA (pc := 9) rfl fX10_7 rfl (by decide) dX10_signAt_9 ?_
    refine gx_iload_n (pc := 12) dX10_signAt_12 rfl ?_
    refine m_iald (pc := 13) 2 (p) 1000 rfl (by decide) rfl (by first | rfl | simp only [gx_lit, nI_add, pk_mul]) (by omega) (by decide) dX10_signAt_13 ?_
    refine gx_goto (pc := 14) 18 dX10_signAt_14 (by decide) ?_
    exact m_ret (pc := 18) rfl dX10_signAt_18 (⟨by rw [if_pos this], rfl⟩)
theorem c_nextToken (hb : gxN G ≤ b) (hd : 1 ≤ d) {z : Nat} (hz : σ.1 3 = nI z) (hz1 : z ≤ 1000) (p b0 : Nat) (hp : p ≤ z) (h4 : σ.1 4 = nI p) (h5 : σ.1 5 = nI b0) : mMv G mX10_nextToken d [.ref b] h b σ (fun σ' => σ' = tkP σ (tkN (σ.2.2.1 2) z p)) := by
  refine gxM_of rfl (Nat.le_of_ble_eq_true rfl) rfl ?_
  have e0 := tkP_self h4 h5
  generalize ht : σ.2.2.1 2 = t
  generalize hq0 : ((σ.1 6, σ.2.1.1, σ.1 8) : Int32 × Int64 × Int32) = q0 at *
  have e0' : tkP σ (p, b0, q0) = σ := e0
  have hA : ∀ q, (tkP σ q).2.2.1 2 = t := fun q => by rw [tkPA, ht]
  have hZ : ∀ q, (tkP σ q).1 3 = nI z := fun q => by rw [tkPne σ q (by decide) (by decide) (by decide) (by decide), hz]
  obtain ⟨NX, hNX⟩ : ∃ x, x = tkN t z p := ⟨_, rfl⟩
  rw [← hNX]
  have K52 : ∀ b0 q0, gxV G mX10_nextToken d 0 0 52 [some (.ref b), none] [] (mput h b (tkP σ (tkSk t (z - p) p, b0, q0))) (mQv h b (fun σ' => σ' = tkP σ NX)) := by
    intro b0 q0
    have hl := tkSk_le t (z - p) p
    have hN : NX = tkAt t z (tkSk t (z - p) p) := hNX
    generalize tkSk t (z - p) p = a at *
    have ha : a ≤ z := by omega
    refine gx_aload_n (pc := 52) dX10_nextToken_52 rfl ?_
    refine gx_aload_n (pc := 53) dX10_nextToken_53 rfl ?_
    refine m_getI (pc := 54) rfl fX10_187 rfl (by decide) dX10_nextToken_54 ?_
    rw [tkP4]
    refine m_putI (pc := 57) rfl hb fX10_190 rfl (by decide) tX10_5 dX10_nextToken_57 ?_
    rw [mI5]
    refine gx_aload_n (pc := 60) dX10_nextToken_60 rfl ?_
    refine gx_lconst (pc := 61) (v := 0) dX10_nextToken_61 (by decide) ?_
    refine m_putW (pc := 62) rfl hb fX10_193 tX10_7 dX10_nextToken_62 ?_
    rw [mWw]
    refine gx_aload_n (pc := 65) dX10_nextToken_65 rfl ?_
    refine gx_iconst (pc := 66) (v := 0) dX10_nextToken_66 (by decide) ?_
    refine m_putI (pc := 67) rfl hb fX10_197 rfl (by decide) tX10_8 dX10_nextToken_67 ?_
    rw [mI8]
    refine gx_aload_n (pc := 70) dX10_nextToken_70 rfl ?_
    refine m_getI (pc := 71) rfl fX10_187 rfl (by decide) dX10_nextToken_71 ?_
    refine gx_aload_n (pc := 74) dX10_nextToken_74 rfl ?_
    refine m_getI (pc := 75) rfl fX10_184 rfl (by decide) dX10_nextToken_75 ?_
    rw [tkP4, hZ]
    refine gx_icmp_ne (pc := 78) 87 dX10_nextToken_78 (by decide) (fun c1 => ?_) (fun c1 => ?_)
    · have hne : a ≠ z := fun e => c1 (by rw [e])
      have hlt : a < z := by omega
      refine gx_aload_n (pc := 87) dX10_nextToken_87 rfl ?_
      refine m_getA (pc := 88) rfl fX10_7 rfl (by decide) dX10_nextToken_88 ?_
      refine gx_aload_n (pc := 91) dX10_nextToken_91 rfl ?_
      refine m_getI (pc := 92) rfl fX10_187 rfl (by decide) dX10_nextToken_92 ?_
      rw [tkP4]
      refine m_iald (pc := 95) 2 (a) 1000 rfl (by decide) rfl (by first | rfl | simp only [gx_lit, nI_add, pk_mul]) (by omega) (by decide) dX10_nextToken_95 ?_
      rw [hA]
      refine gx_istore_n (pc := 96) dX10_nextToken_96 (by decide) rfl ?_
      refine gx_iload_n (pc := 97) dX10_nextToken_97 rfl ?_
      refine gx_bipush (pc := 98) (v := 97) dX10_nextToken_98 (by decide) ?_
      -- a sign or none
      have K322 : ¬ (97 ≤ t a ∧ t a ≤ 122) → ¬ (48 ≤ t a ∧ t a ≤ 57) → gxV G mX10_nextToken d 0 0 322 [some (.ref b), some (.int (t a))] [] (mput h b (tkP σ (a, a, q0.1, 0, 0))) (mQv h b (fun σ' => σ' = tkP σ NX)) := by
        intro n1 n2
        have F : ∀ v, v = (if (40 ≤ t a ∧ t a ≤ 43) ∨ t a = 45 ∨ (59 ≤ t a ∧ t a ≤ 61) then 3 else 4) → gxV G mX10_nextToken d 0 0 368 [some (.ref b), some (.int (t a))] [.int v, .ref b] (mput h b (tkP σ (a + 1, a, q0.1, 0, 0))) (mQv h b (fun σ' => σ' = tkP σ NX)) := by
          intro v hv
          refine m_putI (pc := 368) rfl hb fX10_200 rfl (by decide) tX10_6 dX10_nextToken_368 ?_
          rw [mI6]
          exact m_retv (pc := 371) rfl dX10_nextToken_371 (by rw [hN, tkAt, if_neg hne, if_neg n1, if_neg n2, hv])
        refine gx_aload_n (pc := 322) dX10_nextToken_322 rfl ?_
        refine gx_dup (pc := 323) dX10_nextToken_323 rfl ?_
        refine m_getI (pc := 324) rfl fX10_187 rfl (by decide) dX10_nextToken_324 ?_
        rw [tkP4]
        refine gx_iconst (pc := 327) (v := 1) dX10_nextToken_327 (by decide) ?_
        refine gx_iadd (pc := 328) dX10_nextToken_328 ?_
        refine m_putI (pc := 329) rfl hb fX10_187 rfl (by decide) tX10_4 dX10_nextToken_329 ?_
        rw [nI_1, mI4]
        have F3 : ((40 ≤ t a ∧ t a ≤ 43) ∨ t a = 45 ∨ (59 ≤ t a ∧ t a ≤ 61)) → gxV G mX10_nextToken d 0 0 363 [some (.ref b), some (.int (t a))] [.ref b] (mput h b (tkP σ (a + 1, a, q0.1, 0, 0))) (mQv h b (fun σ' => σ' = tkP σ NX)) := by
          intro hh
          refine gx_iconst (pc := 363) (v := 3) dX10_nextToken_363 (by decide) ?_
          refine gx_goto (pc := 364) 368 dX10_nextToken_364 (by decide) ?_
          exact F _ (by rw [if_pos hh])
        have F4 : ¬ ((40 ≤ t a ∧ t a ≤ 43) ∨ t a = 45 ∨ (59 ≤ t a ∧ t a ≤ 61)) → gxV G mX10_nextToken d 0 0 367 [some (.ref b), some (.int (t a))] [.ref b] (mput h b (tkP σ (a + 1, a, q0.1, 0, 0))) (mQv h b (fun σ' => σ' = tkP σ NX)) := by
          intro hh
          refine gx_iconst (pc := 367) (v := 4) dX10_nextToken_367 (by decide) ?_
          exact F _ (by rw [if_neg hh])
        have K345 : ¬ (40 ≤ t a ∧ t a ≤ 43) → gxV G mX10_nextToken d 0 0 345 [some (.ref b), some (.int (t a))] [.ref b] (mput h b (tkP σ (a + 1, a, q0.1, 0, 0))) (mQv h b (fun σ' => σ' = tkP σ NX)) := by
          intro hh
          refine gx_iload_n (pc := 345) dX10_nextToken_345 rfl ?_
          refine gx_bipush (pc := 346) (v := 45) dX10_nextToken_346 (by decide) ?_
          refine gx_icmp_eq (pc := 348) 363 dX10_nextToken_348 (by decide) (fun k1 => ?_) (fun k1 => ?_)
          · exact F3 (Or.inr (Or.inl k1))
          · refine gx_iload_n (pc := 351) dX10_nextToken_351 rfl ?_
            refine gx_bipush (pc := 352) (v := 59) dX10_nextToken_352 (by decide) ?_
            refine gx_icmp_lt (pc := 354) 367 dX10_nextToken_354 (by decide) (fun k2 => ?_) (fun k2 => ?_)
            · exact F4 (fun x => by rcases x with x | x | x; exact hh x; exact k1 x; exact absurd x.1 (Int32.not_le.mpr k2))
            · refine gx_iload_n (pc := 357) dX10_nextToken_357 rfl ?_
              refine gx_bipush (pc := 358) (v := 61) dX10_nextToken_358 (by decide) ?_
              refine gx_icmp_gt (pc := 360) 367 dX10_nextToken_360 (by decide) (fun k3 => ?_) (fun k3 => ?_)
              · exact F4 (fun x => by rcases x with x | x | x; exact hh x; exact k1 x; exact absurd x.2 (Int32.not_le.mpr k3))
              · exact F3 (Or.inr (Or.inr ⟨Int32.not_lt.mp k2, Int32.not_lt.mp k3⟩))
        refine gx_aload_n (pc := 332) dX10_nextToken_332 rfl ?_
        refine gx_iload_n (pc := 333) dX10_nextToken_333 rfl ?_
        refine gx_bipush (pc := 334) (v := 40) dX10_nextToken_334 (by decide) ?_
        refine gx_icmp_lt (pc := 336) 345 dX10_nextToken_336 (by decide) (fun k1 => ?_) (fun k1 => ?_)
        · exact K345 (fun x => absurd x.1 (Int32.not_le.mpr k1))
        · refine gx_iload_n (pc := 339) dX10_nextToken_339 rfl ?_
          refine gx_bipush (pc := 340) (v := 43) dX10_nextToken_340 (by decide) ?_
          refine gx_icmp_le (pc := 342) 363 dX10_nextToken_342 (by decide) (fun k2 => ?_) (fun k2 => ?_)
          · exact F3 (Or.inl ⟨Int32.not_lt.mp k1, k2⟩)
          · exact K345 (fun x => k2 x.2)
      -- digits
      have K224 : ¬ (97 ≤ t a ∧ t a ≤ 122) → (48 ≤ t a ∧ t a ≤ 57) → gxV G mX10_nextToken d 0 0 224 [some (.ref b), some (.int (t a))] [] (mput h b (tkP σ (a, a, q0.1, 0, 0))) (mQv h b (fun σ' => σ' = tkP σ NX)) := by
        intro n1 n2
        have L : ∀ m p k w, m + p = z → p = a + k → tkDg t m p k w = tkDg t (z - a) a 0 0 → gxV G mX10_nextToken d 0 0 224 [some (.ref b), some (.int (t a))] [] (mput h b (tkP σ (p, a, q0.1, 0, w))) (mQv h b (fun σ' => σ' = tkP σ NX)) := by
          intro m
          have K299 : ∀ p w, a ≤ p → p ≤ z → (p, w) = tkDg t (z - a) a 0 0 → gxV G mX10_nextToken d 0 0 299 [some (.ref b), some (.int (t a))] [] (mput h b (tkP σ (p, a, q0.1, 0, w))) (mQv h b (fun σ' => σ' = tkP σ NX)) := by
            intro p w hap hpz hd
            have F : ∀ v, v = (if 4 < p - a then 4 else 2) → gxV G mX10_nextToken d 0 0 318 [some (.ref b), some (.int (t a))] [.int v, .ref b] (mput h b (tkP σ (p, a, q0.1, 0, w))) (mQv h b (fun σ' => σ' = tkP σ NX)) := by
              intro v hv
              refine m_putI (pc := 318) rfl hb fX10_200 rfl (by decide) tX10_6 dX10_nextToken_318 ?_
              rw [mI6]
              exact m_retv (pc := 321) rfl dX10_nextToken_321 (by rw [hN, tkAt, if_neg hne, if_neg n1, if_pos n2, ← hd, hv])
            refine gx_aload_n (pc := 299) dX10_nextToken_299 rfl ?_
            refine gx_aload_n (pc := 300) dX10_nextToken_300 rfl ?_
            refine m_getI (pc := 301) rfl fX10_187 rfl (by decide) dX10_nextToken_301 ?_
            refine gx_aload_n (pc := 304) dX10_nextToken_304 rfl ?_
            refine m_getI (pc := 305) rfl fX10_190 rfl (by decide) dX10_nextToken_305 ?_
            refine gx_isub (pc := 308) dX10_nextToken_308 ?_
            rw [tkP4, tkP5, pk_sub hap]
            refine gx_iconst (pc := 309) (v := 4) dX10_nextToken_309 (by decide) ?_
            refine gx_icmp_le (pc := 310) 317 dX10_nextToken_310 (by decide) (fun k1 => ?_) (fun k1 => ?_)
            · have : ¬ 4 < p - a := fun hh => absurd k1 (nI_ge (a := 4) hh (by omega))
              refine gx_iconst (pc := 317) (v := 2) dX10_nextToken_317 (by decide) ?_
              exact F _ (by rw [if_neg this])
            · have : 4 < p - a := (nI_ltI (a := 4) (by decide) (by omega)).mp (Int32.not_le.mp k1)
              refine gx_iconst (pc := 313) (v := 4) dX10_nextToken_313 (by decide) ?_
              refine gx_goto (pc := 314) 318 dX10_nextToken_314 (by decide) ?_
              exact F _ (by rw [if_pos this])
          induction m with
          | zero =>
            intro p k w hm hk hd
            have : p = z := by omega
            subst this
            refine gx_aload_n (pc := 224) dX10_nextToken_224 rfl ?_
            refine gx_aload_n (pc := 225) dX10_nextToken_225 rfl ?_
            refine m_getI (pc := 226) rfl fX10_187 rfl (by decide) dX10_nextToken_226 ?_
            rw [tkP4]
            refine kX10_203 (pc := 229) rfl (c_signAt (σ := tkP σ (p, a, q0.1, 0, w)) (d := d - 1) (hZ _) hz1 p (by omega)) (by omega) (Nat.le_of_ble_eq_true rfl) dX10_nextToken_229 (fun r1 σ1 e1 => ?_)
            obtain ⟨rfl, hσ⟩ := e1
            subst σ1
            rw [if_neg (Nat.lt_irrefl p)]
            refine gx_bipush (pc := 232) (v := 48) dX10_nextToken_232 (by decide) ?_
            refine gx_icmp_lt (pc := 234) 299 dX10_nextToken_234 (by decide) (fun k1 => ?_) (fun k1 => ?_)
            · exact K299 p w (by omega) (by omega) hd
            · exact absurd (by decide) k1
          | succ m ih =>
            intro p k w hm hk hd
            have hpz : p < z := by omega
            rw [tkDg] at hd
            refine gx_aload_n (pc := 224) dX10_nextToken_224 rfl ?_
            refine gx_aload_n (pc := 225) dX10_nextToken_225 rfl ?_
            refine m_getI (pc := 226) rfl fX10_187 rfl (by decide) dX10_nextToken_226 ?_
            rw [tkP4]
            refine kX10_203 (pc := 229) rfl (c_signAt (σ := tkP σ (p, a, q0.1, 0, w)) (d := d - 1) (hZ _) hz1 p (by omega)) (by omega) (Nat.le_of_ble_eq_true rfl) dX10_nextToken_229 (fun r1 σ1 e1 => ?_)
            obtain ⟨rfl, hσ⟩ := e1
            subst σ1
            rw [if_pos hpz, hA]
            refine gx_bipush (pc := 232) (v := 48) dX10_nextToken_232 (by decide) ?_
            refine gx_icmp_lt (pc := 234) 299 dX10_nextToken_234 (by decide) (fun k1 => ?_) (fun k1 => ?_)
            · rw [if_neg (fun x => absurd x.1 (Int32.not_le.mpr k1))] at hd
              exact K299 p w (by omega) (by omega) hd
            · refine gx_aload_n (pc := 237) dX10_nextToken_237 rfl ?_
              refine gx_aload_n (pc := 238) dX10_nextToken_238 rfl ?_
              refine m_getI (pc := 239) rfl fX10_187 rfl (by decide) dX10_nextToken_239 ?_
              rw [tkP4]
              refine kX10_203 (pc := 242) rfl (c_signAt (σ := tkP σ (p, a, q0.1, 0, w)) (d := d - 1) (hZ _) hz1 p (by omega)) (by omega) (Nat.le_of_ble_eq_true rfl) dX10_nextToken_242 (fun r1 σ1 e1 => ?_)
              obtain ⟨rfl, hσ⟩ := e1
              subst σ1
              rw [if_pos hpz, hA]
              refine gx_bipush (pc := 245) (v := 57) dX10_nextToken_245 (by decide) ?_
              refine gx_icmp_gt (pc := 247) 299 dX10_nextToken_247 (by decide) (fun k2 => ?_) (fun k2 => ?_)
              · rw [if_neg (fun x => absurd x.2 (Int32.not_le.mpr k2))] at hd
                exact K299 p w (by omega) (by omega) hd
              · rw [if_pos ⟨Int32.not_lt.mp k1, Int32.not_lt.mp k2⟩] at hd
                have K286 : ∀ w', w' = (if k < 4 then w * 10 + t p - 48 else w) → gxV G mX10_nextToken d 0 0 286 [some (.ref b), some (.int (t a))] [] (mput h b (tkP σ (p, a, q0.1, 0, w'))) (mQv h b (fun σ' => σ' = tkP σ NX)) := by
                  intro w' hw
                  subst hw
                  refine gx_aload_n (pc := 286) dX10_nextToken_286 rfl ?_
                  refine gx_dup (pc := 287) dX10_nextToken_287 rfl ?_
                  refine m_getI (pc := 288) rfl fX10_187 rfl (by decide) dX10_nextToken_288 ?_
                  rw [tkP4]
                  refine gx_iconst (pc := 291) (v := 1) dX10_nextToken_291 (by decide) ?_
                  refine gx_iadd (pc := 292) dX10_nextToken_292 ?_
                  refine m_putI (pc := 293) rfl hb fX10_187 rfl (by decide) tX10_4 dX10_nextToken_293 ?_
                  refine gx_goto (pc := 296) 224 dX10_nextToken_296 (by decide) ?_
                  rw [nI_1, mI4]
                  exact ih (p + 1) (k + 1) _ (by omega) (by omega) hd
                refine gx_aload_n (pc := 250) dX10_nextToken_250 rfl ?_
                refine m_getI (pc := 251) rfl fX10_187 rfl (by decide) dX10_nextToken_251 ?_
                refine gx_aload_n (pc := 254) dX10_nextToken_254 rfl ?_
                refine m_getI (pc := 255) rfl fX10_190 rfl (by decide) dX10_nextToken_255 ?_
                rw [tkP4, tkP5]
                refine gx_isub (pc := 258) dX10_nextToken_258 ?_
                rw [pk_sub (show a ≤ p by omega), show p - a = k by omega]
                refine gx_iconst (pc := 259) (v := 4) dX10_nextToken_259 (by decide) ?_
                refine gx_icmp_ge (pc := 260) 286 dX10_nextToken_260 (by decide) (fun k3 => ?_) (fun k3 => ?_)
                · have : ¬ k < 4 := fun hh => absurd k3 (nI_ge (b := 4) hh (by decide))
                  exact K286 w (by rw [if_neg this])
                · have : k < 4 := (nI_ltI (b := 4) (by omega) (by decide)).mp (Int32.not_le.mp k3)
                  refine gx_aload_n (pc := 263) dX10_nextToken_263 rfl ?_
                  refine gx_aload_n (pc := 264) dX10_nextToken_264 rfl ?_
                  refine m_getI (pc := 265) rfl fX10_197 rfl (by decide) dX10_nextToken_265 ?_
                  rw [tkP8]
                  refine gx_bipush (pc := 268) (v := 10) dX10_nextToken_268 (by decide) ?_
                  refine gx_imul (pc := 270) dX10_nextToken_270 ?_
                  refine gx_aload_n (pc := 271) dX10_nextToken_271 rfl ?_
                  refine gx_aload_n (pc := 272) dX10_nextToken_272 rfl ?_
                  refine m_getI (pc := 273) rfl fX10_187 rfl (by decide) dX10_nextToken_273 ?_
                  rw [tkP4]
                  refine kX10_203 (pc := 276) rfl (c_signAt (σ := tkP σ (p, a, q0.1, 0, w)) (d := d - 1) (hZ _) hz1 p (by omega)) (by omega) (Nat.le_of_ble_eq_true rfl) dX10_nextToken_276 (fun r1 σ1 e1 => ?_)
                  obtain ⟨rfl, hσ⟩ := e1
                  subst σ1
                  rw [if_pos hpz, hA]
                  refine gx_iadd (pc := 279) dX10_nextToken_279 ?_
                  refine gx_bipush (pc := 280) (v := 48) dX10_nextToken_280 (by decide) ?_
                  refine gx_isub (pc := 282) dX10_nextToken_282 ?_
                  refine m_putI (pc := 283) rfl hb fX10_197 rfl (by decide) tX10_8 dX10_nextToken_283 ?_
                  rw [mI8]
                  exact K286 _ (by rw [if_pos this])
        exact L (z - a) a 0 0 (by omega) (by omega) rfl
      -- letters
      have K109 : (97 ≤ t a ∧ t a ≤ 122) → gxV G mX10_nextToken d 0 0 109 [some (.ref b), some (.int (t a))] [] (mput h b (tkP σ (a, a, q0.1, 0, 0))) (mQv h b (fun σ' => σ' = tkP σ NX)) := by
        intro n1
        have L : ∀ m p k w, m + p = z → p = a + k → tkLt t m p k w = tkLt t (z - a) a 0 0 → gxV G mX10_nextToken d 0 0 109 [some (.ref b), some (.int (t a))] [] (mput h b (tkP σ (p, a, q0.1, w, 0))) (mQv h b (fun σ' => σ' = tkP σ NX)) := by
          intro m
          have K188 : ∀ p w, a ≤ p → p ≤ z → (p, w) = tkLt t (z - a) a 0 0 → gxV G mX10_nextToken d 0 0 188 [some (.ref b), some (.int (t a))] [] (mput h b (tkP σ (p, a, q0.1, w, 0))) (mQv h b (fun σ' => σ' = tkP σ NX)) := by
            intro p w hap hpz hd
            have F : ∀ v, v = (if 8 < p - a then 4 else 1) → gxV G mX10_nextToken d 0 0 208 [some (.ref b), some (.int (t a))] [.int v, .ref b] (mput h b (tkP σ (p, a, q0.1, w, 0))) (mQv h b (fun σ' => σ' = tkP σ NX)) := by
              intro v hv
              refine m_putI (pc := 208) rfl hb fX10_200 rfl (by decide) tX10_6 dX10_nextToken_208 ?_
              rw [mI6]
              exact m_retv (pc := 211) rfl dX10_nextToken_211 (by rw [hN, tkAt, if_neg hne, if_pos n1, ← hd, hv])
            refine gx_aload_n (pc := 188) dX10_nextToken_188 rfl ?_
            refine gx_aload_n (pc := 189) dX10_nextToken_189 rfl ?_
            refine m_getI (pc := 190) rfl fX10_187 rfl (by decide) dX10_nextToken_190 ?_
            refine gx_aload_n (pc := 193) dX10_nextToken_193 rfl ?_
            refine m_getI (pc := 194) rfl fX10_190 rfl (by decide) dX10_nextToken_194 ?_
            refine gx_isub (pc := 197) dX10_nextToken_197 ?_
            rw [tkP4, tkP5, pk_sub hap]
            refine gx_bipush (pc := 198) (v := 8) dX10_nextToken_198 (by decide) ?_
            refine gx_icmp_le (pc := 200) 207 dX10_nextToken_200 (by decide) (fun k1 => ?_) (fun k1 => ?_)
            · have : ¬ 8 < p - a := fun hh => absurd k1 (nI_ge (a := 8) hh (by omega))
              refine gx_iconst (pc := 207) (v := 1) dX10_nextToken_207 (by decide) ?_
              exact F _ (by rw [if_neg this])
            · have : 8 < p - a := (nI_ltI (a := 8) (by decide) (by omega)).mp (Int32.not_le.mp k1)
              refine gx_iconst (pc := 203) (v := 4) dX10_nextToken_203 (by decide) ?_
              refine gx_goto (pc := 204) 208 dX10_nextToken_204 (by decide) ?_
              exact F _ (by rw [if_pos this])
          induction m with
          | zero =>
            intro p k w hm hk hd
            have : p = z := by omega
            subst this
            refine gx_aload_n (pc := 109) dX10_nextToken_109 rfl ?_
            refine gx_aload_n (pc := 110) dX10_nextToken_110 rfl ?_
            refine m_getI (pc := 111) rfl fX10_187 rfl (by decide) dX10_nextToken_111 ?_
            rw [tkP4]
            refine kX10_203 (pc := 114) rfl (c_signAt (σ := tkP σ (p, a, q0.1, w, 0)) (d := d - 1) (hZ _) hz1 p (by omega)) (by omega) (Nat.le_of_ble_eq_true rfl) dX10_nextToken_114 (fun r1 σ1 e1 => ?_)
            obtain ⟨rfl, hσ⟩ := e1
            subst σ1
            rw [if_neg (Nat.lt_irrefl p)]
            refine gx_bipush (pc := 117) (v := 97) dX10_nextToken_117 (by decide) ?_
            refine gx_icmp_lt (pc := 119) 188 dX10_nextToken_119 (by decide) (fun k1 => ?_) (fun k1 => ?_)
            · exact K188 p w (by omega) (by omega) hd
            · exact absurd (by decide) k1
          | succ m ih =>
            intro p k w hm hk hd
            have hpz : p < z := by omega
            rw [tkLt] at hd
            refine gx_aload_n (pc := 109) dX10_nextToken_109 rfl ?_
            refine gx_aload_n (pc := 110) dX10_nextToken_110 rfl ?_
            refine m_getI (pc := 111) rfl fX10_187 rfl (by decide) dX10_nextToken_111 ?_
            rw [tkP4]
            refine kX10_203 (pc := 114) rfl (c_signAt (σ := tkP σ (p, a, q0.1, w, 0)) (d := d - 1) (hZ _) hz1 p (by omega)) (by omega) (Nat.le_of_ble_eq_true rfl) dX10_nextToken_114 (fun r1 σ1 e1 => ?_)
            obtain ⟨rfl, hσ⟩ := e1
            subst σ1
            rw [if_pos hpz, hA]
            refine gx_bipush (pc := 117) (v := 97) dX10_nextToken_117 (by decide) ?_
            refine gx_icmp_lt (pc := 119) 188 dX10_nextToken_119 (by decide) (fun k1 => ?_) (fun k1 => ?_)
            · rw [if_neg (fun x => absurd x.1 (Int32.not_le.mpr k1))] at hd
              exact K188 p w (by omega) (by omega) hd
            · refine gx_aload_n (pc := 122) dX10_nextToken_122 rfl ?_
              refine gx_aload_n (pc := 123) dX10_nextToken_123 rfl ?_
              refine m_getI (pc := 124) rfl fX10_187 rfl (by decide) dX10_nextToken_124 ?_
              rw [tkP4]
              refine kX10_203 (pc := 127) rfl (c_signAt (σ := tkP σ (p, a, q0.1, w, 0)) (d := d - 1) (hZ _) hz1 p (by omega)) (by omega) (Nat.le_of_ble_eq_true rfl) dX10_nextToken_127 (fun r1 σ1 e1 => ?_)
              obtain ⟨rfl, hσ⟩ := e1
              subst σ1
              rw [if_pos hpz, hA]
              refine gx_bipush (pc := 130) (v := 122) dX10_nextToken_130 (by decide) ?_
              refine gx_icmp_gt (pc := 132) 188 dX10_nextToken_132 (by decide) (fun k2 => ?_) (fun k2 => ?_)
              · rw [if_neg (fun x => absurd x.2 (Int32.not_le.mpr k2))] at hd
                exact K188 p w (by omega) (by omega) hd
              · rw [if_pos ⟨Int32.not_lt.mp k1, Int32.not_lt.mp k2⟩] at hd
                have K175 : ∀ w', w' = (if k < 8 then w * 27 + (t p).toInt64 - 96 else w) → gxV G mX10_nextToken d 0 0 175 [some (.ref b), some (.int (t a))] [] (mput h b (tkP σ (p, a, q0.1, w', 0))) (mQv h b (fun σ' => σ' = tkP σ NX)) := by
                  intro w' hw
                  subst hw
                  refine gx_aload_n (pc := 175) dX10_nextToken_175 rfl ?_
                  refine gx_dup (pc := 176) dX10_nextToken_176 rfl ?_
                  refine m_getI (pc := 177) rfl fX10_187 rfl (by decide) dX10_nextToken_177 ?_
                  rw [tkP4]
                  refine gx_iconst (pc := 180) (v := 1) dX10_nextToken_180 (by decide) ?_
                  refine gx_iadd (pc := 181) dX10_nextToken_181 ?_
                  refine m_putI (pc := 182) rfl hb fX10_187 rfl (by decide) tX10_4 dX10_nextToken_182 ?_
                  refine gx_goto (pc := 185) 109 dX10_nextToken_185 (by decide) ?_
                  rw [nI_1, mI4]
                  exact ih (p + 1) (k + 1) _ (by omega) (by omega) hd
                refine gx_aload_n (pc := 135) dX10_nextToken_135 rfl ?_
                refine m_getI (pc := 136) rfl fX10_187 rfl (by decide) dX10_nextToken_136 ?_
                refine gx_aload_n (pc := 139) dX10_nextToken_139 rfl ?_
                refine m_getI (pc := 140) rfl fX10_190 rfl (by decide) dX10_nextToken_140 ?_
                rw [tkP4, tkP5]
                refine gx_isub (pc := 143) dX10_nextToken_143 ?_
                rw [pk_sub (show a ≤ p by omega), show p - a = k by omega]
                refine gx_bipush (pc := 144) (v := 8) dX10_nextToken_144 (by decide) ?_
                refine gx_icmp_ge (pc := 146) 175 dX10_nextToken_146 (by decide) (fun k3 => ?_) (fun k3 => ?_)
                · have : ¬ k < 8 := fun hh => absurd k3 (nI_ge (b := 8) hh (by decide))
                  exact K175 w (by rw [if_neg this])
                · have : k < 8 := (nI_ltI (b := 8) (by omega) (by decide)).mp (Int32.not_le.mp k3)
                  refine gx_aload_n (pc := 149) dX10_nextToken_149 rfl ?_
                  refine gx_aload_n (pc := 150) dX10_nextToken_150 rfl ?_
                  refine m_getW (pc := 151) rfl fX10_193 dX10_nextToken_151 ?_
                  rw [tkPw]
                  refine gx_ldc2 (pc := 154) q2083 dX10_nextToken_154 ?_
                  refine gx_lmul (pc := 157) dX10_nextToken_157 ?_
                  refine gx_aload_n (pc := 158) dX10_nextToken_158 rfl ?_
                  refine gx_aload_n (pc := 159) dX10_nextToken_159 rfl ?_
                  refine m_getI (pc := 160) rfl fX10_187 rfl (by decide) dX10_nextToken_160 ?_
                  rw [tkP4]
                  refine kX10_203 (pc := 163) rfl (c_signAt (σ := tkP σ (p, a, q0.1, w, 0)) (d := d - 1) (hZ _) hz1 p (by omega)) (by omega) (Nat.le_of_ble_eq_true rfl) dX10_nextToken_163 (fun r1 σ1 e1 => ?_)
                  obtain ⟨rfl, hσ⟩ := e1
                  subst σ1
                  rw [if_pos hpz, hA]
                  refine gx_i2l (pc := 166) dX10_nextToken_166 ?_
                  refine gx_ladd (pc := 167) dX10_nextToken_167 ?_
                  refine gx_ldc2 (pc := 168) q2084 dX10_nextToken_168 ?_
                  refine gx_lsub (pc := 171) dX10_nextToken_171 ?_
                  refine m_putW (pc := 172) rfl hb fX10_193 tX10_7 dX10_nextToken_172 ?_
                  rw [mWw]
                  exact K175 _ (by rw [if_pos this])
        exact L (z - a) a 0 0 (by omega) (by omega) rfl
      have K212 : ¬ (97 ≤ t a ∧ t a ≤ 122) → gxV G mX10_nextToken d 0 0 212 [some (.ref b), some (.int (t a))] [] (mput h b (tkP σ (a, a, q0.1, 0, 0))) (mQv h b (fun σ' => σ' = tkP σ NX)) := by
        intro n1
        refine gx_iload_n (pc := 212) dX10_nextToken_212 rfl ?_
        refine gx_bipush (pc := 213) (v := 48) dX10_nextToken_213 (by decide) ?_
        refine gx_icmp_lt (pc := 215) 322 dX10_nextToken_215 (by decide) (fun k1 => ?_) (fun k1 => ?_)
        · exact K322 n1 (fun x => absurd x.1 (Int32.not_le.mpr k1))
        · refine gx_iload_n (pc := 218) dX10_nextToken_218 rfl ?_
          refine gx_bipush (pc := 219) (v := 57) dX10_nextToken_219 (by decide) ?_
          refine gx_icmp_gt (pc := 221) 322 dX10_nextToken_221 (by decide) (fun k2 => ?_) (fun k2 => ?_)
          · exact K322 n1 (fun x => absurd x.2 (Int32.not_le.mpr k2))
          · exact K224 n1 ⟨Int32.not_lt.mp k1, Int32.not_lt.mp k2⟩
      refine gx_icmp_lt (pc := 100) 212 dX10_nextToken_100 (by decide) (fun k1 => ?_) (fun k1 => ?_)
      · exact K212 (fun x => absurd x.1 (Int32.not_le.mpr k1))
      · refine gx_iload_n (pc := 103) dX10_nextToken_103 rfl ?_
        refine gx_bipush (pc := 104) (v := 122) dX10_nextToken_104 (by decide) ?_
        refine gx_icmp_gt (pc := 106) 212 dX10_nextToken_106 (by decide) (fun k2 => ?_) (fun k2 => ?_)
        · exact K212 (fun x => absurd x.2 (Int32.not_le.mpr k2))
        · exact K109 ⟨Int32.not_lt.mp k1, Int32.not_lt.mp k2⟩
    · have hne : a = z := (nI_eq (by omega) (by omega)).mp c1
      refine gx_aload_n (pc := 81) dX10_nextToken_81 rfl ?_
      refine gx_iconst (pc := 82) (v := 0) dX10_nextToken_82 (by decide) ?_
      refine m_putI (pc := 83) rfl hb fX10_200 rfl (by decide) tX10_6 dX10_nextToken_83 ?_
      rw [mI6]
      exact m_retv (pc := 86) rfl dX10_nextToken_86 (by rw [hN, tkAt, if_pos hne])
  have L : ∀ m a, m + a = z → tkSk t m a = tkSk t (z - p) p → gxV G mX10_nextToken d 0 0 0 [some (.ref b), none] [] (mput h b (tkP σ (a, b0, q0))) (mQv h b (fun σ' => σ' = tkP σ NX)) := by
    intro m
    induction m with
    | zero =>
      intro a ha hs
      have : a = z := by omega
      subst this
      refine gx_aload_n (pc := 0) dX10_nextToken_0 rfl ?_
      refine m_getI (pc := 1) rfl fX10_187 rfl (by decide) dX10_nextToken_1 ?_
      refine gx_aload_n (pc := 4) dX10_nextToken_4 rfl ?_
      refine m_getI (pc := 5) rfl fX10_184 rfl (by decide) dX10_nextToken_5 ?_
      rw [tkP4, hZ]
      refine gx_icmp_ge (pc := 8) 52 dX10_nextToken_8 (by decide) (fun c1 => ?_) (fun c1 => ?_)
      · have e : a = tkSk t (a - p) p := hs
        rw [e]
        exact K52 b0 q0
      · exact absurd (nI_le (by omega) (by omega)) c1
    | succ m ih =>
      intro a ha hs
      have haz : a < z := by omega
      rw [tkSk] at hs
      have N : (t a = 32 ∨ t a = 10) → gxV G mX10_nextToken d 0 0 39 [some (.ref b), none] [] (mput h b (tkP σ (a, b0, q0))) (mQv h b (fun σ' => σ' = tkP σ NX)) := by
        intro hh
        rw [if_pos hh] at hs
        refine gx_aload_n (pc := 39) dX10_nextToken_39 rfl ?_
        refine gx_dup (pc := 40) dX10_nextToken_40 rfl ?_
        refine m_getI (pc := 41) rfl fX10_187 rfl (by decide) dX10_nextToken_41 ?_
        rw [tkP4]
        refine gx_iconst (pc := 44) (v := 1) dX10_nextToken_44 (by decide) ?_
        refine gx_iadd (pc := 45) dX10_nextToken_45 ?_
        refine m_putI (pc := 46) rfl hb fX10_187 rfl (by decide) tX10_4 dX10_nextToken_46 ?_
        refine gx_goto (pc := 49) 0 dX10_nextToken_49 (by decide) ?_
        rw [nI_1, mI4]
        exact ih (a + 1) (by omega) hs
      refine gx_aload_n (pc := 0) dX10_nextToken_0 rfl ?_
      refine m_getI (pc := 1) rfl fX10_187 rfl (by decide) dX10_nextToken_1 ?_
      refine gx_aload_n (pc := 4) dX10_nextToken_4 rfl ?_
      refine m_getI (pc := 5) rfl fX10_184 rfl (by decide) dX10_nextToken_5 ?_
      rw [tkP4, hZ]
      refine gx_icmp_ge (pc := 8) 52 dX10_nextToken_8 (by decide) (fun c1 => ?_) (fun c1 => ?_)
      · exact absurd c1 (nI_ge haz (by omega))
      · refine gx_aload_n (pc := 11) dX10_nextToken_11 rfl ?_
        refine m_getA (pc := 12) rfl fX10_7 rfl (by decide) dX10_nextToken_12 ?_
        refine gx_aload_n (pc := 15) dX10_nextToken_15 rfl ?_
        refine m_getI (pc := 16) rfl fX10_187 rfl (by decide) dX10_nextToken_16 ?_
        rw [tkP4]
        refine m_iald (pc := 19) 2 (a) 1000 rfl (by decide) rfl (by first | rfl | simp only [gx_lit, nI_add, pk_mul]) (by omega) (by decide) dX10_nextToken_19 ?_
        refine gx_bipush (pc := 20) (v := 32) dX10_nextToken_20 (by decide) ?_
        rw [hA]
        refine gx_icmp_eq (pc := 22) 39 dX10_nextToken_22 (by decide) (fun c2 => ?_) (fun c2 => ?_)
        · exact N (Or.inl c2)
        · refine gx_aload_n (pc := 25) dX10_nextToken_25 rfl ?_
          refine m_getA (pc := 26) rfl fX10_7 rfl (by decide) dX10_nextToken_26 ?_
          refine gx_aload_n (pc := 29) dX10_nextToken_29 rfl ?_
          refine m_getI (pc := 30) rfl fX10_187 rfl (by decide) dX10_nextToken_30 ?_
          rw [tkP4]
          refine m_iald (pc := 33) 2 (a) 1000 rfl (by decide) rfl (by first | rfl | simp only [gx_lit, nI_add, pk_mul]) (by omega) (by decide) dX10_nextToken_33 ?_
          refine gx_bipush (pc := 34) (v := 10) dX10_nextToken_34 (by decide) ?_
          rw [hA]
          refine gx_icmp_ne (pc := 36) 52 dX10_nextToken_36 (by decide) (fun c3 => ?_) (fun c3 => ?_)
          · rw [if_neg (fun x => by rcases x with x | x; exact c2 x; exact c3 x)] at hs
            rw [hs]
            exact K52 b0 q0
          · exact N (Or.inr c3)
  have := L (z - p) p (by omega) rfl
  rw [e0'] at this
  exact this
end ND
