/-! ===== MODEL V: nights, mean, holds ===== -/
set_option maxRecDepth 100000
def spNn (A : Nat → Nat → Int32) (P E x : Nat) : Nat → Nat → Int32
  | 0 => fun i => if i = x then 1000000 else 0
  | n + 1 => spNo A P E (spNn A P E x n) (fun _ => 0) (2 ^ P)
theorem spFil_at {f : Nat → Int32} {v : Int32} : ∀ n i, i < n → spFil f v n i = v
  | 0, _, h => by omega
  | n + 1, i, h => by
    rw [spFil]
    simp only [upd]
    by_cases e : i = n
    · rw [if_pos e]
    · rw [if_neg e]; exact spFil_at n i (by omega)
theorem spCpy_at {f g : Nat → Int32} : ∀ n i, i < n → spCpy f g n i = g i
  | 0, _, h => by omega
  | n + 1, i, h => by
    rw [spCpy]
    simp only [upd]
    by_cases e : i = n
    · rw [if_pos e, e]
    · rw [if_neg e]; exact spCpy_at n i (by omega)
theorem spTn_eq {A B : Nat → Nat → Int32} (h13 : B 13 = A 13) (h22 : B 22 = A 22) (h23 : B 23 = A 23) (h24 : B 24 = A 24) {P E : Nat} {od od' g g' : Nat → Int32} {now : Nat} (ho : od' now = od now) (hg : ∀ i, i < 64 → g' i = g i) : ∀ k, now + k ≤ 64 → ∀ i, i < 64 → spTn B P E od' now g' k i = spTn A P E od now g k i
  | 0, _, i, hi => hg i hi
  | k + 1, hk, i, hi => by
    have ih := spTn_eq h13 h22 h23 h24 (P := P) (E := E) ho hg k (by omega)
    have hf : (fun p => 1000000 - spHf B E (nI now) p P) = (fun p => 1000000 - spHf A E (nI now) p P) := by
      funext p
      rw [spHf_congr h13 h22 h23 h24]
    rw [spTn, spTn, hf, ho, ih (now + k) (by omega)]
    split
    · simp only [upd]
      split
      · rfl
      · exact ih i hi
    · exact ih i hi
theorem spNo_eq {A B : Nat → Nat → Int32} (h13 : B 13 = A 13) (h22 : B 22 = A 22) (h23 : B 23 = A 23) (h24 : B 24 = A 24) {P E : Nat} (h64 : 2 ^ P ≤ 64) {od od' g g' : Nat → Int32} (ho : ∀ i, i < 64 → od' i = od i) (hg : ∀ i, i < 64 → g' i = g i) : ∀ n, n ≤ 2 ^ P → ∀ i, i < 64 → spNo B P E od' g' n i = spNo A P E od g n i
  | 0, _, i, hi => hg i hi
  | n + 1, hn, i, hi => by
    have ih := spNo_eq h13 h22 h23 h24 (E := E) h64 ho hg n (by omega)
    rw [spNo, spNo, ho n (by omega)]
    split
    · exact ih i hi
    · exact spTn_eq h13 h22 h23 h24 (ho n (by omega)) ih _ (by omega) i hi
def n3 (A : Nat → Nat → Int32) (od g hr : Nat → Int32) : Nat → Nat → Int32 := setJ (setJ (setJ A 62 od) 63 g) 64 hr
theorem n3_ne (A : Nat → Nat → Int32) (od g hr : Nat → Int32) {j : Nat} (h : j < 62 ∨ 64 < j) : n3 A od g hr j = A j := by
  rw [n3, setJ_ne (by omega), setJ_ne (by omega), setJ_ne (by omega)]
theorem n3_62 (A : Nat → Nat → Int32) (od g hr : Nat → Int32) : n3 A od g hr 62 = od := by
  rw [n3, setJ_ne (by decide), setJ_ne (by decide), setJ_j]
theorem n3_63 (A : Nat → Nat → Int32) (od g hr : Nat → Int32) : n3 A od g hr 63 = g := by
  rw [n3, setJ_ne (by decide), setJ_j]
theorem n3_n3 (A : Nat → Nat → Int32) (od g hr od' g' hr' : Nat → Int32) : n3 (n3 A od g hr) od' g' hr' = n3 A od' g' hr' := by
  funext z
  simp only [n3, setJ]
  by_cases h0 : z = 62 <;> by_cases h1 : z = 63 <;> by_cases h2 : z = 64 <;> simp [h0, h1, h2]
theorem n3_up (A : Nat → Nat → Int32) (od g hr : Nat → Int32) (i : Nat) (v : Int32) : upA (n3 A od g hr) 62 i v = n3 A (upd od i v) g hr := by
  rw [upA_setJ, n3_62]
  funext z
  simp only [n3, setJ]
  by_cases h0 : z = 62 <;> by_cases h1 : z = 63 <;> by_cases h2 : z = 64 <;> simp [h0, h1, h2]
theorem n3_self (A : Nat → Nat → Int32) : n3 A (A 62) (A 63) (A 64) = A := by
  funext z
  simp only [n3, setJ]
  by_cases h0 : z = 62 <;> by_cases h1 : z = 63 <;> by_cases h2 : z = 64 <;> simp [h0, h1, h2]
section MV
variable {G : gxG} {d : Nat} {h : gxH} {b : Nat} {σ : mS} {P S E : Nat} {w : Option gxEv}
theorem mT.n3 {A : Nat → Nat → Int32} (hT : mT A P S E w) (od g hr : Nat → Int32) : mT (n3 A od g hr) P S E w := ((hT.J (by omega) _).J (by omega) _).J (by omega) _
theorem c_nights (hb : gxN G ≤ b) (hd : 4 ≤ d) (hT : mT σ.2.2.1 P S E w) (k x n : Nat) (hk : k < 10) (hx : x < 64) (hkx : σ.2.2.1 50 k = nI x) (hn : n ≤ 30) : mMv G mX10_nights d [.ref b, .int (nI k), .int (nI n)] h b σ (fun σ' => ∃ od g hr, σ' = mSA σ (n3 σ.2.2.1 od g hr) ∧ ∀ i, i < 64 → od i = spNn σ.2.2.1 P E x n i) := by
  have hP6 := hT.2.1
  obtain ⟨hsh, h64⟩ := shl_P hP6
  refine gxM_of rfl (Nat.le_of_ble_eq_true rfl) rfl ?_
  have L2 : ∀ m j, m + j = n → ∀ od g hr, (∀ i, i < 64 → od i = spNn σ.2.2.1 P E x j i) → gxV G mX10_nights d 0 0 37 [some (.ref b), some (.int (nI k)), some (.int (nI n)), some (.int (nI j))] [] (mput h b (mSA σ (n3 σ.2.2.1 od g hr))) (mQv h b (fun σ' => ∃ od g hr, σ' = mSA σ (n3 σ.2.2.1 od g hr) ∧ ∀ i, i < 64 → od i = spNn σ.2.2.1 P E x n i)) := by
    intro m
    induction m with
    | zero =>
      intro j hj od g hr ho
      have : j = n := by omega
      subst this
      refine gx_iload_n (pc := 37) dX10_nights_37 rfl ?_
      refine gx_iload_n (pc := 38) dX10_nights_38 rfl ?_
      refine gx_icmp_ge (pc := 39) 52 dX10_nights_39 (by decide) (fun c1 => ?_) (fun c1 => ?_)
      · exact m_retv (pc := 52) rfl dX10_nights_52 (⟨od, g, hr, rfl, ho⟩)
      · exact absurd (nI_le (by omega) (by omega)) c1
    | succ m ih =>
      intro j hj od g hr ho
      refine gx_iload_n (pc := 37) dX10_nights_37 rfl ?_
      refine gx_iload_n (pc := 38) dX10_nights_38 rfl ?_
      refine gx_icmp_ge (pc := 39) 52 dX10_nights_39 (by decide) (fun c1 => ?_) (fun c1 => ?_)
      · exact absurd c1 (nI_ge (by omega) (by omega))
      · refine gx_aload_n (pc := 42) dX10_nights_42 rfl ?_
        refine kX10_523 (pc := 43) rfl (c_night (d := d - 1) hb (by omega) (hT.n3 od g hr)) (by omega) (Nat.le_of_ble_eq_true rfl) dX10_nights_43 (fun σ1 e1 => ?_)
        obtain ⟨hr1, e1⟩ := e1
        rw [mSA_mSA, mSA_A] at e1
        have e2 : σ1 = mSA σ (n3 σ.2.2.1 (spCpy od (spNi (n3 σ.2.2.1 od g hr) P E) 64) (spNi (n3 σ.2.2.1 od g hr) P E) hr1) := by
          rw [e1, n3_62]
          exact congrArg (mSA σ) (n3_n3 _ _ _ _ _ _ _)
        subst e2
        refine gx_iincc (pc := 46) (c := 1) dX10_nights_46 rfl (by decide) (by decide) rfl ?_
        refine gx_goto (pc := 49) 37 dX10_nights_49 (by decide) ?_
        rw [nI_1]
        refine ih (j + 1) (by omega) _ _ _ (fun i hi => ?_)
        rw [spCpy_at 64 i hi, spNi, n3_62, n3_63, spNn]
        exact spNo_eq (n3_ne _ _ _ _ (by omega)) (n3_ne _ _ _ _ (by omega)) (n3_ne _ _ _ _ (by omega)) (n3_ne _ _ _ _ (by omega)) h64 ho (fun i hi => spFil_at 64 i hi) _ (Nat.le_refl _) i hi
  have L1 : ∀ m i, m + i = 64 → gxV G mX10_nights d 0 0 2 [some (.ref b), some (.int (nI k)), some (.int (nI n)), some (.int (nI i))] [] (mput h b (mSA σ (n3 σ.2.2.1 (spFil (σ.2.2.1 62) 0 i) (σ.2.2.1 63) (σ.2.2.1 64)))) (mQv h b (fun σ' => ∃ od g hr, σ' = mSA σ (n3 σ.2.2.1 od g hr) ∧ ∀ i, i < 64 → od i = spNn σ.2.2.1 P E x n i)) := by
    intro m
    induction m with
    | zero =>
      intro i hi
      have : i = 64 := by omega
      subst this
      refine gx_iload_n (pc := 2) dX10_nights_2 rfl ?_
      refine gx_bipush (pc := 3) (v := 64) dX10_nights_3 (by decide) ?_
      refine gx_icmp_ge (pc := 5) 21 dX10_nights_5 (by decide) (fun c1 => ?_) (fun c1 => ?_)
      · refine gx_aload_n (pc := 21) dX10_nights_21 rfl ?_
        refine m_getA (pc := 22) rfl fX10_157 rfl (by decide) dX10_nights_22 ?_
        refine gx_aload_n (pc := 25) dX10_nights_25 rfl ?_
        refine m_getA (pc := 26) rfl fX10_129 rfl (by decide) dX10_nights_26 ?_
        refine gx_iload_n (pc := 29) dX10_nights_29 rfl ?_
        refine m_iald (pc := 30) 50 (k) 123 rfl (by decide) rfl (by first | rfl | simp only [gx_lit, nI_add, pk_mul]) (by omega) (by decide) dX10_nights_30 ?_
        rw [mSA_A, n3_ne _ _ _ _ (by omega), hkx]
        refine gx_ldcw (pc := 31) q2452 dX10_nights_31 ?_
        refine m_iast (pc := 34) hb 62 (x) 64 rfl (by decide) rfl (by first | rfl | simp only [gx_lit, nI_add, pk_mul]) (by omega) (by decide) dX10_nights_34 ?_
        rw [mA_eq, mSA_A, n3_up, mSA_mSA]
        refine gx_iconst (pc := 35) (v := 0) dX10_nights_35 (by decide) ?_
        refine gx_istore_n (pc := 36) dX10_nights_36 (by decide) rfl ?_
        refine L2 n 0 rfl _ _ _ (fun i hi => ?_)
        simp only [upd, spNn]
        split
        · rfl
        · exact spFil_at 64 i hi
      · exact absurd (by decide) c1
    | succ m ih =>
      intro i hi
      refine gx_iload_n (pc := 2) dX10_nights_2 rfl ?_
      refine gx_bipush (pc := 3) (v := 64) dX10_nights_3 (by decide) ?_
      refine gx_icmp_ge (pc := 5) 21 dX10_nights_5 (by decide) (fun c1 => ?_) (fun c1 => ?_)
      · exact absurd c1 (nI_ge (a := i) (b := 64) (by omega) (by omega))
      · refine gx_aload_n (pc := 8) dX10_nights_8 rfl ?_
        refine m_getA (pc := 9) rfl fX10_157 rfl (by decide) dX10_nights_9 ?_
        refine gx_iload_n (pc := 12) dX10_nights_12 rfl ?_
        refine gx_iconst (pc := 13) (v := 0) dX10_nights_13 (by decide) ?_
        refine m_iast (pc := 14) hb 62 (i) 64 rfl (by decide) rfl (by first | rfl | simp only [gx_lit, nI_add, pk_mul]) (by omega) (by decide) dX10_nights_14 ?_
        rw [mA_eq, mSA_A, n3_up, mSA_mSA]
        refine gx_iincc (pc := 15) (c := 1) dX10_nights_15 rfl (by decide) (by decide) rfl ?_
        refine gx_goto (pc := 18) 2 dX10_nights_18 (by decide) ?_
        rw [nI_1]
        exact ih (i + 1) (by omega)
  refine gx_iconst (pc := 0) (v := 0) dX10_nights_0 (by decide) ?_
  refine gx_istore_n (pc := 1) dX10_nights_1 (by decide) rfl ?_
  have := L1 64 0 rfl
  rw [spFil, n3_self] at this
  exact this
end MV
