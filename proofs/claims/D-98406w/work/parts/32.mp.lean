/-! ===== MODEL P: marks ===== -/
set_option maxRecDepth 100000
/-- rows j of lo .. hi copied from place f to place t, n each, k of them so far -/
def lnS (A : Nat → Nat → Int32) (f t n k : Nat) : Nat → Nat → Int32 := fun q => if q = 42 then upd (A 42) t (A 42 f) else if 43 ≤ q ∧ q ≤ 46 then va_cpy (A q) (A q) (n * f) (n * t) k else A q
def seS (A : Nat → Nat → Int32) (f t n k : Nat) : Nat → Nat → Int32 := fun q => if q = 47 then upd (A 47) t (A 47 f) else if 48 ≤ q ∧ q ≤ 49 then va_cpy (A q) (A q) (n * f) (n * t) k else A q
theorem cpy_same {g : Nat → Int32} {f t n k : Nat} (hft : f ≠ t) (hk : k < n) : va_cpy g g (n * f) (n * t) k (n * f + k) = g (n * f + k) := by
  rcases Nat.lt_or_ge f t with h | h
  · have : n * (f + 1) ≤ n * t := Nat.mul_le_mul_left n h
    rw [Nat.mul_add] at this
    exact cpy_lo (by omega)
  · have h2 : t < f := by omega
    have : n * (t + 1) ≤ n * f := Nat.mul_le_mul_left n h2
    rw [Nat.mul_add] at this
    exact cpy_hi (by omega)
theorem lnS_step {A : Nat → Nat → Int32} {f t n k : Nat} (hft : f ≠ t) (hk : k < n) {v1 v2 v3 v4 : Int32} (h1 : v1 = A 43 (n * f + k)) (h2 : v2 = A 44 (n * f + k)) (h3 : v3 = A 45 (n * f + k)) (h4 : v4 = A 46 (n * f + k)) :
    upA (upA (upA (upA (lnS A f t n k) 43 (n * t + k) v1) 44 (n * t + k) v2) 45 (n * t + k) v3) 46 (n * t + k) v4 = lnS A f t n (k + 1) := by
  subst h1; subst h2; subst h3; subst h4
  funext q
  by_cases a1 : q = 43
  · subst a1
    rw [upA_ne (by decide), upA_ne (by decide), upA_ne (by decide), upA_setJ, setJ_j]
    exact cpyS (A 43) (A 43) (n * f) (n * t) k
  by_cases a2 : q = 44
  · subst a2
    rw [upA_ne (by decide), upA_ne (by decide), upA_setJ, setJ_j]
    exact cpyS (A 44) (A 44) (n * f) (n * t) k
  by_cases a3 : q = 45
  · subst a3
    rw [upA_ne (by decide), upA_setJ, setJ_j]
    exact cpyS (A 45) (A 45) (n * f) (n * t) k
  by_cases a4 : q = 46
  · subst a4
    rw [upA_setJ, setJ_j]
    exact cpyS (A 46) (A 46) (n * f) (n * t) k
  rw [upA_ne a4, upA_ne a3, upA_ne a2, upA_ne a1]
  simp only [lnS]
  by_cases a5 : q = 42
  · rw [if_pos a5, if_pos a5]
  · rw [if_neg a5, if_neg a5, if_neg (by omega), if_neg (by omega)]
theorem seS_step {A : Nat → Nat → Int32} {f t n k : Nat} (hft : f ≠ t) (hk : k < n) {v1 v2 : Int32} (h1 : v1 = A 48 (n * f + k)) (h2 : v2 = A 49 (n * f + k)) :
    upA (upA (seS A f t n k) 48 (n * t + k) v1) 49 (n * t + k) v2 = seS A f t n (k + 1) := by
  subst h1; subst h2
  funext q
  by_cases a1 : q = 48
  · subst a1
    rw [upA_ne (by decide), upA_setJ, setJ_j]
    exact cpyS (A 48) (A 48) (n * f) (n * t) k
  by_cases a2 : q = 49
  · subst a2
    rw [upA_setJ, setJ_j]
    exact cpyS (A 49) (A 49) (n * f) (n * t) k
  rw [upA_ne a2, upA_ne a1]
  simp only [seS]
  by_cases a5 : q = 47
  · rw [if_pos a5, if_pos a5]
  · rw [if_neg a5, if_neg a5, if_neg (by omega), if_neg (by omega)]
theorem lnS_0 (A : Nat → Nat → Int32) (f t n : Nat) : lnS A f t n 0 = upA A 42 t (A 42 f) := by
  funext q
  simp only [lnS, upA]
  by_cases a5 : q = 42
  · rw [if_pos a5, if_pos a5]
  · rw [if_neg a5, if_neg a5, cpy0]
    split <;> rfl
theorem seS_0 (A : Nat → Nat → Int32) (f t n : Nat) : seS A f t n 0 = upA A 47 t (A 47 f) := by
  funext q
  simp only [seS, upA]
  by_cases a5 : q = 47
  · rw [if_pos a5, if_pos a5]
  · rw [if_neg a5, if_neg a5, cpy0]
    split <;> rfl
section MP
variable {G : gxG} {d : Nat} {h : gxH} {b : Nat} {σ : mS} {P S E : Nat} {w : Option gxEv}
theorem c_laysLines (hb : gxN G ≤ b) (f t : Nat) (hf : f < 6) (ht : t < 6) (hft : f ≠ t) : mMv G mX10_laysLines d [.ref b, .int (nI f), .int (nI t)] h b σ (fun σ' => σ' = mSA σ (lnS σ.2.2.1 f t 30 30)) := by
  refine gxM_of rfl (Nat.le_of_ble_eq_true rfl) rfl ?_
  have L : ∀ m k, m + k = 30 → gxV G mX10_laysLines d 0 0 14 [some (.ref b), some (.int (nI f)), some (.int (nI t)), some (.int (nI k))] [] (mput h b (mSA σ (lnS σ.2.2.1 f t 30 k))) (mQv h b (fun σ' => σ' = mSA σ (lnS σ.2.2.1 f t 30 30))) := by
    intro m
    induction m with
    | zero =>
      intro k hk
      refine gx_iload_n (pc := 14) dX10_laysLines_14 rfl ?_
      refine gx_bipush (pc := 15) (v := 30) dX10_laysLines_15 (by decide) ?_
      refine gx_icmp_ge (pc := 17) 114 dX10_laysLines_17 (by decide) (fun c1 => ?_) (fun c1 => ?_)
      · exact m_retv (pc := 114) rfl dX10_laysLines_114 (by rw [show k = 30 by omega])
      · exact absurd (nI_le (a := 30) (b := k) (by omega) (by omega)) c1
    | succ m ih =>
      intro k hk
      refine gx_iload_n (pc := 14) dX10_laysLines_14 rfl ?_
      refine gx_bipush (pc := 15) (v := 30) dX10_laysLines_15 (by decide) ?_
      refine gx_icmp_ge (pc := 17) 114 dX10_laysLines_17 (by decide) (fun c1 => ?_) (fun c1 => ?_)
      · exact absurd c1 (nI_ge (a := k) (b := 30) (by omega) (by omega))
      · refine gx_aload_n (pc := 20) dX10_laysLines_20 rfl ?_
        refine m_getA (pc := 21) rfl fX10_108 rfl (by decide) dX10_laysLines_21 ?_
        refine gx_bipush (pc := 24) (v := 30) dX10_laysLines_24 (by decide) ?_
        refine gx_iload_n (pc := 26) dX10_laysLines_26 rfl ?_
        refine gx_imul (pc := 27) dX10_laysLines_27 ?_
        refine gx_iload_n (pc := 28) dX10_laysLines_28 rfl ?_
        refine gx_iadd (pc := 29) dX10_laysLines_29 ?_
        refine gx_aload_n (pc := 30) dX10_laysLines_30 rfl ?_
        refine m_getA (pc := 31) rfl fX10_108 rfl (by decide) dX10_laysLines_31 ?_
        refine gx_bipush (pc := 34) (v := 30) dX10_laysLines_34 (by decide) ?_
        refine gx_iload_n (pc := 36) dX10_laysLines_36 rfl ?_
        refine gx_imul (pc := 37) dX10_laysLines_37 ?_
        refine gx_iload_n (pc := 38) dX10_laysLines_38 rfl ?_
        refine gx_iadd (pc := 39) dX10_laysLines_39 ?_
        refine m_iald (pc := 40) 43 (((30 * f) + k)) 180 rfl (by decide) rfl (by first | rfl | simp only [gx_lit, nI_add, pk_mul]) (by omega) (by decide) dX10_laysLines_40 ?_
        refine m_iast (pc := 41) hb 43 (((30 * t) + k)) 180 rfl (by decide) rfl (by first | rfl | simp only [gx_lit, nI_add, pk_mul]) (by omega) (by decide) dX10_laysLines_41 ?_
        refine gx_aload_n (pc := 42) dX10_laysLines_42 rfl ?_
        refine m_getA (pc := 43) rfl fX10_111 rfl (by decide) dX10_laysLines_43 ?_
        refine gx_bipush (pc := 46) (v := 30) dX10_laysLines_46 (by decide) ?_
        refine gx_iload_n (pc := 48) dX10_laysLines_48 rfl ?_
        refine gx_imul (pc := 49) dX10_laysLines_49 ?_
        refine gx_iload_n (pc := 50) dX10_laysLines_50 rfl ?_
        refine gx_iadd (pc := 51) dX10_laysLines_51 ?_
        refine gx_aload_n (pc := 52) dX10_laysLines_52 rfl ?_
        refine m_getA (pc := 53) rfl fX10_111 rfl (by decide) dX10_laysLines_53 ?_
        refine gx_bipush (pc := 56) (v := 30) dX10_laysLines_56 (by decide) ?_
        refine gx_iload_n (pc := 58) dX10_laysLines_58 rfl ?_
        refine gx_imul (pc := 59) dX10_laysLines_59 ?_
        refine gx_iload_n (pc := 60) dX10_laysLines_60 rfl ?_
        refine gx_iadd (pc := 61) dX10_laysLines_61 ?_
        refine m_iald (pc := 62) 44 (((30 * f) + k)) 180 rfl (by decide) rfl (by first | rfl | simp only [gx_lit, nI_add, pk_mul]) (by omega) (by decide) dX10_laysLines_62 ?_
        refine m_iast (pc := 63) hb 44 (((30 * t) + k)) 180 rfl (by decide) rfl (by first | rfl | simp only [gx_lit, nI_add, pk_mul]) (by omega) (by decide) dX10_laysLines_63 ?_
        refine gx_aload_n (pc := 64) dX10_laysLines_64 rfl ?_
        refine m_getA (pc := 65) rfl fX10_114 rfl (by decide) dX10_laysLines_65 ?_
        refine gx_bipush (pc := 68) (v := 30) dX10_laysLines_68 (by decide) ?_
        refine gx_iload_n (pc := 70) dX10_laysLines_70 rfl ?_
        refine gx_imul (pc := 71) dX10_laysLines_71 ?_
        refine gx_iload_n (pc := 72) dX10_laysLines_72 rfl ?_
        refine gx_iadd (pc := 73) dX10_laysLines_73 ?_
        refine gx_aload_n (pc := 74) dX10_laysLines_74 rfl ?_
        refine m_getA (pc := 75) rfl fX10_114 rfl (by decide) dX10_laysLines_75 ?_
        refine gx_bipush (pc := 78) (v := 30) dX10_laysLines_78 (by decide) ?_
        refine gx_iload_n (pc := 80) dX10_laysLines_80 rfl ?_
        refine gx_imul (pc := 81) dX10_laysLines_81 ?_
        refine gx_iload_n (pc := 82) dX10_laysLines_82 rfl ?_
        refine gx_iadd (pc := 83) dX10_laysLines_83 ?_
        refine m_iald (pc := 84) 45 (((30 * f) + k)) 180 rfl (by decide) rfl (by first | rfl | simp only [gx_lit, nI_add, pk_mul]) (by omega) (by decide) dX10_laysLines_84 ?_
        refine m_iast (pc := 85) hb 45 (((30 * t) + k)) 180 rfl (by decide) rfl (by first | rfl | simp only [gx_lit, nI_add, pk_mul]) (by omega) (by decide) dX10_laysLines_85 ?_
        refine gx_aload_n (pc := 86) dX10_laysLines_86 rfl ?_
        refine m_getA (pc := 87) rfl fX10_117 rfl (by decide) dX10_laysLines_87 ?_
        refine gx_bipush (pc := 90) (v := 30) dX10_laysLines_90 (by decide) ?_
        refine gx_iload_n (pc := 92) dX10_laysLines_92 rfl ?_
        refine gx_imul (pc := 93) dX10_laysLines_93 ?_
        refine gx_iload_n (pc := 94) dX10_laysLines_94 rfl ?_
        refine gx_iadd (pc := 95) dX10_laysLines_95 ?_
        refine gx_aload_n (pc := 96) dX10_laysLines_96 rfl ?_
        refine m_getA (pc := 97) rfl fX10_117 rfl (by decide) dX10_laysLines_97 ?_
        refine gx_bipush (pc := 100) (v := 30) dX10_laysLines_100 (by decide) ?_
        refine gx_iload_n (pc := 102) dX10_laysLines_102 rfl ?_
        refine gx_imul (pc := 103) dX10_laysLines_103 ?_
        refine gx_iload_n (pc := 104) dX10_laysLines_104 rfl ?_
        refine gx_iadd (pc := 105) dX10_laysLines_105 ?_
        refine m_iald (pc := 106) 46 (((30 * f) + k)) 180 rfl (by decide) rfl (by first | rfl | simp only [gx_lit, nI_add, pk_mul]) (by omega) (by decide) dX10_laysLines_106 ?_
        refine m_iast (pc := 107) hb 46 (((30 * t) + k)) 180 rfl (by decide) rfl (by first | rfl | simp only [gx_lit, nI_add, pk_mul]) (by omega) (by decide) dX10_laysLines_107 ?_
        refine gx_iincc (pc := 108) (c := 1) dX10_laysLines_108 rfl (by decide) (by decide) rfl ?_
        refine gx_goto (pc := 111) 14 dX10_laysLines_111 (by decide) ?_
        rw [nI_1]
        have e1 : ∀ v1 v2 v3 v4 : Int32, mA (mA (mA (mA (mSA σ (lnS σ.2.2.1 f t 30 k)) 43 (30 * t + k) v1) 44 (30 * t + k) v2) 45 (30 * t + k) v3) 46 (30 * t + k) v4 = mSA σ (upA (upA (upA (upA (lnS σ.2.2.1 f t 30 k) 43 (30 * t + k) v1) 44 (30 * t + k) v2) 45 (30 * t + k) v3) 46 (30 * t + k) v4) := fun _ _ _ _ => rfl
        have cs : ∀ j, 43 ≤ j ∧ j ≤ 46 → lnS σ.2.2.1 f t 30 k j (30 * f + k) = σ.2.2.1 j (30 * f + k) := by
          intro j hj
          simp only [lnS]
          rw [if_neg (by omega), if_pos hj]
          exact cpy_same hft (by omega)
        have key := ih (k + 1) (by omega)
        rw [← lnS_step (A := σ.2.2.1) (k := k) hft (by omega) (cs 43 (by omega)) (cs 44 (by omega)) (cs 45 (by omega)) (cs 46 (by omega)), ← e1] at key
        exact key
  refine gx_aload_n (pc := 0) dX10_laysLines_0 rfl ?_
  refine m_getA (pc := 1) rfl fX10_105 rfl (by decide) dX10_laysLines_1 ?_
  refine gx_iload_n (pc := 4) dX10_laysLines_4 rfl ?_
  refine gx_aload_n (pc := 5) dX10_laysLines_5 rfl ?_
  refine m_getA (pc := 6) rfl fX10_105 rfl (by decide) dX10_laysLines_6 ?_
  refine gx_iload_n (pc := 9) dX10_laysLines_9 rfl ?_
  refine m_iald (pc := 10) 42 (f) 6 rfl (by decide) rfl (by first | rfl | simp only [gx_lit, nI_add, pk_mul]) (by omega) (by decide) dX10_laysLines_10 ?_
  refine m_iast (pc := 11) hb 42 (t) 6 rfl (by decide) rfl (by first | rfl | simp only [gx_lit, nI_add, pk_mul]) (by omega) (by decide) dX10_laysLines_11 ?_
  refine gx_iconst (pc := 12) (v := 0) dX10_laysLines_12 (by decide) ?_
  refine gx_istore_n (pc := 13) dX10_laysLines_13 (by decide) rfl ?_
  have L0 := L 30 0 (by omega)
  rw [lnS_0] at L0
  exact L0
theorem c_laysSeen (hb : gxN G ≤ b) (f t : Nat) (hf : f < 5) (ht : t < 5) (hft : f ≠ t) (h01 : ∀ k, σ.2.2.1 49 k = 0 ∨ σ.2.2.1 49 k = 1) : mMv G mX10_laysSeen d [.ref b, .int (nI f), .int (nI t)] h b σ (fun σ' => σ' = mSA σ (seS σ.2.2.1 f t 10 10)) := by
  refine gxM_of rfl (Nat.le_of_ble_eq_true rfl) rfl ?_
  have L : ∀ m k, m + k = 10 → gxV G mX10_laysSeen d 0 0 14 [some (.ref b), some (.int (nI f)), some (.int (nI t)), some (.int (nI k))] [] (mput h b (mSA σ (seS σ.2.2.1 f t 10 k))) (mQv h b (fun σ' => σ' = mSA σ (seS σ.2.2.1 f t 10 10))) := by
    intro m
    induction m with
    | zero =>
      intro k hk
      refine gx_iload_n (pc := 14) dX10_laysSeen_14 rfl ?_
      refine gx_bipush (pc := 15) (v := 10) dX10_laysSeen_15 (by decide) ?_
      refine gx_icmp_ge (pc := 17) 70 dX10_laysSeen_17 (by decide) (fun c1 => ?_) (fun c1 => ?_)
      · exact m_retv (pc := 70) rfl dX10_laysSeen_70 (by rw [show k = 10 by omega])
      · exact absurd (nI_le (a := 10) (b := k) (by omega) (by omega)) c1
    | succ m ih =>
      intro k hk
      have cs : ∀ j, 48 ≤ j ∧ j ≤ 49 → seS σ.2.2.1 f t 10 k j (10 * f + k) = σ.2.2.1 j (10 * f + k) := by
        intro j hj
        simp only [seS]
        rw [if_neg (by omega), if_pos hj]
        exact cpy_same hft (by omega)
      have z1 : (mA (mSA σ (seS σ.2.2.1 f t 10 k)) 48 (10 * t + k) ((mSA σ (seS σ.2.2.1 f t 10 k)).2.2.1 48 (10 * f + k))).2.2.1 49 (10 * f + k) = 0 ∨ (mA (mSA σ (seS σ.2.2.1 f t 10 k)) 48 (10 * t + k) ((mSA σ (seS σ.2.2.1 f t 10 k)).2.2.1 48 (10 * f + k))).2.2.1 49 (10 * f + k) = 1 := by
        rw [mA_eq, mSA_A, upA_ne (by decide), mSA_A, cs 49 (by omega)]
        exact h01 _
      refine gx_iload_n (pc := 14) dX10_laysSeen_14 rfl ?_
      refine gx_bipush (pc := 15) (v := 10) dX10_laysSeen_15 (by decide) ?_
      refine gx_icmp_ge (pc := 17) 70 dX10_laysSeen_17 (by decide) (fun c1 => ?_) (fun c1 => ?_)
      · exact absurd c1 (nI_ge (a := k) (b := 10) (by omega) (by omega))
      · refine gx_aload_n (pc := 20) dX10_laysSeen_20 rfl ?_
        refine m_getA (pc := 21) rfl fX10_123 rfl (by decide) dX10_laysSeen_21 ?_
        refine gx_bipush (pc := 24) (v := 10) dX10_laysSeen_24 (by decide) ?_
        refine gx_iload_n (pc := 26) dX10_laysSeen_26 rfl ?_
        refine gx_imul (pc := 27) dX10_laysSeen_27 ?_
        refine gx_iload_n (pc := 28) dX10_laysSeen_28 rfl ?_
        refine gx_iadd (pc := 29) dX10_laysSeen_29 ?_
        refine gx_aload_n (pc := 30) dX10_laysSeen_30 rfl ?_
        refine m_getA (pc := 31) rfl fX10_123 rfl (by decide) dX10_laysSeen_31 ?_
        refine gx_bipush (pc := 34) (v := 10) dX10_laysSeen_34 (by decide) ?_
        refine gx_iload_n (pc := 36) dX10_laysSeen_36 rfl ?_
        refine gx_imul (pc := 37) dX10_laysSeen_37 ?_
        refine gx_iload_n (pc := 38) dX10_laysSeen_38 rfl ?_
        refine gx_iadd (pc := 39) dX10_laysSeen_39 ?_
        refine m_iald (pc := 40) 48 (((10 * f) + k)) 50 rfl (by decide) rfl (by first | rfl | simp only [gx_lit, nI_add, pk_mul]) (by omega) (by decide) dX10_laysSeen_40 ?_
        refine m_iast (pc := 41) hb 48 (((10 * t) + k)) 50 rfl (by decide) rfl (by first | rfl | simp only [gx_lit, nI_add, pk_mul]) (by omega) (by decide) dX10_laysSeen_41 ?_
        refine gx_aload_n (pc := 42) dX10_laysSeen_42 rfl ?_
        refine m_getA (pc := 43) rfl fX10_126 rfl (by decide) dX10_laysSeen_43 ?_
        refine gx_bipush (pc := 46) (v := 10) dX10_laysSeen_46 (by decide) ?_
        refine gx_iload_n (pc := 48) dX10_laysSeen_48 rfl ?_
        refine gx_imul (pc := 49) dX10_laysSeen_49 ?_
        refine gx_iload_n (pc := 50) dX10_laysSeen_50 rfl ?_
        refine gx_iadd (pc := 51) dX10_laysSeen_51 ?_
        refine gx_aload_n (pc := 52) dX10_laysSeen_52 rfl ?_
        refine m_getA (pc := 53) rfl fX10_126 rfl (by decide) dX10_laysSeen_53 ?_
        refine gx_bipush (pc := 56) (v := 10) dX10_laysSeen_56 (by decide) ?_
        refine gx_iload_n (pc := 58) dX10_laysSeen_58 rfl ?_
        refine gx_imul (pc := 59) dX10_laysSeen_59 ?_
        refine gx_iload_n (pc := 60) dX10_laysSeen_60 rfl ?_
        refine gx_iadd (pc := 61) dX10_laysSeen_61 ?_
        refine m_zald (pc := 62) 49 (((10 * f) + k)) 50 rfl (by decide) rfl (by first | rfl | simp only [gx_lit, nI_add, pk_mul]) (by omega) (by decide) dX10_laysSeen_62 ?_
        refine m_zast (pc := 63) hb 49 (((10 * t) + k)) 50 (z1) rfl (by decide) rfl (by first | rfl | simp only [gx_lit, nI_add, pk_mul]) (by omega) (by decide) dX10_laysSeen_63 ?_
        refine gx_iincc (pc := 64) (c := 1) dX10_laysSeen_64 rfl (by decide) (by decide) rfl ?_
        refine gx_goto (pc := 67) 14 dX10_laysSeen_67 (by decide) ?_
        rw [nI_1]
        have e1 : ∀ v1 v2 : Int32, mA (mA (mSA σ (seS σ.2.2.1 f t 10 k)) 48 (10 * t + k) v1) 49 (10 * t + k) v2 = mSA σ (upA (upA (seS σ.2.2.1 f t 10 k) 48 (10 * t + k) v1) 49 (10 * t + k) v2) := fun _ _ => rfl
        have key := ih (k + 1) (by omega)
        rw [← seS_step (A := σ.2.2.1) (k := k) hft (by omega) (cs 48 (by omega)) (cs 49 (by omega)), ← e1] at key
        exact key
  refine gx_aload_n (pc := 0) dX10_laysSeen_0 rfl ?_
  refine m_getA (pc := 1) rfl fX10_120 rfl (by decide) dX10_laysSeen_1 ?_
  refine gx_iload_n (pc := 4) dX10_laysSeen_4 rfl ?_
  refine gx_aload_n (pc := 5) dX10_laysSeen_5 rfl ?_
  refine m_getA (pc := 6) rfl fX10_120 rfl (by decide) dX10_laysSeen_6 ?_
  refine gx_iload_n (pc := 9) dX10_laysSeen_9 rfl ?_
  refine m_iald (pc := 10) 47 (f) 5 rfl (by decide) rfl (by first | rfl | simp only [gx_lit, nI_add, pk_mul]) (by omega) (by decide) dX10_laysSeen_10 ?_
  refine m_iast (pc := 11) hb 47 (t) 5 rfl (by decide) rfl (by first | rfl | simp only [gx_lit, nI_add, pk_mul]) (by omega) (by decide) dX10_laysSeen_11 ?_
  refine gx_iconst (pc := 12) (v := 0) dX10_laysSeen_12 (by decide) ?_
  refine gx_istore_n (pc := 13) dX10_laysSeen_13 (by decide) rfl ?_
  have L0 := L 10 0 (by omega)
  rw [seS_0] at L0
  exact L0
/-- the model behind a mark laid, behind one gone back to -/
def mLay (σ : mS) (m : Nat) : mS := mSA σ (setJ (seS (lnS (upA σ.2.2.1 54 m 1) 0 (1 + m) 30 30) 0 (1 + m) 10 10) 52 (va_cpy (σ.2.2.1 50) (σ.2.2.1 52) 0 (123 * m) 123))
def mBack (σ : mS) (m : Nat) : mS := mI (mSA σ (setJ (seS (lnS (upA σ.2.2.1 54 m 1) (1 + m) 0 30 30) (1 + m) 0 10 10) 50 (va_cpy (σ.2.2.1 52) (σ.2.2.1 50) (123 * m) 0 123))) 55 0
theorem seS_o {A : Nat → Nat → Int32} {f t n k q : Nat} (hq : q < 47 ∨ 49 < q) : seS A f t n k q = A q := by
  simp only [seS]
  rw [if_neg (by omega), if_neg (by omega)]
theorem lnS_o {A : Nat → Nat → Int32} {f t n k q : Nat} (hq : q < 42 ∨ 46 < q) : lnS A f t n k q = A q := by
  simp only [lnS]
  rw [if_neg (by omega), if_neg (by omega)]
theorem c_mark (hb : gxN G ≤ b) (hd : 1 ≤ d) (h01 : ∀ k, σ.2.2.1 49 k = 0 ∨ σ.2.2.1 49 k = 1) (mk back : Int32) (hbk : back = 0 ∨ back = 1) : mMi G mX10_mark d [.ref b, .int mk, .int back] h b σ (fun r σ' => (¬ (∃ m, m < 4 ∧ mk = nI m ∧ (back = 0 ∨ ¬ σ.2.2.1 54 m = 0)) ∧ r = 0 ∧ σ' = mI σ 0 0) ∨ ∃ m, m < 4 ∧ mk = nI m ∧ r = 1 ∧ ((back = 0 ∧ σ' = mLay (mI σ 0 0) m) ∨ (back = 1 ∧ ¬ σ.2.2.1 54 m = 0 ∧ σ' = mBack (mI σ 0 0) m))) := by
  refine gxM_of rfl (Nat.le_of_ble_eq_true rfl) rfl ?_
  refine gx_aload_n (pc := 0) dX10_mark_0 rfl ?_
  refine gx_iconst (pc := 1) (v := 0) dX10_mark_1 (by decide) ?_
  refine m_putI (pc := 2) rfl hb fX10_175 rfl (by decide) tX10_0 dX10_mark_2 ?_
  refine gx_iload_n (pc := 5) dX10_mark_5 rfl ?_
  refine gx_iconst (pc := 6) (v := 0) dX10_mark_6 (by decide) ?_
  refine gx_iconst (pc := 7) (v := 3) dX10_mark_7 (by decide) ?_
  refine kX10_308 (pc := 8) rfl (c_within (d := d - 1) mk 0 3) (by omega) (Nat.le_of_ble_eq_true rfl) dX10_mark_8 (fun r1 σ1 e1 => ?_)
  obtain ⟨rfl, hσ⟩ := e1
  subst σ1
  refine gx_if_eq (pc := 11) 27 dX10_mark_11 (by decide) (fun c1 => ?_) (fun c1 => ?_)
  · refine gx_iconst (pc := 27) (v := 0) dX10_mark_27 (by decide) ?_
    exact m_retz (pc := 28) rfl (by decide) dX10_mark_28 (Or.inl ⟨(fun ⟨m, a1, a2, a3⟩ => wi_out c1 ⟨by rw [a2]; exact nI_pos' (by omega), by rw [a2]; exact nI_le (b := 3) (by omega) (by decide)⟩), rfl, rfl⟩)
  · have hw := wi_in c1
    obtain ⟨m, hm, rfl⟩ := nI_of2 (M := 3) (n := 3) (by decide) (Int32.not_lt.mpr hw.1) hw.2
    rcases hbk with rfl | rfl
    · refine gx_iload_n (pc := 14) dX10_mark_14 rfl ?_
      refine gx_if_eq (pc := 15) 29 dX10_mark_15 (by decide) (fun c2 => ?_) (fun c2 => ?_)
      · refine gx_aload_n (pc := 29) dX10_mark_29 rfl ?_
        refine m_getA (pc := 30) rfl fX10_141 rfl (by decide) dX10_mark_30 ?_
        refine gx_iload_n (pc := 33) dX10_mark_33 rfl ?_
        refine gx_iconst (pc := 34) (v := 1) dX10_mark_34 (by decide) ?_
        refine m_zast (pc := 35) hb 54 (m) 4 (by decide) rfl (by decide) rfl (by first | rfl | simp only [gx_lit, nI_add, pk_mul]) (by omega) (by decide) dX10_mark_35 ?_
        refine gx_iload_n (pc := 36) dX10_mark_36 rfl ?_
        refine gx_if_eq (pc := 37) 46 dX10_mark_37 (by decide) (fun c3 => ?_) (fun c3 => ?_)
        · refine gx_iconst (pc := 46) (v := 0) dX10_mark_46 (by decide) ?_
          refine gx_istore_n (pc := 47) dX10_mark_47 (by decide) rfl ?_
          refine gx_iload_n (pc := 48) dX10_mark_48 rfl ?_
          refine gx_if_eq (pc := 49) 56 dX10_mark_49 (by decide) (fun c4 => ?_) (fun c4 => ?_)
          · refine gx_iconst (pc := 56) (v := 1) dX10_mark_56 (by decide) ?_
            refine gx_iload_n (pc := 57) dX10_mark_57 rfl ?_
            refine gx_iadd (pc := 58) dX10_mark_58 ?_
            refine gx_istore (pc := 59) dX10_mark_59 (by decide) rfl ?_
            rw [show (1 : Int32) + nI m = nI (1 + m) from nI_add 1 m]
            refine gx_aload_n (pc := 61) dX10_mark_61 rfl ?_
            refine gx_iload_n (pc := 62) dX10_mark_62 rfl ?_
            refine gx_iload (pc := 63) dX10_mark_63 rfl ?_
            refine kX10_404 (pc := 65) rfl (c_laysLines (d := d - 1) (f := 0) hb (1 + m) (by decide) (by omega) (by omega)) (by omega) (Nat.le_of_ble_eq_true rfl) dX10_mark_65 (fun σ1 e1 => ?_)
            refine gx_aload_n (pc := 68) dX10_mark_68 rfl ?_
            refine gx_iload_n (pc := 69) dX10_mark_69 rfl ?_
            refine gx_iload (pc := 70) dX10_mark_70 rfl ?_
            refine kX10_560 (pc := 72) rfl (c_laysSeen (d := d - 1) (f := 0) hb (1 + m) (by decide) (by omega) (by omega) (fun k => by rw [e1, mSA_A, lnS_o (by decide)]; exact h01 k)) (by omega) (Nat.le_of_ble_eq_true rfl) dX10_mark_72 (fun σ2 e2 => ?_)
            refine gx_iload_n (pc := 75) dX10_mark_75 rfl ?_
            refine gx_if_eq (pc := 76) 103 dX10_mark_76 (by decide) (fun c5 => ?_) (fun c5 => ?_)
            · refine gx_aload_n (pc := 103) dX10_mark_103 rfl ?_
              refine m_getA (pc := 104) rfl fX10_129 rfl (by decide) dX10_mark_104 ?_
              refine gx_iconst (pc := 107) (v := 0) dX10_mark_107 (by decide) ?_
              refine gx_aload_n (pc := 108) dX10_mark_108 rfl ?_
              refine m_getA (pc := 109) rfl fX10_135 rfl (by decide) dX10_mark_109 ?_
              refine gx_bipush (pc := 112) (v := 123) dX10_mark_112 (by decide) ?_
              refine gx_iload_n (pc := 114) dX10_mark_114 rfl ?_
              refine gx_imul (pc := 115) dX10_mark_115 ?_
              rw [show (123 : Int32) * nI m = nI (123 * m) from pk_mul 123 m]
              refine kX10_457 (pc := 116) rfl (c_copies (d := d - 1) (a := 0) (c := 123 * m) hb 50 52 123 492 (hj_jf := rfl) (ho_jf := by decide) (hn_jf := rfl) (hb_jf := by decide) (hj_jt := rfl) (ho_jt := by decide) (hn_jt := rfl) (hb_jt := by decide) (hne := by decide) (ha := by decide) (hc := by omega)) (by omega) (Nat.le_of_ble_eq_true rfl) dX10_mark_116 (fun σ3 e3 => ?_)
              refine gx_iconst (pc := 119) (v := 1) dX10_mark_119 (by decide) ?_
              have e4 : σ3 = mLay (mI σ 0 0) m := by
                have q50 : σ2.2.2.1 50 = σ.2.2.1 50 := by rw [e2, mSA_A, seS_o (by decide), e1, mSA_A, lnS_o (by decide)]; rfl
                have q52 : σ2.2.2.1 52 = σ.2.2.1 52 := by rw [e2, mSA_A, seS_o (by decide), e1, mSA_A, lnS_o (by decide)]; rfl
                rw [e3, q50, q52, e2, e1]
                rfl
              exact m_retz (pc := 120) rfl (by decide) dX10_mark_120 (Or.inr ⟨m, by omega, rfl, rfl, Or.inl ⟨rfl, e4⟩⟩)
            · exact absurd rfl c5
          · exact absurd rfl c4
        · exact absurd rfl c3
      · exact absurd rfl c2
    · refine gx_iload_n (pc := 14) dX10_mark_14 rfl ?_
      refine gx_if_eq (pc := 15) 29 dX10_mark_15 (by decide) (fun c2 => ?_) (fun c2 => ?_)
      · exact absurd c2 (by decide)
      · refine gx_aload_n (pc := 18) dX10_mark_18 rfl ?_
        refine m_getA (pc := 19) rfl fX10_141 rfl (by decide) dX10_mark_19 ?_
        refine gx_iload_n (pc := 22) dX10_mark_22 rfl ?_
        refine m_zald (pc := 23) 54 (m) 4 rfl (by decide) rfl (by first | rfl | simp only [gx_lit, nI_add, pk_mul]) (by omega) (by decide) dX10_mark_23 ?_
        refine gx_if_ne (pc := 24) 29 dX10_mark_24 (by decide) (fun c6 => ?_) (fun c6 => ?_)
        · have c6' : ¬ σ.2.2.1 54 m = 0 := c6
          refine gx_aload_n (pc := 29) dX10_mark_29 rfl ?_
          refine m_getA (pc := 30) rfl fX10_141 rfl (by decide) dX10_mark_30 ?_
          refine gx_iload_n (pc := 33) dX10_mark_33 rfl ?_
          refine gx_iconst (pc := 34) (v := 1) dX10_mark_34 (by decide) ?_
          refine m_zast (pc := 35) hb 54 (m) 4 (by decide) rfl (by decide) rfl (by first | rfl | simp only [gx_lit, nI_add, pk_mul]) (by omega) (by decide) dX10_mark_35 ?_
          refine gx_iload_n (pc := 36) dX10_mark_36 rfl ?_
          refine gx_if_eq (pc := 37) 46 dX10_mark_37 (by decide) (fun c3 => ?_) (fun c3 => ?_)
          · exact absurd c3 (by decide)
          · refine gx_iconst (pc := 40) (v := 1) dX10_mark_40 (by decide) ?_
            refine gx_iload_n (pc := 41) dX10_mark_41 rfl ?_
            refine gx_iadd (pc := 42) dX10_mark_42 ?_
            refine gx_goto (pc := 43) 47 dX10_mark_43 (by decide) ?_
            refine gx_istore_n (pc := 47) dX10_mark_47 (by decide) rfl ?_
            refine gx_iload_n (pc := 48) dX10_mark_48 rfl ?_
            rw [show (1 : Int32) + nI m = nI (1 + m) from nI_add 1 m]
            refine gx_if_eq (pc := 49) 56 dX10_mark_49 (by decide) (fun c4 => ?_) (fun c4 => ?_)
            · exact absurd c4 (by decide)
            · refine gx_iconst (pc := 52) (v := 0) dX10_mark_52 (by decide) ?_
              refine gx_goto (pc := 53) 59 dX10_mark_53 (by decide) ?_
              refine gx_istore (pc := 59) dX10_mark_59 (by decide) rfl ?_
              refine gx_aload_n (pc := 61) dX10_mark_61 rfl ?_
              refine gx_iload_n (pc := 62) dX10_mark_62 rfl ?_
              refine gx_iload (pc := 63) dX10_mark_63 rfl ?_
              refine kX10_404 (pc := 65) rfl (c_laysLines (d := d - 1) (t := 0) hb (1 + m) (by omega) (by decide) (by omega)) (by omega) (Nat.le_of_ble_eq_true rfl) dX10_mark_65 (fun σ1 e1 => ?_)
              refine gx_aload_n (pc := 68) dX10_mark_68 rfl ?_
              refine gx_iload_n (pc := 69) dX10_mark_69 rfl ?_
              refine gx_iload (pc := 70) dX10_mark_70 rfl ?_
              refine kX10_560 (pc := 72) rfl (c_laysSeen (d := d - 1) (t := 0) hb (1 + m) (by omega) (by decide) (by omega) (fun k => by rw [e1, mSA_A, lnS_o (by decide)]; exact h01 k)) (by omega) (Nat.le_of_ble_eq_true rfl) dX10_mark_72 (fun σ2 e2 => ?_)
              refine gx_iload_n (pc := 75) dX10_mark_75 rfl ?_
              refine gx_if_eq (pc := 76) 103 dX10_mark_76 (by decide) (fun c5 => ?_) (fun c5 => ?_)
              · exact absurd c5 (by decide)
              · refine gx_aload_n (pc := 79) dX10_mark_79 rfl ?_
                refine m_getA (pc := 80) rfl fX10_135 rfl (by decide) dX10_mark_80 ?_
                refine gx_bipush (pc := 83) (v := 123) dX10_mark_83 (by decide) ?_
                refine gx_iload_n (pc := 85) dX10_mark_85 rfl ?_
                refine gx_imul (pc := 86) dX10_mark_86 ?_
                rw [show (123 : Int32) * nI m = nI (123 * m) from pk_mul 123 m]
                refine gx_aload_n (pc := 87) dX10_mark_87 rfl ?_
                refine m_getA (pc := 88) rfl fX10_129 rfl (by decide) dX10_mark_88 ?_
                refine gx_iconst (pc := 91) (v := 0) dX10_mark_91 (by decide) ?_
                refine kX10_457 (pc := 92) rfl (c_copies (d := d - 1) (a := 123 * m) (c := 0) hb 52 50 492 123 (hj_jf := rfl) (ho_jf := by decide) (hn_jf := rfl) (hb_jf := by decide) (hj_jt := rfl) (ho_jt := by decide) (hn_jt := rfl) (hb_jt := by decide) (hne := by decide) (ha := by omega) (hc := by decide)) (by omega) (Nat.le_of_ble_eq_true rfl) dX10_mark_92 (fun σ3 e3 => ?_)
                refine gx_aload_n (pc := 95) dX10_mark_95 rfl ?_
                refine gx_iconst (pc := 96) (v := 0) dX10_mark_96 (by decide) ?_
                refine m_putI (pc := 97) rfl hb fX10_398 rfl (by decide) tX10_55 dX10_mark_97 ?_
                refine gx_goto (pc := 100) 119 dX10_mark_100 (by decide) ?_
                refine gx_iconst (pc := 119) (v := 1) dX10_mark_119 (by decide) ?_
                have e4 : mI σ3 55 0 = mBack (mI σ 0 0) m := by
                  have q50 : σ2.2.2.1 50 = σ.2.2.1 50 := by rw [e2, mSA_A, seS_o (by decide), e1, mSA_A, lnS_o (by decide)]; rfl
                  have q52 : σ2.2.2.1 52 = σ.2.2.1 52 := by rw [e2, mSA_A, seS_o (by decide), e1, mSA_A, lnS_o (by decide)]; rfl
                  rw [e3, q50, q52, e2, e1]
                  rfl
                rw [e4]
                exact m_retz (pc := 120) rfl (by decide) dX10_mark_120 (Or.inr ⟨m, by omega, rfl, rfl, Or.inr ⟨rfl, c6', rfl⟩⟩)
        · have c6' : σ.2.2.1 54 m = 0 := c6
          refine gx_iconst (pc := 27) (v := 0) dX10_mark_27 (by decide) ?_
          exact m_retz (pc := 28) rfl (by decide) dX10_mark_28 (Or.inl ⟨(fun ⟨m2, a1, a2, a3⟩ => by rw [← (nI_eq (by omega) (by omega)).mp a2] at a3; rcases a3 with a3 | a3; exact absurd a3 (by decide); exact a3 c6'), rfl, rfl⟩)
end MP
