/-! ===== MODEL A: small methods ===== -/
set_option maxRecDepth 100000
section MA
variable {G : gxG} {d : Nat} {h : gxH} {b : Nat} {σ : mS}
theorem c_within (v lo hi : Int32) : mMi G mX10_within d [.int v, .int lo, .int hi] h b σ (fun r σ' => r = zi (decide (lo ≤ v) && decide (v ≤ hi)) ∧ σ' = σ) := by
  refine gxM_of rfl (Nat.le_of_ble_eq_true rfl) rfl ?_
  refine gx_iload_n (pc := 0) dX10_within_0 rfl ?_
  refine gx_iload_n (pc := 1) dX10_within_1 rfl ?_
  refine gx_icmp_lt (pc := 2) 14 dX10_within_2 (by decide) (fun c2 => ?_) (fun c2 => ?_)
  · refine gx_iconst (pc := 14) (v := 0) dX10_within_14 (by decide) ?_
    exact m_retz (pc := 15) rfl (by decide) dX10_within_15 (⟨by grind [zi], rfl⟩)
  · refine gx_iload_n (pc := 5) dX10_within_5 rfl ?_
    refine gx_iload_n (pc := 6) dX10_within_6 rfl ?_
    refine gx_icmp_gt (pc := 7) 14 dX10_within_7 (by decide) (fun c7 => ?_) (fun c7 => ?_)
    · refine gx_iconst (pc := 14) (v := 0) dX10_within_14 (by decide) ?_
      exact m_retz (pc := 15) rfl (by decide) dX10_within_15 (⟨by grind [zi], rfl⟩)
    · refine gx_iconst (pc := 10) (v := 1) dX10_within_10 (by decide) ?_
      refine gx_goto (pc := 11) 15 dX10_within_11 (by decide) ?_
      exact m_retz (pc := 15) rfl (by decide) dX10_within_15 (⟨by grind [zi], rfl⟩)
def spBt (v lo hi : Int32) : Int32 := if v < lo then lo else if hi < v then hi else v
theorem c_between (v lo hi : Int32) : mMi G mX10_between d [.int v, .int lo, .int hi] h b σ (fun r σ' => r = spBt v lo hi ∧ σ' = σ) := by
  refine gxM_of rfl (Nat.le_of_ble_eq_true rfl) rfl ?_
  refine gx_iload_n (pc := 0) dX10_between_0 rfl ?_
  refine gx_iload_n (pc := 1) dX10_between_1 rfl ?_
  refine gx_icmp_ge (pc := 2) 9 dX10_between_2 (by decide) (fun c2 => ?_) (fun c2 => ?_)
  · refine gx_iload_n (pc := 9) dX10_between_9 rfl ?_
    refine gx_iload_n (pc := 10) dX10_between_10 rfl ?_
    refine gx_icmp_le (pc := 11) 18 dX10_between_11 (by decide) (fun c11 => ?_) (fun c11 => ?_)
    · refine gx_iload_n (pc := 18) dX10_between_18 rfl ?_
      exact m_ret (pc := 19) rfl dX10_between_19 (⟨by grind [spBt], rfl⟩)
    · refine gx_iload_n (pc := 14) dX10_between_14 rfl ?_
      refine gx_goto (pc := 15) 19 dX10_between_15 (by decide) ?_
      exact m_ret (pc := 19) rfl dX10_between_19 (⟨by grind [spBt], rfl⟩)
  · refine gx_iload_n (pc := 5) dX10_between_5 rfl ?_
    refine gx_goto (pc := 6) 19 dX10_between_6 (by decide) ?_
    exact m_ret (pc := 19) rfl dX10_between_19 (⟨by grind [spBt], rfl⟩)
def spMax (x y : Int32) : Int32 := if x < y then y else x
def spMin (x y : Int32) : Int32 := if y < x then y else x
theorem c_max (x y : Int32) : mMi G mJ7_max d [.int x, .int y] h b σ (fun r σ' => r = spMax x y ∧ σ' = σ) := by
  refine gxM_ofF (by decide +kernel) (Nat.le_of_ble_eq_true rfl) rfl ?_
  refine gx_iload_n (pc := 0) dJ7_max_0 rfl ?_
  refine gx_iload_n (pc := 1) dJ7_max_1 rfl ?_
  refine gx_icmp_lt (pc := 2) 9 dJ7_max_2 (by decide) (fun c2 => ?_) (fun c2 => ?_)
  · refine gx_iload_n (pc := 9) dJ7_max_9 rfl ?_
    exact m_ret (pc := 10) rfl dJ7_max_10 (⟨by grind [spMax], rfl⟩)
  · refine gx_iload_n (pc := 5) dJ7_max_5 rfl ?_
    refine gx_goto (pc := 6) 10 dJ7_max_6 (by decide) ?_
    exact m_ret (pc := 10) rfl dJ7_max_10 (⟨by grind [spMax], rfl⟩)
theorem c_min (x y : Int32) : mMi G mJ7_min d [.int x, .int y] h b σ (fun r σ' => r = spMin x y ∧ σ' = σ) := by
  refine gxM_ofF (by decide +kernel) (Nat.le_of_ble_eq_true rfl) rfl ?_
  refine gx_iload_n (pc := 0) dJ7_min_0 rfl ?_
  refine gx_iload_n (pc := 1) dJ7_min_1 rfl ?_
  refine gx_icmp_gt (pc := 2) 9 dJ7_min_2 (by decide) (fun c2 => ?_) (fun c2 => ?_)
  · refine gx_iload_n (pc := 9) dJ7_min_9 rfl ?_
    exact m_ret (pc := 10) rfl dJ7_min_10 (⟨by grind [spMin], rfl⟩)
  · refine gx_iload_n (pc := 5) dJ7_min_5 rfl ?_
    refine gx_goto (pc := 6) 10 dJ7_min_6 (by decide) ?_
    exact m_ret (pc := 10) rfl dJ7_min_10 (⟨by grind [spMin], rfl⟩)
/-- the sum of the ten low bits -/
def spBits (x : Int32) : Nat → Int32
  | 0 => 0
  | k + 1 => spBits x k + ((x >>> (nI k &&& 31)) &&& 1)
theorem c_bits (x : Int32) : mMi G mX10_bits d [.int x] h b σ (fun r σ' => r = spBits x 10 ∧ σ' = σ) := by
  refine gxM_of rfl (Nat.le_of_ble_eq_true rfl) rfl ?_
  refine gx_iconst (pc := 0) (v := 0) dX10_bits_0 (by decide) ?_
  refine gx_istore_n (pc := 1) dX10_bits_1 (by decide) rfl ?_
  refine gx_iconst (pc := 2) (v := 0) dX10_bits_2 (by decide) ?_
  refine gx_istore_n (pc := 3) dX10_bits_3 (by decide) rfl ?_
  have L : ∀ n k, n + k = 10 → gxV G mX10_bits d 0 0 4 [some (.int x), some (.int (spBits x k)), some (.int (nI k))] [] (mput h b σ) (mQi h b (fun r σ' => r = spBits x 10 ∧ σ' = σ)) := by
    intro n
    induction n with
    | zero =>
      intro k hk
      refine gx_iload_n (pc := 4) dX10_bits_4 rfl ?_
      refine gx_bipush (pc := 5) (v := 10) dX10_bits_5 (by decide) ?_
      refine gx_icmp_ge (pc := 7) 24 dX10_bits_7 (by decide) (fun c1 => ?_) (fun c1 => ?_)
      · refine gx_iload_n (pc := 24) dX10_bits_24 rfl ?_
        exact m_ret (pc := 25) rfl dX10_bits_25 (⟨by rw [show k = 10 by omega], rfl⟩)
      · exact absurd (nI_le (a := 10) (b := k) (by omega) (by omega)) c1
    | succ n ih =>
      intro k hk
      refine gx_iload_n (pc := 4) dX10_bits_4 rfl ?_
      refine gx_bipush (pc := 5) (v := 10) dX10_bits_5 (by decide) ?_
      refine gx_icmp_ge (pc := 7) 24 dX10_bits_7 (by decide) (fun c1 => ?_) (fun c1 => ?_)
      · exact absurd c1 (nI_ge (a := k) (b := 10) (by omega) (by omega))
      · refine gx_iload_n (pc := 10) dX10_bits_10 rfl ?_
        refine gx_iload_n (pc := 11) dX10_bits_11 rfl ?_
        refine gx_iload_n (pc := 12) dX10_bits_12 rfl ?_
        refine gx_ishr (pc := 13) dX10_bits_13 ?_
        refine gx_iconst (pc := 14) (v := 1) dX10_bits_14 (by decide) ?_
        refine gx_iand (pc := 15) dX10_bits_15 ?_
        refine gx_iadd (pc := 16) dX10_bits_16 ?_
        refine gx_istore_n (pc := 17) dX10_bits_17 (by decide) rfl ?_
        refine gx_iincc (pc := 18) (c := 1) dX10_bits_18 rfl (by decide) (by decide) rfl ?_
        refine gx_goto (pc := 21) 4 dX10_bits_21 (by decide) ?_
        rw [nI_1]
        exact ih (k + 1) (by omega)
  exact L 10 0 (by omega)
theorem c_knowersOf (P : Nat) (set : Int32) (hP : σ.2.2.1 10 0 = nI P) (hP6 : P ≤ 6) : mMi G mX10_knowersOf d [.ref b, .int set] h b σ (fun r σ' => r = spKn (fun p => decide (¬ σ.2.2.1 13 p = 3)) set P ∧ σ' = σ) := by
  refine gxM_of rfl (Nat.le_of_ble_eq_true rfl) rfl ?_
  refine gx_iconst (pc := 0) (v := 0) dX10_knowersOf_0 (by decide) ?_
  refine gx_istore_n (pc := 1) dX10_knowersOf_1 (by decide) rfl ?_
  refine gx_iconst (pc := 2) (v := 0) dX10_knowersOf_2 (by decide) ?_
  refine gx_istore_n (pc := 3) dX10_knowersOf_3 (by decide) rfl ?_
  have L : ∀ n p, n + p = P → gxV G mX10_knowersOf d 0 0 4 [some (.ref b), some (.int set), some (.int (spKn (fun p => decide (¬ σ.2.2.1 13 p = 3)) set p)), some (.int (nI p))] [] (mput h b σ) (mQi h b (fun r σ' => r = spKn (fun p => decide (¬ σ.2.2.1 13 p = 3)) set P ∧ σ' = σ)) := by
    intro n
    induction n with
    | zero =>
      intro p hp
      refine gx_iload_n (pc := 4) dX10_knowersOf_4 rfl ?_
      refine gx_aload_n (pc := 5) dX10_knowersOf_5 rfl ?_
      refine m_getA (pc := 6) rfl fX10_13 rfl (by decide) dX10_knowersOf_6 ?_
      refine gx_iconst (pc := 9) (v := 0) dX10_knowersOf_9 (by decide) ?_
      refine m_iald (pc := 10) 10 (0) 8 rfl (by decide) rfl (by first | rfl | simp only [gx_lit, nI_add, pk_mul]) (by omega) (by decide) dX10_knowersOf_10 ?_
      refine gx_icmp_ge (pc := 11) 47 dX10_knowersOf_11 (by decide) (fun c1 => ?_) (fun c1 => ?_)
      · refine gx_iload_n (pc := 47) dX10_knowersOf_47 rfl ?_
        exact m_ret (pc := 48) rfl dX10_knowersOf_48 (⟨by rw [show p = P by omega], rfl⟩)
      · exact absurd (by rw [hP]; exact nI_le (by omega) (by omega)) c1
    | succ n ih =>
      intro p hp
      refine gx_iload_n (pc := 4) dX10_knowersOf_4 rfl ?_
      refine gx_aload_n (pc := 5) dX10_knowersOf_5 rfl ?_
      refine m_getA (pc := 6) rfl fX10_13 rfl (by decide) dX10_knowersOf_6 ?_
      refine gx_iconst (pc := 9) (v := 0) dX10_knowersOf_9 (by decide) ?_
      refine m_iald (pc := 10) 10 (0) 8 rfl (by decide) rfl (by first | rfl | simp only [gx_lit, nI_add, pk_mul]) (by omega) (by decide) dX10_knowersOf_10 ?_
      refine gx_icmp_ge (pc := 11) 47 dX10_knowersOf_11 (by decide) (fun c1 => ?_) (fun c1 => ?_)
      · exact absurd c1 (by rw [hP]; exact nI_ge (by omega) (by omega))
      · have K : ∀ r, r = zi (hs set (nI p) && decide (¬ σ.2.2.1 13 p = 3)) → gxV G mX10_knowersOf d 0 0 39 [some (.ref b), some (.int set), some (.int (spKn (fun p => decide (¬ σ.2.2.1 13 p = 3)) set p)), some (.int (nI p))] [.int r, .int (spKn (fun p => decide (¬ σ.2.2.1 13 p = 3)) set p)] (mput h b σ) (mQi h b (fun r σ' => r = spKn (fun p => decide (¬ σ.2.2.1 13 p = 3)) set P ∧ σ' = σ)) := by
          intro r hr
          refine gx_iadd (pc := 39) dX10_knowersOf_39 ?_
          refine gx_istore_n (pc := 40) dX10_knowersOf_40 (by decide) rfl ?_
          refine gx_iincc (pc := 41) (c := 1) dX10_knowersOf_41 rfl (by decide) (by decide) rfl ?_
          refine gx_goto (pc := 44) 4 dX10_knowersOf_44 (by decide) ?_
          rw [nI_1, hr]
          exact ih (p + 1) (by omega)
        refine gx_iload_n (pc := 14) dX10_knowersOf_14 rfl ?_
        refine gx_iload_n (pc := 15) dX10_knowersOf_15 rfl ?_
        refine gx_iload_n (pc := 16) dX10_knowersOf_16 rfl ?_
        refine gx_ishr (pc := 17) dX10_knowersOf_17 ?_
        refine gx_iconst (pc := 18) (v := 1) dX10_knowersOf_18 (by decide) ?_
        refine gx_iand (pc := 19) dX10_knowersOf_19 ?_
        refine gx_iconst (pc := 20) (v := 1) dX10_knowersOf_20 (by decide) ?_
        refine gx_icmp_ne (pc := 21) 38 dX10_knowersOf_21 (by decide) (fun c21 => ?_) (fun c21 => ?_)
        · refine gx_iconst (pc := 38) (v := 0) dX10_knowersOf_38 (by decide) ?_
          exact K _ (by simp_all [zi, hs])
        · refine gx_aload_n (pc := 24) dX10_knowersOf_24 rfl ?_
          refine m_getA (pc := 25) rfl fX10_23 rfl (by decide) dX10_knowersOf_25 ?_
          refine gx_iload_n (pc := 28) dX10_knowersOf_28 rfl ?_
          refine m_iald (pc := 29) 13 (p) 12 rfl (by decide) rfl (by first | rfl | simp only [gx_lit, nI_add, pk_mul]) (by omega) (by decide) dX10_knowersOf_29 ?_
          refine gx_iconst (pc := 30) (v := 3) dX10_knowersOf_30 (by decide) ?_
          refine gx_icmp_eq (pc := 31) 38 dX10_knowersOf_31 (by decide) (fun c31 => ?_) (fun c31 => ?_)
          · refine gx_iconst (pc := 38) (v := 0) dX10_knowersOf_38 (by decide) ?_
            exact K _ (by simp_all [zi, hs])
          · refine gx_iconst (pc := 34) (v := 1) dX10_knowersOf_34 (by decide) ?_
            refine gx_goto (pc := 35) 39 dX10_knowersOf_35 (by decide) ?_
            exact K _ (by simp_all [zi, hs])
  exact L P 0 (by omega)
theorem c_isPerson (P : Nat) (p : Int32) (hP : σ.2.2.1 10 0 = nI P) : mMi G mX10_isPerson d [.ref b, .int p] h b σ (fun r σ' => r = zi (decide (0 ≤ p) && decide (p < nI P)) ∧ σ' = σ) := by
  refine gxM_of rfl (Nat.le_of_ble_eq_true rfl) rfl ?_
  refine gx_iload_n (pc := 0) dX10_isPerson_0 rfl ?_
  refine gx_if_lt (pc := 1) 18 dX10_isPerson_1 (by decide) (fun c1 => ?_) (fun c1 => ?_)
  · refine gx_iconst (pc := 18) (v := 0) dX10_isPerson_18 (by decide) ?_
    exact m_retz (pc := 19) rfl (by decide) dX10_isPerson_19 (⟨by grind [zi], rfl⟩)
  · refine gx_iload_n (pc := 4) dX10_isPerson_4 rfl ?_
    refine gx_aload_n (pc := 5) dX10_isPerson_5 rfl ?_
    refine m_getA (pc := 6) rfl fX10_13 rfl (by decide) dX10_isPerson_6 ?_
    refine gx_iconst (pc := 9) (v := 0) dX10_isPerson_9 (by decide) ?_
    refine m_iald (pc := 10) 10 (0) 8 rfl (by decide) rfl (by first | rfl | simp only [gx_lit, nI_add, pk_mul]) (by omega) (by decide) dX10_isPerson_10 ?_
    refine gx_icmp_ge (pc := 11) 18 dX10_isPerson_11 (by decide) (fun c11 => ?_) (fun c11 => ?_)
    · refine gx_iconst (pc := 18) (v := 0) dX10_isPerson_18 (by decide) ?_
      exact m_retz (pc := 19) rfl (by decide) dX10_isPerson_19 (⟨by grind [zi], rfl⟩)
    · refine gx_iconst (pc := 14) (v := 1) dX10_isPerson_14 (by decide) ?_
      refine gx_goto (pc := 15) 19 dX10_isPerson_15 (by decide) ?_
      exact m_retz (pc := 19) rfl (by decide) dX10_isPerson_19 (⟨by grind [zi], rfl⟩)
theorem c_isSecret (S : Nat) (p : Int32) (hS : σ.2.2.1 10 1 = nI S) : mMi G mX10_isSecret d [.ref b, .int p] h b σ (fun r σ' => r = zi (decide (0 ≤ p) && decide (p < nI S)) ∧ σ' = σ) := by
  refine gxM_of rfl (Nat.le_of_ble_eq_true rfl) rfl ?_
  refine gx_iload_n (pc := 0) dX10_isSecret_0 rfl ?_
  refine gx_if_lt (pc := 1) 18 dX10_isSecret_1 (by decide) (fun c1 => ?_) (fun c1 => ?_)
  · refine gx_iconst (pc := 18) (v := 0) dX10_isSecret_18 (by decide) ?_
    exact m_retz (pc := 19) rfl (by decide) dX10_isSecret_19 (⟨by grind [zi], rfl⟩)
  · refine gx_iload_n (pc := 4) dX10_isSecret_4 rfl ?_
    refine gx_aload_n (pc := 5) dX10_isSecret_5 rfl ?_
    refine m_getA (pc := 6) rfl fX10_13 rfl (by decide) dX10_isSecret_6 ?_
    refine gx_iconst (pc := 9) (v := 1) dX10_isSecret_9 (by decide) ?_
    refine m_iald (pc := 10) 10 (1) 8 rfl (by decide) rfl (by first | rfl | simp only [gx_lit, nI_add, pk_mul]) (by omega) (by decide) dX10_isSecret_10 ?_
    refine gx_icmp_ge (pc := 11) 18 dX10_isSecret_11 (by decide) (fun c11 => ?_) (fun c11 => ?_)
    · refine gx_iconst (pc := 18) (v := 0) dX10_isSecret_18 (by decide) ?_
      exact m_retz (pc := 19) rfl (by decide) dX10_isSecret_19 (⟨by grind [zi], rfl⟩)
    · refine gx_iconst (pc := 14) (v := 1) dX10_isSecret_14 (by decide) ?_
      refine gx_goto (pc := 15) 19 dX10_isSecret_15 (by decide) ?_
      exact m_retz (pc := 19) rfl (by decide) dX10_isSecret_19 (⟨by grind [zi], rfl⟩)
def spSpeaks (A : Nat → Nat → Int32) (p : Nat) : Bool := !(decide (A 13 p = 2) || decide (A 13 p = 3))
theorem c_speaks (p : Nat) (hp : p < 6) : mMi G mX10_speaks d [.ref b, .int (nI p)] h b σ (fun r σ' => r = zi (spSpeaks σ.2.2.1 p) ∧ σ' = σ) := by
  refine gxM_of rfl (Nat.le_of_ble_eq_true rfl) rfl ?_
  refine gx_aload_n (pc := 0) dX10_speaks_0 rfl ?_
  refine m_getA (pc := 1) rfl fX10_23 rfl (by decide) dX10_speaks_1 ?_
  refine gx_iload_n (pc := 4) dX10_speaks_4 rfl ?_
  refine m_iald (pc := 5) 13 (p) 12 rfl (by decide) rfl (by first | rfl | simp only [gx_lit, nI_add, pk_mul]) (by omega) (by decide) dX10_speaks_5 ?_
  refine gx_iconst (pc := 6) (v := 2) dX10_speaks_6 (by decide) ?_
  refine gx_icmp_eq (pc := 7) 24 dX10_speaks_7 (by decide) (fun c7 => ?_) (fun c7 => ?_)
  · refine gx_iconst (pc := 24) (v := 0) dX10_speaks_24 (by decide) ?_
    exact m_retz (pc := 25) rfl (by decide) dX10_speaks_25 (⟨by simp_all [zi, spSpeaks], rfl⟩)
  · refine gx_aload_n (pc := 10) dX10_speaks_10 rfl ?_
    refine m_getA (pc := 11) rfl fX10_23 rfl (by decide) dX10_speaks_11 ?_
    refine gx_iload_n (pc := 14) dX10_speaks_14 rfl ?_
    refine m_iald (pc := 15) 13 (p) 12 rfl (by decide) rfl (by first | rfl | simp only [gx_lit, nI_add, pk_mul]) (by omega) (by decide) dX10_speaks_15 ?_
    refine gx_iconst (pc := 16) (v := 3) dX10_speaks_16 (by decide) ?_
    refine gx_icmp_eq (pc := 17) 24 dX10_speaks_17 (by decide) (fun c17 => ?_) (fun c17 => ?_)
    · refine gx_iconst (pc := 24) (v := 0) dX10_speaks_24 (by decide) ?_
      exact m_retz (pc := 25) rfl (by decide) dX10_speaks_25 (⟨by simp_all [zi, spSpeaks], rfl⟩)
    · refine gx_iconst (pc := 20) (v := 1) dX10_speaks_20 (by decide) ?_
      refine gx_goto (pc := 21) 25 dX10_speaks_21 (by decide) ?_
      exact m_retz (pc := 25) rfl (by decide) dX10_speaks_25 (⟨by simp_all [zi, spSpeaks], rfl⟩)
def spChance (A : Nat → Nat → Int32) (k : Nat) : Int32 := spMin 10 (A 24 k + zi (decide (A 13 (A 22 k).toNatClampNeg = 1)))
theorem c_chanceOf (hd : 1 ≤ d) (k f : Nat) (hk : k < 30) (hf : f < 6) (e : σ.2.2.1 22 k = nI f) : mMi G mX10_chanceOf d [.ref b, .int (nI k)] h b σ (fun r σ' => r = spChance σ.2.2.1 k ∧ σ' = σ) := by
  refine gxM_of rfl (Nat.le_of_ble_eq_true rfl) rfl ?_
  have K : ∀ r, r = zi (decide (σ.2.2.1 13 f = 1)) → gxV G mX10_chanceOf d 0 0 28 [some (.ref b), some (.int (nI k))] [.int r, .int (σ.2.2.1 24 k), .int 10] (mput h b σ) (mQi h b (fun r σ' => r = spChance σ.2.2.1 k ∧ σ' = σ)) := by
    intro r hr
    refine gx_iadd (pc := 28) dX10_chanceOf_28 ?_
    refine kX10_451 (pc := 29) rfl (c_min (d := d - 1) _ _) (by omega) (Nat.le_of_ble_eq_true rfl) dX10_chanceOf_29 (fun r1 σ1 h1 => ?_)
    obtain ⟨rfl, rfl⟩ := h1
    exact m_ret (pc := 32) rfl dX10_chanceOf_32 (⟨by rw [hr, spChance, e, nI_clamp (by omega)], rfl⟩)
  refine gx_bipush (pc := 0) (v := 10) dX10_chanceOf_0 (by decide) ?_
  refine gx_aload_n (pc := 2) dX10_chanceOf_2 rfl ?_
  refine m_getA (pc := 3) rfl fX10_56 rfl (by decide) dX10_chanceOf_3 ?_
  refine gx_iload_n (pc := 6) dX10_chanceOf_6 rfl ?_
  refine m_iald (pc := 7) 24 (k) 60 rfl (by decide) rfl (by first | rfl | simp only [gx_lit, nI_add, pk_mul]) (by omega) (by decide) dX10_chanceOf_7 ?_
  refine gx_aload_n (pc := 8) dX10_chanceOf_8 rfl ?_
  refine m_getA (pc := 9) rfl fX10_23 rfl (by decide) dX10_chanceOf_9 ?_
  refine gx_aload_n (pc := 12) dX10_chanceOf_12 rfl ?_
  refine m_getA (pc := 13) rfl fX10_50 rfl (by decide) dX10_chanceOf_13 ?_
  refine gx_iload_n (pc := 16) dX10_chanceOf_16 rfl ?_
  refine m_iald (pc := 17) 22 (k) 60 rfl (by decide) rfl (by first | rfl | simp only [gx_lit, nI_add, pk_mul]) (by omega) (by decide) dX10_chanceOf_17 ?_
  refine m_iald (pc := 18) 13 (f) 12 rfl (by decide) rfl (e) (by omega) (by decide) dX10_chanceOf_18 ?_
  refine gx_iconst (pc := 19) (v := 1) dX10_chanceOf_19 (by decide) ?_
  refine gx_icmp_ne (pc := 20) 27 dX10_chanceOf_20 (by decide) (fun c20 => ?_) (fun c20 => ?_)
  · refine gx_iconst (pc := 27) (v := 0) dX10_chanceOf_27 (by decide) ?_
    exact K _ (by simp_all [zi])
  · refine gx_iconst (pc := 23) (v := 1) dX10_chanceOf_23 (by decide) ?_
    refine gx_goto (pc := 24) 28 dX10_chanceOf_24 (by decide) ?_
    exact K _ (by simp_all [zi])
end MA
