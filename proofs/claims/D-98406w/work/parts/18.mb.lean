/-! ===== MODEL B: the worth of an expression by its codes ===== -/
set_option maxRecDepth 100000
def mSA (σ : mS) (A : Nat → Nat → Int32) : mS := (σ.1, σ.2.1, A, σ.2.2.2)
def upA (A : Nat → Nat → Int32) (j k : Nat) (v : Int32) : Nat → Nat → Int32 := fun q => if q = j then upd (A j) k v else A q
def opensA (A : Nat → Nat → Int32) (d : Nat) : Nat → Nat → Int32 := upA (upA (upA (upA (upA A 32 d 0) 34 d 0) 35 d 0) 36 d 20) 38 d 0
def sumsA (A : Nat → Nat → Int32) (d : Nat) : Nat → Nat → Int32 := upA (upA A 35 d (if A 36 d = 21 then A 35 d - A 37 d else A 35 d + A 37 d)) 38 d 0
def tt1 (A : Nat → Nat → Int32) (d : Nat) : Int32 := if A 34 d = 24 then zi (decide (A 33 d < A 35 d)) else A 35 d
def tt2 (A : Nat → Nat → Int32) (d : Nat) : Int32 := if A 34 d = 25 then zi (decide (A 33 d = A 35 d)) else tt1 A d
def tt3 (A : Nat → Nat → Int32) (d : Nat) : Int32 := if A 32 d = 26 then zi (!decide (A 31 d = 0) && !decide (tt2 A d = 0)) else tt2 A d
def tt4 (A : Nat → Nat → Int32) (d : Nat) : Int32 := if A 32 d = 27 then zi (!decide (A 31 d = 0) || !decide (tt3 A d = 0)) else tt3 A d
def tests1A (A : Nat → Nat → Int32) (d : Nat) : Nat → Nat → Int32 := upA (upA (upA (upA A 31 d (tt4 A d)) 34 d 0) 35 d 0) 36 d 20
def testsA (A : Nat → Nat → Int32) (d : Nat) : Nat → Nat → Int32 := tests1A (sumsA A d) d
def popN (A : Nat → Nat → Int32) : Nat → Int32 → Int32 × Nat
  | 0, v => (v, 0)
  | d + 1, v => if A 39 (d + 1) = 1 then popN A d (zi (decide (v = 0))) else (v, d + 1)
def putN (A : Nat → Nat → Int32) (q : Int32 × Nat) : (Nat → Nat → Int32) × Nat := (upA A 37 q.2 (if A 38 q.2 = 0 then q.1 else A 37 q.2 * q.1), q.2)
def stepA (q : (Nat → Nat → Int32) × Nat) (c : Int32) : (Nat → Nat → Int32) × Nat :=
  if c = 28 ∨ c = 30 then (opensA (upA q.1 39 (q.2 + 1) (zi (decide (c = 30)))) (q.2 + 1), q.2 + 1)
  else if c = 20 ∨ c = 21 then (upA (sumsA q.1 q.2) 36 q.2 c, q.2)
  else if c = 22 then (upA q.1 38 q.2 c, q.2)
  else if c = 24 ∨ c = 25 then (upA (upA (upA (upA (sumsA q.1 q.2) 33 q.2 (sumsA q.1 q.2 35 q.2)) 34 q.2 c) 35 q.2 0) 36 q.2 20, q.2)
  else if c = 26 ∨ c = 27 then (upA (testsA q.1 q.2) 32 q.2 c, q.2)
  else if c = 29 then putN (testsA q.1 q.2) (popN (testsA q.1 q.2) (q.2 - 1) (testsA q.1 q.2 31 q.2))
  else putN q.1 (popN q.1 q.2 (if 100 ≤ c then c - 100 else if c < 20 then q.1 40 c.toNatClampNeg else 0))
/-- the run stays within the seven depths -/
def okRun : (Nat → Nat → Int32) × Nat → List Int32 → Prop
  | q, [] => q.2 ≤ 6
  | q, c :: l => (q.2 ≤ 6 ∧ (c = 28 ∨ c = 30 → q.2 + 1 ≤ 6) ∧ (c = 29 → 1 ≤ q.2) ∧ 0 ≤ c) ∧ okRun (stepA q c) l
def spWk (A : Nat → Nat → Int32) (l : List Int32) : Nat → Nat → Int32 := testsA (l.foldl stepA (opensA A 0, 0)).1 0
section MB
variable {G : gxG} {d : Nat} {h : gxH} {b : Nat} {σ : mS}
theorem c_opens (hb : gxN G ≤ b) (k : Nat) (hk : k < 7) : mMv G mX10_opens d [.ref b, .int (nI k)] h b σ (fun σ' => σ' = mSA σ (opensA σ.2.2.1 k)) := by
  refine gxM_of rfl (Nat.le_of_ble_eq_true rfl) rfl ?_
  refine gx_aload_n (pc := 0) dX10_opens_0 rfl ?_
  refine m_getA (pc := 1) rfl fX10_78 rfl (by decide) dX10_opens_1 ?_
  refine gx_iload_n (pc := 4) dX10_opens_4 rfl ?_
  refine gx_iconst (pc := 5) (v := 0) dX10_opens_5 (by decide) ?_
  refine m_iast (pc := 6) hb 32 (k) 7 rfl (by decide) rfl (by first | rfl | simp only [gx_lit, nI_add, pk_mul]) (by omega) (by decide) dX10_opens_6 ?_
  refine gx_aload_n (pc := 7) dX10_opens_7 rfl ?_
  refine m_getA (pc := 8) rfl fX10_84 rfl (by decide) dX10_opens_8 ?_
  refine gx_iload_n (pc := 11) dX10_opens_11 rfl ?_
  refine gx_iconst (pc := 12) (v := 0) dX10_opens_12 (by decide) ?_
  refine m_iast (pc := 13) hb 34 (k) 7 rfl (by decide) rfl (by first | rfl | simp only [gx_lit, nI_add, pk_mul]) (by omega) (by decide) dX10_opens_13 ?_
  refine gx_aload_n (pc := 14) dX10_opens_14 rfl ?_
  refine m_getA (pc := 15) rfl fX10_87 rfl (by decide) dX10_opens_15 ?_
  refine gx_iload_n (pc := 18) dX10_opens_18 rfl ?_
  refine gx_iconst (pc := 19) (v := 0) dX10_opens_19 (by decide) ?_
  refine m_iast (pc := 20) hb 35 (k) 7 rfl (by decide) rfl (by first | rfl | simp only [gx_lit, nI_add, pk_mul]) (by omega) (by decide) dX10_opens_20 ?_
  refine gx_aload_n (pc := 21) dX10_opens_21 rfl ?_
  refine m_getA (pc := 22) rfl fX10_90 rfl (by decide) dX10_opens_22 ?_
  refine gx_iload_n (pc := 25) dX10_opens_25 rfl ?_
  refine gx_bipush (pc := 26) (v := 20) dX10_opens_26 (by decide) ?_
  refine m_iast (pc := 28) hb 36 (k) 7 rfl (by decide) rfl (by first | rfl | simp only [gx_lit, nI_add, pk_mul]) (by omega) (by decide) dX10_opens_28 ?_
  refine gx_aload_n (pc := 29) dX10_opens_29 rfl ?_
  refine m_getA (pc := 30) rfl fX10_96 rfl (by decide) dX10_opens_30 ?_
  refine gx_iload_n (pc := 33) dX10_opens_33 rfl ?_
  refine gx_iconst (pc := 34) (v := 0) dX10_opens_34 (by decide) ?_
  refine m_iast (pc := 35) hb 38 (k) 7 rfl (by decide) rfl (by first | rfl | simp only [gx_lit, nI_add, pk_mul]) (by omega) (by decide) dX10_opens_35 ?_
  exact m_retv (pc := 36) rfl dX10_opens_36 (rfl)
theorem c_sums (hb : gxN G ≤ b) (k : Nat) (hk : k < 7) : mMv G mX10_sums d [.ref b, .int (nI k)] h b σ (fun σ' => σ' = mSA σ (sumsA σ.2.2.1 k)) := by
  refine gxM_of rfl (Nat.le_of_ble_eq_true rfl) rfl ?_
  have K : ∀ r, r = (if σ.2.2.1 36 k = 21 then σ.2.2.1 35 k - σ.2.2.1 37 k else σ.2.2.1 35 k + σ.2.2.1 37 k) → gxV G mX10_sums d 0 0 45 [some (.ref b), some (.int (nI k))] [.int r, .int (nI k), .ref (b + moff 35)] (mput h b σ) (mQv h b (fun σ' => σ' = mSA σ (sumsA σ.2.2.1 k))) := by
    intro r hr
    subst hr
    refine m_iast (pc := 45) hb 35 (k) 7 rfl (by decide) rfl (by first | rfl | simp only [gx_lit, nI_add, pk_mul]) (by omega) (by decide) dX10_sums_45 ?_
    refine gx_aload_n (pc := 46) dX10_sums_46 rfl ?_
    refine m_getA (pc := 47) rfl fX10_96 rfl (by decide) dX10_sums_47 ?_
    refine gx_iload_n (pc := 50) dX10_sums_50 rfl ?_
    refine gx_iconst (pc := 51) (v := 0) dX10_sums_51 (by decide) ?_
    refine m_iast (pc := 52) hb 38 (k) 7 rfl (by decide) rfl (by first | rfl | simp only [gx_lit, nI_add, pk_mul]) (by omega) (by decide) dX10_sums_52 ?_
    exact m_retv (pc := 53) rfl dX10_sums_53 (rfl)
  refine gx_aload_n (pc := 0) dX10_sums_0 rfl ?_
  refine m_getA (pc := 1) rfl fX10_87 rfl (by decide) dX10_sums_1 ?_
  refine gx_iload_n (pc := 4) dX10_sums_4 rfl ?_
  refine gx_aload_n (pc := 5) dX10_sums_5 rfl ?_
  refine m_getA (pc := 6) rfl fX10_90 rfl (by decide) dX10_sums_6 ?_
  refine gx_iload_n (pc := 9) dX10_sums_9 rfl ?_
  refine m_iald (pc := 10) 36 (k) 7 rfl (by decide) rfl (by first | rfl | simp only [gx_lit, nI_add, pk_mul]) (by omega) (by decide) dX10_sums_10 ?_
  refine gx_bipush (pc := 11) (v := 21) dX10_sums_11 (by decide) ?_
  refine gx_icmp_ne (pc := 13) 32 dX10_sums_13 (by decide) (fun c13 => ?_) (fun c13 => ?_)
  · refine gx_aload_n (pc := 32) dX10_sums_32 rfl ?_
    refine m_getA (pc := 33) rfl fX10_87 rfl (by decide) dX10_sums_33 ?_
    refine gx_iload_n (pc := 36) dX10_sums_36 rfl ?_
    refine m_iald (pc := 37) 35 (k) 7 rfl (by decide) rfl (by first | rfl | simp only [gx_lit, nI_add, pk_mul]) (by omega) (by decide) dX10_sums_37 ?_
    refine gx_aload_n (pc := 38) dX10_sums_38 rfl ?_
    refine m_getA (pc := 39) rfl fX10_93 rfl (by decide) dX10_sums_39 ?_
    refine gx_iload_n (pc := 42) dX10_sums_42 rfl ?_
    refine m_iald (pc := 43) 37 (k) 7 rfl (by decide) rfl (by first | rfl | simp only [gx_lit, nI_add, pk_mul]) (by omega) (by decide) dX10_sums_43 ?_
    refine gx_iadd (pc := 44) dX10_sums_44 ?_
    exact K _ (by simp_all)
  · refine gx_aload_n (pc := 16) dX10_sums_16 rfl ?_
    refine m_getA (pc := 17) rfl fX10_87 rfl (by decide) dX10_sums_17 ?_
    refine gx_iload_n (pc := 20) dX10_sums_20 rfl ?_
    refine m_iald (pc := 21) 35 (k) 7 rfl (by decide) rfl (by first | rfl | simp only [gx_lit, nI_add, pk_mul]) (by omega) (by decide) dX10_sums_21 ?_
    refine gx_aload_n (pc := 22) dX10_sums_22 rfl ?_
    refine m_getA (pc := 23) rfl fX10_93 rfl (by decide) dX10_sums_23 ?_
    refine gx_iload_n (pc := 26) dX10_sums_26 rfl ?_
    refine m_iald (pc := 27) 37 (k) 7 rfl (by decide) rfl (by first | rfl | simp only [gx_lit, nI_add, pk_mul]) (by omega) (by decide) dX10_sums_27 ?_
    refine gx_isub (pc := 28) dX10_sums_28 ?_
    refine gx_goto (pc := 29) 45 dX10_sums_29 (by decide) ?_
    exact K _ (by simp_all)
theorem c_tests (hb : gxN G ≤ b) (hd : 1 ≤ d) (k : Nat) (hk : k < 7) : mMv G mX10_tests d [.ref b, .int (nI k)] h b σ (fun σ' => σ' = mSA σ (testsA σ.2.2.1 k)) := by
  refine gxM_of rfl (Nat.le_of_ble_eq_true rfl) rfl ?_
  refine gx_aload_n (pc := 0) dX10_tests_0 rfl ?_
  refine gx_iload_n (pc := 1) dX10_tests_1 rfl ?_
  refine kX10_253 (pc := 2) rfl (c_sums (d := d - 1) hb k hk) (by omega) (Nat.le_of_ble_eq_true rfl) dX10_tests_2 (fun σ1 h1 => ?_)
  refine gx_aload_n (pc := 5) dX10_tests_5 rfl ?_
  refine m_getA (pc := 6) rfl fX10_87 rfl (by decide) dX10_tests_6 ?_
  refine gx_iload_n (pc := 9) dX10_tests_9 rfl ?_
  refine m_iald (pc := 10) 35 (k) 7 rfl (by decide) rfl (by first | rfl | simp only [gx_lit, nI_add, pk_mul]) (by omega) (by decide) dX10_tests_10 ?_
  refine gx_istore_n (pc := 11) dX10_tests_11 (by decide) rfl ?_
  subst h1
  unfold testsA
  generalize sumsA σ.2.2.1 k = A
  have K4 : ∀ v, v = tt4 A k → gxV G mX10_tests d 0 0 136 [some (.ref b), some (.int (nI k)), some (.int v)] [] (mput h b (mSA σ A)) (mQv h b (fun σ' => σ' = mSA σ (tests1A A k))) := by
    intro v hv
    subst hv
    refine gx_aload_n (pc := 136) dX10_tests_136 rfl ?_
    refine m_getA (pc := 137) rfl fX10_75 rfl (by decide) dX10_tests_137 ?_
    refine gx_iload_n (pc := 140) dX10_tests_140 rfl ?_
    refine gx_iload_n (pc := 141) dX10_tests_141 rfl ?_
    refine m_iast (pc := 142) hb 31 (k) 7 rfl (by decide) rfl (by first | rfl | simp only [gx_lit, nI_add, pk_mul]) (by omega) (by decide) dX10_tests_142 ?_
    refine gx_aload_n (pc := 143) dX10_tests_143 rfl ?_
    refine m_getA (pc := 144) rfl fX10_84 rfl (by decide) dX10_tests_144 ?_
    refine gx_iload_n (pc := 147) dX10_tests_147 rfl ?_
    refine gx_iconst (pc := 148) (v := 0) dX10_tests_148 (by decide) ?_
    refine m_iast (pc := 149) hb 34 (k) 7 rfl (by decide) rfl (by first | rfl | simp only [gx_lit, nI_add, pk_mul]) (by omega) (by decide) dX10_tests_149 ?_
    refine gx_aload_n (pc := 150) dX10_tests_150 rfl ?_
    refine m_getA (pc := 151) rfl fX10_87 rfl (by decide) dX10_tests_151 ?_
    refine gx_iload_n (pc := 154) dX10_tests_154 rfl ?_
    refine gx_iconst (pc := 155) (v := 0) dX10_tests_155 (by decide) ?_
    refine m_iast (pc := 156) hb 35 (k) 7 rfl (by decide) rfl (by first | rfl | simp only [gx_lit, nI_add, pk_mul]) (by omega) (by decide) dX10_tests_156 ?_
    refine gx_aload_n (pc := 157) dX10_tests_157 rfl ?_
    refine m_getA (pc := 158) rfl fX10_90 rfl (by decide) dX10_tests_158 ?_
    refine gx_iload_n (pc := 161) dX10_tests_161 rfl ?_
    refine gx_bipush (pc := 162) (v := 20) dX10_tests_162 (by decide) ?_
    refine m_iast (pc := 164) hb 36 (k) 7 rfl (by decide) rfl (by first | rfl | simp only [gx_lit, nI_add, pk_mul]) (by omega) (by decide) dX10_tests_164 ?_
    exact m_retv (pc := 165) rfl dX10_tests_165 (rfl)
  have K3 : ∀ v, v = tt3 A k → gxV G mX10_tests d 0 0 106 [some (.ref b), some (.int (nI k)), some (.int v)] [] (mput h b (mSA σ A)) (mQv h b (fun σ' => σ' = mSA σ (tests1A A k))) := by
    intro v hv
    refine gx_aload_n (pc := 106) dX10_tests_106 rfl ?_
    refine m_getA (pc := 107) rfl fX10_78 rfl (by decide) dX10_tests_107 ?_
    refine gx_iload_n (pc := 110) dX10_tests_110 rfl ?_
    refine m_iald (pc := 111) 32 (k) 7 rfl (by decide) rfl (by first | rfl | simp only [gx_lit, nI_add, pk_mul]) (by omega) (by decide) dX10_tests_111 ?_
    refine gx_bipush (pc := 112) (v := 27) dX10_tests_112 (by decide) ?_
    refine gx_icmp_ne (pc := 114) 136 dX10_tests_114 (by decide) (fun c114 => ?_) (fun c114 => ?_)
    · exact K4 _ (by simp_all [tt4, zi, mSA])
    · refine gx_aload_n (pc := 117) dX10_tests_117 rfl ?_
      refine m_getA (pc := 118) rfl fX10_75 rfl (by decide) dX10_tests_118 ?_
      refine gx_iload_n (pc := 121) dX10_tests_121 rfl ?_
      refine m_iald (pc := 122) 31 (k) 7 rfl (by decide) rfl (by first | rfl | simp only [gx_lit, nI_add, pk_mul]) (by omega) (by decide) dX10_tests_122 ?_
      refine gx_if_ne (pc := 123) 130 dX10_tests_123 (by decide) (fun c123 => ?_) (fun c123 => ?_)
      · refine gx_iconst (pc := 130) (v := 1) dX10_tests_130 (by decide) ?_
        refine gx_goto (pc := 131) 135 dX10_tests_131 (by decide) ?_
        refine gx_istore_n (pc := 135) dX10_tests_135 (by decide) rfl ?_
        exact K4 _ (by simp_all [tt4, zi, mSA])
      · refine gx_iload_n (pc := 126) dX10_tests_126 rfl ?_
        refine gx_if_eq (pc := 127) 134 dX10_tests_127 (by decide) (fun c127 => ?_) (fun c127 => ?_)
        · refine gx_iconst (pc := 134) (v := 0) dX10_tests_134 (by decide) ?_
          refine gx_istore_n (pc := 135) dX10_tests_135 (by decide) rfl ?_
          exact K4 _ (by simp_all [tt4, zi, mSA])
        · refine gx_iconst (pc := 130) (v := 1) dX10_tests_130 (by decide) ?_
          refine gx_goto (pc := 131) 135 dX10_tests_131 (by decide) ?_
          refine gx_istore_n (pc := 135) dX10_tests_135 (by decide) rfl ?_
          exact K4 _ (by simp_all [tt4, zi, mSA])
  have K2 : ∀ v, v = tt2 A k → gxV G mX10_tests d 0 0 76 [some (.ref b), some (.int (nI k)), some (.int v)] [] (mput h b (mSA σ A)) (mQv h b (fun σ' => σ' = mSA σ (tests1A A k))) := by
    intro v hv
    refine gx_aload_n (pc := 76) dX10_tests_76 rfl ?_
    refine m_getA (pc := 77) rfl fX10_78 rfl (by decide) dX10_tests_77 ?_
    refine gx_iload_n (pc := 80) dX10_tests_80 rfl ?_
    refine m_iald (pc := 81) 32 (k) 7 rfl (by decide) rfl (by first | rfl | simp only [gx_lit, nI_add, pk_mul]) (by omega) (by decide) dX10_tests_81 ?_
    refine gx_bipush (pc := 82) (v := 26) dX10_tests_82 (by decide) ?_
    refine gx_icmp_ne (pc := 84) 106 dX10_tests_84 (by decide) (fun c84 => ?_) (fun c84 => ?_)
    · exact K3 _ (by simp_all [tt3, zi, mSA])
    · refine gx_aload_n (pc := 87) dX10_tests_87 rfl ?_
      refine m_getA (pc := 88) rfl fX10_75 rfl (by decide) dX10_tests_88 ?_
      refine gx_iload_n (pc := 91) dX10_tests_91 rfl ?_
      refine m_iald (pc := 92) 31 (k) 7 rfl (by decide) rfl (by first | rfl | simp only [gx_lit, nI_add, pk_mul]) (by omega) (by decide) dX10_tests_92 ?_
      refine gx_if_eq (pc := 93) 104 dX10_tests_93 (by decide) (fun c93 => ?_) (fun c93 => ?_)
      · refine gx_iconst (pc := 104) (v := 0) dX10_tests_104 (by decide) ?_
        refine gx_istore_n (pc := 105) dX10_tests_105 (by decide) rfl ?_
        exact K3 _ (by simp_all [tt3, zi, mSA])
      · refine gx_iload_n (pc := 96) dX10_tests_96 rfl ?_
        refine gx_if_eq (pc := 97) 104 dX10_tests_97 (by decide) (fun c97 => ?_) (fun c97 => ?_)
        · refine gx_iconst (pc := 104) (v := 0) dX10_tests_104 (by decide) ?_
          refine gx_istore_n (pc := 105) dX10_tests_105 (by decide) rfl ?_
          exact K3 _ (by simp_all [tt3, zi, mSA])
        · refine gx_iconst (pc := 100) (v := 1) dX10_tests_100 (by decide) ?_
          refine gx_goto (pc := 101) 105 dX10_tests_101 (by decide) ?_
          refine gx_istore_n (pc := 105) dX10_tests_105 (by decide) rfl ?_
          exact K3 _ (by simp_all [tt3, zi, mSA])
  have K1 : ∀ v, v = tt1 A k → gxV G mX10_tests d 0 0 44 [some (.ref b), some (.int (nI k)), some (.int v)] [] (mput h b (mSA σ A)) (mQv h b (fun σ' => σ' = mSA σ (tests1A A k))) := by
    intro v hv
    refine gx_aload_n (pc := 44) dX10_tests_44 rfl ?_
    refine m_getA (pc := 45) rfl fX10_84 rfl (by decide) dX10_tests_45 ?_
    refine gx_iload_n (pc := 48) dX10_tests_48 rfl ?_
    refine m_iald (pc := 49) 34 (k) 7 rfl (by decide) rfl (by first | rfl | simp only [gx_lit, nI_add, pk_mul]) (by omega) (by decide) dX10_tests_49 ?_
    refine gx_bipush (pc := 50) (v := 25) dX10_tests_50 (by decide) ?_
    refine gx_icmp_ne (pc := 52) 76 dX10_tests_52 (by decide) (fun c52 => ?_) (fun c52 => ?_)
    · exact K2 _ (by simp_all [tt2, zi, mSA])
    · refine gx_aload_n (pc := 55) dX10_tests_55 rfl ?_
      refine m_getA (pc := 56) rfl fX10_81 rfl (by decide) dX10_tests_56 ?_
      refine gx_iload_n (pc := 59) dX10_tests_59 rfl ?_
      refine m_iald (pc := 60) 33 (k) 7 rfl (by decide) rfl (by first | rfl | simp only [gx_lit, nI_add, pk_mul]) (by omega) (by decide) dX10_tests_60 ?_
      refine gx_aload_n (pc := 61) dX10_tests_61 rfl ?_
      refine m_getA (pc := 62) rfl fX10_87 rfl (by decide) dX10_tests_62 ?_
      refine gx_iload_n (pc := 65) dX10_tests_65 rfl ?_
      refine m_iald (pc := 66) 35 (k) 7 rfl (by decide) rfl (by first | rfl | simp only [gx_lit, nI_add, pk_mul]) (by omega) (by decide) dX10_tests_66 ?_
      refine gx_icmp_ne (pc := 67) 74 dX10_tests_67 (by decide) (fun c67 => ?_) (fun c67 => ?_)
      · refine gx_iconst (pc := 74) (v := 0) dX10_tests_74 (by decide) ?_
        refine gx_istore_n (pc := 75) dX10_tests_75 (by decide) rfl ?_
        exact K2 _ (by simp_all [tt2, zi, mSA])
      · refine gx_iconst (pc := 70) (v := 1) dX10_tests_70 (by decide) ?_
        refine gx_goto (pc := 71) 75 dX10_tests_71 (by decide) ?_
        refine gx_istore_n (pc := 75) dX10_tests_75 (by decide) rfl ?_
        exact K2 _ (by simp_all [tt2, zi, mSA])
  refine gx_aload_n (pc := 12) dX10_tests_12 rfl ?_
  refine m_getA (pc := 13) rfl fX10_84 rfl (by decide) dX10_tests_13 ?_
  refine gx_iload_n (pc := 16) dX10_tests_16 rfl ?_
  refine m_iald (pc := 17) 34 (k) 7 rfl (by decide) rfl (by first | rfl | simp only [gx_lit, nI_add, pk_mul]) (by omega) (by decide) dX10_tests_17 ?_
  refine gx_bipush (pc := 18) (v := 24) dX10_tests_18 (by decide) ?_
  refine gx_icmp_ne (pc := 20) 44 dX10_tests_20 (by decide) (fun c20 => ?_) (fun c20 => ?_)
  · exact K1 _ (by simp_all [tt1, zi, mSA])
  · refine gx_aload_n (pc := 23) dX10_tests_23 rfl ?_
    refine m_getA (pc := 24) rfl fX10_81 rfl (by decide) dX10_tests_24 ?_
    refine gx_iload_n (pc := 27) dX10_tests_27 rfl ?_
    refine m_iald (pc := 28) 33 (k) 7 rfl (by decide) rfl (by first | rfl | simp only [gx_lit, nI_add, pk_mul]) (by omega) (by decide) dX10_tests_28 ?_
    refine gx_aload_n (pc := 29) dX10_tests_29 rfl ?_
    refine m_getA (pc := 30) rfl fX10_87 rfl (by decide) dX10_tests_30 ?_
    refine gx_iload_n (pc := 33) dX10_tests_33 rfl ?_
    refine m_iald (pc := 34) 35 (k) 7 rfl (by decide) rfl (by first | rfl | simp only [gx_lit, nI_add, pk_mul]) (by omega) (by decide) dX10_tests_34 ?_
    refine gx_icmp_ge (pc := 35) 42 dX10_tests_35 (by decide) (fun c35 => ?_) (fun c35 => ?_)
    · refine gx_iconst (pc := 42) (v := 0) dX10_tests_42 (by decide) ?_
      refine gx_istore_n (pc := 43) dX10_tests_43 (by decide) rfl ?_
      exact K1 _ (by simp_all [tt1, zi, mSA])
    · refine gx_iconst (pc := 38) (v := 1) dX10_tests_38 (by decide) ?_
      refine gx_goto (pc := 39) 43 dX10_tests_39 (by decide) ?_
      refine gx_istore_n (pc := 43) dX10_tests_43 (by decide) rfl ?_
      exact K1 _ (by simp_all [tt1, zi, mSA])
end MB
