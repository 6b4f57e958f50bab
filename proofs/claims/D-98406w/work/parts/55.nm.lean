/-! ===== MODEL NM: a town laid ===== -/
set_option maxRecDepth 100000
theorem mvF_0 (f : Nat → Int32) (n : Nat) : mvF f n 0 = f := by funext k; simp [mvF]
theorem mvF_s (f : Nat → Int32) (n m : Nat) (hm : m < n) : upd (mvF f n m) m (mvF f n m (n + m)) = mvF f n (m + 1) := by
  funext k
  by_cases hk : k = m
  · subst hk
    simp only [upd, mvF, if_true]
    rw [if_neg (by omega), if_pos (by omega)]
  · simp only [upd, mvF, if_neg hk]
    by_cases h1 : k < m
    · rw [if_pos h1, if_pos (by omega)]
    · rw [if_neg h1, if_neg (by omega)]
theorem mvG_0 (f : Nat → Int64) (n : Nat) : mvG f n 0 = f := by funext k; simp [mvG]
theorem mvG_s (f : Nat → Int64) (n m : Nat) (hm : m < n) : vp_updL (mvG f n m) m (mvG f n m (n + m)) = mvG f n (m + 1) := by
  funext k
  by_cases hk : k = m
  · subst hk
    simp only [vp_updL, mvG, if_true]
    rw [if_neg (by omega), if_pos (by omega)]
  · simp only [vp_updL, mvG, if_neg hk]
    by_cases h1 : k < m
    · rw [if_pos h1, if_pos (by omega)]
    · rw [if_neg h1, if_neg (by omega)]
theorem setK_self (L : Nat → Nat → Int64) (j : Nat) : setK L j (L j) = L := by
  funext q; by_cases h : q = j <;> simp [setK, h]
theorem mSL_A (σ : mS) (L : Nat → Nat → Int64) : (mSL σ L).2.2.1 = σ.2.2.1 := rfl
theorem mSL_L (σ : mS) (L : Nat → Nat → Int64) : (mSL σ L).2.2.2 = L := rfl
theorem mSA_L (σ : mS) (A : Nat → Nat → Int32) : (mSA σ A).2.2.2 = σ.2.2.2 := rfl
theorem mSA_SL (σ : mS) (L : Nat → Nat → Int64) (A : Nat → Nat → Int32) : mSA (mSL σ L) A = mSL (mSA σ A) L := rfl
theorem mSL_SL (σ : mS) (L M : Nat → Nat → Int64) : mSL (mSL σ L) M = mSL σ M := rfl
theorem lay0_25 (A : Nat → Nat → Int32) : lay0 A 25 = A 25 := by simp [lay0, mv, setJ]
theorem lay0_26 (A : Nat → Nat → Int32) : lay0 A 26 = A 26 := by simp [lay0, mv, setJ]
section NM
variable {G : gxG} {d : Nat} {h : gxH} {b : Nat} {σ : mS}
theorem c_moves (hb : gxN G ≤ b) (j n_j n : Nat) (hj_j : mknd j = 3) (ho_j : mOk j) (hn_j : mlen j = n_j) (hb_j : n_j < 2 ^ 31) (hn : n + n ≤ n_j) : mMv G mX10_moves d [.ref (b + moff j), .int (nI n)] h b σ (fun σ' => σ' = mSA σ (mv σ.2.2.1 j n)) := by
  refine gxM_of rfl (Nat.le_of_ble_eq_true rfl) rfl ?_
  have L : ∀ m k, m + k = n → gxV G mX10_moves d 0 0 2 [some (.ref (b + moff j)), some (.int (nI n)), some (.int (nI k))] [] (mput h b (mSA σ (setJ σ.2.2.1 j (mvF (σ.2.2.1 j) n k)))) (mQv h b (fun σ' => σ' = mSA σ (mv σ.2.2.1 j n))) := by
    intro m
    induction m with
    | zero =>
      intro k hk
      have : k = n := by omega
      subst this
      refine gx_iload_n (pc := 2) dX10_moves_2 rfl ?_
      refine gx_iload_n (pc := 3) dX10_moves_3 rfl ?_
      refine gx_icmp_ge (pc := 4) 21 dX10_moves_4 (by decide) (fun c1 => ?_) (fun c1 => ?_)
      · exact m_retv (pc := 21) rfl dX10_moves_21 (rfl)
      · exact absurd (nI_le (Nat.le_refl _) (by omega)) c1
    | succ m ih =>
      intro k hk
      refine gx_iload_n (pc := 2) dX10_moves_2 rfl ?_
      refine gx_iload_n (pc := 3) dX10_moves_3 rfl ?_
      refine gx_icmp_ge (pc := 4) 21 dX10_moves_4 (by decide) (fun c1 => ?_) (fun c1 => ?_)
      · exact absurd c1 (nI_ge (by omega) (by omega))
      · refine gx_aload_n (pc := 7) dX10_moves_7 rfl ?_
        refine gx_iload_n (pc := 8) dX10_moves_8 rfl ?_
        refine gx_aload_n (pc := 9) dX10_moves_9 rfl ?_
        refine gx_iload_n (pc := 10) dX10_moves_10 rfl ?_
        refine gx_iload_n (pc := 11) dX10_moves_11 rfl ?_
        refine gx_iadd (pc := 12) dX10_moves_12 ?_
        refine m_iald (pc := 13) j ((n + k)) n_j hj_j ho_j hn_j (by first | rfl | simp only [gx_lit, nI_add, pk_mul]) (by omega) hb_j dX10_moves_13 ?_
        refine m_iast (pc := 14) hb j (k) n_j hj_j ho_j hn_j (by first | rfl | simp only [gx_lit, nI_add, pk_mul]) (by omega) hb_j dX10_moves_14 ?_
        refine gx_iincc (pc := 15) (c := 1) dX10_moves_15 rfl (by decide) (by decide) rfl ?_
        refine gx_goto (pc := 18) 2 dX10_moves_18 (by decide) ?_
        rw [nI_1, mA_eq, mSA_A, mSA_mSA, upA_setJ, setJ_j, setJ_setJ, mvF_s _ _ _ (by omega)]
        exact ih (k + 1) (by omega)
  refine gx_iconst (pc := 0) (v := 0) dX10_moves_0 (by decide) ?_
  refine gx_istore_n (pc := 1) dX10_moves_1 (by decide) rfl ?_
  have e := L n 0 (by omega)
  rw [mvF_0, setJ_self] at e
  exact e
theorem c_movesNames (hb : gxN G ≤ b) (j n_j n : Nat) (hj_j : mknd j = 5) (ho_j : mOk j) (hn_j : mlen j = n_j) (hb_j : n_j < 2 ^ 31) (hn : n + n ≤ n_j) : mMv G mX10_movesNames d [.ref (b + moff j), .int (nI n)] h b σ (fun σ' => σ' = mSL σ (mvL σ.2.2.2 j n)) := by
  refine gxM_of rfl (Nat.le_of_ble_eq_true rfl) rfl ?_
  have L : ∀ m k, m + k = n → gxV G mX10_movesNames d 0 0 2 [some (.ref (b + moff j)), some (.int (nI n)), some (.int (nI k))] [] (mput h b (mSL σ (setK σ.2.2.2 j (mvG (σ.2.2.2 j) n k)))) (mQv h b (fun σ' => σ' = mSL σ (mvL σ.2.2.2 j n))) := by
    intro m
    induction m with
    | zero =>
      intro k hk
      have : k = n := by omega
      subst this
      refine gx_iload_n (pc := 2) dX10_movesNames_2 rfl ?_
      refine gx_iload_n (pc := 3) dX10_movesNames_3 rfl ?_
      refine gx_icmp_ge (pc := 4) 21 dX10_movesNames_4 (by decide) (fun c1 => ?_) (fun c1 => ?_)
      · exact m_retv (pc := 21) rfl dX10_movesNames_21 (rfl)
      · exact absurd (nI_le (Nat.le_refl _) (by omega)) c1
    | succ m ih =>
      intro k hk
      refine gx_iload_n (pc := 2) dX10_movesNames_2 rfl ?_
      refine gx_iload_n (pc := 3) dX10_movesNames_3 rfl ?_
      refine gx_icmp_ge (pc := 4) 21 dX10_movesNames_4 (by decide) (fun c1 => ?_) (fun c1 => ?_)
      · exact absurd c1 (nI_ge (by omega) (by omega))
      · refine gx_aload_n (pc := 7) dX10_movesNames_7 rfl ?_
        refine gx_iload_n (pc := 8) dX10_movesNames_8 rfl ?_
        refine gx_aload_n (pc := 9) dX10_movesNames_9 rfl ?_
        refine gx_iload_n (pc := 10) dX10_movesNames_10 rfl ?_
        refine gx_iload_n (pc := 11) dX10_movesNames_11 rfl ?_
        refine gx_iadd (pc := 12) dX10_movesNames_12 ?_
        refine m_lald (pc := 13) j ((n + k)) n_j hj_j ho_j hn_j (by first | rfl | simp only [gx_lit, nI_add, pk_mul]) (by omega) hb_j dX10_movesNames_13 ?_
        refine m_last (pc := 14) hb j (k) n_j hj_j ho_j hn_j (by first | rfl | simp only [gx_lit, nI_add, pk_mul]) (by omega) hb_j dX10_movesNames_14 ?_
        refine gx_iincc (pc := 15) (c := 1) dX10_movesNames_15 rfl (by decide) (by decide) rfl ?_
        refine gx_goto (pc := 18) 2 dX10_movesNames_18 (by decide) ?_
        rw [nI_1]
        have e : mB (mSL σ (setK σ.2.2.2 j (mvG (σ.2.2.2 j) n k))) j k ((mSL σ (setK σ.2.2.2 j (mvG (σ.2.2.2 j) n k))).2.2.2 j (n + k)) = mSL σ (setK σ.2.2.2 j (mvG (σ.2.2.2 j) n (k + 1))) := by
          have e1 : setK σ.2.2.2 j (mvG (σ.2.2.2 j) n k) j = mvG (σ.2.2.2 j) n k := by simp [setK]
          simp only [mB, mSL, e1, mvG_s _ _ _ (show k < n by omega)]
          congr 3
          funext q; by_cases hq : q = j <;> simp [setK, hq]
        rw [e]
        exact ih (k + 1) (by omega)
  refine gx_iconst (pc := 0) (v := 0) dX10_movesNames_0 (by decide) ?_
  refine gx_istore_n (pc := 1) dX10_movesNames_1 (by decide) rfl ?_
  have e := L n 0 (by omega)
  rw [mvG_0, setK_self] at e
  exact e
theorem c_lays (hb : gxN G ≤ b) (hd : 1 ≤ d) : mMv G mX10_lays d [.ref b] h b σ (fun σ' => σ' = mSL (mSA σ (layA σ.2.2.1)) (layL σ.2.2.2)) := by
  refine gxM_of rfl (Nat.le_of_ble_eq_true rfl) rfl ?_
  refine gx_aload_n (pc := 0) dX10_lays_0 rfl ?_
  refine m_getA (pc := 1) rfl fX10_13 rfl (by decide) dX10_lays_1 ?_
  refine gx_iconst (pc := 4) (v := 4) dX10_lays_4 (by decide) ?_
  refine kX10_372 (pc := 5) rfl (c_moves (d := d - 1) hb 10 8 4 rfl (by decide) rfl (by decide) (by decide)) (by omega) (Nat.le_of_ble_eq_true rfl) dX10_lays_5 (fun s1 e1 => ?_)
  subst s1
  refine gx_aload_n (pc := 8) dX10_lays_8 rfl ?_
  refine m_getA (pc := 9) rfl fX10_16 rfl (by decide) dX10_lays_9 ?_
  refine gx_bipush (pc := 12) (v := 6) dX10_lays_12 (by decide) ?_
  refine kX10_376 (pc := 14) rfl (c_movesNames (d := d - 1) hb 11 12 6 rfl (by decide) rfl (by decide) (by decide)) (by omega) (Nat.le_of_ble_eq_true rfl) dX10_lays_14 (fun s1 e1 => ?_)
  subst s1
  refine gx_aload_n (pc := 17) dX10_lays_17 rfl ?_
  refine m_getA (pc := 18) rfl fX10_20 rfl (by decide) dX10_lays_18 ?_
  refine gx_bipush (pc := 21) (v := 10) dX10_lays_21 (by decide) ?_
  refine kX10_376 (pc := 23) rfl (c_movesNames (d := d - 1) hb 12 20 10 rfl (by decide) rfl (by decide) (by decide)) (by omega) (Nat.le_of_ble_eq_true rfl) dX10_lays_23 (fun s1 e1 => ?_)
  subst s1
  refine gx_aload_n (pc := 26) dX10_lays_26 rfl ?_
  refine m_getA (pc := 27) rfl fX10_23 rfl (by decide) dX10_lays_27 ?_
  refine gx_bipush (pc := 30) (v := 6) dX10_lays_30 (by decide) ?_
  refine kX10_372 (pc := 32) rfl (c_moves (d := d - 1) hb 13 12 6 rfl (by decide) rfl (by decide) (by decide)) (by omega) (Nat.le_of_ble_eq_true rfl) dX10_lays_32 (fun s1 e1 => ?_)
  subst s1
  refine gx_aload_n (pc := 35) dX10_lays_35 rfl ?_
  refine m_getA (pc := 36) rfl fX10_26 rfl (by decide) dX10_lays_36 ?_
  refine gx_bipush (pc := 39) (v := 6) dX10_lays_39 (by decide) ?_
  refine kX10_372 (pc := 41) rfl (c_moves (d := d - 1) hb 14 12 6 rfl (by decide) rfl (by decide) (by decide)) (by omega) (Nat.le_of_ble_eq_true rfl) dX10_lays_41 (fun s1 e1 => ?_)
  subst s1
  refine gx_aload_n (pc := 44) dX10_lays_44 rfl ?_
  refine m_getA (pc := 45) rfl fX10_29 rfl (by decide) dX10_lays_45 ?_
  refine gx_bipush (pc := 48) (v := 6) dX10_lays_48 (by decide) ?_
  refine kX10_372 (pc := 50) rfl (c_moves (d := d - 1) hb 15 12 6 rfl (by decide) rfl (by decide) (by decide)) (by omega) (Nat.le_of_ble_eq_true rfl) dX10_lays_50 (fun s1 e1 => ?_)
  subst s1
  refine gx_aload_n (pc := 53) dX10_lays_53 rfl ?_
  refine m_getA (pc := 54) rfl fX10_32 rfl (by decide) dX10_lays_54 ?_
  refine gx_bipush (pc := 57) (v := 10) dX10_lays_57 (by decide) ?_
  refine kX10_372 (pc := 59) rfl (c_moves (d := d - 1) hb 16 20 10 rfl (by decide) rfl (by decide) (by decide)) (by omega) (Nat.le_of_ble_eq_true rfl) dX10_lays_59 (fun s1 e1 => ?_)
  subst s1
  refine gx_aload_n (pc := 62) dX10_lays_62 rfl ?_
  refine m_getA (pc := 63) rfl fX10_35 rfl (by decide) dX10_lays_63 ?_
  refine gx_bipush (pc := 66) (v := 10) dX10_lays_66 (by decide) ?_
  refine kX10_372 (pc := 68) rfl (c_moves (d := d - 1) hb 17 20 10 rfl (by decide) rfl (by decide) (by decide)) (by omega) (Nat.le_of_ble_eq_true rfl) dX10_lays_68 (fun s1 e1 => ?_)
  subst s1
  refine gx_aload_n (pc := 71) dX10_lays_71 rfl ?_
  refine m_getA (pc := 72) rfl fX10_38 rfl (by decide) dX10_lays_72 ?_
  refine gx_bipush (pc := 75) (v := 10) dX10_lays_75 (by decide) ?_
  refine kX10_372 (pc := 77) rfl (c_moves (d := d - 1) hb 18 20 10 rfl (by decide) rfl (by decide) (by decide)) (by omega) (Nat.le_of_ble_eq_true rfl) dX10_lays_77 (fun s1 e1 => ?_)
  subst s1
  refine gx_aload_n (pc := 80) dX10_lays_80 rfl ?_
  refine m_getA (pc := 81) rfl fX10_41 rfl (by decide) dX10_lays_81 ?_
  refine gx_bipush (pc := 84) (v := 10) dX10_lays_84 (by decide) ?_
  refine kX10_372 (pc := 86) rfl (c_moves (d := d - 1) hb 19 20 10 rfl (by decide) rfl (by decide) (by decide)) (by omega) (Nat.le_of_ble_eq_true rfl) dX10_lays_86 (fun s1 e1 => ?_)
  subst s1
  refine gx_aload_n (pc := 89) dX10_lays_89 rfl ?_
  refine m_getA (pc := 90) rfl fX10_44 rfl (by decide) dX10_lays_90 ?_
  refine gx_bipush (pc := 93) (v := 10) dX10_lays_93 (by decide) ?_
  refine kX10_372 (pc := 95) rfl (c_moves (d := d - 1) hb 20 20 10 rfl (by decide) rfl (by decide) (by decide)) (by omega) (Nat.le_of_ble_eq_true rfl) dX10_lays_95 (fun s1 e1 => ?_)
  subst s1
  refine gx_aload_n (pc := 98) dX10_lays_98 rfl ?_
  refine m_getA (pc := 99) rfl fX10_47 rfl (by decide) dX10_lays_99 ?_
  refine gx_bipush (pc := 102) (v := 10) dX10_lays_102 (by decide) ?_
  refine kX10_372 (pc := 104) rfl (c_moves (d := d - 1) hb 21 20 10 rfl (by decide) rfl (by decide) (by decide)) (by omega) (Nat.le_of_ble_eq_true rfl) dX10_lays_104 (fun s1 e1 => ?_)
  subst s1
  refine gx_aload_n (pc := 107) dX10_lays_107 rfl ?_
  refine m_getA (pc := 108) rfl fX10_50 rfl (by decide) dX10_lays_108 ?_
  refine gx_bipush (pc := 111) (v := 30) dX10_lays_111 (by decide) ?_
  refine kX10_372 (pc := 113) rfl (c_moves (d := d - 1) hb 22 60 30 rfl (by decide) rfl (by decide) (by decide)) (by omega) (Nat.le_of_ble_eq_true rfl) dX10_lays_113 (fun s1 e1 => ?_)
  subst s1
  refine gx_aload_n (pc := 116) dX10_lays_116 rfl ?_
  refine m_getA (pc := 117) rfl fX10_53 rfl (by decide) dX10_lays_117 ?_
  refine gx_bipush (pc := 120) (v := 30) dX10_lays_120 (by decide) ?_
  refine kX10_372 (pc := 122) rfl (c_moves (d := d - 1) hb 23 60 30 rfl (by decide) rfl (by decide) (by decide)) (by omega) (Nat.le_of_ble_eq_true rfl) dX10_lays_122 (fun s1 e1 => ?_)
  subst s1
  refine gx_aload_n (pc := 125) dX10_lays_125 rfl ?_
  refine m_getA (pc := 126) rfl fX10_56 rfl (by decide) dX10_lays_126 ?_
  refine gx_bipush (pc := 129) (v := 30) dX10_lays_129 (by decide) ?_
  refine kX10_372 (pc := 131) rfl (c_moves (d := d - 1) hb 24 60 30 rfl (by decide) rfl (by decide) (by decide)) (by omega) (Nat.le_of_ble_eq_true rfl) dX10_lays_131 (fun s1 e1 => ?_)
  subst s1
  refine gx_aload_n (pc := 134) dX10_lays_134 rfl ?_
  refine m_getA (pc := 135) rfl fX10_65 rfl (by decide) dX10_lays_135 ?_
  refine gx_sipush (pc := 138) (v := 1000) dX10_lays_138 (by decide) ?_
  refine kX10_372 (pc := 141) rfl (c_moves (d := d - 1) hb 27 2000 1000 rfl (by decide) rfl (by decide) (by decide)) (by omega) (Nat.le_of_ble_eq_true rfl) dX10_lays_141 (fun s1 e1 => ?_)
  subst s1
  simp only [mSA_A, mSL_A, mSL_L, mSA_L, mSA_SL, mSL_SL, mSA_mSA]
  rw [show mv (mv (mv (mv (mv (mv (mv (mv (mv (mv (mv (mv (mv (mv σ.2.2.1 10 4) 13 6) 14 6) 15 6) 16 10) 17 10) 18 10) 19 10) 20 10) 21 10) 22 30) 23 30) 24 30) 27 1000 = lay0 σ.2.2.1 from rfl, show mvL (mvL σ.2.2.2 11 6) 12 10 = layL σ.2.2.2 from rfl]
  refine gx_aload_n (pc := 144) dX10_lays_144 rfl ?_
  refine m_getA (pc := 145) rfl fX10_59 rfl (by decide) dX10_lays_145 ?_
  refine gx_iconst (pc := 148) (v := 0) dX10_lays_148 (by decide) ?_
  refine gx_aload_n (pc := 149) dX10_lays_149 rfl ?_
  refine m_getA (pc := 150) rfl fX10_59 rfl (by decide) dX10_lays_150 ?_
  refine gx_iconst (pc := 153) (v := 1) dX10_lays_153 (by decide) ?_
  refine m_iald (pc := 154) 25 (1) 2 rfl (by decide) rfl (by first | rfl | simp only [gx_lit, nI_add, pk_mul]) (by omega) (by decide) dX10_lays_154 ?_
  refine gx_sipush (pc := 155) (v := 1000) dX10_lays_155 (by decide) ?_
  refine gx_isub (pc := 158) dX10_lays_158 ?_
  refine m_iast (pc := 159) hb 25 (0) 2 rfl (by decide) rfl (by first | rfl | simp only [gx_lit, nI_add, pk_mul]) (by omega) (by decide) dX10_lays_159 ?_
  refine gx_aload_n (pc := 160) dX10_lays_160 rfl ?_
  refine m_getA (pc := 161) rfl fX10_62 rfl (by decide) dX10_lays_161 ?_
  refine gx_iconst (pc := 164) (v := 0) dX10_lays_164 (by decide) ?_
  refine gx_aload_n (pc := 165) dX10_lays_165 rfl ?_
  refine m_getA (pc := 166) rfl fX10_62 rfl (by decide) dX10_lays_166 ?_
  refine gx_iconst (pc := 169) (v := 1) dX10_lays_169 (by decide) ?_
  refine m_iald (pc := 170) 26 (1) 2 rfl (by decide) rfl (by first | rfl | simp only [gx_lit, nI_add, pk_mul]) (by omega) (by decide) dX10_lays_170 ?_
  refine gx_sipush (pc := 171) (v := 1000) dX10_lays_171 (by decide) ?_
  refine gx_isub (pc := 174) dX10_lays_174 ?_
  refine m_iast (pc := 175) hb 26 (0) 2 rfl (by decide) rfl (by first | rfl | simp only [gx_lit, nI_add, pk_mul]) (by omega) (by decide) dX10_lays_175 ?_
  exact m_retv (pc := 176) rfl dX10_lays_176 (by simp only [mA_eq, mSA_A, mSL_A, mSL_L, mSA_L, mSA_SL, mSL_SL, mSA_mSA, layA, lay0_25, lay0_26, upA_setJ]; rw [setJ_ne (q := 26) (j := 25) (by decide), lay0_26])
theorem c_town {z : Nat} {t : Nat → Int32} (hb : gxN G ≤ b) (hd : 8 ≤ d) (hz : σ.1 1 = nI z) (hz1 : z ≤ 1000) (ht : σ.2.2.1 2 = t) (hT : ∀ x, spTwn t z (z + 1) (d0 σ.2.2) 0 = .inr x → ∃ P S E w, mT (layA x.1) P S E w) : mMi G mX10_town d [.ref b] h b σ (fun r σ' => σ'.1 1 = 0 ∧ σ'.2.1.2 = σ.2.1.2 ∧ (∀ k, k ≠ 0 → k ≠ 1 → k ≠ 3 → k ≠ 55 → rky k = false → σ'.1 k = σ.1 k) ∧ σ'.1 0 = 0 ∧
    ((∃ f, spTwn t z (z + 1) (d0 σ.2.2) 0 = .inl f ∧ r = f ∧ fr0 σ.2.2 σ'.2.2 ∧ σ'.1 55 = σ.1 55) ∨ (∃ x P S E w, spTwn t z (z + 1) (d0 σ.2.2) 0 = .inr x ∧ mT (layA x.1) P S E w ∧ r = 0 ∧ σ'.1 55 = 0 ∧ σ'.2.2.2 = layL x.2 ∧ σ'.2.2.1 = setJ (upA (upA (setS (layA x.1) (spFresh (layA x.1) P S)) 42 0 0) 47 0 0) 54 (fun k => if k < 4 then 0 else layA x.1 54 k)))) := by
  refine gxM_of rfl (Nat.le_of_ble_eq_true rfl) rfl ?_
  refine gx_aload_n (pc := 0) dX10_town_0 rfl ?_
  refine gx_iconst (pc := 1) (v := 0) dX10_town_1 (by decide) ?_
  refine m_putI (pc := 2) rfl hb fX10_175 rfl (by decide) tX10_0 dX10_town_2 ?_
  have z1 : (mI σ 0 0).1 1 = nI z := by rw [mI_ne (by decide)]; exact hz
  refine gx_aload_n (pc := 5) dX10_town_5 rfl ?_
  refine kX10_389 (pc := 6) rfl (c_readsAll (d := d - 1) (t := t) hb (by omega) z1 hz1 ht) (by omega) (Nat.le_of_ble_eq_true rfl) dX10_town_6 (fun r1 σ1 e1 => ?_)
  obtain ⟨f1, f2, f3, f4, f5⟩ := e1
  change fr0 σ.2.2 σ1.2.2 at f1
  change rR (spTwn t z (z + 1) (d0 σ.2.2) 0) r1 σ1 (fun x => σ1.2.2 = x) at f5
  have f4' : ∀ k, k ≠ 0 → k ≠ 1 → k ≠ 3 → rky k = false → σ1.1 k = σ.1 k := fun k a c e g => (f4 k c e g).trans (mI_ne a)
  have f0 : σ1.1 0 = 0 := (f4 0 (by decide) (by decide) rfl).trans (mI_eq _ _ _)
  cases hs : spTwn t z (z + 1) (d0 σ.2.2) 0 with
  | inl f =>
    rw [hs] at f5
    obtain ⟨rfl, hw⟩ := f5
    refine gx_if_ne (pc := 9) 17 dX10_town_9 (by decide) (fun c1 => ?_) (fun c1 => ?_)
    · exact absurd rfl c1
    · refine gx_aload_n (pc := 12) dX10_town_12 rfl ?_
      refine m_getI (pc := 13) rfl fX10_211 rfl (by decide) dX10_town_13 ?_
      rw [hw]
      exact m_ret (pc := 16) rfl dX10_town_16 (⟨f2, f3, fun k a c e g => f4' k a c e, f0, Or.inl ⟨f, rfl, rfl, f1, f4' 55 (by decide) (by decide) (by decide) rfl⟩⟩)
  | inr x =>
    rw [hs] at f5
    obtain ⟨rfl, hx⟩ := f5
    obtain ⟨P, S, E, w, hM⟩ := hT x hs
    refine gx_if_ne (pc := 9) 17 dX10_town_9 (by decide) (fun c1 => ?_) (fun c1 => ?_)
    · refine gx_aload_n (pc := 17) dX10_town_17 rfl ?_
      refine kX10_392 (pc := 18) rfl (c_lays (d := d - 1) hb (by omega)) (by omega) (Nat.le_of_ble_eq_true rfl) dX10_town_18 (fun σ2 e2 => ?_)
      have hM2 : mT σ2.2.2.1 P S E w := by rw [e2]; show mT (layA σ1.2.2.1) P S E w; rw [hx]; exact hM
      refine gx_aload_n (pc := 21) dX10_town_21 rfl ?_
      refine kX10_395 (pc := 22) rfl (c_fresh (d := d - 1) hb hM2) (by omega) (Nat.le_of_ble_eq_true rfl) dX10_town_22 (fun σ3 e3 => ?_)
      have g1 : σ3.1 = σ1.1 := by rw [e3, e2]; rfl
      have g2 : σ3.2.1 = σ1.2.1 := by rw [e3, e2]; rfl
      have g3 : σ3.2.2.1 = setS (layA x.1) (spFresh (layA x.1) P S) := by rw [e3, e2]; show setS (layA σ1.2.2.1) (spFresh (layA σ1.2.2.1) P S) = _; rw [hx]
      have g4 : σ3.2.2.2 = layL x.2 := by rw [e3, e2]; show layL σ1.2.2.2 = _; rw [hx]
      refine gx_aload_n (pc := 25) dX10_town_25 rfl ?_
      refine m_getA (pc := 26) rfl fX10_105 rfl (by decide) dX10_town_26 ?_
      refine gx_iconst (pc := 29) (v := 0) dX10_town_29 (by decide) ?_
      refine gx_iconst (pc := 30) (v := 0) dX10_town_30 (by decide) ?_
      refine m_iast (pc := 31) hb 42 (0) 6 rfl (by decide) rfl (by first | rfl | simp only [gx_lit, nI_add, pk_mul]) (by omega) (by decide) dX10_town_31 ?_
      refine gx_aload_n (pc := 32) dX10_town_32 rfl ?_
      refine m_getA (pc := 33) rfl fX10_120 rfl (by decide) dX10_town_33 ?_
      refine gx_iconst (pc := 36) (v := 0) dX10_town_36 (by decide) ?_
      refine gx_iconst (pc := 37) (v := 0) dX10_town_37 (by decide) ?_
      refine m_iast (pc := 38) hb 47 (0) 5 rfl (by decide) rfl (by first | rfl | simp only [gx_lit, nI_add, pk_mul]) (by omega) (by decide) dX10_town_38 ?_
      refine gx_aload_n (pc := 39) dX10_town_39 rfl ?_
      refine gx_iconst (pc := 40) (v := 0) dX10_town_40 (by decide) ?_
      refine m_putI (pc := 41) rfl hb fX10_398 rfl (by decide) tX10_55 dX10_town_41 ?_
      generalize hτ : mI (mA (mA σ3 42 0 0) 47 0 0) 55 0 = τ
      have t1 : ∀ k, k ≠ 55 → τ.1 k = σ1.1 k := fun k hk => by rw [← hτ, mI_ne hk, ← g1]; rfl
      have t0 : τ.1 55 = 0 := by rw [← hτ]; exact mI_eq _ _ _
      have t2 : τ.2.1.2 = σ.2.1.2 := by rw [← hτ]; show σ3.2.1.2 = _; rw [g2]; exact f3
      have t3 : τ.2.2.1 = upA (upA (setS (layA x.1) (spFresh (layA x.1) P S)) 42 0 0) 47 0 0 := by rw [← hτ]; show upA (upA σ3.2.2.1 42 0 0) 47 0 0 = _; rw [g3]
      have t4 : τ.2.2.2 = layL x.2 := by rw [← hτ]; exact g4
      generalize hB : upA (upA (setS (layA x.1) (spFresh (layA x.1) P S)) 42 0 0) 47 0 0 = B at *
      have hB54 : B 54 = layA x.1 54 := by rw [← hB]; rfl
      have fin : ∀ k : Nat, k = 4 → (mSA τ (setJ B 54 (fun q => if q < k then 0 else B 54 q))).2.2.1 = setJ B 54 (fun k => if k < 4 then 0 else layA x.1 54 k) := by
        intro k hk
        rw [mSA_A, hk, hB54]
      have L : ∀ m k, m + k = 4 → gxV G mX10_town d 0 0 46 [some (.ref b), some (.int (nI k))] [] (mput h b (mSA τ (setJ B 54 (fun q => if q < k then 0 else B 54 q)))) (mQi h b (fun r σ' => σ'.1 1 = 0 ∧ σ'.2.1.2 = σ.2.1.2 ∧ (∀ k, k ≠ 0 → k ≠ 1 → k ≠ 3 → k ≠ 55 → rky k = false → σ'.1 k = σ.1 k) ∧ σ'.1 0 = 0 ∧ ((∃ f, (Sum.inr x : Sum Int32 dS) = .inl f ∧ r = f ∧ fr0 σ.2.2 σ'.2.2 ∧ σ'.1 55 = σ.1 55) ∨ (∃ x' P S E w, (Sum.inr x : Sum Int32 dS) = .inr x' ∧ mT (layA x'.1) P S E w ∧ r = 0 ∧ σ'.1 55 = 0 ∧ σ'.2.2.2 = layL x'.2 ∧ σ'.2.2.1 = setJ (upA (upA (setS (layA x'.1) (spFresh (layA x'.1) P S)) 42 0 0) 47 0 0) 54 (fun k => if k < 4 then 0 else layA x'.1 54 k))))) := by
        intro m
        induction m with
        | zero =>
          intro k hk
          have : k = 4 := by omega
          subst this
          refine gx_iload_n (pc := 46) dX10_town_46 rfl ?_
          refine gx_iconst (pc := 47) (v := 4) dX10_town_47 (by decide) ?_
          refine gx_icmp_ge (pc := 48) 64 dX10_town_48 (by decide) (fun c2 => ?_) (fun c2 => ?_)
          · refine gx_iconst (pc := 64) (v := 0) dX10_town_64 (by decide) ?_
            exact m_ret (pc := 65) rfl dX10_town_65 (⟨(t1 1 (by decide)).trans f2, t2, fun k a c e g i => (t1 k g).trans (f4' k a c e i), (t1 0 (by decide)).trans f0, Or.inr ⟨x, P, S, E, w, rfl, hM, rfl, t0, t4, by rw [hB]; exact fin 4 rfl⟩⟩)
          · exact absurd (by decide) c2
        | succ m ih =>
          intro k hk
          refine gx_iload_n (pc := 46) dX10_town_46 rfl ?_
          refine gx_iconst (pc := 47) (v := 4) dX10_town_47 (by decide) ?_
          refine gx_icmp_ge (pc := 48) 64 dX10_town_48 (by decide) (fun c2 => ?_) (fun c2 => ?_)
          · exact absurd c2 (nI_ge (a := k) (b := 4) (by omega) (by decide))
          · refine gx_aload_n (pc := 51) dX10_town_51 rfl ?_
            refine m_getA (pc := 52) rfl fX10_141 rfl (by decide) dX10_town_52 ?_
            refine gx_iload_n (pc := 55) dX10_town_55 rfl ?_
            refine gx_iconst (pc := 56) (v := 0) dX10_town_56 (by decide) ?_
            refine m_zast (pc := 57) hb 54 (k) 4 (by decide) rfl (by decide) rfl (by first | rfl | simp only [gx_lit, nI_add, pk_mul]) (by omega) (by decide) dX10_town_57 ?_
            refine gx_iincc (pc := 58) (c := 1) dX10_town_58 rfl (by decide) (by decide) rfl ?_
            refine gx_goto (pc := 61) 46 dX10_town_61 (by decide) ?_
            rw [nI_1]
            have e : mA (mSA τ (setJ B 54 (fun q => if q < k then 0 else B 54 q))) 54 k 0 = mSA τ (setJ B 54 (fun q => if q < k + 1 then 0 else B 54 q)) := by
              rw [mA_eq, mSA_A, mSA_mSA, upA_setJ, setJ_j, setJ_setJ]
              congr 2
              funext q
              by_cases hq : q = k
              · simp [upd, hq]
              · simp only [upd, if_neg hq]
                by_cases h1 : q < k
                · rw [if_pos h1, if_pos (by omega)]
                · rw [if_neg h1, if_neg (by omega)]
            rw [e]
            exact ih (k + 1) (by omega)
      refine gx_iconst (pc := 44) (v := 0) dX10_town_44 (by decide) ?_
      refine gx_istore_n (pc := 45) dX10_town_45 (by decide) rfl ?_
      have e5 := L 4 0 (by omega)
      have e6 : mSA τ (setJ B 54 (fun q => if q < 0 then 0 else B 54 q)) = τ := by
        have : (fun q => if q < 0 then 0 else B 54 q) = B 54 := by funext q; simp
        rw [this, setJ_self, ← t3]; rfl
      rw [e6] at e5
      exact e5
    · exact absurd c1 (by decide)
end NM
