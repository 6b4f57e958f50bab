/-! ===== MODEL S: settle ===== -/
set_option maxRecDepth 100000
def spOw (nt : Nat → Int32) : Nat → Nat
  | 0 => 0
  | p + 1 => if nt p = 0 then spOw nt p else spOw nt p + 2 ^ p
theorem spOw_lt (nt : Nat → Int32) : ∀ p, spOw nt p < 2 ^ p
  | 0 => Nat.one_pos
  | p + 1 => by
    have := spOw_lt nt p
    rw [spOw, Nat.pow_succ]
    split <;> omega
theorem or_hi : ∀ p, p < 6 → ∀ a, a < 32 → a < 2 ^ p → nI a ||| (1 <<< (nI p &&& 31)) = nI (a + 2 ^ p) := by decide +kernel
def spSm (nt : Nat → Int32) (sub : Int32) : Nat → Int32
  | 0 => 0
  | p + 1 => spSm nt sub p + (if (sub >>> (nI p &&& 31)) &&& 1 = 1 then nt p else 0)
def spIn (nt : Nat → Int32) (q : Nat) : Nat → Nat → (Nat → Int32) → Nat → Int32
  | 0, _, f => f
  | m + 1, sub, f => if sub = 0 then f else spIn nt q m ((sub - 1) &&& q) (if spSm nt (nI sub) 6 = 0 then upd f q (spMax (f q) (1 + f (q &&& (63 - sub)))) else f)
def spGr (nt f0 : Nat → Int32) : Nat → Nat → Int32
  | 0 => f0
  | q + 1 => spIn nt q q q (upd (spGr nt f0 q) q (if q = 0 then 0 else -100))
theorem sub_and : ∀ q, q < 64 → ∀ s, s < 64 → nI q &&& (nI s ^^^ -1) = nI (q &&& (63 - s)) := by decide +kernel
theorem pre_and : ∀ q, q < 64 → ∀ s, s < 63 → (nI (s + 1) - 1) &&& nI q = nI (s &&& q) := by decide +kernel
theorem mA_J (X : mS) (A : Nat → Nat → Int32) (j : Nat) (f : Nat → Int32) (q : Nat) (v : Int32) : mA (mSA X (setJ A j f)) j q v = mSA X (setJ A j (upd f q v)) := by
  rw [mA_eq, mSA_A, upA_setJ, setJ_j, setJ_setJ, mSA_mSA]
section MS
variable {G : gxG} {d : Nat} {h : gxH} {b : Nat} {σ : mS} {P S E : Nat} {w : Option gxEv}
theorem c_settle (hb : gxN G ≤ b) (hd : 1 ≤ d) (hT : mT σ.2.2.1 P S E w) : mMi G mX10_settle d [.ref b] h b σ (fun r σ' => r = spBits (nI (spOw (fun p => spNet σ.2.2.1 p 6) P)) 10 - spGr (fun p => spNet σ.2.2.1 p 6) (σ.2.2.1 65) 64 (spOw (fun p => spNet σ.2.2.1 p 6) P) ∧ ∃ f, σ' = mSA (mI σ 0 0) (setJ σ.2.2.1 65 f)) := by
  have hP := hT.1
  have hP6 := hT.2.1
  obtain ⟨hsh, h64⟩ := shl_P hP6
  refine gxM_of rfl (Nat.le_of_ble_eq_true rfl) rfl ?_
  generalize hnt : (fun p => spNet σ.2.2.1 p 6) = nt
  have hn : ∀ p, spNet σ.2.2.1 p 6 = nt p := fun p => by rw [← hnt]
  have ho : spOw nt P < 64 := Nat.lt_of_lt_of_le (spOw_lt nt P) h64
  have L2 : ∀ m q, m + q = 64 → ∀ (x3 x4 x5 : Option Value), gxV G mX10_settle d 0 0 45 [some (.ref b), some (.int (nI (spOw nt P))), some (.int (nI q)), x3, x4, x5] [] (mput h b (mSA (mI σ 0 0) (setJ σ.2.2.1 65 (spGr nt (σ.2.2.1 65) q)))) (mQi h b (fun r σ' => r = spBits (nI (spOw nt P)) 10 - spGr nt (σ.2.2.1 65) 64 (spOw nt P) ∧ ∃ f, σ' = mSA (mI σ 0 0) (setJ σ.2.2.1 65 f))) := by
    intro m
    induction m with
    | zero =>
      intro q hq x3 x4 x5
      have : q = 64 := by omega
      subst this
      generalize hO : spOw nt P = o at *
      refine gx_iload_n (pc := 45) dX10_settle_45 rfl ?_
      refine gx_bipush (pc := 46) (v := 64) dX10_settle_46 (by decide) ?_
      refine gx_icmp_ge (pc := 48) 164 dX10_settle_48 (by decide) (fun c1 => ?_) (fun c1 => ?_)
      · refine gx_iload_n (pc := 164) dX10_settle_164 rfl ?_
        refine kX10_492 (pc := 165) rfl (c_bits (d := d - 1) _) (by omega) (Nat.le_of_ble_eq_true rfl) dX10_settle_165 (fun r1 σ1 e1 => ?_)
        obtain ⟨rfl, hσ⟩ := e1
        subst σ1
        refine gx_aload_n (pc := 168) dX10_settle_168 rfl ?_
        refine m_getA (pc := 169) rfl fX10_166 rfl (by decide) dX10_settle_169 ?_
        refine gx_iload_n (pc := 172) dX10_settle_172 rfl ?_
        refine m_iald (pc := 173) 65 (o) 64 rfl (by decide) rfl (by first | rfl | simp only [gx_lit, nI_add, pk_mul]) (by omega) (by decide) dX10_settle_173 ?_
        rw [mSA_A, setJ_j]
        refine gx_isub (pc := 174) dX10_settle_174 ?_
        exact m_ret (pc := 175) rfl dX10_settle_175 (⟨rfl, _, rfl⟩)
      · exact absurd (by decide) c1
    | succ m ih =>
      intro q hq x3 x4 x5
      have L3 : ∀ m3 sub f, sub ≤ m3 → sub ≤ q → spIn nt q m3 sub f = spGr nt (σ.2.2.1 65) (q + 1) → ∀ (x4 x5 : Option Value), gxV G mX10_settle d 0 0 69 [some (.ref b), some (.int (nI (spOw nt P))), some (.int (nI q)), some (.int (nI sub)), x4, x5] [] (mput h b (mSA (mI σ 0 0) (setJ σ.2.2.1 65 f))) (mQi h b (fun r σ' => r = spBits (nI (spOw nt P)) 10 - spGr nt (σ.2.2.1 65) 64 (spOw nt P) ∧ ∃ f, σ' = mSA (mI σ 0 0) (setJ σ.2.2.1 65 f))) := by
        have Z : ∀ f, f = spGr nt (σ.2.2.1 65) (q + 1) → ∀ (x4 x5 : Option Value), gxV G mX10_settle d 0 0 69 [some (.ref b), some (.int (nI (spOw nt P))), some (.int (nI q)), some (.int (nI 0)), x4, x5] [] (mput h b (mSA (mI σ 0 0) (setJ σ.2.2.1 65 f))) (mQi h b (fun r σ' => r = spBits (nI (spOw nt P)) 10 - spGr nt (σ.2.2.1 65) 64 (spOw nt P) ∧ ∃ f, σ' = mSA (mI σ 0 0) (setJ σ.2.2.1 65 f))) := by
          intro f hf x4 x5
          subst hf
          refine gx_iload_n (pc := 69) dX10_settle_69 rfl ?_
          refine gx_if_le (pc := 70) 158 dX10_settle_70 (by decide) (fun c2 => ?_) (fun c2 => ?_)
          · refine gx_iincc (pc := 158) (c := 1) dX10_settle_158 rfl (by decide) (by decide) rfl ?_
            refine gx_goto (pc := 161) 45 dX10_settle_161 (by decide) ?_
            rw [nI_1]
            exact ih (q + 1) (by omega) _ _ _
          · exact absurd (by decide) c2
        intro m3
        induction m3 with
        | zero =>
          intro sub f h1 _ h2 x4 x5
          have : sub = 0 := by omega
          subst this
          exact Z f h2 x4 x5
        | succ m3 ih3 =>
          intro sub f h1 hsq h2 x4 x5
          by_cases hs0 : sub = 0
          · subst hs0
            exact Z f (by rw [spIn, if_pos rfl] at h2; exact h2) x4 x5
          · rw [spIn, if_neg hs0] at h2
            obtain ⟨s', rfl⟩ : ∃ s', sub = s' + 1 := ⟨sub - 1, by omega⟩
            rw [Nat.add_sub_cancel] at h2
            have hle : s' &&& q ≤ s' := Nat.and_le_left
            have K149 : ∀ f', spIn nt q m3 (s' &&& q) f' = spGr nt (σ.2.2.1 65) (q + 1) → ∀ (x4 x5 : Option Value), gxV G mX10_settle d 0 0 149 [some (.ref b), some (.int (nI (spOw nt P))), some (.int (nI q)), some (.int (nI (s' + 1))), x4, x5] [] (mput h b (mSA (mI σ 0 0) (setJ σ.2.2.1 65 f'))) (mQi h b (fun r σ' => r = spBits (nI (spOw nt P)) 10 - spGr nt (σ.2.2.1 65) 64 (spOw nt P) ∧ ∃ f, σ' = mSA (mI σ 0 0) (setJ σ.2.2.1 65 f))) := by
              intro f' hf' x4 x5
              refine gx_iload_n (pc := 149) dX10_settle_149 rfl ?_
              refine gx_iconst (pc := 150) (v := 1) dX10_settle_150 (by decide) ?_
              refine gx_isub (pc := 151) dX10_settle_151 ?_
              refine gx_iload_n (pc := 152) dX10_settle_152 rfl ?_
              refine gx_iand (pc := 153) dX10_settle_153 ?_
              rw [pre_and q (by omega) s' (by omega)]
              refine gx_istore_n (pc := 154) dX10_settle_154 (by decide) rfl ?_
              refine gx_goto (pc := 155) 69 dX10_settle_155 (by decide) ?_
              exact ih3 (s' &&& q) f' (by omega) (by omega) hf' x4 x5
            have L4 : ∀ m4 p, m4 + p = 6 → gxV G mX10_settle d 0 0 79 [some (.ref b), some (.int (nI (spOw nt P))), some (.int (nI q)), some (.int (nI (s' + 1))), some (.int (spSm nt (nI (s' + 1)) p)), some (.int (nI p))] [] (mput h b (mSA (mI σ 0 0) (setJ σ.2.2.1 65 f))) (mQi h b (fun r σ' => r = spBits (nI (spOw nt P)) 10 - spGr nt (σ.2.2.1 65) 64 (spOw nt P) ∧ ∃ f, σ' = mSA (mI σ 0 0) (setJ σ.2.2.1 65 f))) := by
              intro m4
              induction m4 with
              | zero =>
                intro p hp
                have : p = 6 := by omega
                subst this
                refine gx_iload (pc := 79) dX10_settle_79 rfl ?_
                refine gx_bipush (pc := 81) (v := 6) dX10_settle_81 (by decide) ?_
                refine gx_icmp_ge (pc := 83) 117 dX10_settle_83 (by decide) (fun c3 => ?_) (fun c3 => ?_)
                · refine gx_iload (pc := 117) dX10_settle_117 rfl ?_
                  refine gx_if_ne (pc := 119) 149 dX10_settle_119 (by decide) (fun c4 => ?_) (fun c4 => ?_)
                  · rw [if_neg c4] at h2
                    exact K149 f h2 _ _
                  · rw [if_pos c4] at h2
                    have h63 : q &&& (63 - (s' + 1)) ≤ q := Nat.and_le_left
                    generalize hI : q &&& (63 - (s' + 1)) = ix at *
                    refine gx_aload_n (pc := 122) dX10_settle_122 rfl ?_
                    refine m_getA (pc := 123) rfl fX10_166 rfl (by decide) dX10_settle_123 ?_
                    refine gx_iload_n (pc := 126) dX10_settle_126 rfl ?_
                    refine gx_aload_n (pc := 127) dX10_settle_127 rfl ?_
                    refine m_getA (pc := 128) rfl fX10_166 rfl (by decide) dX10_settle_128 ?_
                    refine gx_iload_n (pc := 131) dX10_settle_131 rfl ?_
                    refine m_iald (pc := 132) 65 (q) 64 rfl (by decide) rfl (by first | rfl | simp only [gx_lit, nI_add, pk_mul]) (by omega) (by decide) dX10_settle_132 ?_
                    refine gx_iconst (pc := 133) (v := 1) dX10_settle_133 (by decide) ?_
                    refine gx_aload_n (pc := 134) dX10_settle_134 rfl ?_
                    refine m_getA (pc := 135) rfl fX10_166 rfl (by decide) dX10_settle_135 ?_
                    refine gx_iload_n (pc := 138) dX10_settle_138 rfl ?_
                    refine gx_iload_n (pc := 139) dX10_settle_139 rfl ?_
                    refine gx_iconst (pc := 140) (v := (-1)) dX10_settle_140 (by decide) ?_
                    refine gx_ixor (pc := 141) dX10_settle_141 ?_
                    refine gx_iand (pc := 142) dX10_settle_142 ?_
                    rw [sub_and q (by omega) (s' + 1) (by omega), hI, mSA_A, setJ_j]
                    refine m_iald (pc := 143) 65 (ix) 64 rfl (by decide) rfl (by first | rfl | simp only [gx_lit, nI_add, pk_mul]) (by omega) (by decide) dX10_settle_143 ?_
                    rw [mSA_A, setJ_j]
                    refine gx_iadd (pc := 144) dX10_settle_144 ?_
                    refine kX10_411 (pc := 145) rfl (c_max (d := d - 1) _ _) (by omega) (Nat.le_of_ble_eq_true rfl) dX10_settle_145 (fun r1 σ1 e1 => ?_)
                    obtain ⟨rfl, hσ⟩ := e1
                    subst σ1
                    refine m_iast (pc := 148) hb 65 (q) 64 rfl (by decide) rfl (by first | rfl | simp only [gx_lit, nI_add, pk_mul]) (by omega) (by decide) dX10_settle_148 ?_
                    rw [mA_J]
                    exact K149 _ h2 _ _
                · exact absurd (by decide) c3
              | succ m4 ih4 =>
                intro p hp
                have K108 : ∀ v, spSm nt (nI (s' + 1)) p + v = spSm nt (nI (s' + 1)) (p + 1) → gxV G mX10_settle d 0 0 108 [some (.ref b), some (.int (nI (spOw nt P))), some (.int (nI q)), some (.int (nI (s' + 1))), some (.int (spSm nt (nI (s' + 1)) p)), some (.int (nI p))] [.int v, .int (spSm nt (nI (s' + 1)) p)] (mput h b (mSA (mI σ 0 0) (setJ σ.2.2.1 65 f))) (mQi h b (fun r σ' => r = spBits (nI (spOw nt P)) 10 - spGr nt (σ.2.2.1 65) 64 (spOw nt P) ∧ ∃ f, σ' = mSA (mI σ 0 0) (setJ σ.2.2.1 65 f))) := by
                  intro v hv
                  refine gx_iadd (pc := 108) dX10_settle_108 ?_
                  rw [hv]
                  refine gx_istore (pc := 109) dX10_settle_109 (by decide) rfl ?_
                  refine gx_iincc (pc := 111) (c := 1) dX10_settle_111 rfl (by decide) (by decide) rfl ?_
                  refine gx_goto (pc := 114) 79 dX10_settle_114 (by decide) ?_
                  rw [nI_1]
                  exact ih4 (p + 1) (by omega)
                refine gx_iload (pc := 79) dX10_settle_79 rfl ?_
                refine gx_bipush (pc := 81) (v := 6) dX10_settle_81 (by decide) ?_
                refine gx_icmp_ge (pc := 83) 117 dX10_settle_83 (by decide) (fun c3 => ?_) (fun c3 => ?_)
                · exact absurd c3 (nI_ge (a := p) (b := 6) (by omega) (by omega))
                · refine gx_iload (pc := 86) dX10_settle_86 rfl ?_
                  refine gx_iload_n (pc := 88) dX10_settle_88 rfl ?_
                  refine gx_iload (pc := 89) dX10_settle_89 rfl ?_
                  refine gx_ishr (pc := 91) dX10_settle_91 ?_
                  refine gx_iconst (pc := 92) (v := 1) dX10_settle_92 (by decide) ?_
                  refine gx_iand (pc := 93) dX10_settle_93 ?_
                  refine gx_iconst (pc := 94) (v := 1) dX10_settle_94 (by decide) ?_
                  refine gx_icmp_ne (pc := 95) 107 dX10_settle_95 (by decide) (fun c4 => ?_) (fun c4 => ?_)
                  · refine gx_iconst (pc := 107) (v := 0) dX10_settle_107 (by decide) ?_
                    exact K108 _ (by rw [spSm, if_neg c4])
                  · refine gx_aload_n (pc := 98) dX10_settle_98 rfl ?_
                    refine gx_iload (pc := 99) dX10_settle_99 rfl ?_
                    refine kX10_442 (pc := 101) rfl (c_net (d := d - 1) p (by omega)) (by omega) (Nat.le_of_ble_eq_true rfl) dX10_settle_101 (fun r1 σ1 e1 => ?_)
                    obtain ⟨rfl, hσ⟩ := e1
                    subst σ1
                    rw [show spNet (mSA (mI σ 0 0) (setJ σ.2.2.1 65 f)).2.2.1 p 6 = nt p from hn p]
                    refine gx_goto (pc := 104) 108 dX10_settle_104 (by decide) ?_
                    exact K108 _ (by rw [spSm, if_pos c4])
            refine gx_iload_n (pc := 69) dX10_settle_69 rfl ?_
            refine gx_if_le (pc := 70) 158 dX10_settle_70 (by decide) (fun c2 => ?_) (fun c2 => ?_)
            · exact absurd c2 (Int32.not_le.mpr (nI_lt (a := 0) (by omega) (by omega)))
            · refine gx_iconst (pc := 73) (v := 0) dX10_settle_73 (by decide) ?_
              refine gx_istore (pc := 74) dX10_settle_74 (by decide) rfl ?_
              refine gx_iconst (pc := 76) (v := 0) dX10_settle_76 (by decide) ?_
              refine gx_istore (pc := 77) dX10_settle_77 (by decide) rfl ?_
              exact L4 6 0 rfl
      refine gx_iload_n (pc := 45) dX10_settle_45 rfl ?_
      refine gx_bipush (pc := 46) (v := 64) dX10_settle_46 (by decide) ?_
      refine gx_icmp_ge (pc := 48) 164 dX10_settle_48 (by decide) (fun c1 => ?_) (fun c1 => ?_)
      · exact absurd c1 (nI_ge (a := q) (b := 64) (by omega) (by omega))
      · refine gx_aload_n (pc := 51) dX10_settle_51 rfl ?_
        refine m_getA (pc := 52) rfl fX10_166 rfl (by decide) dX10_settle_52 ?_
        refine gx_iload_n (pc := 55) dX10_settle_55 rfl ?_
        refine gx_iload_n (pc := 56) dX10_settle_56 rfl ?_
        refine gx_if_ne (pc := 57) 64 dX10_settle_57 (by decide) (fun c2 => ?_) (fun c2 => ?_)
        · have hq0 : q ≠ 0 := fun e => c2 (by rw [e]; rfl)
          refine gx_bipush (pc := 64) (v := (-100)) dX10_settle_64 (by decide) ?_
          refine m_iast (pc := 66) hb 65 (q) 64 rfl (by decide) rfl (by first | rfl | simp only [gx_lit, nI_add, pk_mul]) (by omega) (by decide) dX10_settle_66 ?_
          refine gx_iload_n (pc := 67) dX10_settle_67 rfl ?_
          refine gx_istore_n (pc := 68) dX10_settle_68 (by decide) rfl ?_
          rw [mA_J]
          exact L3 q q _ (Nat.le_refl _) (Nat.le_refl _) (by rw [spGr, if_neg hq0]) _ _
        · have hq0 : q = 0 := (nI_eq (b := 0) (by omega) (by decide)).mp c2
          refine gx_iconst (pc := 60) (v := 0) dX10_settle_60 (by decide) ?_
          refine gx_goto (pc := 61) 66 dX10_settle_61 (by decide) ?_
          refine m_iast (pc := 66) hb 65 (q) 64 rfl (by decide) rfl (by first | rfl | simp only [gx_lit, nI_add, pk_mul]) (by omega) (by decide) dX10_settle_66 ?_
          refine gx_iload_n (pc := 67) dX10_settle_67 rfl ?_
          refine gx_istore_n (pc := 68) dX10_settle_68 (by decide) rfl ?_
          rw [mA_J]
          exact L3 q q _ (Nat.le_refl _) (Nat.le_refl _) (by rw [spGr, if_pos hq0]) _ _
  have L1 : ∀ m p, m + p = P → gxV G mX10_settle d 0 0 9 [some (.ref b), some (.int (nI (spOw nt p))), some (.int (nI p)), none, none, none] [] (mput h b (mI σ 0 0)) (mQi h b (fun r σ' => r = spBits (nI (spOw nt P)) 10 - spGr nt (σ.2.2.1 65) 64 (spOw nt P) ∧ ∃ f, σ' = mSA (mI σ 0 0) (setJ σ.2.2.1 65 f))) := by
    intro m
    induction m with
    | zero =>
      intro p hp
      have : p = P := by omega
      subst this
      refine gx_iload_n (pc := 9) dX10_settle_9 rfl ?_
      refine gx_aload_n (pc := 10) dX10_settle_10 rfl ?_
      refine m_getA (pc := 11) rfl fX10_13 rfl (by decide) dX10_settle_11 ?_
      refine gx_iconst (pc := 14) (v := 0) dX10_settle_14 (by decide) ?_
      refine m_iald (pc := 15) 10 (0) 8 rfl (by decide) rfl (by first | rfl | simp only [gx_lit, nI_add, pk_mul]) (by omega) (by decide) dX10_settle_15 ?_
      rw [mI_A, hP]
      refine gx_icmp_ge (pc := 16) 43 dX10_settle_16 (by decide) (fun c1 => ?_) (fun c1 => ?_)
      · refine gx_iconst (pc := 43) (v := 0) dX10_settle_43 (by decide) ?_
        refine gx_istore_n (pc := 44) dX10_settle_44 (by decide) rfl ?_
        have := L2 64 0 rfl none none none
        rw [show mSA (mI σ 0 0) (setJ σ.2.2.1 65 (spGr nt (σ.2.2.1 65) 0)) = mI σ 0 0 by rw [spGr, setJ_self]; rfl] at this
        exact this
      · exact absurd (nI_le (by omega) (by omega)) c1
    | succ m ih =>
      intro p hp
      have K35 : ∀ v, nI (spOw nt p) ||| v = nI (spOw nt (p + 1)) → gxV G mX10_settle d 0 0 35 [some (.ref b), some (.int (nI (spOw nt p))), some (.int (nI p)), none, none, none] [.int v, .int (nI (spOw nt p))] (mput h b (mI σ 0 0)) (mQi h b (fun r σ' => r = spBits (nI (spOw nt P)) 10 - spGr nt (σ.2.2.1 65) 64 (spOw nt P) ∧ ∃ f, σ' = mSA (mI σ 0 0) (setJ σ.2.2.1 65 f))) := by
        intro v hv
        refine gx_ior (pc := 35) dX10_settle_35 ?_
        rw [hv]
        refine gx_istore_n (pc := 36) dX10_settle_36 (by decide) rfl ?_
        refine gx_iincc (pc := 37) (c := 1) dX10_settle_37 rfl (by decide) (by decide) rfl ?_
        refine gx_goto (pc := 40) 9 dX10_settle_40 (by decide) ?_
        rw [nI_1]
        exact ih (p + 1) (by omega)
      refine gx_iload_n (pc := 9) dX10_settle_9 rfl ?_
      refine gx_aload_n (pc := 10) dX10_settle_10 rfl ?_
      refine m_getA (pc := 11) rfl fX10_13 rfl (by decide) dX10_settle_11 ?_
      refine gx_iconst (pc := 14) (v := 0) dX10_settle_14 (by decide) ?_
      refine m_iald (pc := 15) 10 (0) 8 rfl (by decide) rfl (by first | rfl | simp only [gx_lit, nI_add, pk_mul]) (by omega) (by decide) dX10_settle_15 ?_
      rw [mI_A, hP]
      refine gx_icmp_ge (pc := 16) 43 dX10_settle_16 (by decide) (fun c1 => ?_) (fun c1 => ?_)
      · exact absurd c1 (nI_ge (by omega) (by omega))
      · refine gx_iload_n (pc := 19) dX10_settle_19 rfl ?_
        refine gx_aload_n (pc := 20) dX10_settle_20 rfl ?_
        refine gx_iload_n (pc := 21) dX10_settle_21 rfl ?_
        refine kX10_442 (pc := 22) rfl (c_net (d := d - 1) p (by omega)) (by omega) (Nat.le_of_ble_eq_true rfl) dX10_settle_22 (fun r1 σ1 e1 => ?_)
        obtain ⟨rfl, hσ⟩ := e1
        subst σ1
        rw [show spNet (mI σ 0 0).2.2.1 p 6 = nt p from hn p]
        refine gx_if_eq (pc := 25) 34 dX10_settle_25 (by decide) (fun c2 => ?_) (fun c2 => ?_)
        · refine gx_iconst (pc := 34) (v := 0) dX10_settle_34 (by decide) ?_
          exact K35 _ (by rw [spOw, if_pos c2]; exact Int32.or_zero)
        · refine gx_iconst (pc := 28) (v := 1) dX10_settle_28 (by decide) ?_
          refine gx_iload_n (pc := 29) dX10_settle_29 rfl ?_
          refine gx_ishl (pc := 30) dX10_settle_30 ?_
          refine gx_goto (pc := 31) 35 dX10_settle_31 (by decide) ?_
          refine K35 _ ?_
          rw [spOw, if_neg c2]
          have hl := spOw_lt nt p
          have : (2:Nat) ^ p ≤ 2 ^ 5 := Nat.pow_le_pow_right (by decide) (by omega)
          exact or_hi p (by omega) _ (by omega) hl
  refine gx_aload_n (pc := 0) dX10_settle_0 rfl ?_
  refine gx_iconst (pc := 1) (v := 0) dX10_settle_1 (by decide) ?_
  refine m_putI (pc := 2) rfl hb fX10_175 rfl (by decide) tX10_0 dX10_settle_2 ?_
  refine gx_iconst (pc := 5) (v := 0) dX10_settle_5 (by decide) ?_
  refine gx_istore_n (pc := 6) dX10_settle_6 (by decide) rfl ?_
  refine gx_iconst (pc := 7) (v := 0) dX10_settle_7 (by decide) ?_
  refine gx_istore_n (pc := 8) dX10_settle_8 (by decide) rfl ?_
  exact L1 P 0 rfl
end MS
