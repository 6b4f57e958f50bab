/-! ===== MODEL O: secret, feed, marks ===== -/
set_option maxRecDepth 100000
def spSecret (w : Option gxEv) (A : Nat → Nat → Int32) (P k : Nat) (what : Int32) : Int32 :=
  if what = 0 then A 16 k else if what = 1 then A 17 k else if what = 2 then A 18 k else if what = 3 then A 19 k else if what = 4 then A 50 k else if what = 5 then spKn (fun p => decide (¬ A 13 p = 3)) (A 50 k) P
  else if what = 6 then spW w A P k else if what = 7 then (A 50 76 >>> (nI k &&& 31)) &&& 1 else if what = 8 then (A 50 77 >>> (nI k &&& 31)) &&& 1 else A 21 k
section MO
variable {G : gxG} {d : Nat} {h : gxH} {b : Nat} {σ : mS} {P S E : Nat} {w : Option gxEv}
theorem c_secret (hb : gxN G ≤ b) (hd : 16 ≤ d) (hT : mT σ.2.2.1 P S E w) (k what : Int32) : mMi G mX10_secret d [.ref b, .int k, .int what] h b σ (fun r σ' => ((¬ (inN k S ∧ (0 ≤ what ∧ what ≤ 9)) ∧ r = -1) ∨ ((0 ≤ what ∧ what ≤ 9) ∧ ∃ k', k' < S ∧ k = nI k' ∧ r = spSecret w σ.2.2.1 P k' what)) ∧ wS (mI σ 0 0) σ') := by
  have hS := hT.2.2.2.1
  refine gxM_of rfl (Nat.le_of_ble_eq_true rfl) rfl ?_
  have N : ¬ (inN k S ∧ (0 ≤ what ∧ what ≤ 9)) → gxV G mX10_secret d 0 0 23 [some (.ref b), some (.int k), some (.int what)] [] (mput h b (mI σ 0 0)) (mQi h b (fun r σ' => ((¬ (inN k S ∧ (0 ≤ what ∧ what ≤ 9)) ∧ r = -1) ∨ ((0 ≤ what ∧ what ≤ 9) ∧ ∃ k', k' < S ∧ k = nI k' ∧ r = spSecret w σ.2.2.1 P k' what)) ∧ wS (mI σ 0 0) σ')) := by
    intro hno
    refine gx_iconst (pc := 23) (v := (-1)) dX10_secret_23 (by decide) ?_
    exact m_ret (pc := 24) rfl dX10_secret_24 (⟨Or.inl ⟨hno, rfl⟩, wS.rf⟩)
  refine gx_aload_n (pc := 0) dX10_secret_0 rfl ?_
  refine gx_iconst (pc := 1) (v := 0) dX10_secret_1 (by decide) ?_
  refine m_putI (pc := 2) rfl hb fX10_175 rfl (by decide) tX10_0 dX10_secret_2 ?_
  refine gx_aload_n (pc := 5) dX10_secret_5 rfl ?_
  refine gx_iload_n (pc := 6) dX10_secret_6 rfl ?_
  refine kX10_445 (pc := 7) rfl (c_isS (d := d - 1) k (show mT (mI σ 0 0).2.2.1 P S E w from hT)) (by omega) (Nat.le_of_ble_eq_true rfl) dX10_secret_7 (fun r1 σ1 e1 => ?_)
  obtain ⟨e1, hσ⟩ := e1
  subst σ1
  refine gx_if_eq (pc := 10) 23 dX10_secret_10 (by decide) (fun c1 => ?_) (fun c1 => ?_)
  · rcases e1 with ⟨h1, rfl⟩ | ⟨h1, rfl⟩
    · exact absurd c1 (by decide)
    · exact N (fun hh => h1 hh.1)
  · rcases e1 with ⟨⟨k', hk, hke⟩, rfl⟩ | ⟨h1, rfl⟩
    · refine gx_iload_n (pc := 13) dX10_secret_13 rfl ?_
      refine gx_iconst (pc := 14) (v := 0) dX10_secret_14 (by decide) ?_
      refine gx_bipush (pc := 15) (v := 9) dX10_secret_15 (by decide) ?_
      refine kX10_308 (pc := 17) rfl (c_within (d := d - 1) what 0 9) (by omega) (Nat.le_of_ble_eq_true rfl) dX10_secret_17 (fun r1 σ1 e1 => ?_)
      obtain ⟨rfl, hσ⟩ := e1
      subst σ1
      refine gx_if_ne (pc := 20) 25 dX10_secret_20 (by decide) (fun c2 => ?_) (fun c2 => ?_)
      · have hw := wi_in c2
        obtain ⟨m, hm, rfl⟩ := nI_of2 (M := 9) (n := 9) (by decide) (Int32.not_lt.mpr hw.1) hw.2
        subst hke
        have fin : ∀ r τ, wS (mI σ 0 0) τ → r = spSecret w σ.2.2.1 P k' (nI m) → (fun r σ' => ((¬ (inN (nI k') S ∧ (0 ≤ nI m ∧ nI m ≤ 9)) ∧ r = -1) ∨ ((0 ≤ nI m ∧ nI m ≤ 9) ∧ ∃ k2, k2 < S ∧ nI k' = nI k2 ∧ r = spSecret w σ.2.2.1 P k2 (nI m))) ∧ wS (mI σ 0 0) σ') r τ := fun r τ h1 h2 => ⟨Or.inr ⟨hw, k', hk, rfl, h2⟩, h1⟩
        have hm8 : m = 0 ∨ m = 1 ∨ m = 2 ∨ m = 3 ∨ m = 4 ∨ m = 5 ∨ m = 6 ∨ m = 7 ∨ m = 8 ∨ m = 9 := by omega
        rcases hm8 with e | e | e | e | e | e | e | e | e | e <;> subst e
        · refine gx_iload_n (pc := 25) dX10_secret_25 rfl ?_
          refine gx_iconst (pc := 26) (v := 4) dX10_secret_26 (by decide) ?_
          refine gx_icmp_ge (pc := 27) 78 dX10_secret_27 (by decide) (fun c3 => ?_) (fun c3 => ?_)
          · exact absurd c3 (by decide)
          · refine gx_iload_n (pc := 30) dX10_secret_30 rfl ?_
            refine gx_if_ne (pc := 31) 43 dX10_secret_31 (by decide) (fun c4 => ?_) (fun c4 => ?_)
            · exact absurd rfl c4
            · refine gx_aload_n (pc := 34) dX10_secret_34 rfl ?_
              refine m_getA (pc := 35) rfl fX10_32 rfl (by decide) dX10_secret_35 ?_
              refine gx_iload_n (pc := 38) dX10_secret_38 rfl ?_
              refine m_iald (pc := 39) 16 (k') 20 rfl (by decide) rfl (by first | rfl | simp only [gx_lit, nI_add, pk_mul]) (by omega) (by decide) dX10_secret_39 ?_
              refine gx_goto (pc := 40) 77 dX10_secret_40 (by decide) ?_
              exact m_ret (pc := 77) rfl dX10_secret_77 (fin _ _ wS.rf rfl)
        · refine gx_iload_n (pc := 25) dX10_secret_25 rfl ?_
          refine gx_iconst (pc := 26) (v := 4) dX10_secret_26 (by decide) ?_
          refine gx_icmp_ge (pc := 27) 78 dX10_secret_27 (by decide) (fun c3 => ?_) (fun c3 => ?_)
          · exact absurd c3 (by decide)
          · refine gx_iload_n (pc := 30) dX10_secret_30 rfl ?_
            refine gx_if_ne (pc := 31) 43 dX10_secret_31 (by decide) (fun c4 => ?_) (fun c4 => ?_)
            · refine gx_iload_n (pc := 43) dX10_secret_43 rfl ?_
              refine gx_iconst (pc := 44) (v := 1) dX10_secret_44 (by decide) ?_
              refine gx_icmp_ne (pc := 45) 57 dX10_secret_45 (by decide) (fun c5 => ?_) (fun c5 => ?_)
              · exact absurd rfl c5
              · refine gx_aload_n (pc := 48) dX10_secret_48 rfl ?_
                refine m_getA (pc := 49) rfl fX10_35 rfl (by decide) dX10_secret_49 ?_
                refine gx_iload_n (pc := 52) dX10_secret_52 rfl ?_
                refine m_iald (pc := 53) 17 (k') 20 rfl (by decide) rfl (by first | rfl | simp only [gx_lit, nI_add, pk_mul]) (by omega) (by decide) dX10_secret_53 ?_
                refine gx_goto (pc := 54) 77 dX10_secret_54 (by decide) ?_
                exact m_ret (pc := 77) rfl dX10_secret_77 (fin _ _ wS.rf rfl)
            · exact absurd c4 (by decide)
        · refine gx_iload_n (pc := 25) dX10_secret_25 rfl ?_
          refine gx_iconst (pc := 26) (v := 4) dX10_secret_26 (by decide) ?_
          refine gx_icmp_ge (pc := 27) 78 dX10_secret_27 (by decide) (fun c3 => ?_) (fun c3 => ?_)
          · exact absurd c3 (by decide)
          · refine gx_iload_n (pc := 30) dX10_secret_30 rfl ?_
            refine gx_if_ne (pc := 31) 43 dX10_secret_31 (by decide) (fun c4 => ?_) (fun c4 => ?_)
            · refine gx_iload_n (pc := 43) dX10_secret_43 rfl ?_
              refine gx_iconst (pc := 44) (v := 1) dX10_secret_44 (by decide) ?_
              refine gx_icmp_ne (pc := 45) 57 dX10_secret_45 (by decide) (fun c5 => ?_) (fun c5 => ?_)
              · refine gx_iload_n (pc := 57) dX10_secret_57 rfl ?_
                refine gx_iconst (pc := 58) (v := 2) dX10_secret_58 (by decide) ?_
                refine gx_icmp_ne (pc := 59) 71 dX10_secret_59 (by decide) (fun c6 => ?_) (fun c6 => ?_)
                · exact absurd rfl c6
                · refine gx_aload_n (pc := 62) dX10_secret_62 rfl ?_
                  refine m_getA (pc := 63) rfl fX10_38 rfl (by decide) dX10_secret_63 ?_
                  refine gx_iload_n (pc := 66) dX10_secret_66 rfl ?_
                  refine m_iald (pc := 67) 18 (k') 20 rfl (by decide) rfl (by first | rfl | simp only [gx_lit, nI_add, pk_mul]) (by omega) (by decide) dX10_secret_67 ?_
                  refine gx_goto (pc := 68) 77 dX10_secret_68 (by decide) ?_
                  exact m_ret (pc := 77) rfl dX10_secret_77 (fin _ _ wS.rf rfl)
              · exact absurd c5 (by decide)
            · exact absurd c4 (by decide)
        · refine gx_iload_n (pc := 25) dX10_secret_25 rfl ?_
          refine gx_iconst (pc := 26) (v := 4) dX10_secret_26 (by decide) ?_
          refine gx_icmp_ge (pc := 27) 78 dX10_secret_27 (by decide) (fun c3 => ?_) (fun c3 => ?_)
          · exact absurd c3 (by decide)
          · refine gx_iload_n (pc := 30) dX10_secret_30 rfl ?_
            refine gx_if_ne (pc := 31) 43 dX10_secret_31 (by decide) (fun c4 => ?_) (fun c4 => ?_)
            · refine gx_iload_n (pc := 43) dX10_secret_43 rfl ?_
              refine gx_iconst (pc := 44) (v := 1) dX10_secret_44 (by decide) ?_
              refine gx_icmp_ne (pc := 45) 57 dX10_secret_45 (by decide) (fun c5 => ?_) (fun c5 => ?_)
              · refine gx_iload_n (pc := 57) dX10_secret_57 rfl ?_
                refine gx_iconst (pc := 58) (v := 2) dX10_secret_58 (by decide) ?_
                refine gx_icmp_ne (pc := 59) 71 dX10_secret_59 (by decide) (fun c6 => ?_) (fun c6 => ?_)
                · refine gx_aload_n (pc := 71) dX10_secret_71 rfl ?_
                  refine m_getA (pc := 72) rfl fX10_41 rfl (by decide) dX10_secret_72 ?_
                  refine gx_iload_n (pc := 75) dX10_secret_75 rfl ?_
                  refine m_iald (pc := 76) 19 (k') 20 rfl (by decide) rfl (by first | rfl | simp only [gx_lit, nI_add, pk_mul]) (by omega) (by decide) dX10_secret_76 ?_
                  exact m_ret (pc := 77) rfl dX10_secret_77 (fin _ _ wS.rf rfl)
                · exact absurd c6 (by decide)
              · exact absurd c5 (by decide)
            · exact absurd c4 (by decide)
        · refine gx_iload_n (pc := 25) dX10_secret_25 rfl ?_
          refine gx_iconst (pc := 26) (v := 4) dX10_secret_26 (by decide) ?_
          refine gx_icmp_ge (pc := 27) 78 dX10_secret_27 (by decide) (fun c3 => ?_) (fun c3 => ?_)
          · refine gx_iload_n (pc := 78) dX10_secret_78 rfl ?_
            refine gx_bipush (pc := 79) (v := 7) dX10_secret_79 (by decide) ?_
            refine gx_icmp_ge (pc := 81) 122 dX10_secret_81 (by decide) (fun c4 => ?_) (fun c4 => ?_)
            · exact absurd c4 (by decide)
            · refine gx_iload_n (pc := 84) dX10_secret_84 rfl ?_
              refine gx_iconst (pc := 85) (v := 4) dX10_secret_85 (by decide) ?_
              refine gx_icmp_ne (pc := 86) 98 dX10_secret_86 (by decide) (fun c5 => ?_) (fun c5 => ?_)
              · exact absurd rfl c5
              · refine gx_aload_n (pc := 89) dX10_secret_89 rfl ?_
                refine m_getA (pc := 90) rfl fX10_129 rfl (by decide) dX10_secret_90 ?_
                refine gx_iload_n (pc := 93) dX10_secret_93 rfl ?_
                refine m_iald (pc := 94) 50 (k') 123 rfl (by decide) rfl (by first | rfl | simp only [gx_lit, nI_add, pk_mul]) (by omega) (by decide) dX10_secret_94 ?_
                refine gx_goto (pc := 95) 121 dX10_secret_95 (by decide) ?_
                exact m_ret (pc := 121) rfl dX10_secret_121 (fin _ _ wS.rf rfl)
          · exact absurd (by decide) c3
        · refine gx_iload_n (pc := 25) dX10_secret_25 rfl ?_
          refine gx_iconst (pc := 26) (v := 4) dX10_secret_26 (by decide) ?_
          refine gx_icmp_ge (pc := 27) 78 dX10_secret_27 (by decide) (fun c3 => ?_) (fun c3 => ?_)
          · refine gx_iload_n (pc := 78) dX10_secret_78 rfl ?_
            refine gx_bipush (pc := 79) (v := 7) dX10_secret_79 (by decide) ?_
            refine gx_icmp_ge (pc := 81) 122 dX10_secret_81 (by decide) (fun c4 => ?_) (fun c4 => ?_)
            · exact absurd c4 (by decide)
            · refine gx_iload_n (pc := 84) dX10_secret_84 rfl ?_
              refine gx_iconst (pc := 85) (v := 4) dX10_secret_85 (by decide) ?_
              refine gx_icmp_ne (pc := 86) 98 dX10_secret_86 (by decide) (fun c5 => ?_) (fun c5 => ?_)
              · refine gx_iload_n (pc := 98) dX10_secret_98 rfl ?_
                refine gx_iconst (pc := 99) (v := 5) dX10_secret_99 (by decide) ?_
                refine gx_icmp_ne (pc := 100) 116 dX10_secret_100 (by decide) (fun c6 => ?_) (fun c6 => ?_)
                · exact absurd rfl c6
                · refine gx_aload_n (pc := 103) dX10_secret_103 rfl ?_
                  refine gx_aload_n (pc := 104) dX10_secret_104 rfl ?_
                  refine m_getA (pc := 105) rfl fX10_129 rfl (by decide) dX10_secret_105 ?_
                  refine gx_iload_n (pc := 108) dX10_secret_108 rfl ?_
                  refine m_iald (pc := 109) 50 (k') 123 rfl (by decide) rfl (by first | rfl | simp only [gx_lit, nI_add, pk_mul]) (by omega) (by decide) dX10_secret_109 ?_
                  refine kX10_408 (pc := 110) rfl (c_knowersOf (d := d - 1) (σ := mI σ 0 0) P _ hT.1 hT.2.1) (by omega) (Nat.le_of_ble_eq_true rfl) dX10_secret_110 (fun r1 σ1 e1 => ?_)
                  refine gx_goto (pc := 113) 121 dX10_secret_113 (by decide) ?_
                  obtain ⟨rfl, hσ⟩ := e1
                  subst σ1
                  exact m_ret (pc := 121) rfl dX10_secret_121 (fin _ _ wS.rf rfl)
              · exact absurd c5 (by decide)
          · exact absurd (by decide) c3
        · refine gx_iload_n (pc := 25) dX10_secret_25 rfl ?_
          refine gx_iconst (pc := 26) (v := 4) dX10_secret_26 (by decide) ?_
          refine gx_icmp_ge (pc := 27) 78 dX10_secret_27 (by decide) (fun c3 => ?_) (fun c3 => ?_)
          · refine gx_iload_n (pc := 78) dX10_secret_78 rfl ?_
            refine gx_bipush (pc := 79) (v := 7) dX10_secret_79 (by decide) ?_
            refine gx_icmp_ge (pc := 81) 122 dX10_secret_81 (by decide) (fun c4 => ?_) (fun c4 => ?_)
            · exact absurd c4 (by decide)
            · refine gx_iload_n (pc := 84) dX10_secret_84 rfl ?_
              refine gx_iconst (pc := 85) (v := 4) dX10_secret_85 (by decide) ?_
              refine gx_icmp_ne (pc := 86) 98 dX10_secret_86 (by decide) (fun c5 => ?_) (fun c5 => ?_)
              · refine gx_iload_n (pc := 98) dX10_secret_98 rfl ?_
                refine gx_iconst (pc := 99) (v := 5) dX10_secret_99 (by decide) ?_
                refine gx_icmp_ne (pc := 100) 116 dX10_secret_100 (by decide) (fun c6 => ?_) (fun c6 => ?_)
                · refine gx_aload_n (pc := 116) dX10_secret_116 rfl ?_
                  refine gx_iload_n (pc := 117) dX10_secret_117 rfl ?_
                  refine kX10_427 (pc := 118) rfl (c_worthOf0 (σ := mI σ 0 0) hb hT k' (d - 1) (by omega) hk) (by omega) (Nat.le_of_ble_eq_true rfl) dX10_secret_118 (fun r1 σ1 e1 => ?_)
                  obtain ⟨rfl, h1⟩ := e1
                  exact m_ret (pc := 121) rfl dX10_secret_121 (fin _ _ h1 rfl)
                · exact absurd c6 (by decide)
              · exact absurd c5 (by decide)
          · exact absurd (by decide) c3
        · refine gx_iload_n (pc := 25) dX10_secret_25 rfl ?_
          refine gx_iconst (pc := 26) (v := 4) dX10_secret_26 (by decide) ?_
          refine gx_icmp_ge (pc := 27) 78 dX10_secret_27 (by decide) (fun c3 => ?_) (fun c3 => ?_)
          · refine gx_iload_n (pc := 78) dX10_secret_78 rfl ?_
            refine gx_bipush (pc := 79) (v := 7) dX10_secret_79 (by decide) ?_
            refine gx_icmp_ge (pc := 81) 122 dX10_secret_81 (by decide) (fun c4 => ?_) (fun c4 => ?_)
            · refine gx_iload_n (pc := 122) dX10_secret_122 rfl ?_
              refine gx_bipush (pc := 123) (v := 9) dX10_secret_123 (by decide) ?_
              refine gx_icmp_ne (pc := 125) 137 dX10_secret_125 (by decide) (fun c5 => ?_) (fun c5 => ?_)
              · refine gx_aload_n (pc := 137) dX10_secret_137 rfl ?_
                refine m_getA (pc := 138) rfl fX10_129 rfl (by decide) dX10_secret_138 ?_
                refine gx_iload_n (pc := 141) dX10_secret_141 rfl ?_
                refine gx_bipush (pc := 142) (v := 7) dX10_secret_142 (by decide) ?_
                refine gx_icmp_ne (pc := 144) 152 dX10_secret_144 (by decide) (fun c6 => ?_) (fun c6 => ?_)
                · exact absurd rfl c6
                · refine gx_bipush (pc := 147) (v := 76) dX10_secret_147 (by decide) ?_
                  refine gx_goto (pc := 149) 154 dX10_secret_149 (by decide) ?_
                  refine m_iald (pc := 154) 50 (76) 123 rfl (by decide) rfl (by first | rfl | simp only [gx_lit, nI_add, pk_mul]) (by omega) (by decide) dX10_secret_154 ?_
                  refine gx_iload_n (pc := 155) dX10_secret_155 rfl ?_
                  refine gx_ishr (pc := 156) dX10_secret_156 ?_
                  refine gx_iconst (pc := 157) (v := 1) dX10_secret_157 (by decide) ?_
                  refine gx_iand (pc := 158) dX10_secret_158 ?_
                  exact m_ret (pc := 159) rfl dX10_secret_159 (fin _ _ wS.rf rfl)
              · exact absurd c5 (by decide)
            · exact absurd (by decide) c4
          · exact absurd (by decide) c3
        · refine gx_iload_n (pc := 25) dX10_secret_25 rfl ?_
          refine gx_iconst (pc := 26) (v := 4) dX10_secret_26 (by decide) ?_
          refine gx_icmp_ge (pc := 27) 78 dX10_secret_27 (by decide) (fun c3 => ?_) (fun c3 => ?_)
          · refine gx_iload_n (pc := 78) dX10_secret_78 rfl ?_
            refine gx_bipush (pc := 79) (v := 7) dX10_secret_79 (by decide) ?_
            refine gx_icmp_ge (pc := 81) 122 dX10_secret_81 (by decide) (fun c4 => ?_) (fun c4 => ?_)
            · refine gx_iload_n (pc := 122) dX10_secret_122 rfl ?_
              refine gx_bipush (pc := 123) (v := 9) dX10_secret_123 (by decide) ?_
              refine gx_icmp_ne (pc := 125) 137 dX10_secret_125 (by decide) (fun c5 => ?_) (fun c5 => ?_)
              · refine gx_aload_n (pc := 137) dX10_secret_137 rfl ?_
                refine m_getA (pc := 138) rfl fX10_129 rfl (by decide) dX10_secret_138 ?_
                refine gx_iload_n (pc := 141) dX10_secret_141 rfl ?_
                refine gx_bipush (pc := 142) (v := 7) dX10_secret_142 (by decide) ?_
                refine gx_icmp_ne (pc := 144) 152 dX10_secret_144 (by decide) (fun c6 => ?_) (fun c6 => ?_)
                · refine gx_bipush (pc := 152) (v := 77) dX10_secret_152 (by decide) ?_
                  refine m_iald (pc := 154) 50 (77) 123 rfl (by decide) rfl (by first | rfl | simp only [gx_lit, nI_add, pk_mul]) (by omega) (by decide) dX10_secret_154 ?_
                  refine gx_iload_n (pc := 155) dX10_secret_155 rfl ?_
                  refine gx_ishr (pc := 156) dX10_secret_156 ?_
                  refine gx_iconst (pc := 157) (v := 1) dX10_secret_157 (by decide) ?_
                  refine gx_iand (pc := 158) dX10_secret_158 ?_
                  exact m_ret (pc := 159) rfl dX10_secret_159 (fin _ _ wS.rf rfl)
                · exact absurd c6 (by decide)
              · exact absurd c5 (by decide)
            · exact absurd (by decide) c4
          · exact absurd (by decide) c3
        · refine gx_iload_n (pc := 25) dX10_secret_25 rfl ?_
          refine gx_iconst (pc := 26) (v := 4) dX10_secret_26 (by decide) ?_
          refine gx_icmp_ge (pc := 27) 78 dX10_secret_27 (by decide) (fun c3 => ?_) (fun c3 => ?_)
          · refine gx_iload_n (pc := 78) dX10_secret_78 rfl ?_
            refine gx_bipush (pc := 79) (v := 7) dX10_secret_79 (by decide) ?_
            refine gx_icmp_ge (pc := 81) 122 dX10_secret_81 (by decide) (fun c4 => ?_) (fun c4 => ?_)
            · refine gx_iload_n (pc := 122) dX10_secret_122 rfl ?_
              refine gx_bipush (pc := 123) (v := 9) dX10_secret_123 (by decide) ?_
              refine gx_icmp_ne (pc := 125) 137 dX10_secret_125 (by decide) (fun c5 => ?_) (fun c5 => ?_)
              · exact absurd rfl c5
              · refine gx_aload_n (pc := 128) dX10_secret_128 rfl ?_
                refine m_getA (pc := 129) rfl fX10_47 rfl (by decide) dX10_secret_129 ?_
                refine gx_iload_n (pc := 132) dX10_secret_132 rfl ?_
                refine m_iald (pc := 133) 21 (k') 20 rfl (by decide) rfl (by first | rfl | simp only [gx_lit, nI_add, pk_mul]) (by omega) (by decide) dX10_secret_133 ?_
                refine gx_goto (pc := 134) 159 dX10_secret_134 (by decide) ?_
                exact m_ret (pc := 159) rfl dX10_secret_159 (fin _ _ wS.rf rfl)
            · exact absurd (by decide) c4
          · exact absurd (by decide) c3
      · exact N (fun hh => wi_out c2 hh.2)
    · exact absurd rfl c1
/-- a sign that goes onto the tape -/
def spSign (c : Int32) : Bool := decide (c = 10) || (decide (32 ≤ c) && decide (c ≤ 126))
def spByte (v : Int64) (k : Nat) : Int32 := ((v.toUInt64 >>> ((nI (56 - 8 * (k % 8))).toInt64.toUInt64 &&& Int64.toUInt64 63)).toInt64 &&& 255).toInt32
/-- the tape: how much, what -/
abbrev tpT : Type := Nat × (Nat → Int32)
def tpStep (q : tpT) (c : Int32) : tpT := if q.1 < 1000 ∧ spSign c = true then (q.1 + 1, upd q.2 q.1 c) else q
def spFeed (q : tpT) (x y z : Int64) : Nat → tpT
  | 0 => q
  | k + 1 => tpStep (spFeed q x y z k) (spByte (if k < 8 then x else if k < 16 then y else z) k)
theorem tpStep_le {q : tpT} {c : Int32} (hq : q.1 ≤ 1000) : (tpStep q c).1 ≤ 1000 := by
  unfold tpStep
  split
  · rename_i hh
    exact hh.1
  · exact hq
theorem spFeed_le {q : tpT} {x y z : Int64} (hq : q.1 ≤ 1000) (k : Nat) : (spFeed q x y z k).1 ≤ 1000 := by
  induction k with
  | zero => exact hq
  | succ k ih => rw [spFeed]; exact tpStep_le ih
/-- the model with this tape -/
def mTp (σ : mS) (q : tpT) : mS := mI (mSA σ (setJ σ.2.2.1 2 q.2)) 1 (nI q.1)
theorem c_feed (hb : gxN G ≤ b) (n : Nat) (hn : n ≤ 1000) (hnt : σ.1 1 = nI n) (x y z : Int64) : mMi G mX10_feed d [.ref b, .long x, .long y, .long z] h b σ (fun r σ' => r = nI (spFeed (n, σ.2.2.1 2) x y z 24).1 ∧ σ' = mTp (mI σ 0 0) (spFeed (n, σ.2.2.1 2) x y z 24)) := by
  refine gxM_of rfl (Nat.le_of_ble_eq_true rfl) rfl ?_
  have hle : ∀ k, (spFeed (n, σ.2.2.1 2) x y z k).1 ≤ 1000 := fun k => spFeed_le hn k
  have L : ∀ m k, m + k = 24 → ∀ (x8 x9 x10 : Option Value), gxV G mX10_feed d 0 0 8 [some (.ref b), some (.long x), none, some (.long y), none, some (.long z), none, some (.int (nI k)), x8, x9, x10] [] (mput h b (mTp (mI σ 0 0) (spFeed (n, σ.2.2.1 2) x y z k))) (mQi h b (fun r σ' => r = nI (spFeed (n, σ.2.2.1 2) x y z 24).1 ∧ σ' = mTp (mI σ 0 0) (spFeed (n, σ.2.2.1 2) x y z 24))) := by
    intro m
    induction m with
    | zero =>
      intro k hk x8 x9 x10
      refine gx_iload (pc := 8) dX10_feed_8 rfl ?_
      refine gx_bipush (pc := 10) (v := 24) dX10_feed_10 (by decide) ?_
      refine gx_icmp_ge (pc := 12) 120 dX10_feed_12 (by decide) (fun c1 => ?_) (fun c1 => ?_)
      · refine gx_aload_n (pc := 120) dX10_feed_120 rfl ?_
        refine m_getI (pc := 121) rfl fX10_181 rfl (by decide) dX10_feed_121 ?_
        exact m_ret (pc := 124) rfl dX10_feed_124 (⟨by rw [show k = 24 by omega]; exact mI_eq _ _ _, by rw [show k = 24 by omega]⟩)
      · exact absurd (nI_le (a := 24) (b := k) (by omega) (by omega)) c1
    | succ m ih =>
      intro k hk x8 x9 x10
      have hz := hle k
      have K114 : ∀ (q : tpT) (x8 x9 x10 : Option Value), q = spFeed (n, σ.2.2.1 2) x y z (k + 1) → gxV G mX10_feed d 0 0 114 [some (.ref b), some (.long x), none, some (.long y), none, some (.long z), none, some (.int (nI k)), x8, x9, x10] [] (mput h b (mTp (mI σ 0 0) q)) (mQi h b (fun r σ' => r = nI (spFeed (n, σ.2.2.1 2) x y z 24).1 ∧ σ' = mTp (mI σ 0 0) (spFeed (n, σ.2.2.1 2) x y z 24))) := by
        intro q x8 x9 x10 hq
        subst hq
        refine gx_iincc (pc := 114) (c := 1) dX10_feed_114 rfl (by decide) (by decide) rfl ?_
        refine gx_goto (pc := 117) 8 dX10_feed_117 (by decide) ?_
        rw [nI_1]
        exact ih (k + 1) (by omega) x8 x9 x10
      generalize hq : spFeed (n, σ.2.2.1 2) x y z k = q at *
      obtain ⟨t, tp⟩ := q
      have hstep : spFeed (n, σ.2.2.1 2) x y z (k + 1) = tpStep (t, tp) (spByte (if k < 8 then x else if k < 16 then y else z) k) := by rw [spFeed, hq]
      have K39 : ∀ v, v = (if k < 8 then x else if k < 16 then y else z) → gxV G mX10_feed d 0 0 39 [some (.ref b), some (.long x), none, some (.long y), none, some (.long z), none, some (.int (nI k)), x8, x9, x10] [.long v] (mput h b (mTp (mI σ 0 0) (t, tp))) (mQi h b (fun r σ' => r = nI (spFeed (n, σ.2.2.1 2) x y z 24).1 ∧ σ' = mTp (mI σ 0 0) (spFeed (n, σ.2.2.1 2) x y z 24))) := by
        intro v hv
        refine gx_lstore (pc := 39) dX10_feed_39 (by decide) rfl ?_
        refine gx_lload (pc := 41) dX10_feed_41 rfl ?_
        refine gx_bipush (pc := 43) (v := 56) dX10_feed_43 (by decide) ?_
        refine gx_bipush (pc := 45) (v := 8) dX10_feed_45 (by decide) ?_
        refine gx_iload (pc := 47) dX10_feed_47 rfl ?_
        refine gx_bipush (pc := 49) (v := 7) dX10_feed_49 (by decide) ?_
        refine gx_iand (pc := 51) dX10_feed_51 ?_
        refine gx_imul (pc := 52) dX10_feed_52 ?_
        refine gx_isub (pc := 53) dX10_feed_53 ?_
        have e7 : (56 : Int32) - 8 * (nI k &&& 7) = nI (56 - 8 * (k % 8)) := by
          rw [show nI k &&& 7 = nI (k % 2 ^ 3) from pk_andN (k := 3) (by omega) (by decide), show (8 : Int32) * nI (k % 2 ^ 3) = nI (8 * (k % 8)) from pk_mul 8 (k % 8)]
          exact pk_sub (a := 56) (by omega)
        rw [e7]
        refine gx_lushr (pc := 54) dX10_feed_54 ?_
        refine gx_ldc2 (pc := 55) q2062 dX10_feed_55 ?_
        refine gx_land (pc := 58) dX10_feed_58 ?_
        refine gx_l2i (pc := 59) dX10_feed_59 ?_
        refine gx_istore (pc := 60) dX10_feed_60 (by decide) rfl ?_
        have e8 : ((v.toUInt64 >>> ((nI (56 - 8 * (k % 8))).toInt64.toUInt64 &&& Int64.toUInt64 63)).toInt64 &&& 255).toInt32 = spByte v k := rfl
        rw [e8]
        rw [← hv] at hstep
        generalize spByte v k = c at *
        refine gx_aload_n (pc := 62) dX10_feed_62 rfl ?_
        refine m_getI (pc := 63) rfl fX10_181 rfl (by decide) dX10_feed_63 ?_
        have e9 : (mTp (mI σ 0 0) (t, tp)).1 1 = nI t := mI_eq _ _ _
        rw [e9]
        refine gx_sipush (pc := 66) (v := 1000) dX10_feed_66 (by decide) ?_
        refine gx_icmp_ge (pc := 69) 114 dX10_feed_69 (by decide) (fun c1 => ?_) (fun c1 => ?_)
        · refine K114 (t, tp) _ _ _ ?_
          rw [hstep, tpStep, if_neg]
          intro hh
          exact absurd (nI_lt (b := 1000) hh.1 (by decide)) (Int32.not_lt.mpr c1)
        · have ht : t < 1000 := by
            rcases Nat.lt_or_ge t 1000 with q | q
            · exact q
            · exact absurd (nI_le (a := 1000) q (by omega)) c1
          have K93 : spSign c = true → gxV G mX10_feed d 0 0 93 [some (.ref b), some (.long x), none, some (.long y), none, some (.long z), none, some (.int (nI k)), some (.long v), none, some (.int c)] [] (mput h b (mTp (mI σ 0 0) (t, tp))) (mQi h b (fun r σ' => r = nI (spFeed (n, σ.2.2.1 2) x y z 24).1 ∧ σ' = mTp (mI σ 0 0) (spFeed (n, σ.2.2.1 2) x y z 24))) := by
            intro hs1
            refine gx_aload_n (pc := 93) dX10_feed_93 rfl ?_
            refine m_getA (pc := 94) rfl fX10_7 rfl (by decide) dX10_feed_94 ?_
            refine gx_aload_n (pc := 97) dX10_feed_97 rfl ?_
            refine m_getI (pc := 98) rfl fX10_181 rfl (by decide) dX10_feed_98 ?_
            rw [e9]
            refine gx_iload (pc := 101) dX10_feed_101 rfl ?_
            refine m_iast (pc := 103) hb 2 (t) 1000 rfl (by decide) rfl (by first | rfl | simp only [gx_lit, nI_add, pk_mul]) (by omega) (by decide) dX10_feed_103 ?_
            refine gx_aload_n (pc := 104) dX10_feed_104 rfl ?_
            refine gx_dup (pc := 105) dX10_feed_105 rfl ?_
            refine m_getI (pc := 106) rfl fX10_181 rfl (by decide) dX10_feed_106 ?_
            have e10 : (mA (mTp (mI σ 0 0) (t, tp)) 2 t c).1 1 = nI t := e9
            rw [e10]
            refine gx_iconst (pc := 109) (v := 1) dX10_feed_109 (by decide) ?_
            refine gx_iadd (pc := 110) dX10_feed_110 ?_
            refine m_putI (pc := 111) rfl hb fX10_181 rfl (by decide) tX10_1 dX10_feed_111 ?_
            rw [nI_1]
            have e11 : mI (mA (mTp (mI σ 0 0) (t, tp)) 2 t c) 1 (nI (t + 1)) = mTp (mI σ 0 0) (t + 1, upd tp t c) := by
              have e12 : ∀ (τ : mS) (f : Nat → Int32) (u v : Int32), mI (mA (mI (mSA τ (setJ τ.2.2.1 2 f)) 1 u) 2 t c) 1 v = mI (mSA τ (setJ τ.2.2.1 2 (upd f t c))) 1 v := by
                intro τ f u v
                have e13 : upA (setJ τ.2.2.1 2 f) 2 t c = setJ τ.2.2.1 2 (upd f t c) := by rw [upA_setJ, setJ_j, setJ_setJ]
                have e14 : mA (mI (mSA τ (setJ τ.2.2.1 2 f)) 1 u) 2 t c = mI (mSA τ (upA (setJ τ.2.2.1 2 f) 2 t c)) 1 u := rfl
                rw [e14, e13]
                simp only [mI, mSA]
                congr 1
                funext q
                by_cases hq : q = 1 <;> simp [upd, hq]
              exact e12 (mI σ 0 0) tp _ _
            rw [e11]
            refine K114 (t + 1, upd tp t c) _ _ _ ?_
            rw [hstep, tpStep, if_pos ⟨ht, hs1⟩]
          have K0 : spSign c = false → gxV G mX10_feed d 0 0 114 [some (.ref b), some (.long x), none, some (.long y), none, some (.long z), none, some (.int (nI k)), some (.long v), none, some (.int c)] [] (mput h b (mTp (mI σ 0 0) (t, tp))) (mQi h b (fun r σ' => r = nI (spFeed (n, σ.2.2.1 2) x y z 24).1 ∧ σ' = mTp (mI σ 0 0) (spFeed (n, σ.2.2.1 2) x y z 24))) := by
            intro hs0
            refine K114 (t, tp) _ _ _ ?_
            rw [hstep, tpStep, if_neg (fun hh => by rw [hs0] at hh; exact absurd hh.2 (by decide))]
          refine gx_iload (pc := 72) dX10_feed_72 rfl ?_
          refine gx_bipush (pc := 74) (v := 10) dX10_feed_74 (by decide) ?_
          refine gx_icmp_eq (pc := 76) 93 dX10_feed_76 (by decide) (fun c2 => ?_) (fun c2 => ?_)
          · exact K93 (by simp [spSign, c2])
          · refine gx_iload (pc := 79) dX10_feed_79 rfl ?_
            refine gx_bipush (pc := 81) (v := 32) dX10_feed_81 (by decide) ?_
            refine gx_icmp_lt (pc := 83) 114 dX10_feed_83 (by decide) (fun c3 => ?_) (fun c3 => ?_)
            · exact K0 (by simp [spSign, c2, Int32.not_le.mpr c3])
            · refine gx_iload (pc := 86) dX10_feed_86 rfl ?_
              refine gx_bipush (pc := 88) (v := 126) dX10_feed_88 (by decide) ?_
              refine gx_icmp_gt (pc := 90) 114 dX10_feed_90 (by decide) (fun c4 => ?_) (fun c4 => ?_)
              · exact K0 (by simp [spSign, c2, Int32.not_le.mpr c4])
              · exact K93 (by simp [spSign, Int32.not_lt.mp c3, Int32.not_lt.mp c4])
      refine gx_iload (pc := 8) dX10_feed_8 rfl ?_
      refine gx_bipush (pc := 10) (v := 24) dX10_feed_10 (by decide) ?_
      refine gx_icmp_ge (pc := 12) 120 dX10_feed_12 (by decide) (fun c1 => ?_) (fun c1 => ?_)
      · exact absurd c1 (nI_ge (a := k) (b := 24) (by omega) (by omega))
      · refine gx_iload (pc := 15) dX10_feed_15 rfl ?_
        refine gx_bipush (pc := 17) (v := 8) dX10_feed_17 (by decide) ?_
        refine gx_icmp_ge (pc := 19) 26 dX10_feed_19 (by decide) (fun c2 => ?_) (fun c2 => ?_)
        · have h8 : ¬ k < 8 := fun hh => absurd c2 (nI_ge (b := 8) hh (by decide))
          refine gx_iload (pc := 26) dX10_feed_26 rfl ?_
          refine gx_bipush (pc := 28) (v := 16) dX10_feed_28 (by decide) ?_
          refine gx_icmp_ge (pc := 30) 37 dX10_feed_30 (by decide) (fun c3 => ?_) (fun c3 => ?_)
          · have h16 : ¬ k < 16 := fun hh => absurd c3 (nI_ge (b := 16) hh (by decide))
            refine gx_lload (pc := 37) dX10_feed_37 rfl ?_
            exact K39 _ (by rw [if_neg h8, if_neg h16])
          · have h16 : k < 16 := by
              rcases Nat.lt_or_ge k 16 with q | q
              · exact q
              · exact absurd (nI_le (a := 16) q (by omega)) c3
            refine gx_lload_n (pc := 33) dX10_feed_33 rfl ?_
            refine gx_goto (pc := 34) 39 dX10_feed_34 (by decide) ?_
            exact K39 _ (by rw [if_neg h8, if_pos h16])
        · have h8 : k < 8 := by
            rcases Nat.lt_or_ge k 8 with q | q
            · exact q
            · exact absurd (nI_le (a := 8) q (by omega)) c2
          refine gx_lload_n (pc := 22) dX10_feed_22 rfl ?_
          refine gx_goto (pc := 23) 39 dX10_feed_23 (by decide) ?_
          exact K39 _ (by rw [if_pos h8])
  refine gx_aload_n (pc := 0) dX10_feed_0 rfl ?_
  refine gx_iconst (pc := 1) (v := 0) dX10_feed_1 (by decide) ?_
  refine m_putI (pc := 2) rfl hb fX10_175 rfl (by decide) tX10_0 dX10_feed_2 ?_
  refine gx_iconst (pc := 5) (v := 0) dX10_feed_5 (by decide) ?_
  refine gx_istore (pc := 6) dX10_feed_6 (by decide) rfl ?_
  have e0 : mTp (mI σ 0 0) (n, σ.2.2.1 2) = mI σ 0 0 := by
    unfold mTp
    have : mSA (mI σ 0 0) (setJ (mI σ 0 0).2.2.1 2 (σ.2.2.1 2)) = mI σ 0 0 := by
      show mSA (mI σ 0 0) (setJ σ.2.2.1 2 (σ.2.2.1 2)) = _
      rw [setJ_self]; rfl
    rw [this, ← hnt]
    simp only [mI]
    congr 1
    funext q
    by_cases hq : q = 1
    · subst hq; simp [upd]
    · simp [upd, hq]
  have L0 := L 24 0 (by omega) none none none
  have e1 : mTp (mI σ 0 0) (spFeed (n, σ.2.2.1 2) x y z 0) = mI σ 0 0 := e0
  rw [e1] at L0
  exact L0
end MO
