/-! ===== MODEL N: count, person, secret, feasts ===== -/
set_option maxRecDepth 100000
section MN
variable {G : gxG} {d : Nat} {h : gxH} {b : Nat} {σ : mS} {P S E : Nat} {w : Option gxEv}
theorem wi_in {v lo hi : Int32} (hc : ¬ zi (decide (lo ≤ v) && decide (v ≤ hi)) = 0) : lo ≤ v ∧ v ≤ hi := by
  cases e : (decide (lo ≤ v) && decide (v ≤ hi)) with
  | true => simpa using e
  | false => rw [e] at hc; exact absurd rfl hc
theorem wi_out {v lo hi : Int32} (hc : zi (decide (lo ≤ v) && decide (v ≤ hi)) = 0) : ¬ (lo ≤ v ∧ v ≤ hi) := by
  intro hh
  rw [decide_eq_true hh.1, decide_eq_true hh.2] at hc
  exact absurd hc (by decide)
def spCount (w : Option gxEv) (σ : mS) (P S : Nat) (what : Int32) : Int32 :=
  if what < 4 then σ.2.2.1 10 what.toNatClampNeg else if what = 4 then σ.2.2.1 50 85 else if what = 5 then spWs w σ.2.2.1 P (spAll S) S else if what = 6 then σ.2.2.1 42 0
  else if what = 7 then σ.2.2.1 47 0 else if what = 8 then σ.2.2.1 50 122 else if what = 9 then σ.1 55 else σ.1 1
theorem c_count (hb : gxN G ≤ b) (hd : 16 ≤ d) (hT : mT σ.2.2.1 P S E w) (what : Int32) : mMi G mX10_count d [.ref b, .int what] h b σ (fun r σ' => ((¬ (0 ≤ what ∧ what ≤ 10) ∧ r = -1) ∨ ((0 ≤ what ∧ what ≤ 10) ∧ r = spCount w σ P S what)) ∧ wS (mI σ 0 0) σ') := by
  refine gxM_of rfl (Nat.le_of_ble_eq_true rfl) rfl ?_
  refine gx_aload_n (pc := 0) dX10_count_0 rfl ?_
  refine gx_iconst (pc := 1) (v := 0) dX10_count_1 (by decide) ?_
  refine m_putI (pc := 2) rfl hb fX10_175 rfl (by decide) tX10_0 dX10_count_2 ?_
  refine gx_iload_n (pc := 5) dX10_count_5 rfl ?_
  refine gx_iconst (pc := 6) (v := 0) dX10_count_6 (by decide) ?_
  refine gx_bipush (pc := 7) (v := 10) dX10_count_7 (by decide) ?_
  refine kX10_308 (pc := 9) rfl (c_within (d := d - 1) what 0 10) (by omega) (Nat.le_of_ble_eq_true rfl) dX10_count_9 (fun r1 σ1 e1 => ?_)
  obtain ⟨rfl, hσ⟩ := e1
  subst σ1
  refine gx_if_ne (pc := 12) 17 dX10_count_12 (by decide) (fun c1 => ?_) (fun c1 => ?_)
  · have hw := wi_in c1
    obtain ⟨k, hk, rfl⟩ := nI_of2 (M := 10) (n := 10) (by decide) (Int32.not_lt.mpr hw.1) hw.2
    refine gx_iload_n (pc := 17) dX10_count_17 rfl ?_
    refine gx_iconst (pc := 18) (v := 4) dX10_count_18 (by decide) ?_
    refine gx_icmp_ge (pc := 19) 29 dX10_count_19 (by decide) (fun c2 => ?_) (fun c2 => ?_)
    · refine gx_iload_n (pc := 29) dX10_count_29 rfl ?_
      refine gx_bipush (pc := 30) (v := 7) dX10_count_30 (by decide) ?_
      refine gx_icmp_ge (pc := 32) 73 dX10_count_32 (by decide) (fun c3 => ?_) (fun c3 => ?_)
      · have hn4 : ¬ nI k < 4 := Int32.not_lt.mpr c2
        have hne : nI k ≠ 4 ∧ nI k ≠ 5 ∧ nI k ≠ 6 := by
          have : 7 ≤ k := (nI_leI (a := 7) (by decide) (by omega)).mp c3
          refine ⟨fun e => ?_, fun e => ?_, fun e => ?_⟩
          · have := (nI_eq (b := 4) (by omega) (by decide)).mp e; omega
          · have := (nI_eq (b := 5) (by omega) (by decide)).mp e; omega
          · have := (nI_eq (b := 6) (by omega) (by decide)).mp e; omega
        refine gx_iload_n (pc := 73) dX10_count_73 rfl ?_
        refine gx_bipush (pc := 74) (v := 7) dX10_count_74 (by decide) ?_
        refine gx_icmp_ne (pc := 76) 88 dX10_count_76 (by decide) (fun c76 => ?_) (fun c76 => ?_)
        · refine gx_iload_n (pc := 88) dX10_count_88 rfl ?_
          refine gx_bipush (pc := 89) (v := 8) dX10_count_89 (by decide) ?_
          refine gx_icmp_ne (pc := 91) 104 dX10_count_91 (by decide) (fun c91 => ?_) (fun c91 => ?_)
          · refine gx_iload_n (pc := 104) dX10_count_104 rfl ?_
            refine gx_bipush (pc := 105) (v := 9) dX10_count_105 (by decide) ?_
            refine gx_icmp_ne (pc := 107) 117 dX10_count_107 (by decide) (fun c107 => ?_) (fun c107 => ?_)
            · refine gx_aload_n (pc := 117) dX10_count_117 rfl ?_
              refine m_getI (pc := 118) rfl fX10_181 rfl (by decide) dX10_count_118 ?_
              exact m_ret (pc := 121) rfl dX10_count_121 (⟨Or.inr ⟨hw, by rw [spCount, if_neg hn4, if_neg hne.1, if_neg hne.2.1, if_neg hne.2.2]; clear hn4; simp_all [mI, upd]⟩, wS.rf⟩)
            · refine gx_aload_n (pc := 110) dX10_count_110 rfl ?_
              refine m_getI (pc := 111) rfl fX10_398 rfl (by decide) dX10_count_111 ?_
              refine gx_goto (pc := 114) 121 dX10_count_114 (by decide) ?_
              exact m_ret (pc := 121) rfl dX10_count_121 (⟨Or.inr ⟨hw, by rw [spCount, if_neg hn4, if_neg hne.1, if_neg hne.2.1, if_neg hne.2.2]; clear hn4; simp_all [mI, upd]⟩, wS.rf⟩)
          · refine gx_aload_n (pc := 94) dX10_count_94 rfl ?_
            refine m_getA (pc := 95) rfl fX10_129 rfl (by decide) dX10_count_95 ?_
            refine gx_bipush (pc := 98) (v := 122) dX10_count_98 (by decide) ?_
            refine m_iald (pc := 100) 50 (122) 123 rfl (by decide) rfl (by first | rfl | simp only [gx_lit, nI_add, pk_mul]) (by omega) (by decide) dX10_count_100 ?_
            refine gx_goto (pc := 101) 121 dX10_count_101 (by decide) ?_
            exact m_ret (pc := 121) rfl dX10_count_121 (⟨Or.inr ⟨hw, by rw [spCount, if_neg hn4, if_neg hne.1, if_neg hne.2.1, if_neg hne.2.2]; clear hn4; simp_all [mI, upd]⟩, wS.rf⟩)
        · refine gx_aload_n (pc := 79) dX10_count_79 rfl ?_
          refine m_getA (pc := 80) rfl fX10_120 rfl (by decide) dX10_count_80 ?_
          refine gx_iconst (pc := 83) (v := 0) dX10_count_83 (by decide) ?_
          refine m_iald (pc := 84) 47 (0) 5 rfl (by decide) rfl (by first | rfl | simp only [gx_lit, nI_add, pk_mul]) (by omega) (by decide) dX10_count_84 ?_
          refine gx_goto (pc := 85) 121 dX10_count_85 (by decide) ?_
          exact m_ret (pc := 121) rfl dX10_count_121 (⟨Or.inr ⟨hw, by rw [spCount, if_neg hn4, if_neg hne.1, if_neg hne.2.1, if_neg hne.2.2]; clear hn4; simp_all [mI, upd]⟩, wS.rf⟩)
      · have hn4 : ¬ nI k < 4 := Int32.not_lt.mpr c2
        have hk7 : k = 4 ∨ k = 5 ∨ k = 6 := by
          have h4 : 4 ≤ k := (nI_leI (a := 4) (by decide) (by omega)).mp c2
          have h7 : k < 7 := by
            rcases Nat.lt_or_ge k 7 with q | q
            · exact q
            · exact absurd (nI_le (a := 7) q (by omega)) c3
          omega
        refine gx_iload_n (pc := 35) dX10_count_35 rfl ?_
        refine gx_iconst (pc := 36) (v := 4) dX10_count_36 (by decide) ?_
        refine gx_icmp_ne (pc := 37) 50 dX10_count_37 (by decide) (fun c4 => ?_) (fun c4 => ?_)
        · refine gx_iload_n (pc := 50) dX10_count_50 rfl ?_
          refine gx_iconst (pc := 51) (v := 5) dX10_count_51 (by decide) ?_
          refine gx_icmp_ne (pc := 52) 66 dX10_count_52 (by decide) (fun c5 => ?_) (fun c5 => ?_)
          · have e6 : nI k = 6 := by
              rcases hk7 with e | e | e <;> subst e
              · exact absurd rfl c4
              · exact absurd rfl c5
              · rfl
            refine gx_aload_n (pc := 66) dX10_count_66 rfl ?_
            refine m_getA (pc := 67) rfl fX10_105 rfl (by decide) dX10_count_67 ?_
            refine gx_iconst (pc := 70) (v := 0) dX10_count_70 (by decide) ?_
            refine m_iald (pc := 71) 42 (0) 6 rfl (by decide) rfl (by first | rfl | simp only [gx_lit, nI_add, pk_mul]) (by omega) (by decide) dX10_count_71 ?_
            exact m_ret (pc := 72) rfl dX10_count_72 (⟨Or.inr ⟨hw, by rw [spCount, if_neg hn4, if_neg c4, if_neg c5, if_pos e6]; rfl⟩, wS.rf⟩)
          · refine gx_aload_n (pc := 55) dX10_count_55 rfl ?_
            refine gx_aload_n (pc := 56) dX10_count_56 rfl ?_
            refine kX10_489 (pc := 57) rfl (c_allSecrets (d := d - 1) (show mT (mI σ 0 0).2.2.1 P S E w from hT)) (by omega) (Nat.le_of_ble_eq_true rfl) dX10_count_57 (fun r1 σ4 e4 => ?_)
            obtain ⟨rfl, hσ⟩ := e4
            subst σ4
            refine kX10_433 (pc := 60) rfl (c_worthsOf (d := d - 1) (σ := mI σ 0 0) hb (by omega) hT _) (by omega) (Nat.le_of_ble_eq_true rfl) dX10_count_60 (fun r1 σ4 e4 => ?_)
            refine gx_goto (pc := 63) 72 dX10_count_63 (by decide) ?_
            obtain ⟨rfl, h4⟩ := e4
            exact m_ret (pc := 72) rfl dX10_count_72 (⟨Or.inr ⟨hw, by rw [spCount, if_neg hn4, if_neg c4, if_pos c5]; rfl⟩, h4⟩)
        · refine gx_aload_n (pc := 40) dX10_count_40 rfl ?_
          refine m_getA (pc := 41) rfl fX10_129 rfl (by decide) dX10_count_41 ?_
          refine gx_bipush (pc := 44) (v := 85) dX10_count_44 (by decide) ?_
          refine m_iald (pc := 46) 50 (85) 123 rfl (by decide) rfl (by first | rfl | simp only [gx_lit, nI_add, pk_mul]) (by omega) (by decide) dX10_count_46 ?_
          refine gx_goto (pc := 47) 72 dX10_count_47 (by decide) ?_
          exact m_ret (pc := 72) rfl dX10_count_72 (⟨Or.inr ⟨hw, by rw [spCount, if_neg hn4, if_pos c4]; rfl⟩, wS.rf⟩)
    · have hk4 : k < 4 := by
        rcases Nat.lt_or_ge k 4 with q | q
        · exact q
        · exact absurd (nI_le (a := 4) q (by omega)) c2
      refine gx_aload_n (pc := 22) dX10_count_22 rfl ?_
      refine m_getA (pc := 23) rfl fX10_13 rfl (by decide) dX10_count_23 ?_
      refine gx_iload_n (pc := 26) dX10_count_26 rfl ?_
      refine m_iald (pc := 27) 10 (k) 8 rfl (by decide) rfl (by first | rfl | simp only [gx_lit, nI_add, pk_mul]) (by omega) (by decide) dX10_count_27 ?_
      exact m_ret (pc := 28) rfl dX10_count_28 (⟨Or.inr ⟨hw, by rw [spCount, if_pos (Int32.not_le.mp c2), nI_clamp (by omega)]; rfl⟩, wS.rf⟩)
  · refine gx_iconst (pc := 15) (v := (-1)) dX10_count_15 (by decide) ?_
    exact m_ret (pc := 16) rfl dX10_count_16 (⟨Or.inl ⟨wi_out c1, rfl⟩, wS.rf⟩)
def spPerson (w : Option gxEv) (A : Nat → Nat → Int32) (P S p : Nat) (what : Int32) : Int32 :=
  if what = 0 then A 13 p else if what = 1 then A 50 (70 + p) else if what = 2 then A 15 p else if what = 3 then spKnown A (nI p) S else if what = 4 then spWs w A P (spKnown A (nI p) S) S
  else if what = 5 then (A 50 78 >>> (nI p &&& 31)) &&& 1 else if what = 6 then A 50 (79 + p) else spNet A p 6
theorem c_person (hb : gxN G ≤ b) (hd : 17 ≤ d) (hT : mT σ.2.2.1 P S E w) (p what : Int32) : mMi G mX10_person d [.ref b, .int p, .int what] h b σ (fun r σ' => (¬ (inN p P ∧ (0 ≤ what ∧ what ≤ 7)) ∧ σ' = mI σ 0 1) ∨ ((0 ≤ what ∧ what ≤ 7) ∧ ∃ p', p' < P ∧ p = nI p' ∧ r = spPerson w σ.2.2.1 P S p' what ∧ wS (mI σ 0 0) σ')) := by
  have hP := hT.2.1
  refine gxM_of rfl (Nat.le_of_ble_eq_true rfl) rfl ?_
  have N : ¬ (inN p P ∧ (0 ≤ what ∧ what ≤ 7)) → gxV G mX10_person d 0 0 23 [some (.ref b), some (.int p), some (.int what)] [.ref b] (mput h b σ) (mQi h b (fun r σ' => (¬ (inN p P ∧ (0 ≤ what ∧ what ≤ 7)) ∧ σ' = mI σ 0 1) ∨ ((0 ≤ what ∧ what ≤ 7) ∧ ∃ p', p' < P ∧ p = nI p' ∧ r = spPerson w σ.2.2.1 P S p' what ∧ wS (mI σ 0 0) σ'))) := by
    intro hno
    refine gx_iconst (pc := 23) (v := 1) dX10_person_23 (by decide) ?_
    refine m_putI (pc := 24) rfl hb fX10_175 rfl (by decide) tX10_0 dX10_person_24 ?_
    refine gx_aload_n (pc := 27) dX10_person_27 rfl ?_
    refine m_getI (pc := 28) rfl fX10_175 rfl (by decide) dX10_person_28 ?_
    refine gx_iconst (pc := 31) (v := 1) dX10_person_31 (by decide) ?_
    rw [mI_eq]
    refine gx_icmp_ne (pc := 32) 37 dX10_person_32 (by decide) (fun c0 => ?_) (fun c0 => ?_)
    · exact absurd rfl c0
    · refine gx_iconst (pc := 35) (v := 0) dX10_person_35 (by decide) ?_
      exact m_ret (pc := 36) rfl dX10_person_36 (Or.inl ⟨hno, rfl⟩)
  refine gx_aload_n (pc := 0) dX10_person_0 rfl ?_
  refine gx_aload_n (pc := 1) dX10_person_1 rfl ?_
  refine gx_iload_n (pc := 2) dX10_person_2 rfl ?_
  refine kX10_436 (pc := 3) rfl (c_isP (d := d - 1) p hT) (by omega) (Nat.le_of_ble_eq_true rfl) dX10_person_3 (fun r1 σ1 e1 => ?_)
  obtain ⟨e1, hσ⟩ := e1
  subst σ1
  refine gx_if_eq (pc := 6) 23 dX10_person_6 (by decide) (fun c1 => ?_) (fun c1 => ?_)
  · rcases e1 with ⟨h1, rfl⟩ | ⟨h1, rfl⟩
    · exact absurd c1 (by decide)
    · exact N (fun hh => h1 hh.1)
  · rcases e1 with ⟨⟨p', hp, hpe⟩, rfl⟩ | ⟨h1, rfl⟩
    · refine gx_iload_n (pc := 9) dX10_person_9 rfl ?_
      refine gx_iconst (pc := 10) (v := 0) dX10_person_10 (by decide) ?_
      refine gx_bipush (pc := 11) (v := 7) dX10_person_11 (by decide) ?_
      refine kX10_308 (pc := 13) rfl (c_within (d := d - 1) what 0 7) (by omega) (Nat.le_of_ble_eq_true rfl) dX10_person_13 (fun r1 σ1 e1 => ?_)
      obtain ⟨rfl, hσ⟩ := e1
      subst σ1
      refine gx_if_eq (pc := 16) 23 dX10_person_16 (by decide) (fun c2 => ?_) (fun c2 => ?_)
      · exact N (fun hh => wi_out c2 hh.2)
      · have hw := wi_in c2
        obtain ⟨k, hk, rfl⟩ := nI_of2 (M := 7) (n := 7) (by decide) (Int32.not_lt.mpr hw.1) hw.2
        subst hpe
        refine gx_iconst (pc := 19) (v := 0) dX10_person_19 (by decide) ?_
        refine gx_goto (pc := 20) 24 dX10_person_20 (by decide) ?_
        refine m_putI (pc := 24) rfl hb fX10_175 rfl (by decide) tX10_0 dX10_person_24 ?_
        refine gx_aload_n (pc := 27) dX10_person_27 rfl ?_
        refine m_getI (pc := 28) rfl fX10_175 rfl (by decide) dX10_person_28 ?_
        refine gx_iconst (pc := 31) (v := 1) dX10_person_31 (by decide) ?_
        rw [mI_eq]
        have fin : ∀ r τ, wS (mI σ 0 0) τ → r = spPerson w σ.2.2.1 P S p' (nI k) → (fun r σ' => (¬ (inN (nI p') P ∧ (0 ≤ nI k ∧ nI k ≤ 7)) ∧ σ' = mI σ 0 1) ∨ ((0 ≤ nI k ∧ nI k ≤ 7) ∧ ∃ p2, p2 < P ∧ nI p' = nI p2 ∧ r = spPerson w σ.2.2.1 P S p2 (nI k) ∧ wS (mI σ 0 0) σ')) r τ := fun r τ h1 h2 => Or.inr ⟨hw, p', hp, rfl, h2, h1⟩
        refine gx_icmp_ne (pc := 32) 37 dX10_person_32 (by decide) (fun c0 => ?_) (fun c0 => ?_)
        · have hk8 : k = 0 ∨ k = 1 ∨ k = 2 ∨ k = 3 ∨ k = 4 ∨ k = 5 ∨ k = 6 ∨ k = 7 := by omega
          rcases hk8 with e | e | e | e | e | e | e | e <;> subst e
          · refine gx_iload_n (pc := 37) dX10_person_37 rfl ?_
            refine gx_iconst (pc := 38) (v := 3) dX10_person_38 (by decide) ?_
            refine gx_icmp_ge (pc := 39) 79 dX10_person_39 (by decide) (fun c3 => ?_) (fun c3 => ?_)
            · exact absurd c3 (by decide)
            · refine gx_iload_n (pc := 42) dX10_person_42 rfl ?_
              refine gx_if_ne (pc := 43) 55 dX10_person_43 (by decide) (fun c4 => ?_) (fun c4 => ?_)
              · exact absurd rfl c4
              · refine gx_aload_n (pc := 46) dX10_person_46 rfl ?_
                refine m_getA (pc := 47) rfl fX10_23 rfl (by decide) dX10_person_47 ?_
                refine gx_iload_n (pc := 50) dX10_person_50 rfl ?_
                refine m_iald (pc := 51) 13 (p') 12 rfl (by decide) rfl (by first | rfl | simp only [gx_lit, nI_add, pk_mul]) (by omega) (by decide) dX10_person_51 ?_
                refine gx_goto (pc := 52) 78 dX10_person_52 (by decide) ?_
                exact m_ret (pc := 78) rfl dX10_person_78 (fin _ _ wS.rf rfl)
          · refine gx_iload_n (pc := 37) dX10_person_37 rfl ?_
            refine gx_iconst (pc := 38) (v := 3) dX10_person_38 (by decide) ?_
            refine gx_icmp_ge (pc := 39) 79 dX10_person_39 (by decide) (fun c3 => ?_) (fun c3 => ?_)
            · exact absurd c3 (by decide)
            · refine gx_iload_n (pc := 42) dX10_person_42 rfl ?_
              refine gx_if_ne (pc := 43) 55 dX10_person_43 (by decide) (fun c4 => ?_) (fun c4 => ?_)
              · refine gx_iload_n (pc := 55) dX10_person_55 rfl ?_
                refine gx_iconst (pc := 56) (v := 1) dX10_person_56 (by decide) ?_
                refine gx_icmp_ne (pc := 57) 72 dX10_person_57 (by decide) (fun c5 => ?_) (fun c5 => ?_)
                · exact absurd rfl c5
                · refine gx_aload_n (pc := 60) dX10_person_60 rfl ?_
                  refine m_getA (pc := 61) rfl fX10_129 rfl (by decide) dX10_person_61 ?_
                  refine gx_bipush (pc := 64) (v := 70) dX10_person_64 (by decide) ?_
                  refine gx_iload_n (pc := 66) dX10_person_66 rfl ?_
                  refine gx_iadd (pc := 67) dX10_person_67 ?_
                  refine m_iald (pc := 68) 50 ((70 + p')) 123 rfl (by decide) rfl (by first | rfl | simp only [gx_lit, nI_add, pk_mul]) (by omega) (by decide) dX10_person_68 ?_
                  refine gx_goto (pc := 69) 78 dX10_person_69 (by decide) ?_
                  exact m_ret (pc := 78) rfl dX10_person_78 (fin _ _ wS.rf rfl)
              · exact absurd c4 (by decide)
          · refine gx_iload_n (pc := 37) dX10_person_37 rfl ?_
            refine gx_iconst (pc := 38) (v := 3) dX10_person_38 (by decide) ?_
            refine gx_icmp_ge (pc := 39) 79 dX10_person_39 (by decide) (fun c3 => ?_) (fun c3 => ?_)
            · exact absurd c3 (by decide)
            · refine gx_iload_n (pc := 42) dX10_person_42 rfl ?_
              refine gx_if_ne (pc := 43) 55 dX10_person_43 (by decide) (fun c4 => ?_) (fun c4 => ?_)
              · refine gx_iload_n (pc := 55) dX10_person_55 rfl ?_
                refine gx_iconst (pc := 56) (v := 1) dX10_person_56 (by decide) ?_
                refine gx_icmp_ne (pc := 57) 72 dX10_person_57 (by decide) (fun c5 => ?_) (fun c5 => ?_)
                · refine gx_aload_n (pc := 72) dX10_person_72 rfl ?_
                  refine m_getA (pc := 73) rfl fX10_29 rfl (by decide) dX10_person_73 ?_
                  refine gx_iload_n (pc := 76) dX10_person_76 rfl ?_
                  refine m_iald (pc := 77) 15 (p') 12 rfl (by decide) rfl (by first | rfl | simp only [gx_lit, nI_add, pk_mul]) (by omega) (by decide) dX10_person_77 ?_
                  exact m_ret (pc := 78) rfl dX10_person_78 (fin _ _ wS.rf rfl)
                · exact absurd c5 (by decide)
              · exact absurd c4 (by decide)
          · refine gx_iload_n (pc := 37) dX10_person_37 rfl ?_
            refine gx_iconst (pc := 38) (v := 3) dX10_person_38 (by decide) ?_
            refine gx_icmp_ge (pc := 39) 79 dX10_person_39 (by decide) (fun c3 => ?_) (fun c3 => ?_)
            · refine gx_iload_n (pc := 79) dX10_person_79 rfl ?_
              refine gx_iconst (pc := 80) (v := 5) dX10_person_80 (by decide) ?_
              refine gx_icmp_ge (pc := 81) 103 dX10_person_81 (by decide) (fun c4 => ?_) (fun c4 => ?_)
              · exact absurd c4 (by decide)
              · refine gx_iload_n (pc := 84) dX10_person_84 rfl ?_
                refine gx_iconst (pc := 85) (v := 3) dX10_person_85 (by decide) ?_
                refine gx_icmp_ne (pc := 86) 97 dX10_person_86 (by decide) (fun c5 => ?_) (fun c5 => ?_)
                · exact absurd rfl c5
                · refine gx_aload_n (pc := 89) dX10_person_89 rfl ?_
                  refine gx_iload_n (pc := 90) dX10_person_90 rfl ?_
                  refine kX10_430 (pc := 91) rfl (c_knownBy (d := d - 1) (σ := mI σ 0 0) hT.2.2.1 hT.2.2.2.1 _) (by omega) (Nat.le_of_ble_eq_true rfl) dX10_person_91 (fun r1 σ1 e1 => ?_)
                  refine gx_goto (pc := 94) 102 dX10_person_94 (by decide) ?_
                  obtain ⟨rfl, hσ⟩ := e1
                  subst σ1
                  exact m_ret (pc := 102) rfl dX10_person_102 (fin _ _ wS.rf rfl)
            · exact absurd (by decide) c3
          · refine gx_iload_n (pc := 37) dX10_person_37 rfl ?_
            refine gx_iconst (pc := 38) (v := 3) dX10_person_38 (by decide) ?_
            refine gx_icmp_ge (pc := 39) 79 dX10_person_39 (by decide) (fun c3 => ?_) (fun c3 => ?_)
            · refine gx_iload_n (pc := 79) dX10_person_79 rfl ?_
              refine gx_iconst (pc := 80) (v := 5) dX10_person_80 (by decide) ?_
              refine gx_icmp_ge (pc := 81) 103 dX10_person_81 (by decide) (fun c4 => ?_) (fun c4 => ?_)
              · exact absurd c4 (by decide)
              · refine gx_iload_n (pc := 84) dX10_person_84 rfl ?_
                refine gx_iconst (pc := 85) (v := 3) dX10_person_85 (by decide) ?_
                refine gx_icmp_ne (pc := 86) 97 dX10_person_86 (by decide) (fun c5 => ?_) (fun c5 => ?_)
                · refine gx_aload_n (pc := 97) dX10_person_97 rfl ?_
                  refine gx_iload_n (pc := 98) dX10_person_98 rfl ?_
                  refine kX10_439 (pc := 99) rfl (c_purse (d := d - 1) (σ := mI σ 0 0) hb (by omega) hT _) (by omega) (Nat.le_of_ble_eq_true rfl) dX10_person_99 (fun r1 σ1 e1 => ?_)
                  obtain ⟨rfl, h1⟩ := e1
                  exact m_ret (pc := 102) rfl dX10_person_102 (fin _ _ h1 rfl)
                · exact absurd c5 (by decide)
            · exact absurd (by decide) c3
          · refine gx_iload_n (pc := 37) dX10_person_37 rfl ?_
            refine gx_iconst (pc := 38) (v := 3) dX10_person_38 (by decide) ?_
            refine gx_icmp_ge (pc := 39) 79 dX10_person_39 (by decide) (fun c3 => ?_) (fun c3 => ?_)
            · refine gx_iload_n (pc := 79) dX10_person_79 rfl ?_
              refine gx_iconst (pc := 80) (v := 5) dX10_person_80 (by decide) ?_
              refine gx_icmp_ge (pc := 81) 103 dX10_person_81 (by decide) (fun c4 => ?_) (fun c4 => ?_)
              · refine gx_iload_n (pc := 103) dX10_person_103 rfl ?_
                refine gx_iconst (pc := 104) (v := 5) dX10_person_104 (by decide) ?_
                refine gx_icmp_ne (pc := 105) 122 dX10_person_105 (by decide) (fun c5 => ?_) (fun c5 => ?_)
                · exact absurd rfl c5
                · refine gx_aload_n (pc := 108) dX10_person_108 rfl ?_
                  refine m_getA (pc := 109) rfl fX10_129 rfl (by decide) dX10_person_109 ?_
                  refine gx_bipush (pc := 112) (v := 78) dX10_person_112 (by decide) ?_
                  refine m_iald (pc := 114) 50 (78) 123 rfl (by decide) rfl (by first | rfl | simp only [gx_lit, nI_add, pk_mul]) (by omega) (by decide) dX10_person_114 ?_
                  refine gx_iload_n (pc := 115) dX10_person_115 rfl ?_
                  refine gx_ishr (pc := 116) dX10_person_116 ?_
                  refine gx_iconst (pc := 117) (v := 1) dX10_person_117 (by decide) ?_
                  refine gx_iand (pc := 118) dX10_person_118 ?_
                  refine gx_goto (pc := 119) 145 dX10_person_119 (by decide) ?_
                  exact m_ret (pc := 145) rfl dX10_person_145 (fin _ _ wS.rf rfl)
              · exact absurd (by decide) c4
            · exact absurd (by decide) c3
          · refine gx_iload_n (pc := 37) dX10_person_37 rfl ?_
            refine gx_iconst (pc := 38) (v := 3) dX10_person_38 (by decide) ?_
            refine gx_icmp_ge (pc := 39) 79 dX10_person_39 (by decide) (fun c3 => ?_) (fun c3 => ?_)
            · refine gx_iload_n (pc := 79) dX10_person_79 rfl ?_
              refine gx_iconst (pc := 80) (v := 5) dX10_person_80 (by decide) ?_
              refine gx_icmp_ge (pc := 81) 103 dX10_person_81 (by decide) (fun c4 => ?_) (fun c4 => ?_)
              · refine gx_iload_n (pc := 103) dX10_person_103 rfl ?_
                refine gx_iconst (pc := 104) (v := 5) dX10_person_104 (by decide) ?_
                refine gx_icmp_ne (pc := 105) 122 dX10_person_105 (by decide) (fun c5 => ?_) (fun c5 => ?_)
                · refine gx_iload_n (pc := 122) dX10_person_122 rfl ?_
                  refine gx_bipush (pc := 123) (v := 6) dX10_person_123 (by decide) ?_
                  refine gx_icmp_ne (pc := 125) 140 dX10_person_125 (by decide) (fun c6 => ?_) (fun c6 => ?_)
                  · exact absurd rfl c6
                  · refine gx_aload_n (pc := 128) dX10_person_128 rfl ?_
                    refine m_getA (pc := 129) rfl fX10_129 rfl (by decide) dX10_person_129 ?_
                    refine gx_bipush (pc := 132) (v := 79) dX10_person_132 (by decide) ?_
                    refine gx_iload_n (pc := 134) dX10_person_134 rfl ?_
                    refine gx_iadd (pc := 135) dX10_person_135 ?_
                    refine m_iald (pc := 136) 50 ((79 + p')) 123 rfl (by decide) rfl (by first | rfl | simp only [gx_lit, nI_add, pk_mul]) (by omega) (by decide) dX10_person_136 ?_
                    refine gx_goto (pc := 137) 145 dX10_person_137 (by decide) ?_
                    exact m_ret (pc := 145) rfl dX10_person_145 (fin _ _ wS.rf rfl)
                · exact absurd c5 (by decide)
              · exact absurd (by decide) c4
            · exact absurd (by decide) c3
          · refine gx_iload_n (pc := 37) dX10_person_37 rfl ?_
            refine gx_iconst (pc := 38) (v := 3) dX10_person_38 (by decide) ?_
            refine gx_icmp_ge (pc := 39) 79 dX10_person_39 (by decide) (fun c3 => ?_) (fun c3 => ?_)
            · refine gx_iload_n (pc := 79) dX10_person_79 rfl ?_
              refine gx_iconst (pc := 80) (v := 5) dX10_person_80 (by decide) ?_
              refine gx_icmp_ge (pc := 81) 103 dX10_person_81 (by decide) (fun c4 => ?_) (fun c4 => ?_)
              · refine gx_iload_n (pc := 103) dX10_person_103 rfl ?_
                refine gx_iconst (pc := 104) (v := 5) dX10_person_104 (by decide) ?_
                refine gx_icmp_ne (pc := 105) 122 dX10_person_105 (by decide) (fun c5 => ?_) (fun c5 => ?_)
                · refine gx_iload_n (pc := 122) dX10_person_122 rfl ?_
                  refine gx_bipush (pc := 123) (v := 6) dX10_person_123 (by decide) ?_
                  refine gx_icmp_ne (pc := 125) 140 dX10_person_125 (by decide) (fun c6 => ?_) (fun c6 => ?_)
                  · refine gx_aload_n (pc := 140) dX10_person_140 rfl ?_
                    refine gx_iload_n (pc := 141) dX10_person_141 rfl ?_
                    refine kX10_442 (pc := 142) rfl (c_net (d := d - 1) p' (by omega)) (by omega) (Nat.le_of_ble_eq_true rfl) dX10_person_142 (fun r1 σ1 e1 => ?_)
                    obtain ⟨rfl, hσ⟩ := e1
                    subst σ1
                    exact m_ret (pc := 145) rfl dX10_person_145 (fin _ _ wS.rf rfl)
                  · exact absurd c6 (by decide)
                · exact absurd c5 (by decide)
              · exact absurd (by decide) c4
            · exact absurd (by decide) c3
        · exact absurd c0 (by decide)
    · exact absurd rfl c1
end MN
