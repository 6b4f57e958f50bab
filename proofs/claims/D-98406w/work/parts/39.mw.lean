/-! ===== MODEL W: mean, holds ===== -/
set_option maxRecDepth 100000
def spMn (w : Option gxEv) (A : Nat → Nat → Int32) (P k : Nat) (od : Nat → Int32) : Nat → Int64
  | 0 => 0
  | i + 1 => if od i ≤ 0 then spMn w A P k od i else spMn w A P k od i + (od i).toInt64 * (spBase w A P k (nI i)).toInt64
def spHo (w : Option gxEv) (A : Nat → Nat → Int32) (P k : Nat) (od : Nat → Int32) (b0 : Int32) : Nat → Int32
  | 0 => 0
  | i + 1 => if od i ≤ 0 then spHo w A P k od b0 i else (if spBase w A P k (nI i) < b0 then spHo w A P k od b0 i else spHo w A P k od b0 i + od i)
theorem spMn_od {w : Option gxEv} {A : Nat → Nat → Int32} {P k : Nat} {od od' : Nat → Int32} : ∀ n, (∀ i, i < n → od' i = od i) → spMn w A P k od' n = spMn w A P k od n
  | 0, _ => rfl
  | n + 1, h => by rw [spMn, spMn, spMn_od n (fun i hi => h i (by omega)), h n (by omega)]
theorem spHo_od {w : Option gxEv} {A : Nat → Nat → Int32} {P k : Nat} {od od' : Nat → Int32} {b0 : Int32} : ∀ n, (∀ i, i < n → od' i = od i) → spHo w A P k od' b0 n = spHo w A P k od b0 n
  | 0, _ => rfl
  | n + 1, h => by rw [spHo, spHo, spHo_od n (fun i hi => h i (by omega)), h n (by omega)]
section MW
variable {G : gxG} {d : Nat} {h : gxH} {b : Nat} {σ : mS} {P S E : Nat} {w : Option gxEv}
theorem n3_sE (X : mS) (od g hr : Nat → Int32) : sE X (mSA X (n3 X.2.2.1 od g hr)) := by
  refine ⟨rfl, rfl, rfl, fun j hj => ?_⟩
  have : j < 62 ∨ 64 < j := by
    simp only [scr, Bool.or_eq_false_iff, decide_eq_false_iff_not] at hj
    omega
  rw [mSA_A]
  exact n3_ne _ _ _ _ this
theorem c_mean (hb : gxN G ≤ b) (hd : 5 ≤ d) (hT : mT σ.2.2.1 P S E w) (hK : ∀ k, k < S → ∃ x, x < 64 ∧ σ.2.2.1 50 k = nI x) (k n : Int32) : mMi G mX10_mean d [.ref b, .int k, .int n] h b σ (fun r σ' => ((¬ (inN k S ∧ (0 ≤ n ∧ n ≤ 30)) ∧ r = -1) ∨ ∃ k' n' x, k' < S ∧ k = nI k' ∧ n' ≤ 30 ∧ n = nI n' ∧ x < 64 ∧ σ.2.2.1 50 k' = nI x ∧ r = (spMn w σ.2.2.1 P k' (spNn σ.2.2.1 P E x n') 64 / 1000).toInt32) ∧ sE (mI σ 0 0) σ') := by
  have hS10 := hT.2.2.2.1
  refine gxM_of rfl (Nat.le_of_ble_eq_true rfl) rfl ?_
  have N : ¬ (inN k S ∧ (0 ≤ n ∧ n ≤ 30)) → gxV G mX10_mean d 0 0 23 [some (.ref b), some (.int k), some (.int n), none, none, none] [] (mput h b (mI σ 0 0)) (mQi h b (fun r σ' => ((¬ (inN k S ∧ (0 ≤ n ∧ n ≤ 30)) ∧ r = -1) ∨ ∃ k' n' x, k' < S ∧ k = nI k' ∧ n' ≤ 30 ∧ n = nI n' ∧ x < 64 ∧ σ.2.2.1 50 k' = nI x ∧ r = (spMn w σ.2.2.1 P k' (spNn σ.2.2.1 P E x n') 64 / 1000).toInt32) ∧ sE (mI σ 0 0) σ')) := by
    intro hno
    refine gx_iconst (pc := 23) (v := (-1)) dX10_mean_23 (by decide) ?_
    exact m_ret (pc := 24) rfl dX10_mean_24 (⟨Or.inl ⟨hno, rfl⟩, wS.rf.sE⟩)
  refine gx_aload_n (pc := 0) dX10_mean_0 rfl ?_
  refine gx_iconst (pc := 1) (v := 0) dX10_mean_1 (by decide) ?_
  refine m_putI (pc := 2) rfl hb fX10_175 rfl (by decide) tX10_0 dX10_mean_2 ?_
  refine gx_aload_n (pc := 5) dX10_mean_5 rfl ?_
  refine gx_iload_n (pc := 6) dX10_mean_6 rfl ?_
  refine kX10_445 (pc := 7) rfl (c_isS (d := d - 1) k (show mT (mI σ 0 0).2.2.1 P S E w from hT)) (by omega) (Nat.le_of_ble_eq_true rfl) dX10_mean_7 (fun r1 σ1 e1 => ?_)
  obtain ⟨e1, hσ⟩ := e1
  subst σ1
  refine gx_if_eq (pc := 10) 23 dX10_mean_10 (by decide) (fun c1 => ?_) (fun c1 => ?_)
  · rcases e1 with ⟨h1, rfl⟩ | ⟨h1, rfl⟩
    · exact absurd c1 (by decide)
    · exact N (fun hh => h1 hh.1)
  · rcases e1 with ⟨⟨k', hk, hke⟩, rfl⟩ | ⟨h1, rfl⟩
    · refine gx_iload_n (pc := 13) dX10_mean_13 rfl ?_
      refine gx_iconst (pc := 14) (v := 0) dX10_mean_14 (by decide) ?_
      refine gx_bipush (pc := 15) (v := 30) dX10_mean_15 (by decide) ?_
      refine kX10_308 (pc := 17) rfl (c_within (d := d - 1) n 0 30) (by omega) (Nat.le_of_ble_eq_true rfl) dX10_mean_17 (fun r1 σ1 e1 => ?_)
      obtain ⟨rfl, hσ⟩ := e1
      subst σ1
      refine gx_if_ne (pc := 20) 25 dX10_mean_20 (by decide) (fun c2 => ?_) (fun c2 => ?_)
      · have hw := wi_in c2
        obtain ⟨n', hn, rfl⟩ := nI_of2 (M := 30) (n := 30) (by decide) (Int32.not_lt.mpr hw.1) hw.2
        subst hke
        obtain ⟨x, hx, hkx⟩ := hK k' hk
        refine gx_aload_n (pc := 25) dX10_mean_25 rfl ?_
        refine gx_iload_n (pc := 26) dX10_mean_26 rfl ?_
        refine gx_iload_n (pc := 27) dX10_mean_27 rfl ?_
        refine kX10_526 (pc := 28) rfl (c_nights (d := d - 1) hb (by omega) (show mT (mI σ 0 0).2.2.1 P S E w from hT) k' x n' (by omega) hx hkx (by omega)) (by omega) (Nat.le_of_ble_eq_true rfl) dX10_mean_28 (fun σ1 e1 => ?_)
        obtain ⟨od, g, hr, rfl, hod⟩ := e1
        have hT3 : mT (mSA (mI σ 0 0) (n3 (mI σ 0 0).2.2.1 od g hr)).2.2.1 P S E w := mT.n3 (A := (mI σ 0 0).2.2.1) hT od g hr
        have hs3 := n3_sE (mI σ 0 0) od g hr
        generalize hτ : mSA (mI σ 0 0) (n3 (mI σ 0 0).2.2.1 od g hr) = τ at *
        have hτA : ∀ j, j < 62 ∨ 64 < j → τ.2.2.1 j = σ.2.2.1 j := fun j hj => by rw [← hτ, mSA_A]; exact n3_ne _ _ _ _ hj
        have hτo : τ.2.2.1 62 = od := by rw [← hτ, mSA_A]; exact n3_62 _ _ _ _
        have hB : ∀ set, spBase w τ.2.2.1 P k' set = spBase w σ.2.2.1 P k' set := fun set => spBase_congr (hτA 13 (by omega)) (hτA 17 (by omega)) (hτA 18 (by omega)) (hτA 50 (by omega)) w P k' set
        have L : ∀ m i, m + i = 64 → ∀ ρ, wS τ ρ → gxV G mX10_mean d 0 0 36 [some (.ref b), some (.int (nI k')), some (.int (nI n')), some (.long (spMn w σ.2.2.1 P k' od i)), none, some (.int (nI i))] [] (mput h b ρ) (mQi h b (fun r σ' => ((¬ (inN (nI k') S ∧ (0 ≤ nI n' ∧ nI n' ≤ 30)) ∧ r = -1) ∨ ∃ k2 n2 x, k2 < S ∧ nI k' = nI k2 ∧ n2 ≤ 30 ∧ nI n' = nI n2 ∧ x < 64 ∧ σ.2.2.1 50 k2 = nI x ∧ r = (spMn w σ.2.2.1 P k2 (spNn σ.2.2.1 P E x n2) 64 / 1000).toInt32) ∧ sE (mI σ 0 0) σ')) := by
          intro m
          induction m with
          | zero =>
            intro i hi ρ hρ
            have : i = 64 := by omega
            subst this
            refine gx_iload (pc := 36) dX10_mean_36 rfl ?_
            refine gx_bipush (pc := 38) (v := 64) dX10_mean_38 (by decide) ?_
            refine gx_icmp_ge (pc := 40) 79 dX10_mean_40 (by decide) (fun c3 => ?_) (fun c3 => ?_)
            · refine gx_lload_n (pc := 79) dX10_mean_79 rfl ?_
              refine gx_ldc2 (pc := 80) q2462 dX10_mean_80 ?_
              refine gx_ldiv (pc := 83) dX10_mean_83 (by decide) ?_
              refine gx_l2i (pc := 84) dX10_mean_84 ?_
              exact m_ret (pc := 85) rfl dX10_mean_85 (⟨Or.inr ⟨k', n', x, hk, rfl, by omega, rfl, hx, hkx, by rw [spMn_od 64 hod]; rfl⟩, hs3.tr hρ.sE⟩)
            · exact absurd (by decide) c3
          | succ m ih =>
            intro i hi ρ hρ
            have K73 : ∀ v ρ, wS τ ρ → v = spMn w σ.2.2.1 P k' od (i + 1) → gxV G mX10_mean d 0 0 73 [some (.ref b), some (.int (nI k')), some (.int (nI n')), some (.long v), none, some (.int (nI i))] [] (mput h b ρ) (mQi h b (fun r σ' => ((¬ (inN (nI k') S ∧ (0 ≤ nI n' ∧ nI n' ≤ 30)) ∧ r = -1) ∨ ∃ k2 n2 x, k2 < S ∧ nI k' = nI k2 ∧ n2 ≤ 30 ∧ nI n' = nI n2 ∧ x < 64 ∧ σ.2.2.1 50 k2 = nI x ∧ r = (spMn w σ.2.2.1 P k2 (spNn σ.2.2.1 P E x n2) 64 / 1000).toInt32) ∧ sE (mI σ 0 0) σ')) := by
              intro v ρ hρ hv
              subst hv
              refine gx_iincc (pc := 73) (c := 1) dX10_mean_73 rfl (by decide) (by decide) rfl ?_
              refine gx_goto (pc := 76) 36 dX10_mean_76 (by decide) ?_
              rw [nI_1]
              exact ih (i + 1) (by omega) ρ hρ
            refine gx_iload (pc := 36) dX10_mean_36 rfl ?_
            refine gx_bipush (pc := 38) (v := 64) dX10_mean_38 (by decide) ?_
            refine gx_icmp_ge (pc := 40) 79 dX10_mean_40 (by decide) (fun c3 => ?_) (fun c3 => ?_)
            · exact absurd c3 (nI_ge (a := i) (b := 64) (by omega) (by omega))
            · refine gx_aload_n (pc := 43) dX10_mean_43 rfl ?_
              refine m_getA (pc := 44) rfl fX10_157 rfl (by decide) dX10_mean_44 ?_
              refine gx_iload (pc := 47) dX10_mean_47 rfl ?_
              refine m_iald (pc := 49) 62 (i) 64 rfl (by decide) rfl (by first | rfl | simp only [gx_lit, nI_add, pk_mul]) (by omega) (by decide) dX10_mean_49 ?_
              rw [hρ.A (by omega), hτo]
              refine gx_if_le (pc := 50) 73 dX10_mean_50 (by decide) (fun c4 => ?_) (fun c4 => ?_)
              · exact K73 _ ρ hρ (by rw [spMn, if_pos c4])
              · refine gx_lload_n (pc := 53) dX10_mean_53 rfl ?_
                refine gx_aload_n (pc := 54) dX10_mean_54 rfl ?_
                refine m_getA (pc := 55) rfl fX10_157 rfl (by decide) dX10_mean_55 ?_
                refine gx_iload (pc := 58) dX10_mean_58 rfl ?_
                refine m_iald (pc := 60) 62 (i) 64 rfl (by decide) rfl (by first | rfl | simp only [gx_lit, nI_add, pk_mul]) (by omega) (by decide) dX10_mean_60 ?_
                rw [hρ.A (by omega), hτo]
                refine gx_i2l (pc := 61) dX10_mean_61 ?_
                refine gx_aload_n (pc := 62) dX10_mean_62 rfl ?_
                refine gx_iload_n (pc := 63) dX10_mean_63 rfl ?_
                refine gx_iload (pc := 64) dX10_mean_64 rfl ?_
                refine kX10_424 (pc := 66) rfl (c_baseOf (d := d - 1) hb (by omega) (hρ.T hT3) k' hk (nI i)) (by omega) (Nat.le_of_ble_eq_true rfl) dX10_mean_66 (fun r1 ρ1 e1 => ?_)
                obtain ⟨rfl, hρ1⟩ := e1
                obtain ⟨A', hA, hρe⟩ := id hρ
                rw [show spBase w ρ.2.2.1 P k' (nI i) = spBase w σ.2.2.1 P k' (nI i) by rw [hρe, mSA_A, spBase_wE hA, hB]]
                refine gx_i2l (pc := 69) dX10_mean_69 ?_
                refine gx_lmul (pc := 70) dX10_mean_70 ?_
                refine gx_ladd (pc := 71) dX10_mean_71 ?_
                refine gx_lstore_n (pc := 72) dX10_mean_72 (by decide) rfl ?_
                exact K73 _ ρ1 (hρ.tr hρ1) (by rw [spMn, if_neg c4])
        refine gx_lconst (pc := 31) (v := 0) dX10_mean_31 (by decide) ?_
        refine gx_lstore_n (pc := 32) dX10_mean_32 (by decide) rfl ?_
        refine gx_iconst (pc := 33) (v := 0) dX10_mean_33 (by decide) ?_
        refine gx_istore (pc := 34) dX10_mean_34 (by decide) rfl ?_
        exact L 64 0 rfl τ wS.rf
      · refine N (fun hh => wi_out c2 hh.2)
    · exact absurd rfl c1
theorem c_holds (hb : gxN G ≤ b) (hd : 5 ≤ d) (hT : mT σ.2.2.1 P S E w) (hK : ∀ k, k < S → ∃ x, x < 64 ∧ σ.2.2.1 50 k = nI x) (k n : Int32) : mMi G mX10_holds d [.ref b, .int k, .int n] h b σ (fun r σ' => ((¬ (inN k S ∧ (0 ≤ n ∧ n ≤ 30)) ∧ r = -1) ∨ ∃ k' n' x, k' < S ∧ k = nI k' ∧ n' ≤ 30 ∧ n = nI n' ∧ x < 64 ∧ σ.2.2.1 50 k' = nI x ∧ r = spHo w σ.2.2.1 P k' (spNn σ.2.2.1 P E x n') (spBase w σ.2.2.1 P k' (nI x)) 64) ∧ sE (mI σ 0 0) σ') := by
  have hS10 := hT.2.2.2.1
  refine gxM_of rfl (Nat.le_of_ble_eq_true rfl) rfl ?_
  have N : ¬ (inN k S ∧ (0 ≤ n ∧ n ≤ 30)) → gxV G mX10_holds d 0 0 23 [some (.ref b), some (.int k), some (.int n), none, none, none] [] (mput h b (mI σ 0 0)) (mQi h b (fun r σ' => ((¬ (inN k S ∧ (0 ≤ n ∧ n ≤ 30)) ∧ r = -1) ∨ ∃ k' n' x, k' < S ∧ k = nI k' ∧ n' ≤ 30 ∧ n = nI n' ∧ x < 64 ∧ σ.2.2.1 50 k' = nI x ∧ r = spHo w σ.2.2.1 P k' (spNn σ.2.2.1 P E x n') (spBase w σ.2.2.1 P k' (nI x)) 64) ∧ sE (mI σ 0 0) σ')) := by
    intro hno
    refine gx_iconst (pc := 23) (v := (-1)) dX10_holds_23 (by decide) ?_
    exact m_ret (pc := 24) rfl dX10_holds_24 (⟨Or.inl ⟨hno, rfl⟩, wS.rf.sE⟩)
  refine gx_aload_n (pc := 0) dX10_holds_0 rfl ?_
  refine gx_iconst (pc := 1) (v := 0) dX10_holds_1 (by decide) ?_
  refine m_putI (pc := 2) rfl hb fX10_175 rfl (by decide) tX10_0 dX10_holds_2 ?_
  refine gx_aload_n (pc := 5) dX10_holds_5 rfl ?_
  refine gx_iload_n (pc := 6) dX10_holds_6 rfl ?_
  refine kX10_445 (pc := 7) rfl (c_isS (d := d - 1) k (show mT (mI σ 0 0).2.2.1 P S E w from hT)) (by omega) (Nat.le_of_ble_eq_true rfl) dX10_holds_7 (fun r1 σ1 e1 => ?_)
  obtain ⟨e1, hσ⟩ := e1
  subst σ1
  refine gx_if_eq (pc := 10) 23 dX10_holds_10 (by decide) (fun c1 => ?_) (fun c1 => ?_)
  · rcases e1 with ⟨h1, rfl⟩ | ⟨h1, rfl⟩
    · exact absurd c1 (by decide)
    · exact N (fun hh => h1 hh.1)
  · rcases e1 with ⟨⟨k', hk, hke⟩, rfl⟩ | ⟨h1, rfl⟩
    · refine gx_iload_n (pc := 13) dX10_holds_13 rfl ?_
      refine gx_iconst (pc := 14) (v := 0) dX10_holds_14 (by decide) ?_
      refine gx_bipush (pc := 15) (v := 30) dX10_holds_15 (by decide) ?_
      refine kX10_308 (pc := 17) rfl (c_within (d := d - 1) n 0 30) (by omega) (Nat.le_of_ble_eq_true rfl) dX10_holds_17 (fun r1 σ1 e1 => ?_)
      obtain ⟨rfl, hσ⟩ := e1
      subst σ1
      refine gx_if_ne (pc := 20) 25 dX10_holds_20 (by decide) (fun c2 => ?_) (fun c2 => ?_)
      · have hw := wi_in c2
        obtain ⟨n', hn, rfl⟩ := nI_of2 (M := 30) (n := 30) (by decide) (Int32.not_lt.mpr hw.1) hw.2
        subst hke
        obtain ⟨x, hx, hkx⟩ := hK k' hk
        refine gx_aload_n (pc := 25) dX10_holds_25 rfl ?_
        refine gx_iload_n (pc := 26) dX10_holds_26 rfl ?_
        refine gx_iload_n (pc := 27) dX10_holds_27 rfl ?_
        refine kX10_526 (pc := 28) rfl (c_nights (d := d - 1) hb (by omega) (show mT (mI σ 0 0).2.2.1 P S E w from hT) k' x n' (by omega) hx hkx (by omega)) (by omega) (Nat.le_of_ble_eq_true rfl) dX10_holds_28 (fun σ1 e1 => ?_)
        obtain ⟨od, g, hr, rfl, hod⟩ := e1
        have hT3 : mT (mSA (mI σ 0 0) (n3 (mI σ 0 0).2.2.1 od g hr)).2.2.1 P S E w := mT.n3 (A := (mI σ 0 0).2.2.1) hT od g hr
        have hs3 := n3_sE (mI σ 0 0) od g hr
        generalize hτ : mSA (mI σ 0 0) (n3 (mI σ 0 0).2.2.1 od g hr) = τ at *
        have hτA : ∀ j, j < 62 ∨ 64 < j → τ.2.2.1 j = σ.2.2.1 j := fun j hj => by rw [← hτ, mSA_A]; exact n3_ne _ _ _ _ hj
        have hτo : τ.2.2.1 62 = od := by rw [← hτ, mSA_A]; exact n3_62 _ _ _ _
        have hB : ∀ set, spBase w τ.2.2.1 P k' set = spBase w σ.2.2.1 P k' set := fun set => spBase_congr (hτA 13 (by omega)) (hτA 17 (by omega)) (hτA 18 (by omega)) (hτA 50 (by omega)) w P k' set
        generalize hb0 : spBase w σ.2.2.1 P k' (nI x) = b0
        have L : ∀ m i, m + i = 64 → ∀ ρ, wS τ ρ → gxV G mX10_holds d 0 0 49 [some (.ref b), some (.int (nI k')), some (.int (nI n')), some (.int b0), some (.int (spHo w σ.2.2.1 P k' od b0 i)), some (.int (nI i))] [] (mput h b ρ) (mQi h b (fun r σ' => ((¬ (inN (nI k') S ∧ (0 ≤ nI n' ∧ nI n' ≤ 30)) ∧ r = -1) ∨ ∃ k2 n2 x, k2 < S ∧ nI k' = nI k2 ∧ n2 ≤ 30 ∧ nI n' = nI n2 ∧ x < 64 ∧ σ.2.2.1 50 k2 = nI x ∧ r = spHo w σ.2.2.1 P k2 (spNn σ.2.2.1 P E x n2) (spBase w σ.2.2.1 P k2 (nI x)) 64) ∧ sE (mI σ 0 0) σ')) := by
          intro m
          induction m with
          | zero =>
            intro i hi ρ hρ
            have : i = 64 := by omega
            subst this
            refine gx_iload (pc := 49) dX10_holds_49 rfl ?_
            refine gx_bipush (pc := 51) (v := 64) dX10_holds_51 (by decide) ?_
            refine gx_icmp_ge (pc := 53) 95 dX10_holds_53 (by decide) (fun c3 => ?_) (fun c3 => ?_)
            · refine gx_iload (pc := 95) dX10_holds_95 rfl ?_
              exact m_ret (pc := 97) rfl dX10_holds_97 (⟨Or.inr ⟨k', n', x, hk, rfl, by omega, rfl, hx, hkx, by rw [hb0, spHo_od 64 hod]; rfl⟩, hs3.tr hρ.sE⟩)
            · exact absurd (by decide) c3
          | succ m ih =>
            intro i hi ρ hρ
            have K89 : ∀ v ρ, wS τ ρ → v = spHo w σ.2.2.1 P k' od b0 (i + 1) → gxV G mX10_holds d 0 0 89 [some (.ref b), some (.int (nI k')), some (.int (nI n')), some (.int b0), some (.int v), some (.int (nI i))] [] (mput h b ρ) (mQi h b (fun r σ' => ((¬ (inN (nI k') S ∧ (0 ≤ nI n' ∧ nI n' ≤ 30)) ∧ r = -1) ∨ ∃ k2 n2 x, k2 < S ∧ nI k' = nI k2 ∧ n2 ≤ 30 ∧ nI n' = nI n2 ∧ x < 64 ∧ σ.2.2.1 50 k2 = nI x ∧ r = spHo w σ.2.2.1 P k2 (spNn σ.2.2.1 P E x n2) (spBase w σ.2.2.1 P k2 (nI x)) 64) ∧ sE (mI σ 0 0) σ')) := by
              intro v ρ hρ hv
              subst hv
              refine gx_iincc (pc := 89) (c := 1) dX10_holds_89 rfl (by decide) (by decide) rfl ?_
              refine gx_goto (pc := 92) 49 dX10_holds_92 (by decide) ?_
              rw [nI_1]
              exact ih (i + 1) (by omega) ρ hρ
            refine gx_iload (pc := 49) dX10_holds_49 rfl ?_
            refine gx_bipush (pc := 51) (v := 64) dX10_holds_51 (by decide) ?_
            refine gx_icmp_ge (pc := 53) 95 dX10_holds_53 (by decide) (fun c3 => ?_) (fun c3 => ?_)
            · exact absurd c3 (nI_ge (a := i) (b := 64) (by omega) (by omega))
            · refine gx_aload_n (pc := 56) dX10_holds_56 rfl ?_
              refine m_getA (pc := 57) rfl fX10_157 rfl (by decide) dX10_holds_57 ?_
              refine gx_iload (pc := 60) dX10_holds_60 rfl ?_
              refine m_iald (pc := 62) 62 (i) 64 rfl (by decide) rfl (by first | rfl | simp only [gx_lit, nI_add, pk_mul]) (by omega) (by decide) dX10_holds_62 ?_
              rw [hρ.A (by omega), hτo]
              refine gx_if_le (pc := 63) 89 dX10_holds_63 (by decide) (fun c4 => ?_) (fun c4 => ?_)
              · exact K89 _ ρ hρ (by rw [spHo, if_pos c4])
              · refine gx_aload_n (pc := 66) dX10_holds_66 rfl ?_
                refine gx_iload_n (pc := 67) dX10_holds_67 rfl ?_
                refine gx_iload (pc := 68) dX10_holds_68 rfl ?_
                refine kX10_424 (pc := 70) rfl (c_baseOf (d := d - 1) hb (by omega) (hρ.T hT3) k' hk (nI i)) (by omega) (Nat.le_of_ble_eq_true rfl) dX10_holds_70 (fun r1 ρ1 e1 => ?_)
                obtain ⟨rfl, hρ1⟩ := e1
                obtain ⟨A', hA, hρe⟩ := id hρ
                have hρ2 := hρ.tr hρ1
                rw [show spBase w ρ.2.2.1 P k' (nI i) = spBase w σ.2.2.1 P k' (nI i) by rw [hρe, mSA_A, spBase_wE hA, hB]]
                refine gx_iload_n (pc := 73) dX10_holds_73 rfl ?_
                refine gx_icmp_lt (pc := 74) 89 dX10_holds_74 (by decide) (fun c5 => ?_) (fun c5 => ?_)
                · exact K89 _ ρ1 hρ2 (by rw [spHo, if_neg c4, if_pos c5])
                · refine gx_iload (pc := 77) dX10_holds_77 rfl ?_
                  refine gx_aload_n (pc := 79) dX10_holds_79 rfl ?_
                  refine m_getA (pc := 80) rfl fX10_157 rfl (by decide) dX10_holds_80 ?_
                  refine gx_iload (pc := 83) dX10_holds_83 rfl ?_
                  refine m_iald (pc := 85) 62 (i) 64 rfl (by decide) rfl (by first | rfl | simp only [gx_lit, nI_add, pk_mul]) (by omega) (by decide) dX10_holds_85 ?_
                  rw [hρ2.A (by omega), hτo]
                  refine gx_iadd (pc := 86) dX10_holds_86 ?_
                  refine gx_istore (pc := 87) dX10_holds_87 (by decide) rfl ?_
                  exact K89 _ ρ1 hρ2 (by rw [spHo, if_neg c4, if_neg c5])
        refine gx_aload_n (pc := 31) dX10_holds_31 rfl ?_
        refine gx_iload_n (pc := 32) dX10_holds_32 rfl ?_
        refine gx_aload_n (pc := 33) dX10_holds_33 rfl ?_
        refine m_getA (pc := 34) rfl fX10_129 rfl (by decide) dX10_holds_34 ?_
        refine gx_iload_n (pc := 37) dX10_holds_37 rfl ?_
        refine m_iald (pc := 38) 50 (k') 123 rfl (by decide) rfl (by first | rfl | simp only [gx_lit, nI_add, pk_mul]) (by omega) (by decide) dX10_holds_38 ?_
        rw [hτA 50 (by omega), hkx]
        refine kX10_424 (pc := 39) rfl (c_baseOf (d := d - 1) hb (by omega) hT3 k' hk (nI x)) (by omega) (Nat.le_of_ble_eq_true rfl) dX10_holds_39 (fun r1 ρ1 e1 => ?_)
        obtain ⟨rfl, hρ1⟩ := e1
        rw [hB, hb0]
        refine gx_istore_n (pc := 42) dX10_holds_42 (by decide) rfl ?_
        refine gx_iconst (pc := 43) (v := 0) dX10_holds_43 (by decide) ?_
        refine gx_istore (pc := 44) dX10_holds_44 (by decide) rfl ?_
        refine gx_iconst (pc := 46) (v := 0) dX10_holds_46 (by decide) ?_
        refine gx_istore (pc := 47) dX10_holds_47 (by decide) rfl ?_
        exact L 64 0 rfl ρ1 hρ1
      · refine N (fun hh => wi_out c2 hh.2)
    · exact absurd rfl c1
end MW
