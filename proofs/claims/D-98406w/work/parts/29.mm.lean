/-! ===== MODEL M: years; count, person, secret ===== -/
set_option maxRecDepth 100000
theorem spLs_congr {A B : Nat → Nat → Int32} (h13 : B 13 = A 13) (h15 : B 15 = A 15) (h17 : B 17 = A 17) (h18 : B 18 = A 18) (h19 : B 19 = A 19) (h50 : B 50 = A 50) (w : Option gxEv) (P S p : Nat) : ∀ m, spLs w B P S p m = spLs w A P S p m
  | 0 => rfl
  | m + 1 => by
    simp only [spLs, lsStep, spLs_congr h13 h15 h17 h18 h19 h50 w P S p m, spCanPay_congr h13 h15 h17 h18 h19 h50, spWs_congr h13 h17 h18 h19 h50]
theorem spLeast_congr {A B : Nat → Nat → Int32} (h13 : B 13 = A 13) (h15 : B 15 = A 15) (h17 : B 17 = A 17) (h18 : B 18 = A 18) (h19 : B 19 = A 19) (h50 : B 50 = A 50) (w : Option gxEv) (P S p : Nat) : spLeast w B P S p = spLeast w A P S p := by
  unfold spLeast; rw [spLs_congr h13 h15 h17 h18 h19 h50]
theorem whStep_congr {A B : Nat → Nat → Int32} (h13 : B 13 = A 13) (h16 : B 16 = A 16) (h17 : B 17 = A 17) (h22 : B 22 = A 22) (h23 : B 23 = A 23) (h24 : B 24 = A 24) (S : Nat) (q : whT) (k : Nat) : whStep B S q k = whStep A S q k := by
  have hc : spChance B k = spChance A k := by unfold spChance; rw [h13, h22, h24]
  have h1 : ∀ r p q c, spCan (setS B r) p q c = spCan (setS A r) p q c := fun r p q c => spCan_congr (by rw [setS_ne (by decide), setS_ne (by decide), h13]) (by rw [setS_50, setS_50]) p q c
  have h2 : ∀ r p q c, spTell (setS B r) p q c = spTell (setS A r) p q c := fun r p q c => spTell_congr (by rw [setS_50, setS_50]) (by rw [setS_ne (by decide), setS_ne (by decide), h16]) (by rw [setS_ne (by decide), setS_ne (by decide), h17]) p q c
  unfold whStep
  rw [hc, h1, h2, h22, h23]
theorem spWh_congr {A B : Nat → Nat → Int32} (h13 : B 13 = A 13) (h16 : B 16 = A 16) (h17 : B 17 = A 17) (h22 : B 22 = A 22) (h23 : B 23 = A 23) (h24 : B 24 = A 24) (S n : Nat) (row : Nat → Int32) (k : Nat) : spWh B S n row k = spWh A S n row k := by
  induction k with
  | zero => rfl
  | succ k ih => rw [spWh, spWh, ih, whStep_congr h13 h16 h17 h22 h23 h24]
theorem whStep_hi {A : Nat → Nat → Int32} {P S E i : Nat} {w : Option gxEv} (hT : mT A P S E w) (hi : 123 ≤ i) (q : whT) (k : Nat) (hk : k < E) : (whStep A S q k).2.2 i = q.2.2 i := by
  have hP := hT.2.1
  have hS := hT.2.2.2.1
  obtain ⟨⟨f, hf, hf2⟩, ⟨t, ht, ht2⟩, hft⟩ := hT.2.2.2.2.2.2.2.2.1 k hk
  unfold whStep
  generalize spDn (spDn q.2.1) = z
  generalize spDn q.2.1 = y
  by_cases h1 : spChance A k ≤ nI (y / 65536 % 10) ∨ S = 0
  · rw [if_pos h1]
  · rw [if_neg h1]
    have hS0 : 0 < S := by
      rcases Nat.eq_zero_or_pos S with e | e
      · exact absurd (Or.inr e) h1
      · exact e
    have hm : z / 65536 % S < S := Nat.mod_lt _ hS0
    generalize z / 65536 % S = c at *
    rw [hf2, ht2, nI_clamp (show f < 2 ^ 31 by omega), nI_clamp (show t < 2 ^ 31 by omega)]
    split
    · show spTell (setS A q.2.2) f t c i = _
      rw [spTell_hi (p := f) (q := t) (k := c) (by omega) (by omega) (by omega) hi, setS_50]
    · rfl
theorem spWh_hi {A : Nat → Nat → Int32} {P S E i : Nat} {w : Option gxEv} (hT : mT A P S E w) (n : Nat) (row : Nat → Int32) (hi : 123 ≤ i) : ∀ k, k ≤ E → (spWh A S n row k).2.2 i = row i := by
  intro k
  induction k with
  | zero => intro _; rfl
  | succ k ih =>
    intro hk
    rw [spWh, whStep_hi hT hi _ k (by omega)]
    exact ih (by omega)
theorem whStep_lt {A : Nat → Nat → Int32} {S : Nat} (q : whT) (k : Nat) : (whStep A S q k).2.1 < 2 ^ 31 := by
  unfold whStep
  have h1 := spDn_lt q.2.1
  have h2 := spDn_lt (spDn q.2.1)
  generalize spDn (spDn q.2.1) = z at *
  generalize spDn q.2.1 = y at *
  split
  · exact h1
  · split
    · exact h2
    · exact h2
theorem spWh_lt {A : Nat → Nat → Int32} {S : Nat} (n : Nat) (row : Nat → Int32) (hn : n < 2 ^ 31) (k : Nat) : (spWh A S n row k).2.1 < 2 ^ 31 := by
  cases k with
  | zero => exact hn
  | succ k => rw [spWh]; exact whStep_lt _ _
theorem qdRow_hi {A : Nat → Nat → Int32} {P S i : Nat} {w : Option gxEv} {row : Nat → Int32} (hi : 123 ≤ i) (p : Nat) : qdRow w A P S row p i = row i := by
  induction p with
  | zero => rfl
  | succ p ih =>
    rw [qdRow]
    split
    · rw [spPay_hi hi]; exact ih
    · exact ih
theorem spYr_hi {A : Nat → Nat → Int32} {P S E i : Nat} {w : Option gxEv} (hT : mT A P S E w) (n : Nat) (hi : 123 ≤ i) (t : Nat) : (spYr w A P S E n t).2.2 i = A 50 i := by
  induction t with
  | zero => rfl
  | succ t ih =>
    rw [spYr]
    generalize hq : spWh A S (spYr w A P S E n t).2.1 (spYr w A P S E n t).2.2 E = q
    have hqi : q.2.2 i = A 50 i := by
      rw [← hq, spWh_hi hT _ _ hi E (Nat.le_refl _)]; exact ih
    show (if (t + 1) % 10 = 0 then spPass (setS A (qdRow w A P S q.2.2 P)) P else q.2.2) i = A 50 i
    split
    · rw [spPass_hi hT.2.1 hi, setS_50, qdRow_hi hi]; exact hqi
    · exact hqi
theorem spYr_lt {A : Nat → Nat → Int32} {P S E : Nat} {w : Option gxEv} (n : Nat) (hn : n < 2 ^ 31) (t : Nat) : (spYr w A P S E n t).2.1 < 2 ^ 31 := by
  induction t with
  | zero => exact hn
  | succ t ih => rw [spYr]; exact spWh_lt _ _ ih E
def spYrr (w : Option gxEv) (A : Nat → Nat → Int32) (P S : Nat) (q : whT) (what : Int32) : Int32 :=
  if what = 0 then q.1 else if what = 1 then spFsum q.2.2 6 - spFsum (A 50) 6 else spWs w (setS A q.2.2) P (spAll S) S
section MM
variable {G : gxG} {d : Nat} {h : gxH} {b : Nat} {σ : mS} {P S E : Nat} {w : Option gxEv}
/-- what years leaves while it runs: another row, another seed, scratch -/
def yS (σ : mS) (row : Nat → Int32) (n : Nat) (τ : mS) : Prop := wS (mG (mRow σ row) (lN n)) τ
theorem yS.A {row : Nat → Int32} {n : Nat} {τ : mS} (h : yS σ row n τ) {j : Nat} (hj : j < 31 ∨ 40 < j) (h5 : j ≠ 50) : τ.2.2.1 j = σ.2.2.1 j := by
  have := wS.A h hj
  rw [this, mG_A, mRow_A h5]
theorem yS.row {row : Nat → Int32} {n : Nat} {τ : mS} (h : yS σ row n τ) : τ.2.2.1 50 = row := by
  have := wS.A h (j := 50) (by omega)
  rw [this, mG_A, mRow_50]
theorem yS.T {row : Nat → Int32} {n : Nat} {τ : mS} (h : yS σ row n τ) (hT : mT σ.2.2.1 P S E w) : mT τ.2.2.1 P S E w := wS.T h (show mT (setS σ.2.2.1 row) P S E w from hT.row row)
theorem yS.mRow {row : Nat → Int32} {n : Nat} {τ : mS} (h : yS σ row n τ) (r : Nat → Int32) : yS σ r n (mRow τ r) := by
  have := wS.row h r
  rw [mRow_mG, mRow_mRow] at this
  exact this
theorem yS.wS {row : Nat → Int32} {n : Nat} {τ τ' : mS} (h : yS σ row n τ) (g : wS τ τ') : yS σ row n τ' := wS.tr h g
theorem yS.g {row : Nat → Int32} {n : Nat} {τ : mS} (h : yS σ row n τ) : τ.2.1.2 = lN n := by
  obtain ⟨A', hA, rfl⟩ := h
  rfl
theorem yS.mG {row : Nat → Int32} {n : Nat} {τ : mS} (h : yS σ row n τ) (m : Nat) : yS σ row m (mG τ (lN m)) := by
  have := wSG h (lN m)
  rw [mG_mG] at this
  exact this
theorem c_years (hb : gxN G ≤ b) (hd : 18 ≤ d) (hT : mT σ.2.2.1 P S E w) (htax : ∀ p, p < P → 0 ≤ σ.2.2.1 15 p) (seed nights what : Int32) : mMi G mX10_years d [.ref b, .int seed, .int nights, .int what] h b σ (fun r σ' => ((¬ ((0 ≤ seed ∧ seed ≤ 9999) ∧ (1 ≤ nights ∧ nights ≤ 100) ∧ (0 ≤ what ∧ what ≤ 2)) ∧ r = -1) ∨ ∃ n t, n ≤ 9999 ∧ 1 ≤ t ∧ t ≤ 100 ∧ seed = nI n ∧ nights = nI t ∧ (0 ≤ what ∧ what ≤ 2) ∧ r = spYrr w σ.2.2.1 P S (spYr w σ.2.2.1 P S E n t) what) ∧ ∃ v, sE (mG (mI σ 0 0) v) σ') := by
  have hP := hT.1
  have hP6 := hT.2.1
  have hS := hT.2.2.2.1
  refine gxM_of rfl (Nat.le_of_ble_eq_true rfl) rfl ?_
  have wi : ∀ {v lo hi : Int32}, ¬ zi (decide (lo ≤ v) && decide (v ≤ hi)) = 0 → lo ≤ v ∧ v ≤ hi := by
    intro v lo hi hc
    cases e : (decide (lo ≤ v) && decide (v ≤ hi)) with
    | true => simpa using e
    | false => rw [e] at hc; exact absurd rfl hc
  have wo : ∀ {v lo hi : Int32}, zi (decide (lo ≤ v) && decide (v ≤ hi)) = 0 → ¬ (lo ≤ v ∧ v ≤ hi) := by
    intro v lo hi hc hh
    rw [decide_eq_true hh.1, decide_eq_true hh.2] at hc
    exact absurd hc (by decide)
  have N : ¬ ((0 ≤ seed ∧ seed ≤ 9999) ∧ (1 ≤ nights ∧ nights ≤ 100) ∧ (0 ≤ what ∧ what ≤ 2)) → gxV G mX10_years d 0 0 35 [some (.ref b), some (.int seed), some (.int nights), some (.int what), none, none, none, none, none] [] (mput h b (mI σ 0 0)) (mQi h b (fun r σ' => ((¬ ((0 ≤ seed ∧ seed ≤ 9999) ∧ (1 ≤ nights ∧ nights ≤ 100) ∧ (0 ≤ what ∧ what ≤ 2)) ∧ r = -1) ∨ ∃ n t, n ≤ 9999 ∧ 1 ≤ t ∧ t ≤ 100 ∧ seed = nI n ∧ nights = nI t ∧ (0 ≤ what ∧ what ≤ 2) ∧ r = spYrr w σ.2.2.1 P S (spYr w σ.2.2.1 P S E n t) what) ∧ ∃ v, sE (mG (mI σ 0 0) v) σ')) := by
    intro hno
    refine gx_iconst (pc := 35) (v := (-1)) dX10_years_35 (by decide) ?_
    exact m_ret (pc := 36) rfl dX10_years_36 (⟨Or.inl ⟨hno, rfl⟩, (mI σ 0 0).2.1.2, sE.rf⟩)
  refine gx_aload_n (pc := 0) dX10_years_0 rfl ?_
  refine gx_iconst (pc := 1) (v := 0) dX10_years_1 (by decide) ?_
  refine m_putI (pc := 2) rfl hb fX10_175 rfl (by decide) tX10_0 dX10_years_2 ?_
  refine gx_iload_n (pc := 5) dX10_years_5 rfl ?_
  refine gx_iconst (pc := 6) (v := 0) dX10_years_6 (by decide) ?_
  refine gx_sipush (pc := 7) (v := 9999) dX10_years_7 (by decide) ?_
  refine kX10_308 (pc := 10) rfl (c_within (d := d - 1) seed 0 9999) (by omega) (Nat.le_of_ble_eq_true rfl) dX10_years_10 (fun r1 σ1 e1 => ?_)
  obtain ⟨rfl, hσ⟩ := e1
  subst σ1
  refine gx_if_eq (pc := 13) 35 dX10_years_13 (by decide) (fun c1 => ?_) (fun c1 => ?_)
  · exact N (fun hh => wo c1 hh.1)
  · refine gx_iload_n (pc := 16) dX10_years_16 rfl ?_
    refine gx_iconst (pc := 17) (v := 1) dX10_years_17 (by decide) ?_
    refine gx_bipush (pc := 18) (v := 100) dX10_years_18 (by decide) ?_
    refine kX10_308 (pc := 20) rfl (c_within (d := d - 1) nights 1 100) (by omega) (Nat.le_of_ble_eq_true rfl) dX10_years_20 (fun r1 σ1 e1 => ?_)
    obtain ⟨rfl, hσ⟩ := e1
    subst σ1
    refine gx_if_eq (pc := 23) 35 dX10_years_23 (by decide) (fun c2 => ?_) (fun c2 => ?_)
    · exact N (fun hh => wo c2 hh.2.1)
    · refine gx_iload_n (pc := 26) dX10_years_26 rfl ?_
      refine gx_iconst (pc := 27) (v := 0) dX10_years_27 (by decide) ?_
      refine gx_iconst (pc := 28) (v := 2) dX10_years_28 (by decide) ?_
      refine kX10_308 (pc := 29) rfl (c_within (d := d - 1) what 0 2) (by omega) (Nat.le_of_ble_eq_true rfl) dX10_years_29 (fun r1 σ1 e1 => ?_)
      obtain ⟨rfl, hσ⟩ := e1
      subst σ1
      refine gx_if_ne (pc := 32) 37 dX10_years_32 (by decide) (fun c3 => ?_) (fun c3 => ?_)
      · obtain ⟨s1, s2⟩ := wi c1
        obtain ⟨n1, n2⟩ := wi c2
        have hw := wi c3
        obtain ⟨n, hn, rfl⟩ := nI_of2 (M := 9999) (n := 9999) (by decide) (Int32.not_lt.mpr s1) s2
        obtain ⟨t0, ht0, rfl⟩ := nI_of2 (M := 100) (n := 100) (by decide) (Int32.not_lt.mpr (Int32.le_trans (by decide) n1)) n2
        have ht1 : 1 ≤ t0 := (nI_leI (a := 1) (by decide) (by omega)).mp n1
        refine gx_aload_n (pc := 37) dX10_years_37 rfl ?_
        refine gx_iload_n (pc := 38) dX10_years_38 rfl ?_
        refine gx_i2l (pc := 39) dX10_years_39 ?_
        rw [nI_l (by omega)]
        refine m_putG (pc := 40) rfl hb fX10_543 tX10_69 dX10_years_40 ?_
        refine gx_aload_n (pc := 43) dX10_years_43 rfl ?_
        refine m_getA (pc := 44) rfl fX10_129 rfl (by decide) dX10_years_44 ?_
        refine gx_iconst (pc := 47) (v := 0) dX10_years_47 (by decide) ?_
        refine gx_aload_n (pc := 48) dX10_years_48 rfl ?_
        refine m_getA (pc := 49) rfl fX10_132 rfl (by decide) dX10_years_49 ?_
        refine gx_bipush (pc := 52) (v := 123) dX10_years_52 (by decide) ?_
        refine kX10_457 (pc := 54) rfl (c_copies (d := d - 1) (a := 0) (c := 123) hb 50 51 123 246 (hj_jf := rfl) (ho_jf := by decide) (hn_jf := rfl) (hb_jf := by decide) (hj_jt := rfl) (ho_jt := by decide) (hn_jt := rfl) (hb_jt := by decide) (hne := by decide) (ha := by decide) (hc := by decide)) (by omega) (Nat.le_of_ble_eq_true rfl) dX10_years_54 (fun σ1 e1 => ?_)
        have f1 : ∀ j, j ≠ 51 → σ1.2.2.1 j = σ.2.2.1 j := fun j hj => by rw [e1, mSA_A, setJ_ne hj]; rfl
        have f51 : ∀ k, k < 123 → σ1.2.2.1 51 (123 + k) = σ.2.2.1 50 k := fun k hk => by
          rw [e1, mSA_A, setJ_j]
          have := cpy_in (f := (mG (mI σ 0 0) (lN n)).2.2.1 50) (g := (mG (mI σ 0 0) (lN n)).2.2.1 51) (sp := 0) (dp := 123) (n := 123) k hk
          rw [Nat.zero_add] at this
          exact this
        have hT1 : mT σ1.2.2.1 P S E w := by rw [e1, mSA_A]; exact hT.J (by omega) _
        have hx1 : σ1.1 = (mI σ 0 0).1 ∧ σ1.2.2.2 = σ.2.2.2 ∧ σ1.2.1.1 = σ.2.1.1 ∧ σ1.2.1.2 = lN n := by rw [e1]; exact ⟨rfl, rfl, rfl, rfl⟩
        refine gx_aload_n (pc := 57) dX10_years_57 rfl ?_
        refine kX10_486 (pc := 58) rfl (c_finesOfAll (d := d - 1)) (by omega) (Nat.le_of_ble_eq_true rfl) dX10_years_58 (fun r1 σ2 e2 => ?_)
        refine gx_istore (pc := 61) dX10_years_61 (by decide) rfl ?_
        obtain ⟨rfl, hσ⟩ := e2
        subst σ2
        rw [f1 50 (by decide)]
        refine gx_iconst (pc := 63) (v := 0) dX10_years_63 (by decide) ?_
        refine gx_istore (pc := 64) dX10_years_64 (by decide) rfl ?_
        refine gx_iconst (pc := 66) (v := 1) dX10_years_66 (by decide) ?_
        refine gx_istore (pc := 67) dX10_years_67 (by decide) rfl ?_
        have L : ∀ m t, m + t = t0 → ∀ (τ : mS) (x7 x8 : Option Value), yS σ1 (spYr w σ.2.2.1 P S E n t).2.2 (spYr w σ.2.2.1 P S E n t).2.1 τ → gxV G mX10_years d 0 0 69 [some (.ref b), some (.int (nI n)), some (.int (nI t0)), some (.int what), some (.int (spFsum (σ.2.2.1 50) 6)), some (.int (spYr w σ.2.2.1 P S E n t).1), some (.int (nI (t + 1))), x7, x8] [] (mput h b τ) (mQi h b (fun r σ' => ((¬ ((0 ≤ nI n ∧ nI n ≤ 9999) ∧ (1 ≤ nI t0 ∧ nI t0 ≤ 100) ∧ (0 ≤ what ∧ what ≤ 2)) ∧ r = -1) ∨ ∃ n' t', n' ≤ 9999 ∧ 1 ≤ t' ∧ t' ≤ 100 ∧ nI n = nI n' ∧ nI t0 = nI t' ∧ (0 ≤ what ∧ what ≤ 2) ∧ r = spYrr w σ.2.2.1 P S (spYr w σ.2.2.1 P S E n' t') what) ∧ ∃ v, sE (mG (mI σ 0 0) v) σ')) := by
          intro m
          induction m with
          | zero =>
            intro t ht τ x7 x8 hy
            have htt : t = t0 := by omega
            subst t
            refine gx_iload (pc := 69) dX10_years_69 rfl ?_
            refine gx_iload_n (pc := 71) dX10_years_71 rfl ?_
            refine gx_icmp_gt (pc := 72) 161 dX10_years_72 (by decide) (fun c4 => ?_) (fun c4 => ?_)
            · have K : ∀ τ' r, yS σ1 (spYr w σ.2.2.1 P S E n t0).2.2 (spYr w σ.2.2.1 P S E n t0).2.1 τ' → r = spYrr w σ.2.2.1 P S (spYr w σ.2.2.1 P S E n t0) what → gxV G mX10_years d 0 0 193 [some (.ref b), some (.int (nI n)), some (.int (nI t0)), some (.int what), some (.int (spFsum (σ.2.2.1 50) 6)), some (.int (spYr w σ.2.2.1 P S E n t0).1), some (.int (nI (t0 + 1))), x7, x8] [.int r] (mput h b τ') (mQi h b (fun r σ' => ((¬ ((0 ≤ nI n ∧ nI n ≤ 9999) ∧ (1 ≤ nI t0 ∧ nI t0 ≤ 100) ∧ (0 ≤ what ∧ what ≤ 2)) ∧ r = -1) ∨ ∃ n' t', n' ≤ 9999 ∧ 1 ≤ t' ∧ t' ≤ 100 ∧ nI n = nI n' ∧ nI t0 = nI t' ∧ (0 ≤ what ∧ what ≤ 2) ∧ r = spYrr w σ.2.2.1 P S (spYr w σ.2.2.1 P S E n' t') what) ∧ ∃ v, sE (mG (mI σ 0 0) v) σ')) := by
                intro τ' r hy' hr
                refine gx_istore (pc := 193) dX10_years_193 (by decide) rfl ?_
                refine gx_aload_n (pc := 195) dX10_years_195 rfl ?_
                refine m_getA (pc := 196) rfl fX10_132 rfl (by decide) dX10_years_196 ?_
                refine gx_bipush (pc := 199) (v := 123) dX10_years_199 (by decide) ?_
                refine gx_aload_n (pc := 201) dX10_years_201 rfl ?_
                refine m_getA (pc := 202) rfl fX10_129 rfl (by decide) dX10_years_202 ?_
                refine gx_iconst (pc := 205) (v := 0) dX10_years_205 (by decide) ?_
                refine kX10_457 (pc := 206) rfl (c_copies (d := d - 1) (a := 123) (c := 0) hb 51 50 246 123 (hj_jf := rfl) (ho_jf := by decide) (hn_jf := rfl) (hb_jf := by decide) (hj_jt := rfl) (ho_jt := by decide) (hn_jt := rfl) (hb_jt := by decide) (hne := by decide) (ha := by decide) (hc := by decide)) (by omega) (Nat.le_of_ble_eq_true rfl) dX10_years_206 (fun σ5 e5 => ?_)
                refine gx_iload (pc := 209) dX10_years_209 rfl ?_
                have h50 : σ5.2.2.1 50 = σ.2.2.1 50 := by
                  rw [e5, mSA_A, setJ_j]
                  funext q
                  by_cases hq : q < 123
                  · have := cpy_in (f := τ'.2.2.1 51) (g := τ'.2.2.1 50) (sp := 123) (dp := 0) (n := 123) q hq
                    rw [Nat.zero_add] at this
                    rw [this, hy'.A (by omega) (by decide), f51 q hq]
                  · rw [cpy_hi (by omega), hy'.row]
                    exact spYr_hi hT n (by omega) t0
                have hfin : ∃ v, sE (mG (mI σ 0 0) v) σ5 := by
                  refine ⟨lN (spYr w σ.2.2.1 P S E n t0).2.1, ?_⟩
                  have hA := fun j a c => hy'.A (j := j) a c
                  obtain ⟨A4, hA4, e4⟩ := id hy'
                  refine ⟨by rw [e5, e4]; exact hx1.1, ?_, by rw [e5, e4]; exact hx1.2.1, fun j hj => ?_⟩
                  · rw [e5, e4]
                    exact Prod.ext hx1.2.2.1 rfl
                  by_cases hj5 : j = 50
                  · subst hj5; exact h50
                  · have hjs : j ≠ 51 ∧ (j < 31 ∨ 40 < j) := by
                      simp only [scr, Bool.or_eq_false_iff, decide_eq_false_iff_not] at hj
                      omega
                    rw [e5, mSA_A, setJ_ne hj5, hA j hjs.2 hj5, f1 j hjs.1]
                    rfl
                exact m_ret (pc := 211) rfl dX10_years_211 (⟨Or.inr ⟨n, t0, hn, ht1, ht0, rfl, rfl, hw, hr⟩, hfin⟩)
              refine gx_iload_n (pc := 161) dX10_years_161 rfl ?_
              refine gx_if_ne (pc := 162) 170 dX10_years_162 (by decide) (fun c5 => ?_) (fun c5 => ?_)
              · refine gx_iload_n (pc := 170) dX10_years_170 rfl ?_
                refine gx_iconst (pc := 171) (v := 1) dX10_years_171 (by decide) ?_
                refine gx_icmp_ne (pc := 172) 185 dX10_years_172 (by decide) (fun c6 => ?_) (fun c6 => ?_)
                · have hT3 : mT τ.2.2.1 P S E w := hy.T hT1
                  refine gx_aload_n (pc := 185) dX10_years_185 rfl ?_
                  refine gx_aload_n (pc := 186) dX10_years_186 rfl ?_
                  refine kX10_489 (pc := 187) rfl (c_allSecrets (d := d - 1) hT3) (by omega) (Nat.le_of_ble_eq_true rfl) dX10_years_187 (fun r1 σ4 e4 => ?_)
                  obtain ⟨rfl, hσ⟩ := e4
                  subst σ4
                  refine kX10_433 (pc := 190) rfl (c_worthsOf (d := d - 1) hb (by omega) hT3 _) (by omega) (Nat.le_of_ble_eq_true rfl) dX10_years_190 (fun r1 σ4 e4 => ?_)
                  obtain ⟨rfl, h4⟩ := e4
                  refine K σ4 _ (hy.wS h4) ?_
                  rw [spYrr, if_neg c5, if_neg c6]
                  refine spWs_congr ?_ ?_ ?_ ?_ ?_ w P _ S
                  · rw [hy.A (by omega) (by decide), setS_ne (by decide), f1 13 (by decide)]
                  · rw [hy.A (by omega) (by decide), setS_ne (by decide), f1 17 (by decide)]
                  · rw [hy.A (by omega) (by decide), setS_ne (by decide), f1 18 (by decide)]
                  · rw [hy.A (by omega) (by decide), setS_ne (by decide), f1 19 (by decide)]
                  · rw [hy.row, setS_50]
                · refine gx_aload_n (pc := 175) dX10_years_175 rfl ?_
                  refine kX10_486 (pc := 176) rfl (c_finesOfAll (d := d - 1)) (by omega) (Nat.le_of_ble_eq_true rfl) dX10_years_176 (fun r1 σ4 e4 => ?_)
                  refine gx_iload (pc := 179) dX10_years_179 rfl ?_
                  refine gx_isub (pc := 181) dX10_years_181 ?_
                  refine gx_goto (pc := 182) 193 dX10_years_182 (by decide) ?_
                  obtain ⟨rfl, hσ⟩ := e4
                  subst σ4
                  refine K τ _ hy ?_
                  rw [spYrr, if_neg c5, if_pos c6, hy.row]
              · refine gx_iload (pc := 165) dX10_years_165 rfl ?_
                refine gx_goto (pc := 167) 193 dX10_years_167 (by decide) ?_
                exact K τ _ hy (by rw [spYrr, if_pos c5])
            · exact absurd (nI_lt (by omega) (by omega)) c4
          | succ m ih =>
            intro t ht τ x7 x8 hy
            have hTt : mT τ.2.2.1 P S E w := hy.T hT1
            refine gx_iload (pc := 69) dX10_years_69 rfl ?_
            refine gx_iload_n (pc := 71) dX10_years_71 rfl ?_
            refine gx_icmp_gt (pc := 72) 161 dX10_years_72 (by decide) (fun c4 => ?_) (fun c4 => ?_)
            · exact absurd c4 (nI_nlt (by omega) (by omega))
            · refine gx_iload (pc := 75) dX10_years_75 rfl ?_
              refine gx_aload_n (pc := 77) dX10_years_77 rfl ?_
              refine kX10_557 (pc := 78) rfl (c_whispers (d := d - 1) hb (by omega) hTt _ (spYr_lt n (by omega) t) hy.g) (by omega) (Nat.le_of_ble_eq_true rfl) dX10_years_78 (fun r1 τ2 e2 => ?_)
              have hwh : spWh τ.2.2.1 S (spYr w σ.2.2.1 P S E n t).2.1 (τ.2.2.1 50) E = spWh σ.2.2.1 S (spYr w σ.2.2.1 P S E n t).2.1 (spYr w σ.2.2.1 P S E n t).2.2 E := by
                rw [hy.row]
                refine spWh_congr ?_ ?_ ?_ ?_ ?_ ?_ _ _ _ E <;> rw [hy.A (by decide) (by decide), f1 _ (by decide)]
              rw [hwh] at e2
              obtain ⟨rfl, e2⟩ := e2
              have hy2 : yS σ1 (spWh σ.2.2.1 S (spYr w σ.2.2.1 P S E n t).2.1 (spYr w σ.2.2.1 P S E n t).2.2 E).2.2 (spWh σ.2.2.1 S (spYr w σ.2.2.1 P S E n t).2.1 (spYr w σ.2.2.1 P S E n t).2.2 E).2.1 τ2 := by
                rw [e2]; exact (hy.mRow _).mG _
              generalize hq : spWh σ.2.2.1 S (spYr w σ.2.2.1 P S E n t).2.1 (spYr w σ.2.2.1 P S E n t).2.2 E = q at *
              have hstep : spYr w σ.2.2.1 P S E n (t + 1) = ((spYr w σ.2.2.1 P S E n t).1 + q.1, q.2.1, if (t + 1) % 10 = 0 then spPass (setS σ.2.2.1 (qdRow w σ.2.2.1 P S q.2.2 P)) P else q.2.2) := by rw [spYr, hq]
              have K155 : ∀ τ3 (x7 x8 : Option Value), yS σ1 (spYr w σ.2.2.1 P S E n (t + 1)).2.2 (spYr w σ.2.2.1 P S E n (t + 1)).2.1 τ3 → gxV G mX10_years d 0 0 155 [some (.ref b), some (.int (nI n)), some (.int (nI t0)), some (.int what), some (.int (spFsum (σ.2.2.1 50) 6)), some (.int ((spYr w σ.2.2.1 P S E n t).1 + q.1)), some (.int (nI (t + 1))), x7, x8] [] (mput h b τ3) (mQi h b (fun r σ' => ((¬ ((0 ≤ nI n ∧ nI n ≤ 9999) ∧ (1 ≤ nI t0 ∧ nI t0 ≤ 100) ∧ (0 ≤ what ∧ what ≤ 2)) ∧ r = -1) ∨ ∃ n' t', n' ≤ 9999 ∧ 1 ≤ t' ∧ t' ≤ 100 ∧ nI n = nI n' ∧ nI t0 = nI t' ∧ (0 ≤ what ∧ what ≤ 2) ∧ r = spYrr w σ.2.2.1 P S (spYr w σ.2.2.1 P S E n' t') what) ∧ ∃ v, sE (mG (mI σ 0 0) v) σ')) := by
                intro τ3 x7 x8 h3
                refine gx_iincc (pc := 155) (c := 1) dX10_years_155 rfl (by decide) (by decide) rfl ?_
                refine gx_goto (pc := 158) 69 dX10_years_158 (by decide) ?_
                rw [nI_1]
                have := ih (t + 1) (by omega) τ3 x7 x8 h3
                rw [show (spYr w σ.2.2.1 P S E n (t + 1)).1 = (spYr w σ.2.2.1 P S E n t).1 + q.1 by rw [hstep]] at this
                exact this
              refine gx_iadd (pc := 81) dX10_years_81 ?_
              refine gx_istore (pc := 82) dX10_years_82 (by decide) rfl ?_
              refine gx_iload (pc := 84) dX10_years_84 rfl ?_
              refine gx_bipush (pc := 86) (v := 10) dX10_years_86 (by decide) ?_
              refine gx_irem (pc := 88) dX10_years_88 (by decide) ?_
              rw [show nI (t + 1) - nI (t + 1) / 10 * 10 = nI ((t + 1) % 10) from pk_rem (d := 10) (by omega) (by decide) (by decide)]
              refine gx_if_le (pc := 89) 95 dX10_years_89 (by decide) (fun c5 => ?_) (fun c5 => ?_)
              · have h10 : (t + 1) % 10 = 0 := by
                  have := (nI_leI (a := (t + 1) % 10) (b := 0) (by omega) (by decide)).mp c5
                  omega
                refine gx_iconst (pc := 95) (v := 0) dX10_years_95 (by decide) ?_
                refine gx_istore (pc := 96) dX10_years_96 (by decide) rfl ?_
                have L2 : ∀ m2 p, m2 + p = P → ∀ τ3 x8, yS σ1 (qdRow w σ.2.2.1 P S q.2.2 p) q.2.1 τ3 → gxV G mX10_years d 0 0 98 [some (.ref b), some (.int (nI n)), some (.int (nI t0)), some (.int what), some (.int (spFsum (σ.2.2.1 50) 6)), some (.int ((spYr w σ.2.2.1 P S E n t).1 + q.1)), some (.int (nI (t + 1))), some (.int (nI p)), x8] [] (mput h b τ3) (mQi h b (fun r σ' => ((¬ ((0 ≤ nI n ∧ nI n ≤ 9999) ∧ (1 ≤ nI t0 ∧ nI t0 ≤ 100) ∧ (0 ≤ what ∧ what ≤ 2)) ∧ r = -1) ∨ ∃ n' t', n' ≤ 9999 ∧ 1 ≤ t' ∧ t' ≤ 100 ∧ nI n = nI n' ∧ nI t0 = nI t' ∧ (0 ≤ what ∧ what ≤ 2) ∧ r = spYrr w σ.2.2.1 P S (spYr w σ.2.2.1 P S E n' t') what) ∧ ∃ v, sE (mG (mI σ 0 0) v) σ')) := by
                  intro m2
                  induction m2 with
                  | zero =>
                    intro p hp τ3 x8 h3
                    have hpp : p = P := by omega
                    subst p
                    refine gx_iload (pc := 98) dX10_years_98 rfl ?_
                    refine gx_aload_n (pc := 100) dX10_years_100 rfl ?_
                    refine m_getA (pc := 101) rfl fX10_13 rfl (by decide) dX10_years_101 ?_
                    refine gx_iconst (pc := 104) (v := 0) dX10_years_104 (by decide) ?_
                    refine m_iald (pc := 105) 10 (0) 8 rfl (by decide) rfl (by first | rfl | simp only [gx_lit, nI_add, pk_mul]) (by omega) (by decide) dX10_years_105 ?_
                    rw [h3.A (by omega) (by decide), f1 10 (by decide), hP]
                    refine gx_icmp_ge (pc := 106) 150 dX10_years_106 (by decide) (fun c6 => ?_) (fun c6 => ?_)
                    · refine gx_aload_n (pc := 150) dX10_years_150 rfl ?_
                      refine kX10_480 (pc := 151) rfl (c_passes' (d := d - 1) hb (h3.T hT1)) (by omega) (Nat.le_of_ble_eq_true rfl) dX10_years_151 (fun r1 τ4 e4 => ?_)
                      refine gx_pop (pc := 154) dX10_years_154 rfl ?_
                      obtain ⟨rfl, e4⟩ := e4
                      refine K155 τ4 _ _ ?_
                      rw [hstep]
                      simp only [h10, if_true]
                      have e9 : spPass τ3.2.2.1 P = spPass (setS σ.2.2.1 (qdRow w σ.2.2.1 P S q.2.2 P)) P := spPass_congr (by rw [h3.A (by omega) (by decide), setS_ne (by decide), f1 15 (by decide)]) (by rw [h3.row, setS_50]) P
                      rw [e4, e9]
                      exact h3.mRow _
                    · exact absurd (nI_le (by omega) (by omega)) c6
                  | succ m2 ih2 =>
                    intro p hp τ3 x8 h3
                    refine gx_iload (pc := 98) dX10_years_98 rfl ?_
                    refine gx_aload_n (pc := 100) dX10_years_100 rfl ?_
                    refine m_getA (pc := 101) rfl fX10_13 rfl (by decide) dX10_years_101 ?_
                    refine gx_iconst (pc := 104) (v := 0) dX10_years_104 (by decide) ?_
                    refine m_iald (pc := 105) 10 (0) 8 rfl (by decide) rfl (by first | rfl | simp only [gx_lit, nI_add, pk_mul]) (by omega) (by decide) dX10_years_105 ?_
                    rw [h3.A (by omega) (by decide), f1 10 (by decide), hP]
                    refine gx_icmp_ge (pc := 106) 150 dX10_years_106 (by decide) (fun c6 => ?_) (fun c6 => ?_)
                    · exact absurd c6 (nI_ge (by omega) (by omega))
                    · have K144 : ∀ τ4 x8, yS σ1 (qdRow w σ.2.2.1 P S q.2.2 (p + 1)) q.2.1 τ4 → gxV G mX10_years d 0 0 144 [some (.ref b), some (.int (nI n)), some (.int (nI t0)), some (.int what), some (.int (spFsum (σ.2.2.1 50) 6)), some (.int ((spYr w σ.2.2.1 P S E n t).1 + q.1)), some (.int (nI (t + 1))), some (.int (nI p)), x8] [] (mput h b τ4) (mQi h b (fun r σ' => ((¬ ((0 ≤ nI n ∧ nI n ≤ 9999) ∧ (1 ≤ nI t0 ∧ nI t0 ≤ 100) ∧ (0 ≤ what ∧ what ≤ 2)) ∧ r = -1) ∨ ∃ n' t', n' ≤ 9999 ∧ 1 ≤ t' ∧ t' ≤ 100 ∧ nI n = nI n' ∧ nI t0 = nI t' ∧ (0 ≤ what ∧ what ≤ 2) ∧ r = spYrr w σ.2.2.1 P S (spYr w σ.2.2.1 P S E n' t') what) ∧ ∃ v, sE (mG (mI σ 0 0) v) σ')) := by
                        intro τ4 x8 h4
                        refine gx_iincc (pc := 144) (c := 1) dX10_years_144 rfl (by decide) (by decide) rfl ?_
                        refine gx_goto (pc := 147) 98 dX10_years_147 (by decide) ?_
                        rw [nI_1]
                        exact ih2 (p + 1) (by omega) τ4 x8 h4
                      have e15 : τ3.2.2.1 15 = σ.2.2.1 15 := by rw [h3.A (by omega) (by decide), f1 15 (by decide)]
                      refine gx_aload_n (pc := 109) dX10_years_109 rfl ?_
                      refine m_getA (pc := 110) rfl fX10_29 rfl (by decide) dX10_years_110 ?_
                      refine gx_iload (pc := 113) dX10_years_113 rfl ?_
                      refine m_iald (pc := 115) 15 (p) 12 rfl (by decide) rfl (by first | rfl | simp only [gx_lit, nI_add, pk_mul]) (by omega) (by decide) dX10_years_115 ?_
                      rw [e15]
                      refine gx_if_le (pc := 116) 128 dX10_years_116 (by decide) (fun c7 => ?_) (fun c7 => ?_)
                      · refine gx_iconst (pc := 128) (v := (-1)) dX10_years_128 (by decide) ?_
                        refine gx_istore (pc := 129) dX10_years_129 (by decide) rfl ?_
                        refine gx_iload (pc := 131) dX10_years_131 rfl ?_
                        refine gx_if_le (pc := 133) 144 dX10_years_133 (by decide) (fun c8 => ?_) (fun c8 => ?_)
                        · refine K144 τ3 _ ?_
                          simp only [qdRow]
                          rw [if_neg (fun hh => absurd hh.1 (Int32.not_lt.mpr c7))]
                          exact h3
                        · exact absurd (by decide) c8
                      · refine gx_aload_n (pc := 119) dX10_years_119 rfl ?_
                        refine gx_iload (pc := 120) dX10_years_120 rfl ?_
                        refine kX10_495 (pc := 122) rfl (c_leastOf (d := d - 1) hb (by omega) (h3.T hT1) p (by omega)) (by omega) (Nat.le_of_ble_eq_true rfl) dX10_years_122 (fun r1 τ4 e4 => ?_)
                        refine gx_goto (pc := 125) 129 dX10_years_125 (by decide) ?_
                        refine gx_istore (pc := 129) dX10_years_129 (by decide) rfl ?_
                        obtain ⟨rfl, h4⟩ := e4
                        have hle : spLeast w τ3.2.2.1 P S p = spLeast w (setS σ.2.2.1 (qdRow w σ.2.2.1 P S q.2.2 p)) P S p := by
                          refine spLeast_congr ?_ ?_ ?_ ?_ ?_ ?_ w P S p <;> first | rw [h3.A (by decide) (by decide), setS_ne (by decide), f1 _ (by decide)] | rw [h3.row, setS_50]
                        rw [hle]
                        have h34 := h3.wS h4
                        generalize hlv : spLeast w (setS σ.2.2.1 (qdRow w σ.2.2.1 P S q.2.2 p)) P S p = lv at *
                        refine gx_iload (pc := 131) dX10_years_131 rfl ?_
                        refine gx_if_le (pc := 133) 144 dX10_years_133 (by decide) (fun c8 => ?_) (fun c8 => ?_)
                        · refine K144 τ4 _ ?_
                          simp only [qdRow, hlv]
                          rw [if_neg (fun hh => absurd hh.2 (Int32.not_lt.mpr c8))]
                          exact h34
                        · refine gx_aload_n (pc := 136) dX10_years_136 rfl ?_
                          refine gx_iload (pc := 137) dX10_years_137 rfl ?_
                          refine gx_iload (pc := 139) dX10_years_139 rfl ?_
                          refine kX10_477 (pc := 141) rfl (c_pays' (d := d - 1) hb p lv) (by omega) (Nat.le_of_ble_eq_true rfl) dX10_years_141 (fun τ5 e5 => ?_)
                          refine K144 τ5 _ ?_
                          simp only [qdRow, hlv]
                          rw [if_pos ⟨Int32.not_le.mp c7, Int32.not_le.mp c8⟩, e5, h34.row]
                          exact h34.mRow _
                exact L2 P 0 (by omega) τ2 _ hy2
              · refine gx_goto (pc := 92) 155 dX10_years_92 (by decide) ?_
                refine K155 τ2 _ _ ?_
                have h10 : ¬ (t + 1) % 10 = 0 := fun e => c5 (by rw [e]; decide)
                rw [hstep]
                simp only [h10, if_false]
                exact hy2
        have hy0 : yS σ1 (spYr w σ.2.2.1 P S E n 0).2.2 (spYr w σ.2.2.1 P S E n 0).2.1 σ1 := by
          show wS (mG (mRow σ1 (σ.2.2.1 50)) (lN n)) σ1
          have e0 : mG (mRow σ1 (σ.2.2.1 50)) (lN n) = σ1 := by
            rw [← f1 50 (by decide), mRow, setS_J, setJ_self, ← hx1.2.2.2]; rfl
          rw [e0]
          exact wS.rf
        exact L t0 0 (by omega) σ1 _ _ hy0
      · exact N (fun hh => wo c3 hh.2.2)
end MM
