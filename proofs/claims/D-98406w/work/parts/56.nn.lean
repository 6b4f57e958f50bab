/-! ===== MODEL NN: gossip as it is read ===== -/
set_option maxRecDepth 100000
def ownG (j k : Nat) : Bool := (j == 42 && k == 5) || ((j == 43 || j == 44 || j == 45 || j == 46) && decide (150 ≤ k))
def frG (x y : dS) : Prop := (∀ j k, ownG j k = false → y.1 j k = x.1 j k) ∧ y.2 = x.2
theorem frG.rf (x : dS) : frG x x := ⟨fun _ _ _ => rfl, rfl⟩
theorem frG.tr {x y z : dS} (h : frG x y) (g : frG y z) : frG x z := ⟨fun j k e => (g.1 j k e).trans (h.1 j k e), g.2.trans h.2⟩
theorem frG.A (x : dS) {j k : Nat} (h : ownG j k = true) (v : Int32) : frG x (dA x j k v) := by
  refine ⟨fun j' k' e => ?_, rfl⟩
  rw [dA_at]
  split
  · rename_i hh
    rw [hh.1, hh.2, h] at e; cases e
  · rfl
theorem ownG4 {j n : Nat} (hj : 43 ≤ j) (hj2 : j ≤ 46) (hn : 150 ≤ n) : ownG j n = true := by
  have : j = 43 ∨ j = 44 ∨ j = 45 ∨ j = 46 := by omega
  rcases this with e | e | e | e <;> subst e <;> simp [ownG, hn]
def rG (σ σ' : mS) : Prop := rE σ σ' ∧ σ'.1 28 = σ.1 28 ∧ frG σ.2.2 σ'.2.2
theorem rG.rf (σ : mS) : rG σ σ := ⟨rE.rf σ, rfl, frG.rf _⟩
theorem rG.tr {a b c : mS} (h : rG a b) (k : rG b c) : rG a c := ⟨h.1.tr k.1, k.2.1.trans h.2.1, h.2.2.tr k.2.2⟩
theorem rK.G {a b : mS} (h : rK a b) : rG a b := ⟨h.1, h.2.1, by rw [h.2.2]; exact frG.rf _⟩
theorem rG.A (σ : mS) {j k : Nat} (h : ownG j k = true) (v : Int32) : rG σ (mA σ j k v) := ⟨rE.rf σ, rfl, frG.A _ h v⟩
theorem rG.K {a b c : mS} (h : rG a b) (k : rK b c) : rG a c := h.tr k.G
theorem frG.t10 {x y : dS} (h : frG x y) (k : Nat) : y.1 10 k = x.1 10 k := h.1 10 k rfl
def spGT (t : Nat → Int32) (z P S at_ : Nat) (x : dS) (i : Nat) : Sum Int32 (Nat × dS) :=
  rB (spNd t z i (spPn x.2 0 P (tkK t z i).2.2.2.1)) (fun a => rB (spNd t z (i + 1) (spPn x.2 0 P (tkK t z (i + 1)).2.2.2.1)) (fun c =>
    if a = c then .inl (flt t z (i + 1) 3) else rB (spNd t z (i + 1 + 1) (spSn x.2 0 S (tkK t z (i + 1 + 1)).2.2.2.1)) (fun k => .inr (i + 1 + 1 + 1, dA (dA (dA x 44 at_ (nI a)) 45 at_ (nI c)) 46 at_ (nI k)))))
def spGP (t : Nat → Int32) (z P S at_ : Nat) (x : dS) (i : Nat) : Sum Int32 (Nat × dS) :=
  rB (spNd t z i (spPn x.2 0 P (tkK t z i).2.2.2.1)) (fun a => rB (spSome t z (spSn x.2 0 S) (z + 1) 0 (i + 1)) (fun w => .inr (w.1, dA (dA x 44 at_ (nI a)) 46 at_ w.2)))
def spGR (t : Nat → Int32) (z P at_ : Nat) (x : dS) (i : Nat) : Sum Int32 (Nat × dS) :=
  rB (spNd t z i (spPn x.2 0 P (tkK t z i).2.2.2.1)) (fun a => .inr (i + 1, dA x 44 at_ (nI a)))
def spWhat (q : tkV) : Int32 := if tkW q 397641 = true then 0 else if tkW q 11716 = true then 1 else if tkW q 361373 = true then 2 else if tkW q 6888375828 = true then 3 else -1
def spGL (t : Nat → Int32) (z P S n : Nat) (x : dS) (i : Nat) : Sum Int32 (Nat × dS) :=
  if spWhat (tkK t z i) < 0 then .inl (flt t z i 1) else if n = 30 then .inl (flt t z i 5) else
    rB (if spWhat (tkK t z i) = 0 then spGT t z P S (150 + n) (dA x 43 (150 + n) (spWhat (tkK t z i))) (i + 1) else if spWhat (tkK t z i) = 1 then spGP t z P S (150 + n) (dA x 43 (150 + n) (spWhat (tkK t z i))) (i + 1) else if spWhat (tkK t z i) = 2 then spGR t z P (150 + n) (dA x 43 (150 + n) (spWhat (tkK t z i))) (i + 1) else .inr (i + 1, dA x 43 (150 + n) (spWhat (tkK t z i)))) (fun a => rB (spClo t z a.1) (fun e => .inr (e, dA a.2 42 5 (nI (n + 1)))))
def spGos (t : Nat → Int32) (z P S : Nat) : Nat → Nat → dS → Nat → Sum Int32 dS
  | 0, _, _, _ => .inl 0
  | m + 1, n, x, i => if (tkK t z i).2.2.1 = 0 then .inr x else rB (spGL t z P S n x i) (fun a => spGos t z P S m (n + 1) a.2 a.1)
def lnAt (A : Nat → Nat → Int32) (P S o k : Nat) : Prop :=
  (A 43 (o + k) = 0 ∧ ∃ p q c, p < P ∧ q < P ∧ c < S ∧ p ≠ q ∧ A 44 (o + k) = nI p ∧ A 45 (o + k) = nI q ∧ A 46 (o + k) = nI c) ∨
  (A 43 (o + k) = 1 ∧ ∃ p, p < P ∧ A 44 (o + k) = nI p) ∨ (A 43 (o + k) = 2 ∧ ∃ p, p < P ∧ A 44 (o + k) = nI p) ∨ A 43 (o + k) = 3
theorem spWhat_v (q : tkV) : spWhat q = -1 ∨ spWhat q = 0 ∨ spWhat q = 1 ∨ spWhat q = 2 ∨ spWhat q = 3 := by
  unfold spWhat; repeat' split
  all_goals simp
theorem spGL_ok {t : Nat → Int32} {z P S n : Nat} {x : dS} {i : Nat} {a : Nat × dS} (h : spGL t z P S n x i = .inr a) (hl : ∀ k, k < n → lnAt x.1 P S 150 k) : i + 1 ≤ a.1 ∧ n < 31 ∧ n ≠ 30 ∧ a.2.1 42 5 = nI (n + 1) ∧ a.2.2 = x.2 ∧ (∀ k, k < n + 1 → lnAt a.2.1 P S 150 k) ∨ 31 ≤ n := by
  rcases Nat.lt_or_ge n 31 with hn | hn
  · left
    unfold spGL at h
    split at h
    · cases h
    rename_i hw
    split at h
    · cases h
    rename_i hn30
    obtain ⟨a1, h1, h⟩ := rB_inv h
    obtain ⟨e, h2, h⟩ := rB_inv h
    have i2 := spClo_i h2
    cases h
    generalize hwv : spWhat (tkK t z i) = wv at *
    have done : i + 1 ≤ a1.1 → a1.2.2 = x.2 → (∀ j k, j = 43 ∨ j = 44 ∨ j = 45 ∨ j = 46 → k < n → a1.2.1 j (150 + k) = x.1 j (150 + k)) → lnAt a1.2.1 P S 150 n → i + 1 ≤ e ∧ n < 31 ∧ n ≠ 30 ∧ (dA a1.2 42 5 (nI (n + 1))).1 42 5 = nI (n + 1) ∧ (dA a1.2 42 5 (nI (n + 1))).2 = x.2 ∧ (∀ k, k < n + 1 → lnAt (dA a1.2 42 5 (nI (n + 1))).1 P S 150 k) := by
      intro d1 d2 d3 d4
      refine ⟨by omega, hn, hn30, by rw [dA_at]; simp, d2, fun k hk => ?_⟩
      have : lnAt a1.2.1 P S 150 k := by
        rcases Nat.lt_or_ge k n with q | q
        · have := hl k q
          unfold lnAt at *
          rw [d3 43 k (by omega) q, d3 44 k (by omega) q, d3 45 k (by omega) q, d3 46 k (by omega) q]
          exact this
        · rw [show k = n by omega]; exact d4
      unfold lnAt at *
      simp only [dA_at]
      simpa using this
    split at h1
    · rename_i w0
      unfold spGT at h1
      obtain ⟨p, q1, h1⟩ := rB_inv h1
      obtain ⟨q, q2, h1⟩ := rB_inv h1
      split at h1
      · cases h1
      rename_i hpq
      obtain ⟨c, q3, h1⟩ := rB_inv h1
      cases h1
      refine done (by show i + 1 ≤ _; simp only []; omega) rfl (fun j k hj hk => ?_) (Or.inl ⟨?_, p, q, c, spNm_lt0 (spNd_k q1), spNm_lt0 (spNd_k q2), spNm_lt0 (spNd_k q3), hpq, ?_, ?_, ?_⟩)
      · simp only [dA_at]
        rw [if_neg (by omega), if_neg (by omega), if_neg (by omega), if_neg (by omega)]
      · simp [dA_at, w0]
      · simp [dA_at]
      · simp [dA_at]
      · simp [dA_at]
    · split at h1
      · rename_i w1 w0
        unfold spGP at h1
        obtain ⟨p, q1, h1⟩ := rB_inv h1
        obtain ⟨w, q2, h1⟩ := rB_inv h1
        have := spSome_i q2
        cases h1
        refine done (by show i + 1 ≤ w.1; omega) rfl (fun j k hj hk => ?_) (Or.inr (Or.inl ⟨?_, p, spNm_lt0 (spNd_k q1), ?_⟩))
        · simp only [dA_at]
          rw [if_neg (by omega), if_neg (by omega), if_neg (by omega)]
        · simp [dA_at, w0]
        · simp [dA_at]
      · split at h1
        · rename_i w2 w1 w0
          unfold spGR at h1
          obtain ⟨p, q1, h1⟩ := rB_inv h1
          cases h1
          refine done (by show i + 1 ≤ _; simp only []; omega) rfl (fun j k hj hk => ?_) (Or.inr (Or.inr (Or.inl ⟨?_, p, spNm_lt0 (spNd_k q1), ?_⟩)))
          · simp only [dA_at]
            rw [if_neg (by omega), if_neg (by omega)]
          · simp [dA_at, w0]
          · simp [dA_at]
        · rename_i w2 w1 w0
          cases h1
          refine done (Nat.le_refl _) rfl (fun j k hj hk => ?_) (Or.inr (Or.inr (Or.inr ?_)))
          · simp only [dA_at]
            rw [if_neg (by omega)]
          · have := spWhat_v (tkK t z i)
            rw [hwv] at this
            simp only [dA_at]
            rcases this with e | e | e | e | e
            · rw [e] at hw; exact absurd (by decide) hw
            · exact absurd e w2
            · exact absurd e w1
            · exact absurd e w0
            · simp [e]
  · exact Or.inr hn
section NN
variable {G : gxG} {d : Nat} {h : gxH} {b : Nat} {σ : mS} {t : Nat → Int32} {z i : Nat}
theorem c_readsTelling (hb : gxN G ≤ b) (hd : 4 ≤ d) (hS : tS t z i σ) (P S n : Nat) (hP : σ.2.2.1 10 0 = nI P) (hP6 : P ≤ 6) (hSS : σ.2.2.1 10 1 = nI S) (hS10 : S ≤ 10) (hn : 150 ≤ n) (hn2 : n < 180) : mMi G mX10_readsTelling d [.ref b, .int (nI n)] h b σ (fun r σ' => rG σ σ' ∧ rR (spGT t z P S n σ.2.2 i) r σ' (fun a => tS t z a.1 σ' ∧ σ'.2.2 = a.2)) := by
  refine gxM_of rfl (Nat.le_of_ble_eq_true rfl) rfl ?_
  generalize hX : spGT t z P S n σ.2.2 i = X
  rw [spGT] at hX
  refine gx_aload_n (pc := 0) dX10_readsTelling_0 rfl ?_
  refine gx_iconst (pc := 1) (v := 0) dX10_readsTelling_1 (by decide) ?_
  refine kX10_342 (pc := 2) rfl (c_needsPerson (d := d - 1) hb (by omega) hS 0 P (by decide) hP hP6) (by omega) (Nat.le_of_ble_eq_true rfl) dX10_readsTelling_2 (fun r1 σ1 e1 => ?_)
  obtain ⟨K1, S1, e1⟩ := e1
  cases h1 : spNd t z i (spPn σ.2.2.2 0 P (tkK t z i).2.2.2.1) with
  | inl f =>
    rw [h1] at e1 hX
    obtain ⟨rfl, hw⟩ := e1
    refine gx_if_ne (pc := 5) 10 dX10_readsTelling_5 (by decide) (fun c1 => ?_) (fun c1 => ?_)
    · exact absurd rfl c1
    · refine gx_iconst (pc := 8) (v := 0) dX10_readsTelling_8 (by decide) ?_
      exact m_retz (pc := 9) rfl (by decide) dX10_readsTelling_9 (⟨K1.G, by rw [← hX]; exact ⟨rfl, hw⟩⟩)
  | inr a =>
    rw [h1] at e1 hX
    obtain ⟨rfl, ha, g1⟩ := e1
    rw [rB_r] at hX
    refine gx_if_ne (pc := 5) 10 dX10_readsTelling_5 (by decide) (fun c1 => ?_) (fun c1 => ?_)
    · refine gx_aload_n (pc := 10) dX10_readsTelling_10 rfl ?_
      refine m_getA (pc := 11) rfl fX10_111 rfl (by decide) dX10_readsTelling_11 ?_
      refine gx_iload_n (pc := 14) dX10_readsTelling_14 rfl ?_
      refine gx_aload_n (pc := 15) dX10_readsTelling_15 rfl ?_
      refine m_getI (pc := 16) rfl fX10_312 rfl (by decide) dX10_readsTelling_16 ?_
      rw [g1]
      refine m_iast (pc := 19) hb 44 (n) 180 rfl (by decide) rfl (by first | rfl | simp only [gx_lit, nI_add, pk_mul]) (by omega) (by decide) dX10_readsTelling_19 ?_
      have S2 := S1.mA (j := 44) (by decide) n (nI a)
      have D2 : rG σ (mA σ1 44 n (nI a)) := K1.G.tr (rG.A _ (ownG4 (by decide) (by decide) hn) _)
      have A2 := mA_22 σ1 44 n (nI a)
      rw [K1.2.2] at A2
      generalize mA σ1 44 n (nI a) = τ2 at *
      refine gx_aload_n (pc := 20) dX10_readsTelling_20 rfl ?_
      refine kX10_246 (pc := 21) rfl (c_next (d := d - 1) hb (by omega) S2) (by omega) (Nat.le_of_ble_eq_true rfl) dX10_readsTelling_21 (fun σ3 e3 => ?_)
      subst σ3
      have S3 := S2.nx
      have D3 := D2.K (rK.tk τ2 (tkK t z (i + 1)))
      have A3 := (tkP_22 τ2 (tkK t z (i + 1))).trans A2
      generalize tkP τ2 (tkK t z (i + 1)) = τ3 at *
      refine gx_aload_n (pc := 24) dX10_readsTelling_24 rfl ?_
      refine gx_iconst (pc := 25) (v := 0) dX10_readsTelling_25 (by decide) ?_
      refine kX10_342 (pc := 26) rfl (c_needsPerson (d := d - 1) hb (by omega) S3 0 P (by decide) (by rw [A3]; exact hP) hP6) (by omega) (Nat.le_of_ble_eq_true rfl) dX10_readsTelling_26 (fun r4 σ4 e4 => ?_)
      obtain ⟨K4, S4, e4⟩ := e4
      rw [show τ3.2.2.2 = σ.2.2.2 by rw [A3]; rfl] at e4
      have D4 := D3.K K4
      have A4 := K4.2.2.trans A3
      cases h4 : spNd t z (i + 1) (spPn σ.2.2.2 0 P (tkK t z (i + 1)).2.2.2.1) with
      | inl f =>
        rw [h4] at e4 hX
        obtain ⟨rfl, hw⟩ := e4
        refine gx_if_ne (pc := 29) 34 dX10_readsTelling_29 (by decide) (fun c2 => ?_) (fun c2 => ?_)
        · exact absurd rfl c2
        · refine gx_iconst (pc := 32) (v := 0) dX10_readsTelling_32 (by decide) ?_
          exact m_retz (pc := 33) rfl (by decide) dX10_readsTelling_33 (⟨D4, by rw [← hX]; exact ⟨rfl, hw⟩⟩)
      | inr c =>
        rw [h4] at e4 hX
        obtain ⟨rfl, hc, g4⟩ := e4
        rw [rB_r] at hX
        refine gx_if_ne (pc := 29) 34 dX10_readsTelling_29 (by decide) (fun c2 => ?_) (fun c2 => ?_)
        · refine gx_aload_n (pc := 34) dX10_readsTelling_34 rfl ?_
          refine m_getA (pc := 35) rfl fX10_114 rfl (by decide) dX10_readsTelling_35 ?_
          refine gx_iload_n (pc := 38) dX10_readsTelling_38 rfl ?_
          refine gx_aload_n (pc := 39) dX10_readsTelling_39 rfl ?_
          refine m_getI (pc := 40) rfl fX10_312 rfl (by decide) dX10_readsTelling_40 ?_
          rw [g4]
          refine m_iast (pc := 43) hb 45 (n) 180 rfl (by decide) rfl (by first | rfl | simp only [gx_lit, nI_add, pk_mul]) (by omega) (by decide) dX10_readsTelling_43 ?_
          have S5 := S4.mA (j := 45) (by decide) n (nI c)
          have D5 : rG σ (mA σ4 45 n (nI c)) := D4.tr (rG.A _ (ownG4 (by decide) (by decide) hn) _)
          have A5 := mA_22 σ4 45 n (nI c)
          rw [A4] at A5
          generalize mA σ4 45 n (nI c) = τ5 at *
          refine gx_aload_n (pc := 44) dX10_readsTelling_44 rfl ?_
          refine m_getA (pc := 45) rfl fX10_111 rfl (by decide) dX10_readsTelling_45 ?_
          refine gx_iload_n (pc := 48) dX10_readsTelling_48 rfl ?_
          refine m_iald (pc := 49) 44 (n) 180 rfl (by decide) rfl (by first | rfl | simp only [gx_lit, nI_add, pk_mul]) (by omega) (by decide) dX10_readsTelling_49 ?_
          rw [show τ5.2.2.1 44 n = nI a by rw [A5, dA_at, if_neg (by omega), dA_at, if_pos ⟨rfl, rfl⟩]]
          refine gx_aload_n (pc := 50) dX10_readsTelling_50 rfl ?_
          refine m_getA (pc := 51) rfl fX10_114 rfl (by decide) dX10_readsTelling_51 ?_
          refine gx_iload_n (pc := 54) dX10_readsTelling_54 rfl ?_
          refine m_iald (pc := 55) 45 (n) 180 rfl (by decide) rfl (by first | rfl | simp only [gx_lit, nI_add, pk_mul]) (by omega) (by decide) dX10_readsTelling_55 ?_
          rw [show τ5.2.2.1 45 n = nI c by rw [A5, dA_at, if_pos ⟨rfl, rfl⟩]]
          refine gx_icmp_ne (pc := 56) 65 dX10_readsTelling_56 (by decide) (fun c3 => ?_) (fun c3 => ?_)
          · have hac : ¬ a = c := fun e => c3 (by rw [e])
            rw [if_neg hac] at hX
            refine gx_aload_n (pc := 65) dX10_readsTelling_65 rfl ?_
            refine kX10_246 (pc := 66) rfl (c_next (d := d - 1) hb (by omega) S5) (by omega) (Nat.le_of_ble_eq_true rfl) dX10_readsTelling_66 (fun σ3 e3 => ?_)
            subst σ3
            have S6 := S5.nx
            have D6 := D5.K (rK.tk τ5 (tkK t z (i + 1 + 1)))
            have A6 := (tkP_22 τ5 (tkK t z (i + 1 + 1))).trans A5
            generalize tkP τ5 (tkK t z (i + 1 + 1)) = τ6 at *
            refine gx_aload_n (pc := 69) dX10_readsTelling_69 rfl ?_
            refine gx_iconst (pc := 70) (v := 0) dX10_readsTelling_70 (by decide) ?_
            refine kX10_345 (pc := 71) rfl (c_needsSecret (d := d - 1) hb (by omega) S6 0 S (by decide) (by rw [A6]; exact hSS) hS10) (by omega) (Nat.le_of_ble_eq_true rfl) dX10_readsTelling_71 (fun r7 σ7 e7 => ?_)
            obtain ⟨K7, S7, e7⟩ := e7
            rw [show τ6.2.2.2 = σ.2.2.2 by rw [A6]; rfl] at e7
            have D7 := D6.K K7
            have A7 := K7.2.2.trans A6
            cases h7 : spNd t z (i + 1 + 1) (spSn σ.2.2.2 0 S (tkK t z (i + 1 + 1)).2.2.2.1) with
            | inl f =>
              rw [h7] at e7 hX
              obtain ⟨rfl, hw⟩ := e7
              refine gx_if_ne (pc := 74) 79 dX10_readsTelling_74 (by decide) (fun c4 => ?_) (fun c4 => ?_)
              · exact absurd rfl c4
              · refine gx_iconst (pc := 77) (v := 0) dX10_readsTelling_77 (by decide) ?_
                exact m_retz (pc := 78) rfl (by decide) dX10_readsTelling_78 (⟨D7, by rw [← hX]; exact ⟨rfl, hw⟩⟩)
            | inr k =>
              rw [h7] at e7 hX
              obtain ⟨rfl, hk, g7⟩ := e7
              rw [rB_r] at hX
              refine gx_if_ne (pc := 74) 79 dX10_readsTelling_74 (by decide) (fun c4 => ?_) (fun c4 => ?_)
              · refine gx_aload_n (pc := 79) dX10_readsTelling_79 rfl ?_
                refine m_getA (pc := 80) rfl fX10_117 rfl (by decide) dX10_readsTelling_80 ?_
                refine gx_iload_n (pc := 83) dX10_readsTelling_83 rfl ?_
                refine gx_aload_n (pc := 84) dX10_readsTelling_84 rfl ?_
                refine m_getI (pc := 85) rfl fX10_312 rfl (by decide) dX10_readsTelling_85 ?_
                rw [g7]
                refine m_iast (pc := 88) hb 46 (n) 180 rfl (by decide) rfl (by first | rfl | simp only [gx_lit, nI_add, pk_mul]) (by omega) (by decide) dX10_readsTelling_88 ?_
                have S8 := S7.mA (j := 46) (by decide) n (nI k)
                have D8 : rG σ (mA σ7 46 n (nI k)) := D7.tr (rG.A _ (ownG4 (by decide) (by decide) hn) _)
                have A8 := mA_22 σ7 46 n (nI k)
                rw [A7] at A8
                generalize mA σ7 46 n (nI k) = τ8 at *
                refine gx_aload_n (pc := 89) dX10_readsTelling_89 rfl ?_
                refine kX10_246 (pc := 90) rfl (c_next (d := d - 1) hb (by omega) S8) (by omega) (Nat.le_of_ble_eq_true rfl) dX10_readsTelling_90 (fun σ3 e3 => ?_)
                subst σ3
                refine gx_iconst (pc := 93) (v := 1) dX10_readsTelling_93 (by decide) ?_
                exact m_retz (pc := 94) rfl (by decide) dX10_readsTelling_94 (⟨D8.K (rK.tk _ _), by rw [← hX]; exact ⟨rfl, S8.nx, by rw [tkP_22, A8]⟩⟩)
              · exact absurd c4 (by decide)
          · have hac : a = c := (nI_eq (by omega) (by omega)).mp c3
            rw [if_pos hac] at hX
            refine gx_aload_n (pc := 59) dX10_readsTelling_59 rfl ?_
            refine gx_iconst (pc := 60) (v := 3) dX10_readsTelling_60 (by decide) ?_
            refine kX10_239 (pc := 61) rfl (c_fails (d := d - 1) hb S5 3) (by omega) (Nat.le_of_ble_eq_true rfl) dX10_readsTelling_61 (fun r6 σ6 e6 => ?_)
            obtain ⟨rfl, hσ⟩ := e6
            subst σ6
            exact m_retz (pc := 64) rfl (by decide) dX10_readsTelling_64 (⟨D5.K (rK.I _ rfl (by decide) _), by rw [← hX]; exact ⟨rfl, mI_eq _ _ _⟩⟩)
        · exact absurd c2 (by decide)
    · exact absurd c1 (by decide)
theorem c_readsRise (hb : gxN G ≤ b) (hd : 4 ≤ d) (hS : tS t z i σ) (P n : Nat) (hP : σ.2.2.1 10 0 = nI P) (hP6 : P ≤ 6) (hn : 150 ≤ n) (hn2 : n < 180) : mMi G mX10_readsRise d [.ref b, .int (nI n)] h b σ (fun r σ' => rG σ σ' ∧ rR (spGR t z P n σ.2.2 i) r σ' (fun a => tS t z a.1 σ' ∧ σ'.2.2 = a.2)) := by
  refine gxM_of rfl (Nat.le_of_ble_eq_true rfl) rfl ?_
  generalize hX : spGR t z P n σ.2.2 i = X
  rw [spGR] at hX
  refine gx_aload_n (pc := 0) dX10_readsRise_0 rfl ?_
  refine gx_iconst (pc := 1) (v := 0) dX10_readsRise_1 (by decide) ?_
  refine kX10_342 (pc := 2) rfl (c_needsPerson (d := d - 1) hb (by omega) hS 0 P (by decide) hP hP6) (by omega) (Nat.le_of_ble_eq_true rfl) dX10_readsRise_2 (fun r1 σ1 e1 => ?_)
  obtain ⟨K1, S1, e1⟩ := e1
  cases h1 : spNd t z i (spPn σ.2.2.2 0 P (tkK t z i).2.2.2.1) with
  | inl f =>
    rw [h1] at e1 hX
    obtain ⟨rfl, hw⟩ := e1
    refine gx_if_ne (pc := 5) 10 dX10_readsRise_5 (by decide) (fun c1 => ?_) (fun c1 => ?_)
    · exact absurd rfl c1
    · refine gx_iconst (pc := 8) (v := 0) dX10_readsRise_8 (by decide) ?_
      exact m_retz (pc := 9) rfl (by decide) dX10_readsRise_9 (⟨K1.G, by rw [← hX]; exact ⟨rfl, hw⟩⟩)
  | inr a =>
    rw [h1] at e1 hX
    obtain ⟨rfl, ha, g1⟩ := e1
    rw [rB_r] at hX
    refine gx_if_ne (pc := 5) 10 dX10_readsRise_5 (by decide) (fun c1 => ?_) (fun c1 => ?_)
    · refine gx_aload_n (pc := 10) dX10_readsRise_10 rfl ?_
      refine m_getA (pc := 11) rfl fX10_111 rfl (by decide) dX10_readsRise_11 ?_
      refine gx_iload_n (pc := 14) dX10_readsRise_14 rfl ?_
      refine gx_aload_n (pc := 15) dX10_readsRise_15 rfl ?_
      refine m_getI (pc := 16) rfl fX10_312 rfl (by decide) dX10_readsRise_16 ?_
      rw [g1]
      refine m_iast (pc := 19) hb 44 (n) 180 rfl (by decide) rfl (by first | rfl | simp only [gx_lit, nI_add, pk_mul]) (by omega) (by decide) dX10_readsRise_19 ?_
      have S2 := S1.mA (j := 44) (by decide) n (nI a)
      have D2 : rG σ (mA σ1 44 n (nI a)) := K1.G.tr (rG.A _ (ownG4 (by decide) (by decide) hn) _)
      have A2 := mA_22 σ1 44 n (nI a)
      rw [K1.2.2] at A2
      generalize mA σ1 44 n (nI a) = τ2 at *
      refine gx_aload_n (pc := 20) dX10_readsRise_20 rfl ?_
      refine kX10_246 (pc := 21) rfl (c_next (d := d - 1) hb (by omega) S2) (by omega) (Nat.le_of_ble_eq_true rfl) dX10_readsRise_21 (fun σ3 e3 => ?_)
      subst σ3
      refine gx_iconst (pc := 24) (v := 1) dX10_readsRise_24 (by decide) ?_
      exact m_retz (pc := 25) rfl (by decide) dX10_readsRise_25 (⟨D2.K (rK.tk _ _), by rw [← hX]; exact ⟨rfl, S2.nx, by rw [tkP_22, A2]⟩⟩)
    · exact absurd c1 (by decide)
theorem c_readsPayment (hb : gxN G ≤ b) (hd : 4 ≤ d) (hS : tS t z i σ) (P S n : Nat) (hP : σ.2.2.1 10 0 = nI P) (hP6 : P ≤ 6) (hSS : σ.2.2.1 10 1 = nI S) (hS10 : S ≤ 10) (hn : 150 ≤ n) (hn2 : n < 180) : mMi G mX10_readsPayment d [.ref b, .int (nI n)] h b σ (fun r σ' => rG σ σ' ∧ rR (spGP t z P S n σ.2.2 i) r σ' (fun a => tS t z a.1 σ' ∧ σ'.2.2 = a.2)) := by
  refine gxM_of rfl (Nat.le_of_ble_eq_true rfl) rfl ?_
  generalize hX : spGP t z P S n σ.2.2 i = X
  rw [spGP] at hX
  refine gx_aload_n (pc := 0) dX10_readsPayment_0 rfl ?_
  refine gx_iconst (pc := 1) (v := 0) dX10_readsPayment_1 (by decide) ?_
  refine kX10_342 (pc := 2) rfl (c_needsPerson (d := d - 1) hb (by omega) hS 0 P (by decide) hP hP6) (by omega) (Nat.le_of_ble_eq_true rfl) dX10_readsPayment_2 (fun r1 σ1 e1 => ?_)
  obtain ⟨K1, S1, e1⟩ := e1
  cases h1 : spNd t z i (spPn σ.2.2.2 0 P (tkK t z i).2.2.2.1) with
  | inl f =>
    rw [h1] at e1 hX
    obtain ⟨rfl, hw⟩ := e1
    refine gx_if_ne (pc := 5) 10 dX10_readsPayment_5 (by decide) (fun c1 => ?_) (fun c1 => ?_)
    · exact absurd rfl c1
    · refine gx_iconst (pc := 8) (v := 0) dX10_readsPayment_8 (by decide) ?_
      exact m_retz (pc := 9) rfl (by decide) dX10_readsPayment_9 (⟨K1.G, by rw [← hX]; exact ⟨rfl, hw⟩⟩)
  | inr a =>
    rw [h1] at e1 hX
    obtain ⟨rfl, ha, g1⟩ := e1
    rw [rB_r] at hX
    have L : ∀ m set i τ, rB (spSome t z (spSn σ.2.2.2 0 S) m set i) (fun w => (.inr (w.1, dA (dA σ.2.2 44 n (nI a)) 46 n w.2) : Sum Int32 (Nat × dS))) = X → z + 1 ≤ m + (tkK t z i).2.1 → tS t z i τ → rG σ τ → τ.2.2 = dA (dA σ.2.2 44 n (nI a)) 46 n set → gxV G mX10_readsPayment d 0 0 31 [some (.ref b), some (.int (nI n))] [] (mput h b τ) (mQi h b (fun r σ' => rG σ σ' ∧ rR X r σ' (fun a => tS t z a.1 σ' ∧ σ'.2.2 = a.2))) := by
      intro m
      induction m with
      | zero =>
        intro set i τ _ hm
        have := tkK_le t z i
        omega
      | succ m ih =>
        intro set i τ hX hm hS hD hA
        rw [spSome] at hX
        have vA : τ.2.2.1 46 n = set := by rw [hA, dA_at, if_pos ⟨rfl, rfl⟩]
        have K49 : ¬ (¬ set = 0 ∧ tkG t (tkK t z i) 59 = true) → gxV G mX10_readsPayment d 0 0 49 [some (.ref b), some (.int (nI n))] [] (mput h b τ) (mQi h b (fun r σ' => rG σ σ' ∧ rR X r σ' (fun a => tS t z a.1 σ' ∧ σ'.2.2 = a.2))) := by
          intro hc
          rw [if_neg hc] at hX
          have hL : τ.2.2.2 = σ.2.2.2 := by rw [hA]; rfl
          refine gx_aload_n (pc := 49) dX10_readsPayment_49 rfl ?_
          refine gx_iconst (pc := 50) (v := 0) dX10_readsPayment_50 (by decide) ?_
          refine kX10_345 (pc := 51) rfl (c_needsSecret (d := d - 1) hb (by omega) hS 0 S (by decide) (by rw [hA]; exact hSS) hS10) (by omega) (Nat.le_of_ble_eq_true rfl) dX10_readsPayment_51 (fun r1 σ1 e1 => ?_)
          obtain ⟨K1, S1, e1⟩ := e1
          rw [hL] at e1
          cases hs : spNd t z i (spSn σ.2.2.2 0 S (tkK t z i).2.2.2.1) with
          | inl f =>
            rw [hs] at e1 hX
            obtain ⟨rfl, hw⟩ := e1
            refine gx_if_ne (pc := 54) 59 dX10_readsPayment_54 (by decide) (fun c2 => ?_) (fun c2 => ?_)
            · exact absurd rfl c2
            · refine gx_iconst (pc := 57) (v := 0) dX10_readsPayment_57 (by decide) ?_
              exact m_retz (pc := 58) rfl (by decide) dX10_readsPayment_58 (⟨hD.K K1, by rw [← hX]; exact ⟨rfl, hw⟩⟩)
          | inr k =>
            rw [hs] at e1 hX
            obtain ⟨rfl, hk, g1⟩ := e1
            rw [rB_r] at hX
            have vA1 : σ1.2.2.1 46 n = set := by rw [K1.T]; exact vA
            have adv := tkK_lt (spNd_n0 hs)
            refine gx_if_ne (pc := 54) 59 dX10_readsPayment_54 (by decide) (fun c2 => ?_) (fun c2 => ?_)
            · refine gx_aload_n (pc := 59) dX10_readsPayment_59 rfl ?_
              refine m_getA (pc := 60) rfl fX10_117 rfl (by decide) dX10_readsPayment_60 ?_
              refine gx_iload_n (pc := 63) dX10_readsPayment_63 rfl ?_
              refine m_iald (pc := 64) 46 (n) 180 rfl (by decide) rfl (by first | rfl | simp only [gx_lit, nI_add, pk_mul]) (by omega) (by decide) dX10_readsPayment_64 ?_
              rw [vA1]
              refine gx_aload_n (pc := 65) dX10_readsPayment_65 rfl ?_
              refine m_getI (pc := 66) rfl fX10_312 rfl (by decide) dX10_readsPayment_66 ?_
              rw [g1]
              refine gx_ishr (pc := 69) dX10_readsPayment_69 ?_
              refine gx_iconst (pc := 70) (v := 1) dX10_readsPayment_70 (by decide) ?_
              refine gx_iand (pc := 71) dX10_readsPayment_71 ?_
              refine gx_iconst (pc := 72) (v := 1) dX10_readsPayment_72 (by decide) ?_
              refine gx_icmp_ne (pc := 73) 82 dX10_readsPayment_73 (by decide) (fun c3 => ?_) (fun c3 => ?_)
              · rw [if_neg c3] at hX
                refine gx_aload_n (pc := 82) dX10_readsPayment_82 rfl ?_
                refine m_getA (pc := 83) rfl fX10_117 rfl (by decide) dX10_readsPayment_83 ?_
                refine gx_iload_n (pc := 86) dX10_readsPayment_86 rfl ?_
                refine gx_dup2 (pc := 87) dX10_readsPayment_87 rfl rfl ?_
                refine m_iald (pc := 88) 46 (n) 180 rfl (by decide) rfl (by first | rfl | simp only [gx_lit, nI_add, pk_mul]) (by omega) (by decide) dX10_readsPayment_88 ?_
                rw [vA1]
                refine gx_iconst (pc := 89) (v := 1) dX10_readsPayment_89 (by decide) ?_
                refine gx_aload_n (pc := 90) dX10_readsPayment_90 rfl ?_
                refine m_getI (pc := 91) rfl fX10_312 rfl (by decide) dX10_readsPayment_91 ?_
                rw [g1]
                refine gx_ishl (pc := 94) dX10_readsPayment_94 ?_
                refine gx_ior (pc := 95) dX10_readsPayment_95 ?_
                refine m_iast (pc := 96) hb 46 (n) 180 rfl (by decide) rfl (by first | rfl | simp only [gx_lit, nI_add, pk_mul]) (by omega) (by decide) dX10_readsPayment_96 ?_
                have S2 := S1.mA (j := 46) (by decide) n (set ||| (1 <<< (nI k &&& 31)))
                have D2 : rG σ (mA σ1 46 n (set ||| (1 <<< (nI k &&& 31)))) := (hD.K K1).tr (rG.A _ (ownG4 (by decide) (by decide) hn) _)
                have A2 : (mA σ1 46 n (set ||| (1 <<< (nI k &&& 31)))).2.2 = dA (dA σ.2.2 44 n (nI a)) 46 n (set ||| (1 <<< (nI k &&& 31))) := by rw [mA_22, K1.2.2, hA, dA_dA]
                generalize mA σ1 46 n (set ||| (1 <<< (nI k &&& 31))) = τ2 at *
                refine gx_aload_n (pc := 97) dX10_readsPayment_97 rfl ?_
                refine kX10_246 (pc := 98) rfl (c_next (d := d - 1) hb (by omega) S2) (by omega) (Nat.le_of_ble_eq_true rfl) dX10_readsPayment_98 (fun σ3 e3 => ?_)
                subst σ3
                refine gx_goto (pc := 101) 31 dX10_readsPayment_101 (by decide) ?_
                exact ih _ (i + 1) _ hX (by omega) S2.nx (D2.K (rK.tk _ _)) A2
              · rw [if_pos c3] at hX
                refine gx_aload_n (pc := 76) dX10_readsPayment_76 rfl ?_
                refine gx_iconst (pc := 77) (v := 3) dX10_readsPayment_77 (by decide) ?_
                refine kX10_239 (pc := 78) rfl (c_fails (d := d - 1) hb S1 3) (by omega) (Nat.le_of_ble_eq_true rfl) dX10_readsPayment_78 (fun r2 σ2 e2 => ?_)
                obtain ⟨rfl, hσ⟩ := e2
                subst σ2
                exact m_retz (pc := 81) rfl (by decide) dX10_readsPayment_81 (⟨(hD.K K1).K (rK.I _ rfl (by decide) _), by rw [← hX]; exact ⟨rfl, mI_eq _ _ _⟩⟩)
            · exact absurd c2 (by decide)
        refine gx_aload_n (pc := 31) dX10_readsPayment_31 rfl ?_
        refine m_getA (pc := 32) rfl fX10_117 rfl (by decide) dX10_readsPayment_32 ?_
        refine gx_iload_n (pc := 35) dX10_readsPayment_35 rfl ?_
        refine m_iald (pc := 36) 46 (n) 180 rfl (by decide) rfl (by first | rfl | simp only [gx_lit, nI_add, pk_mul]) (by omega) (by decide) dX10_readsPayment_36 ?_
        rw [vA]
        refine gx_if_eq (pc := 37) 49 dX10_readsPayment_37 (by decide) (fun c1 => ?_) (fun c1 => ?_)
        · exact K49 (fun hh => hh.1 c1)
        · refine gx_aload_n (pc := 40) dX10_readsPayment_40 rfl ?_
          refine gx_bipush (pc := 41) (v := 59) dX10_readsPayment_41 (by decide) ?_
          refine kX10_235 (pc := 43) rfl (c_isSign (d := d - 1) hS 59) (by omega) (Nat.le_of_ble_eq_true rfl) dX10_readsPayment_43 (fun r1 σ1 e1 => ?_)
          obtain ⟨rfl, hσ⟩ := e1
          subst σ1
          refine gx_if_ne (pc := 46) 104 dX10_readsPayment_46 (by decide) (fun c2 => ?_) (fun c2 => ?_)
          · rw [if_pos ⟨c1, zi_ne0 c2⟩] at hX
            refine gx_iconst (pc := 104) (v := 1) dX10_readsPayment_104 (by decide) ?_
            exact m_retz (pc := 105) rfl (by decide) dX10_readsPayment_105 (⟨hD, by rw [← hX]; exact ⟨rfl, hS, hA⟩⟩)
          · exact K49 (fun hh => by rw [hh.2] at c2; exact absurd c2 (by decide))
    refine gx_if_ne (pc := 5) 10 dX10_readsPayment_5 (by decide) (fun c1 => ?_) (fun c1 => ?_)
    · refine gx_aload_n (pc := 10) dX10_readsPayment_10 rfl ?_
      refine m_getA (pc := 11) rfl fX10_111 rfl (by decide) dX10_readsPayment_11 ?_
      refine gx_iload_n (pc := 14) dX10_readsPayment_14 rfl ?_
      refine gx_aload_n (pc := 15) dX10_readsPayment_15 rfl ?_
      refine m_getI (pc := 16) rfl fX10_312 rfl (by decide) dX10_readsPayment_16 ?_
      rw [g1]
      refine m_iast (pc := 19) hb 44 (n) 180 rfl (by decide) rfl (by first | rfl | simp only [gx_lit, nI_add, pk_mul]) (by omega) (by decide) dX10_readsPayment_19 ?_
      have S2 := S1.mA (j := 44) (by decide) n (nI a)
      have D2 : rG σ (mA σ1 44 n (nI a)) := K1.G.tr (rG.A _ (ownG4 (by decide) (by decide) hn) _)
      have A2 := mA_22 σ1 44 n (nI a)
      rw [K1.2.2] at A2
      generalize mA σ1 44 n (nI a) = τ2 at *
      refine gx_aload_n (pc := 20) dX10_readsPayment_20 rfl ?_
      refine m_getA (pc := 21) rfl fX10_117 rfl (by decide) dX10_readsPayment_21 ?_
      refine gx_iload_n (pc := 24) dX10_readsPayment_24 rfl ?_
      refine gx_iconst (pc := 25) (v := 0) dX10_readsPayment_25 (by decide) ?_
      refine m_iast (pc := 26) hb 46 (n) 180 rfl (by decide) rfl (by first | rfl | simp only [gx_lit, nI_add, pk_mul]) (by omega) (by decide) dX10_readsPayment_26 ?_
      have S3 := S2.mA (j := 46) (by decide) n 0
      have D3 : rG σ (mA τ2 46 n 0) := D2.tr (rG.A _ (ownG4 (by decide) (by decide) hn) _)
      have A3 := mA_22 τ2 46 n 0
      rw [A2] at A3
      generalize mA τ2 46 n 0 = τ3 at *
      refine gx_aload_n (pc := 27) dX10_readsPayment_27 rfl ?_
      refine kX10_246 (pc := 28) rfl (c_next (d := d - 1) hb (by omega) S3) (by omega) (Nat.le_of_ble_eq_true rfl) dX10_readsPayment_28 (fun σ3 e3 => ?_)
      subst σ3
      exact L (z + 1) 0 (i + 1) _ hX (by omega) S3.nx (D3.K (rK.tk _ _)) A3
    · exact absurd c1 (by decide)
end NN
