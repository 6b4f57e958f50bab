/-! ===== MODEL NL: a town read and laid ===== -/
set_option maxRecDepth 100000
theorem nI_all (x : Int32) : ∃ n, x = nI n := ⟨x.toBitVec.toNat, by
  apply Int32.toBitVec_inj.mp
  apply BitVec.eq_of_toNat_eq
  rw [pk_tn x.toBitVec.isLt]⟩
def cN (v : Int32) : Nat := v.toBitVec.toNat
theorem cN_nI {n : Nat} (h : n < 2 ^ 31) : cN (nI n) = n := pk_tn (by omega)
/-- a line of a town -/
def spLn (t : Nat → Int32) (z : Nat) (x : dS) (i : Nat) : Sum Int32 (Nat × dS) :=
  if tkW (tkK t z i) 232608281 = true then spRP t z (cN (x.1 10 4)) (cN (x.1 10 5)) x i
  else if tkW (tkK t z i) 275358764 = true then spRS t z (cN (x.1 10 4)) (cN (x.1 10 5)) x i
  else if tkW (tkK t z i) 3690 = true then spRE t z (cN (x.1 10 4)) (cN (x.1 10 6)) x i
  else if tkW (tkK t z i) 1831769 = true then spRC t z (cN (x.1 10 5)) x i
  else if tkW (tkK t z i) 12532058 = true then spRW t z x i
  else .inl (flt t z i 1)
def spTwn (t : Nat → Int32) (z : Nat) : Nat → dS → Nat → Sum Int32 dS
  | 0, _, _ => .inl 0
  | m + 1, x, i => if (tkK t z i).2.2.1 = 0 then .inr x else rB (spLn t z x i) (fun a => spTwn t z m a.2 a.1)
theorem spLn_dI {t : Nat → Int32} {z P S E : Nat} {x : dS} {i : Nat} {a : Nat × dS} (hs : spLn t z x i = .inr a) (h : dI x P S E) : i + 1 ≤ a.1 ∧ ∃ P' S' E', dI a.2 P' S' E' := by
  obtain ⟨b1, b2, b3, b4, b5, b6, _⟩ := id h
  unfold spLn at hs
  rw [b1, b3, b5, cN_nI (by omega), cN_nI (by omega), cN_nI (by omega)] at hs
  split at hs
  · have := spRP_dI hs h; exact ⟨this.1, _, _, _, this.2⟩
  · split at hs
    · have := spRS_dI hs h; exact ⟨this.1, _, _, _, this.2⟩
    · split at hs
      · have := spRE_dI hs h; exact ⟨this.1, _, _, _, this.2⟩
      · split at hs
        · have := spRC_dI hs h; exact ⟨this.1, _, _, _, this.2⟩
        · split at hs
          · have := spRW_dI hs h; exact ⟨this.1, _, _, _, this.2⟩
          · cases hs
theorem spTwn_dI {t : Nat → Int32} {z : Nat} : ∀ {m} {x : dS} {P S E : Nat} {i : Nat} {y : dS}, spTwn t z m x i = .inr y → dI x P S E → ∃ P' S' E', dI y P' S' E'
  | 0, _, _, _, _, _, _, h, _ => by cases h
  | m + 1, x, P, S, E, i, y, h, hI => by
    rw [spTwn] at h
    split at h
    · cases h; exact ⟨_, _, _, hI⟩
    · obtain ⟨a, h1, h2⟩ := rB_inv h
      obtain ⟨_, P', S', E', hI'⟩ := spLn_dI h1 hI
      exact spTwn_dI h2 hI'
theorem tkK_mono (t : Nat → Int32) (z i : Nat) : ∀ j, (tkK t z i).2.1 ≤ (tkK t z (i + j)).2.1
  | 0 => Nat.le_refl _
  | j + 1 => by
    have h1 := tkK_mono t z i j
    have h2 := tkN_le (t := t) (tkK_le t z (i + j)).2
    have h3 := tkK_le t z (i + j)
    have : tkK t z (i + (j + 1)) = tkN t z (tkK t z (i + j)).1 := rfl
    rw [this]; omega
/-- how it is ahead of the first line -/
def d0 (x : dS) : dS := dA (dA (dA (dA (dA (dA x 10 4 0) 10 5 0) 10 6 0) 10 7 0) 25 1 1000) 26 1 1000
theorem d0_dI (x : dS) : dI (d0 x) 0 0 0 := by
  simp only [dI, d0, dA_at]
  refine ⟨by simp; rfl, by omega, by simp; rfl, by omega, by simp; rfl, by omega, fun k hk => by omega, fun k hk => by omega, fun k hk => by omega, fun k j hk => by omega, fun k hk => by omega⟩
def mvF (f : Nat → Int32) (n : Nat) : Nat → Nat → Int32 := fun m k => if k < m then f (n + k) else f k
def mvG (f : Nat → Int64) (n : Nat) : Nat → Nat → Int64 := fun m k => if k < m then f (n + k) else f k
def mv (A : Nat → Nat → Int32) (j n : Nat) : Nat → Nat → Int32 := setJ A j (mvF (A j) n n)
def setK (L : Nat → Nat → Int64) (j : Nat) (f : Nat → Int64) : Nat → Nat → Int64 := fun q => if q = j then f else L q
def mvL (L : Nat → Nat → Int64) (j n : Nat) : Nat → Nat → Int64 := setK L j (mvG (L j) n n)
def mSL (σ : mS) (L : Nat → Nat → Int64) : mS := (σ.1, σ.2.1, σ.2.2.1, L)
def lay0 (A : Nat → Nat → Int32) : Nat → Nat → Int32 := mv (mv (mv (mv (mv (mv (mv (mv (mv (mv (mv (mv (mv (mv A 10 4) 13 6) 14 6) 15 6) 16 10) 17 10) 18 10) 19 10) 20 10) 21 10) 22 30) 23 30) 24 30) 27 1000
def layA (A : Nat → Nat → Int32) : Nat → Nat → Int32 := upA (upA (lay0 A) 25 0 (A 25 1 - 1000)) 26 0 (A 26 1 - 1000)
def layL (L : Nat → Nat → Int64) : Nat → Nat → Int64 := mvL (mvL L 11 6) 12 10
section NL
variable {G : gxG} {d : Nat} {h : gxH} {b : Nat} {σ : mS} {t : Nat → Int32} {z i : Nat}
theorem c_starts (hb : gxN G ≤ b) (hd : 2 ≤ d) (hz : σ.1 1 = nI z) (hz1 : z ≤ 1000) (ht : σ.2.2.1 2 = t) : mMv G mX10_starts d [.ref b] h b σ (fun σ' => tS t z 0 σ' ∧ σ'.2.2 = σ.2.2 ∧ σ'.1 1 = 0 ∧ σ'.1 28 = σ.1 28 ∧ σ'.2.1.2 = σ.2.1.2 ∧ ∀ k, k ≠ 1 → k ≠ 3 → rky k = false → σ'.1 k = σ.1 k) := by
  refine gxM_of rfl (Nat.le_of_ble_eq_true rfl) rfl ?_
  refine gx_aload_n (pc := 0) dX10_starts_0 rfl ?_
  refine gx_aload_n (pc := 1) dX10_starts_1 rfl ?_
  refine m_getI (pc := 2) rfl fX10_181 rfl (by decide) dX10_starts_2 ?_
  rw [hz]
  refine m_putI (pc := 5) rfl hb fX10_184 rfl (by decide) tX10_3 dX10_starts_5 ?_
  refine gx_aload_n (pc := 8) dX10_starts_8 rfl ?_
  refine gx_iconst (pc := 9) (v := 0) dX10_starts_9 (by decide) ?_
  refine m_putI (pc := 10) rfl hb fX10_181 rfl (by decide) tX10_1 dX10_starts_10 ?_
  refine gx_aload_n (pc := 13) dX10_starts_13 rfl ?_
  refine gx_iconst (pc := 14) (v := 0) dX10_starts_14 (by decide) ?_
  refine m_putI (pc := 15) rfl hb fX10_187 rfl (by decide) tX10_4 dX10_starts_15 ?_
  have e3 : (mI (mI (mI σ 3 (nI z)) 1 0) 4 0).1 3 = nI z := by simp [mI, upd]
  have e4 : (mI (mI (mI σ 3 (nI z)) 1 0) 4 0).1 4 = nI 0 := by simp [mI, upd]; rfl
  have e1 : (mI (mI (mI σ 3 (nI z)) 1 0) 4 0).1 1 = 0 := by simp [mI, upd]
  have e2 : (mI (mI (mI σ 3 (nI z)) 1 0) 4 0).1 28 = σ.1 28 := by simp [mI, upd]
  have eA : (mI (mI (mI σ 3 (nI z)) 1 0) 4 0).2 = σ.2 := rfl
  have eK : ∀ k, k ≠ 1 → k ≠ 3 → k ≠ 4 → (mI (mI (mI σ 3 (nI z)) 1 0) 4 0).1 k = σ.1 k := fun k h1 h3 h4 => by simp [mI, upd, h1, h3, h4]
  generalize mI (mI (mI σ 3 (nI z)) 1 0) 4 0 = τ at *
  obtain ⟨b0, hb0⟩ := nI_all (τ.1 5)
  have c0 := c_nextToken (G := G) (h := h) (d := d - 1) hb (by omega) e3 hz1 0 b0 (by omega) e4 hb0
  refine gx_aload_n (pc := 18) dX10_starts_18 rfl ?_
  refine kX10_246 (pc := 19) rfl (c0) (by omega) (Nat.le_of_ble_eq_true rfl) dX10_starts_19 (fun σ1 e5 => ?_)
  rw [show τ.2.2.1 2 = t by rw [eA]; exact ht] at e5
  subst σ1
  have fin : ∀ k, k ≠ 1 → k ≠ 3 → rky k = false → (tkP τ (tkN t z 0)).1 k = σ.1 k := fun k h1 h3 hk => by
    have h4 : k ≠ 4 := fun e => by rw [e] at hk; cases hk
    rw [← eK k h1 h3 h4]
    exact (rE.tk τ _).1 k hk
  exact m_retv (pc := 22) rfl dX10_starts_22 (⟨⟨by rw [tkPne τ _ (by decide) (by decide) (by decide) (by decide)]; exact e3, hz1, by rw [tkPA, eA]; exact ht, tkP4 _ _, tkP5 _ _, tkP6 _ _, tkPw _ _, tkP8 _ _⟩, by rw [tkPA, eA], by rw [tkPne τ _ (by decide) (by decide) (by decide) (by decide)]; exact e1, by rw [tkPne τ _ (by decide) (by decide) (by decide) (by decide)]; exact e2, by show τ.2.1.2 = _; rw [eA], fin⟩)
theorem c_readsAll (hb : gxN G ≤ b) (hd : 7 ≤ d) (hz : σ.1 1 = nI z) (hz1 : z ≤ 1000) (ht : σ.2.2.1 2 = t) : mMi G mX10_readsAll d [.ref b] h b σ (fun r σ' => fr0 σ.2.2 σ'.2.2 ∧ σ'.1 1 = 0 ∧ σ'.2.1.2 = σ.2.1.2 ∧ (∀ k, k ≠ 1 → k ≠ 3 → rky k = false → σ'.1 k = σ.1 k) ∧ rR (spTwn t z (z + 1) (d0 σ.2.2) 0) r σ' (fun x => σ'.2.2 = x)) := by
  refine gxM_of rfl (Nat.le_of_ble_eq_true rfl) rfl ?_
  generalize hX : spTwn t z (z + 1) (d0 σ.2.2) 0 = X
  have L : ∀ m x i τ (x1 : Option Value) P S E, spTwn t z m x i = X → z + 1 ≤ m + (tkK t z i).2.1 → tS t z i τ → τ.2.2 = x → dI x P S E → (¬ x.1 25 1 < x.1 26 1 → τ.1 28 = nI 1000) → fr0 σ.2.2 τ.2.2 → τ.1 1 = 0 → τ.2.1.2 = σ.2.1.2 → (∀ k, k ≠ 1 → k ≠ 3 → rky k = false → τ.1 k = σ.1 k) → gxV G mX10_readsAll d 0 0 50 [some (.ref b), x1] [] (mput h b τ) (mQi h b (fun r σ' => fr0 σ.2.2 σ'.2.2 ∧ σ'.1 1 = 0 ∧ σ'.2.1.2 = σ.2.1.2 ∧ (∀ k, k ≠ 1 → k ≠ 3 → rky k = false → σ'.1 k = σ.1 k) ∧ rR X r σ' (fun x => σ'.2.2 = x))) := by
    intro m
    induction m with
    | zero =>
      intro x i τ x1 P S E _ hm
      have := tkK_le t z i
      omega
    | succ m ih =>
      intro x i τ x1 P S E hX hm hS hA hI hc hF h1 hg hk
      obtain ⟨b1, b2, b3, b4, b5, b6, _⟩ := id hI
      rw [spTwn] at hX
      refine gx_aload_n (pc := 50) dX10_readsAll_50 rfl ?_
      refine m_getI (pc := 51) rfl fX10_200 rfl (by decide) dX10_readsAll_51 ?_
      rw [hS.i6]
      have F : ∀ r σ1, fr0 τ.2.2 σ1.2.2 → rE τ σ1 → ¬ (tkK t z i).2.2.1 = 0 → rR (spLn t z x i) r σ1 (fun a => tS t z a.1 σ1 ∧ σ1.2.2 = a.2 ∧ (¬ a.2.1 25 1 < a.2.1 26 1 → σ1.1 28 = nI 1000)) → gxV G mX10_readsAll d 0 0 147 [some (.ref b), x1] [.int r] (mput h b σ1) (mQi h b (fun r σ' => fr0 σ.2.2 σ'.2.2 ∧ σ'.1 1 = 0 ∧ σ'.2.1.2 = σ.2.1.2 ∧ (∀ k, k ≠ 1 → k ≠ 3 → rky k = false → σ'.1 k = σ.1 k) ∧ rR X r σ' (fun x => σ'.2.2 = x))) := by
        intro r σ1 f1 r1 hn0 hr
        rw [if_neg hn0] at hX
        have fF := hF.tr f1
        have kk : ∀ k, k ≠ 1 → k ≠ 3 → rky k = false → σ1.1 k = σ.1 k := fun k a c e => (r1.1 k e).trans (hk k a c e)
        have k1 : σ1.1 1 = 0 := (r1.1 1 rfl).trans h1
        have gg : σ1.2.1.2 = σ.2.1.2 := r1.2.trans hg
        cases hs : spLn t z x i with
        | inl f =>
          rw [hs] at hr hX
          obtain ⟨rfl, hw⟩ := hr
          refine gx_istore_n (pc := 147) dX10_readsAll_147 (by decide) rfl ?_
          refine gx_iload_n (pc := 148) dX10_readsAll_148 rfl ?_
          refine gx_if_ne (pc := 149) 154 dX10_readsAll_149 (by decide) (fun c1 => ?_) (fun c1 => ?_)
          · exact absurd rfl c1
          · refine gx_iconst (pc := 152) (v := 0) dX10_readsAll_152 (by decide) ?_
            exact m_retz (pc := 153) rfl (by decide) dX10_readsAll_153 (⟨fF, k1, gg, kk, by rw [← hX]; exact ⟨rfl, hw⟩⟩)
        | inr a =>
          rw [hs] at hr hX
          obtain ⟨rfl, hS1, hA1, hc1⟩ := hr
          obtain ⟨hi, P', S', E', hI'⟩ := spLn_dI hs hI
          have adv := tkK_lt hn0
          have mono := tkK_mono t z (i + 1) (a.1 - (i + 1))
          rw [show i + 1 + (a.1 - (i + 1)) = a.1 by omega] at mono
          refine gx_istore_n (pc := 147) dX10_readsAll_147 (by decide) rfl ?_
          refine gx_iload_n (pc := 148) dX10_readsAll_148 rfl ?_
          refine gx_if_ne (pc := 149) 154 dX10_readsAll_149 (by decide) (fun c1 => ?_) (fun c1 => ?_)
          · refine gx_goto (pc := 154) 50 dX10_readsAll_154 (by decide) ?_
            exact ih a.2 a.1 σ1 _ P' S' E' hX (by omega) hS1 hA1 hI' hc1 fF k1 gg kk
          · exact absurd c1 (by decide)
      refine gx_if_eq (pc := 54) 157 dX10_readsAll_54 (by decide) (fun c0 => ?_) (fun c0 => ?_)
      · rw [if_pos c0] at hX
        refine gx_iconst (pc := 157) (v := 1) dX10_readsAll_157 (by decide) ?_
        exact m_retz (pc := 158) rfl (by decide) dX10_readsAll_158 (⟨hF, h1, hg, hk, by rw [← hX]; exact ⟨rfl, hA⟩⟩)
      · have FD : ∀ r σ1, rD τ σ1 → rR (spLn t z x i) r σ1 (fun a => tS t z a.1 σ1 ∧ σ1.2.2 = a.2) → (∀ a, spLn t z x i = .inr a → a.2.1 25 = x.1 25 ∧ a.2.1 26 = x.1 26) → gxV G mX10_readsAll d 0 0 147 [some (.ref b), x1] [.int r] (mput h b σ1) (mQi h b (fun r σ' => fr0 σ.2.2 σ'.2.2 ∧ σ'.1 1 = 0 ∧ σ'.2.1.2 = σ.2.1.2 ∧ (∀ k, k ≠ 1 → k ≠ 3 → rky k = false → σ'.1 k = σ.1 k) ∧ rR X r σ' (fun x => σ'.2.2 = x))) := by
          intro r σ1 D1 hr h25
          refine F r σ1 D1.2.2 D1.1 c0 ?_
          cases hs : spLn t z x i with
          | inl f => rw [hs] at hr; exact hr
          | inr a =>
            rw [hs] at hr
            have := h25 a hs
            refine ⟨hr.1, hr.2.1, hr.2.2, fun hh => ?_⟩
            rw [this.1, this.2] at hh
            exact D1.2.1.trans (hc hh)
        have p4 : τ.2.2.1 10 4 = nI P := by rw [hA]; exact b1
        have p5 : τ.2.2.1 10 5 = nI S := by rw [hA]; exact b3
        have p6 : τ.2.2.1 10 6 = nI E := by rw [hA]; exact b5
        refine gx_aload_n (pc := 57) dX10_readsAll_57 rfl ?_
        refine gx_ldc2 (pc := 58) q2085 dX10_readsAll_58 ?_
        refine kX10_231 (pc := 61) rfl (c_isWord (d := d - 1) hS 232608281) (by omega) (Nat.le_of_ble_eq_true rfl) dX10_readsAll_61 (fun r1 σ1 e1 => ?_)
        obtain ⟨rfl, hσ⟩ := e1
        subst σ1
        refine gx_if_eq (pc := 64) 74 dX10_readsAll_64 (by decide) (fun k1 => ?_) (fun k1 => ?_)
        · refine gx_aload_n (pc := 74) dX10_readsAll_74 rfl ?_
          refine gx_ldc2 (pc := 75) q2108 dX10_readsAll_75 ?_
          refine kX10_231 (pc := 78) rfl (c_isWord (d := d - 1) hS 275358764) (by omega) (Nat.le_of_ble_eq_true rfl) dX10_readsAll_78 (fun r1 σ1 e1 => ?_)
          obtain ⟨rfl, hσ⟩ := e1
          subst σ1
          refine gx_if_eq (pc := 81) 91 dX10_readsAll_81 (by decide) (fun k2 => ?_) (fun k2 => ?_)
          · refine gx_aload_n (pc := 91) dX10_readsAll_91 rfl ?_
            refine gx_ldc2 (pc := 92) q2113 dX10_readsAll_92 ?_
            refine kX10_231 (pc := 95) rfl (c_isWord (d := d - 1) hS 3690) (by omega) (Nat.le_of_ble_eq_true rfl) dX10_readsAll_95 (fun r1 σ1 e1 => ?_)
            obtain ⟨rfl, hσ⟩ := e1
            subst σ1
            refine gx_if_eq (pc := 98) 108 dX10_readsAll_98 (by decide) (fun k3 => ?_) (fun k3 => ?_)
            · refine gx_aload_n (pc := 108) dX10_readsAll_108 rfl ?_
              refine gx_ldc2 (pc := 109) q2114 dX10_readsAll_109 ?_
              refine kX10_231 (pc := 112) rfl (c_isWord (d := d - 1) hS 1831769) (by omega) (Nat.le_of_ble_eq_true rfl) dX10_readsAll_112 (fun r1 σ1 e1 => ?_)
              obtain ⟨rfl, hσ⟩ := e1
              subst σ1
              refine gx_if_eq (pc := 115) 125 dX10_readsAll_115 (by decide) (fun k4 => ?_) (fun k4 => ?_)
              · refine gx_aload_n (pc := 125) dX10_readsAll_125 rfl ?_
                refine gx_ldc2 (pc := 126) q2115 dX10_readsAll_126 ?_
                refine kX10_231 (pc := 129) rfl (c_isWord (d := d - 1) hS 12532058) (by omega) (Nat.le_of_ble_eq_true rfl) dX10_readsAll_129 (fun r1 σ1 e1 => ?_)
                obtain ⟨rfl, hσ⟩ := e1
                subst σ1
                refine gx_if_eq (pc := 132) 142 dX10_readsAll_132 (by decide) (fun k5 => ?_) (fun k5 => ?_)
                · have hs : spLn t z x i = .inl (flt t z i 1) := by rw [spLn, zi_eq0 k1, zi_eq0 k2, zi_eq0 k3, zi_eq0 k4, zi_eq0 k5]; rfl
                  refine gx_aload_n (pc := 142) dX10_readsAll_142 rfl ?_
                  refine gx_iconst (pc := 143) (v := 1) dX10_readsAll_143 (by decide) ?_
                  refine kX10_239 (pc := 144) rfl (c_fails (d := d - 1) hb hS 1) (by omega) (Nat.le_of_ble_eq_true rfl) dX10_readsAll_144 (fun r1 σ1 e1 => ?_)
                  obtain ⟨rfl, hσ⟩ := e1
                  subst σ1
                  exact F _ _ (fr0.rf _) (rE.I _ rfl _) c0 (by rw [hs]; exact ⟨rfl, mI_eq _ _ _⟩)
                · have hs : spLn t z x i = spRW t z x i := by rw [spLn, zi_eq0 k1, zi_eq0 k2, zi_eq0 k3, zi_eq0 k4, zi_ne0 k5]; rfl
                  refine gx_aload_n (pc := 135) dX10_readsAll_135 rfl ?_
                  refine kX10_369 (pc := 136) rfl (c_readsWorth (d := d - 1) hb (by omega) hS (fun hh => hc (by rw [← hA]; exact hh))) (by omega) (Nat.le_of_ble_eq_true rfl) dX10_readsAll_136 (fun r1 σ1 e1 => ?_)
                  refine gx_goto (pc := 139) 147 dX10_readsAll_139 (by decide) ?_
                  obtain ⟨⟨e1, f1⟩, e2⟩ := e1
                  rw [hA] at e2
                  refine F _ _ f1 e1 c0 ?_
                  rw [hs]
                  cases hs2 : spRW t z x i with
                  | inl f => rw [hs2] at e2; exact e2
                  | inr a => rw [hs2] at e2; exact ⟨e2.1, e2.2.1, e2.2.2.1, fun hh => absurd e2.2.2.2 hh⟩
              · have hs : spLn t z x i = spRC t z S x i := by rw [spLn, zi_eq0 k1, zi_eq0 k2, zi_eq0 k3, zi_ne0 k4, b3, cN_nI (by omega)]; rfl
                refine gx_aload_n (pc := 118) dX10_readsAll_118 rfl ?_
                refine kX10_366 (pc := 119) rfl (c_readsClash (d := d - 1) hb (by omega) hS S p5 b4) (by omega) (Nat.le_of_ble_eq_true rfl) dX10_readsAll_119 (fun r1 σ1 e1 => ?_)
                refine gx_goto (pc := 122) 147 dX10_readsAll_122 (by decide) ?_
                obtain ⟨D1, e2⟩ := e1
                rw [hA] at e2
                refine FD _ _ D1 (by rw [hs]; exact e2) (fun a ha => ?_)
                rw [hs, spRC] at ha
                obtain ⟨_, _, ha⟩ := rB_inv ha
                obtain ⟨_, _, ha⟩ := rB_inv ha
                split at ha
                · cases ha
                · obtain ⟨_, _, ha⟩ := rB_inv ha
                  cases ha
                  exact ⟨rfl, rfl⟩
            · have hs : spLn t z x i = spRE t z P E x i := by rw [spLn, zi_eq0 k1, zi_eq0 k2, zi_ne0 k3, b1, b5, cN_nI (by omega), cN_nI (by omega)]; rfl
              refine gx_aload_n (pc := 101) dX10_readsAll_101 rfl ?_
              refine kX10_363 (pc := 102) rfl (c_readsEar (d := d - 1) hb (by omega) hS P E p4 b2 p6 b6 (fun a c ha hc hac hf => hI.ear ha hc hac (by rw [← hA]; exact hf))) (by omega) (Nat.le_of_ble_eq_true rfl) dX10_readsAll_102 (fun r1 σ1 e1 => ?_)
              refine gx_goto (pc := 105) 147 dX10_readsAll_105 (by decide) ?_
              obtain ⟨D1, e2⟩ := e1
              rw [hA] at e2
              refine FD _ _ D1 (by rw [hs]; exact e2) (fun a ha => ?_)
              rw [hs, spRE] at ha
              obtain ⟨_, _, ha⟩ := rB_inv ha
              obtain ⟨_, _, ha⟩ := rB_inv ha
              split at ha
              · cases ha
              · split at ha
                · cases ha
                · obtain ⟨_, _, ha⟩ := rB_inv ha
                  obtain ⟨_, _, ha⟩ := rB_inv ha
                  cases ha
                  exact ⟨rfl, rfl⟩
          · have hs : spLn t z x i = spRS t z P S x i := by rw [spLn, zi_eq0 k1, zi_ne0 k2, b1, b3, cN_nI (by omega), cN_nI (by omega)]; rfl
            refine gx_aload_n (pc := 84) dX10_readsAll_84 rfl ?_
            refine kX10_360 (pc := 85) rfl (c_readsSecret (d := d - 1) hb (by omega) hS P S p4 b2 p5 b4) (by omega) (Nat.le_of_ble_eq_true rfl) dX10_readsAll_85 (fun r1 σ1 e1 => ?_)
            refine gx_goto (pc := 88) 147 dX10_readsAll_88 (by decide) ?_
            obtain ⟨D1, e2⟩ := e1
            rw [hA] at e2
            refine FD _ _ D1 (by rw [hs]; exact e2) (fun a ha => ?_)
            rw [hs, spRS] at ha
            split at ha
            · cases ha
            obtain ⟨_, _, ha⟩ := rB_inv ha
            split at ha
            · cases ha
            obtain ⟨_, _, ha⟩ := rB_inv ha
            obtain ⟨_, _, ha⟩ := rB_inv ha
            obtain ⟨_, _, ha⟩ := rB_inv ha
            obtain ⟨_, _, ha⟩ := rB_inv ha
            obtain ⟨_, _, ha⟩ := rB_inv ha
            obtain ⟨_, _, ha⟩ := rB_inv ha
            obtain ⟨_, _, ha⟩ := rB_inv ha
            cases ha
            exact ⟨rfl, rfl⟩
        · have hs : spLn t z x i = spRP t z P S x i := by rw [spLn, zi_ne0 k1, b1, b3, cN_nI (by omega), cN_nI (by omega)]; rfl
          refine gx_aload_n (pc := 67) dX10_readsAll_67 rfl ?_
          refine kX10_357 (pc := 68) rfl (c_readsPerson (d := d - 1) hb (by omega) hS P S p4 b2 p5 b4) (by omega) (Nat.le_of_ble_eq_true rfl) dX10_readsAll_68 (fun r1 σ1 e1 => ?_)
          refine gx_goto (pc := 71) 147 dX10_readsAll_71 (by decide) ?_
          obtain ⟨D1, e2⟩ := e1
          rw [hA] at e2
          refine FD _ _ D1 (by rw [hs]; exact e2) (fun a ha => ?_)
          rw [hs, spRP] at ha
          split at ha
          · cases ha
          obtain ⟨_, _, ha⟩ := rB_inv ha
          split at ha
          · cases ha
          obtain ⟨_, _, ha⟩ := rB_inv ha
          obtain ⟨_, _, ha⟩ := rB_inv ha
          obtain ⟨_, _, ha⟩ := rB_inv ha
          cases ha
          exact ⟨rfl, rfl⟩
  have T : ∀ τ (x1 : Option Value), τ.1 = σ.1 → τ.2.1 = σ.2.1 → τ.2.2 = dA (dA (dA (dA σ.2.2 10 4 0) 10 5 0) 10 6 0) 10 7 0 → gxV G mX10_readsAll d 0 0 21 [some (.ref b), x1] [] (mput h b τ) (mQi h b (fun r σ' => fr0 σ.2.2 σ'.2.2 ∧ σ'.1 1 = 0 ∧ σ'.2.1.2 = σ.2.1.2 ∧ (∀ k, k ≠ 1 → k ≠ 3 → rky k = false → σ'.1 k = σ.1 k) ∧ rR X r σ' (fun x => σ'.2.2 = x))) := by
    intro τ x1 t1 t2 t3
    refine gx_aload_n (pc := 21) dX10_readsAll_21 rfl ?_
    refine m_getA (pc := 22) rfl fX10_59 rfl (by decide) dX10_readsAll_22 ?_
    refine gx_iconst (pc := 25) (v := 1) dX10_readsAll_25 (by decide) ?_
    refine gx_sipush (pc := 26) (v := 1000) dX10_readsAll_26 (by decide) ?_
    refine m_iast (pc := 29) hb 25 (1) 2 rfl (by decide) rfl (by first | rfl | simp only [gx_lit, nI_add, pk_mul]) (by omega) (by decide) dX10_readsAll_29 ?_
    refine gx_aload_n (pc := 30) dX10_readsAll_30 rfl ?_
    refine m_getA (pc := 31) rfl fX10_62 rfl (by decide) dX10_readsAll_31 ?_
    refine gx_iconst (pc := 34) (v := 1) dX10_readsAll_34 (by decide) ?_
    refine gx_sipush (pc := 35) (v := 1000) dX10_readsAll_35 (by decide) ?_
    refine m_iast (pc := 38) hb 26 (1) 2 rfl (by decide) rfl (by first | rfl | simp only [gx_lit, nI_add, pk_mul]) (by omega) (by decide) dX10_readsAll_38 ?_
    refine gx_aload_n (pc := 39) dX10_readsAll_39 rfl ?_
    refine gx_sipush (pc := 40) (v := 1000) dX10_readsAll_40 (by decide) ?_
    refine m_putI (pc := 43) rfl hb fX10_214 rfl (by decide) tX10_28 dX10_readsAll_43 ?_
    have e1 : (mI (mA (mA τ 25 1 1000) 26 1 1000) 28 1000).2.2 = d0 σ.2.2 := by
      show dA (dA τ.2.2 25 1 1000) 26 1 1000 = _
      rw [t3]; rfl
    have e2 : (mI (mA (mA τ 25 1 1000) 26 1 1000) 28 1000).1 28 = nI 1000 := mI_eq _ _ _
    have e3 : ∀ k, k ≠ 28 → (mI (mA (mA τ 25 1 1000) 26 1 1000) 28 1000).1 k = σ.1 k := fun k hk => by rw [mI_ne hk, ← t1]; rfl
    have e4 : (mI (mA (mA τ 25 1 1000) 26 1 1000) 28 1000).2.1.2 = σ.2.1.2 := by show τ.2.1.2 = _; rw [t2]
    generalize mI (mA (mA τ 25 1 1000) 26 1 1000) 28 1000 = τ1 at *
    refine gx_aload_n (pc := 46) dX10_readsAll_46 rfl ?_
    refine kX10_354 (pc := 47) rfl (c_starts (d := d - 1) (t := t) hb (by omega) (by rw [e3 1 (by decide)]; exact hz) hz1 (by rw [e1]; exact ht)) (by omega) (Nat.le_of_ble_eq_true rfl) dX10_readsAll_47 (fun σ2 f => ?_)
    obtain ⟨f1, f2, f3, f4, f5, f6⟩ := f
    refine L (z + 1) (d0 σ.2.2) 0 σ2 _ 0 0 0 hX (by omega) f1 (f2.trans e1) (d0_dI _) (fun _ => f4.trans e2) ?_ f3 (f5.trans e4) (fun k a c e => (f6 k a c e).trans (e3 k (fun q => by rw [q] at e; cases e)))
    rw [f2, e1]
    exact (((((fr0.A _ (by decide) _).tr (fr0.A _ (by decide) _)).tr (fr0.A _ (by decide) _)).tr (fr0.A _ (by decide) _)).tr (fr0.A _ (by decide) _)).tr (fr0.A _ (by decide) _)
  refine gx_iconst (pc := 0) (v := 4) dX10_readsAll_0 (by decide) ?_
  refine gx_istore_n (pc := 1) dX10_readsAll_1 (by decide) rfl ?_
  refine gx_iload_n (pc := 2) dX10_readsAll_2 rfl ?_
  refine gx_bipush (pc := 3) (v := 8) dX10_readsAll_3 (by decide) ?_
  refine gx_icmp_ge (pc := 5) 21 dX10_readsAll_5 (by decide) (fun c1 => ?_) (fun c1 => ?_)
  · exact absurd c1 (by decide)
  · refine gx_aload_n (pc := 8) dX10_readsAll_8 rfl ?_
    refine m_getA (pc := 9) rfl fX10_13 rfl (by decide) dX10_readsAll_9 ?_
    refine gx_iload_n (pc := 12) dX10_readsAll_12 rfl ?_
    refine gx_iconst (pc := 13) (v := 0) dX10_readsAll_13 (by decide) ?_
    refine m_iast (pc := 14) hb 10 (4) 8 rfl (by decide) rfl (by first | rfl | simp only [gx_lit, nI_add, pk_mul]) (by omega) (by decide) dX10_readsAll_14 ?_
    refine gx_iincc (pc := 15) (c := 1) dX10_readsAll_15 rfl (by decide) (by decide) rfl ?_
    refine gx_goto (pc := 18) 2 dX10_readsAll_18 (by decide) ?_
    refine gx_iload_n (pc := 2) dX10_readsAll_2 rfl ?_
    refine gx_bipush (pc := 3) (v := 8) dX10_readsAll_3 (by decide) ?_
    rw [show (4 : Int32) + 1 = nI 5 from rfl]
    refine gx_icmp_ge (pc := 5) 21 dX10_readsAll_5 (by decide) (fun c2 => ?_) (fun c2 => ?_)
    · exact absurd c2 (by decide)
    · refine gx_aload_n (pc := 8) dX10_readsAll_8 rfl ?_
      refine m_getA (pc := 9) rfl fX10_13 rfl (by decide) dX10_readsAll_9 ?_
      refine gx_iload_n (pc := 12) dX10_readsAll_12 rfl ?_
      refine gx_iconst (pc := 13) (v := 0) dX10_readsAll_13 (by decide) ?_
      refine m_iast (pc := 14) hb 10 (5) 8 rfl (by decide) rfl (by first | rfl | simp only [gx_lit, nI_add, pk_mul]) (by omega) (by decide) dX10_readsAll_14 ?_
      refine gx_iincc (pc := 15) (c := 1) dX10_readsAll_15 rfl (by decide) (by decide) rfl ?_
      refine gx_goto (pc := 18) 2 dX10_readsAll_18 (by decide) ?_
      refine gx_iload_n (pc := 2) dX10_readsAll_2 rfl ?_
      refine gx_bipush (pc := 3) (v := 8) dX10_readsAll_3 (by decide) ?_
      rw [show nI 5 + 1 = nI 6 from rfl]
      refine gx_icmp_ge (pc := 5) 21 dX10_readsAll_5 (by decide) (fun c3 => ?_) (fun c3 => ?_)
      · exact absurd c3 (by decide)
      · refine gx_aload_n (pc := 8) dX10_readsAll_8 rfl ?_
        refine m_getA (pc := 9) rfl fX10_13 rfl (by decide) dX10_readsAll_9 ?_
        refine gx_iload_n (pc := 12) dX10_readsAll_12 rfl ?_
        refine gx_iconst (pc := 13) (v := 0) dX10_readsAll_13 (by decide) ?_
        refine m_iast (pc := 14) hb 10 (6) 8 rfl (by decide) rfl (by first | rfl | simp only [gx_lit, nI_add, pk_mul]) (by omega) (by decide) dX10_readsAll_14 ?_
        refine gx_iincc (pc := 15) (c := 1) dX10_readsAll_15 rfl (by decide) (by decide) rfl ?_
        refine gx_goto (pc := 18) 2 dX10_readsAll_18 (by decide) ?_
        refine gx_iload_n (pc := 2) dX10_readsAll_2 rfl ?_
        refine gx_bipush (pc := 3) (v := 8) dX10_readsAll_3 (by decide) ?_
        rw [show nI 6 + 1 = nI 7 from rfl]
        refine gx_icmp_ge (pc := 5) 21 dX10_readsAll_5 (by decide) (fun c4 => ?_) (fun c4 => ?_)
        · exact absurd c4 (by decide)
        · refine gx_aload_n (pc := 8) dX10_readsAll_8 rfl ?_
          refine m_getA (pc := 9) rfl fX10_13 rfl (by decide) dX10_readsAll_9 ?_
          refine gx_iload_n (pc := 12) dX10_readsAll_12 rfl ?_
          refine gx_iconst (pc := 13) (v := 0) dX10_readsAll_13 (by decide) ?_
          refine m_iast (pc := 14) hb 10 (7) 8 rfl (by decide) rfl (by first | rfl | simp only [gx_lit, nI_add, pk_mul]) (by omega) (by decide) dX10_readsAll_14 ?_
          refine gx_iincc (pc := 15) (c := 1) dX10_readsAll_15 rfl (by decide) (by decide) rfl ?_
          refine gx_goto (pc := 18) 2 dX10_readsAll_18 (by decide) ?_
          refine gx_iload_n (pc := 2) dX10_readsAll_2 rfl ?_
          refine gx_bipush (pc := 3) (v := 8) dX10_readsAll_3 (by decide) ?_
          refine gx_icmp_ge (pc := 5) 21 dX10_readsAll_5 (by decide) (fun c5 => ?_) (fun c5 => ?_)
          · exact T _ _ rfl rfl rfl
          · exact absurd (by decide) c5
end NL
