/-! ===== MODEL NF: what is needed ===== -/
set_option maxRecDepth 100000
def spNum (t : Nat → Int32) (z : Nat) (lo hi : Int32) (i : Nat) : Sum Int32 (Nat × Int32) :=
  if ¬ (tkK t z i).2.2.1 = 2 then .inl (flt t z i 1) else if ¬ (lo ≤ (tkK t z i).2.2.2.2 ∧ (tkK t z i).2.2.2.2 ≤ hi) then .inl (flt t z i 4) else .inr (i + 1, (tkK t z i).2.2.2.2)
def spWord (t : Nat → Int32) (z : Nat) (w : Int64) (i : Nat) : Sum Int32 Nat := if tkW (tkK t z i) w then .inr (i + 1) else .inl (flt t z i 1)
def spClo (t : Nat → Int32) (z i : Nat) : Sum Int32 Nat := if tkG t (tkK t z i) 59 then .inr (i + 1) else .inl (flt t z i 1)
def spBoth (t : Nat → Int32) (z : Nat) (w : Int64) (lo hi : Int32) (i : Nat) : Sum Int32 (Nat × Int32) := rB (spWord t z w i) (fun j => spNum t z lo hi j)
def spNew (t : Nat → Int32) (z : Nat) (L : Nat → Nat → Int64) (P S i : Nat) : Sum Int32 Unit :=
  if tkKp (tkK t z i) then .inl (flt t z i 1) else if spPn L 1 P (tkK t z i).2.2.2.1 = none ∧ spSn L 1 S (tkK t z i).2.2.2.1 = none then .inr () else .inl (flt t z i 3)
def spNd (t : Nat → Int32) (z i : Nat) (x : Option Nat) : Sum Int32 Nat :=
  if tkKp (tkK t z i) then .inl (flt t z i 1) else match x with
    | none => .inl (flt t z i 2)
    | some k => .inr k
theorem oI_neg {x : Option Nat} (hx : ∀ k, x = some k → k < 2 ^ 31) : oI x < 0 ↔ x = none := by
  cases x with
  | none => exact ⟨fun _ => rfl, fun _ => by show (-1 : Int32) < 0; decide⟩
  | some k => exact ⟨fun hh => absurd hh (nI_pos (hx k rfl)), fun hh => by cases hh⟩
theorem rK.T {σ σ' : mS} (h : rK σ σ') (q : Nat) : σ'.2.2.1 q = σ.2.2.1 q := by rw [h.A]
theorem zi_ne0 {x : Bool} (h : ¬ zi x = 0) : x = true := by cases x; exact absurd rfl h; rfl
theorem zi_eq0 {x : Bool} (h : zi x = 0) : x = false := by cases x; rfl; exact absurd h (by decide)
section NF
variable {G : gxG} {d : Nat} {h : gxH} {b : Nat} {σ : mS} {t : Nat → Int32} {z i : Nat}
theorem c_needsNumber (hb : gxN G ≤ b) (hd : 2 ≤ d) (hS : tS t z i σ) (lo hi : Int32) : mMi G mX10_needsNumber d [.ref b, .int lo, .int hi] h b σ (fun r σ' => rK σ σ' ∧ rR (spNum t z lo hi i) r σ' (fun a => tS t z a.1 σ' ∧ σ'.1 41 = a.2)) := by
  refine gxM_of rfl (Nat.le_of_ble_eq_true rfl) rfl ?_
  refine gx_aload_n (pc := 0) dX10_needsNumber_0 rfl ?_
  refine m_getI (pc := 1) rfl fX10_200 rfl (by decide) dX10_needsNumber_1 ?_
  rw [hS.i6]
  refine gx_iconst (pc := 4) (v := 2) dX10_needsNumber_4 (by decide) ?_
  refine gx_icmp_eq (pc := 5) 14 dX10_needsNumber_5 (by decide) (fun c1 => ?_) (fun c1 => ?_)
  · have c1' : ¬ ¬ (tkK t z i).2.2.1 = 2 := fun hh => hh c1
    refine gx_aload_n (pc := 14) dX10_needsNumber_14 rfl ?_
    refine m_getI (pc := 15) rfl fX10_197 rfl (by decide) dX10_needsNumber_15 ?_
    rw [hS.i8]
    refine gx_iload_n (pc := 18) dX10_needsNumber_18 rfl ?_
    refine gx_iload_n (pc := 19) dX10_needsNumber_19 rfl ?_
    refine kX10_308 (pc := 20) rfl (c_within (d := d - 1) _ lo hi) (by omega) (Nat.le_of_ble_eq_true rfl) dX10_needsNumber_20 (fun r1 σ1 e1 => ?_)
    obtain ⟨rfl, hσ⟩ := e1
    subst σ1
    refine gx_if_ne (pc := 23) 32 dX10_needsNumber_23 (by decide) (fun c2 => ?_) (fun c2 => ?_)
    · have c3 := wi_in c2
      refine gx_aload_n (pc := 32) dX10_needsNumber_32 rfl ?_
      refine gx_aload_n (pc := 33) dX10_needsNumber_33 rfl ?_
      refine m_getI (pc := 34) rfl fX10_197 rfl (by decide) dX10_needsNumber_34 ?_
      rw [hS.i8]
      refine m_putI (pc := 37) rfl hb fX10_312 rfl (by decide) tX10_41 dX10_needsNumber_37 ?_
      have hS1 := hS.I (k := 41) rfl (tkK t z i).2.2.2.2
      refine gx_aload_n (pc := 40) dX10_needsNumber_40 rfl ?_
      refine kX10_246 (pc := 41) rfl (c_next (d := d - 1) hb (by omega) hS1) (by omega) (Nat.le_of_ble_eq_true rfl) dX10_needsNumber_41 (fun σ1 e1 => ?_)
      subst σ1
      refine gx_iconst (pc := 44) (v := 1) dX10_needsNumber_44 (by decide) ?_
      exact m_retz (pc := 45) rfl (by decide) dX10_needsNumber_45 (⟨(rK.I σ rfl (by decide) _).tr (rK.tk _ _), by rw [spNum, if_neg c1', if_neg (fun hh => hh c3)]; exact ⟨rfl, hS1.nx, by rw [tkPne _ _ (by decide) (by decide) (by decide) (by decide), mI_eq]⟩⟩)
    · have c3 := wi_out c2
      refine gx_aload_n (pc := 26) dX10_needsNumber_26 rfl ?_
      refine gx_iconst (pc := 27) (v := 4) dX10_needsNumber_27 (by decide) ?_
      refine kX10_239 (pc := 28) rfl (c_fails (d := d - 1) hb hS 4) (by omega) (Nat.le_of_ble_eq_true rfl) dX10_needsNumber_28 (fun r1 σ1 e1 => ?_)
      obtain ⟨rfl, hσ⟩ := e1
      subst σ1
      exact m_retz (pc := 31) rfl (by decide) dX10_needsNumber_31 (⟨rK.I σ rfl (by decide) _, by rw [spNum, if_neg c1', if_pos c3]; exact ⟨rfl, mI_eq _ _ _⟩⟩)
  · refine gx_aload_n (pc := 8) dX10_needsNumber_8 rfl ?_
    refine gx_iconst (pc := 9) (v := 1) dX10_needsNumber_9 (by decide) ?_
    refine kX10_239 (pc := 10) rfl (c_fails (d := d - 1) hb hS 1) (by omega) (Nat.le_of_ble_eq_true rfl) dX10_needsNumber_10 (fun r1 σ1 e1 => ?_)
    obtain ⟨rfl, hσ⟩ := e1
    subst σ1
    exact m_retz (pc := 13) rfl (by decide) dX10_needsNumber_13 (⟨rK.I σ rfl (by decide) _, by rw [spNum, if_pos c1]; exact ⟨rfl, mI_eq _ _ _⟩⟩)
theorem c_needsWord (hb : gxN G ≤ b) (hd : 2 ≤ d) (hS : tS t z i σ) (w : Int64) : mMi G mX10_needsWord d [.ref b, .long w] h b σ (fun r σ' => rK σ σ' ∧ rR (spWord t z w i) r σ' (fun a => tS t z a σ')) := by
  refine gxM_of rfl (Nat.le_of_ble_eq_true rfl) rfl ?_
  refine gx_aload_n (pc := 0) dX10_needsWord_0 rfl ?_
  refine gx_lload_n (pc := 1) dX10_needsWord_1 rfl ?_
  refine kX10_231 (pc := 2) rfl (c_isWord (d := d - 1) hS w) (by omega) (Nat.le_of_ble_eq_true rfl) dX10_needsWord_2 (fun r1 σ1 e1 => ?_)
  obtain ⟨rfl, hσ⟩ := e1
  subst σ1
  refine gx_if_ne (pc := 5) 14 dX10_needsWord_5 (by decide) (fun c1 => ?_) (fun c1 => ?_)
  · refine gx_aload_n (pc := 14) dX10_needsWord_14 rfl ?_
    refine kX10_246 (pc := 15) rfl (c_next (d := d - 1) hb (by omega) hS) (by omega) (Nat.le_of_ble_eq_true rfl) dX10_needsWord_15 (fun σ1 e1 => ?_)
    subst σ1
    refine gx_iconst (pc := 18) (v := 1) dX10_needsWord_18 (by decide) ?_
    exact m_retz (pc := 19) rfl (by decide) dX10_needsWord_19 (⟨rK.tk _ _, by rw [spWord, if_pos (zi_ne0 c1)]; exact ⟨rfl, hS.nx⟩⟩)
  · have c2 : zi (tkW (tkK t z i) w) = 0 := c1
    refine gx_aload_n (pc := 8) dX10_needsWord_8 rfl ?_
    refine gx_iconst (pc := 9) (v := 1) dX10_needsWord_9 (by decide) ?_
    refine kX10_239 (pc := 10) rfl (c_fails (d := d - 1) hb hS 1) (by omega) (Nat.le_of_ble_eq_true rfl) dX10_needsWord_10 (fun r1 σ1 e1 => ?_)
    obtain ⟨rfl, hσ⟩ := e1
    subst σ1
    exact m_retz (pc := 13) rfl (by decide) dX10_needsWord_13 (⟨rK.I σ rfl (by decide) _, by rw [spWord, zi_eq0 c2]; exact ⟨rfl, mI_eq _ _ _⟩⟩)
theorem c_closes (hb : gxN G ≤ b) (hd : 2 ≤ d) (hS : tS t z i σ) : mMi G mX10_closes d [.ref b] h b σ (fun r σ' => rK σ σ' ∧ rR (spClo t z i) r σ' (fun a => tS t z a σ')) := by
  refine gxM_of rfl (Nat.le_of_ble_eq_true rfl) rfl ?_
  refine gx_aload_n (pc := 0) dX10_closes_0 rfl ?_
  refine gx_bipush (pc := 1) (v := 59) dX10_closes_1 (by decide) ?_
  refine kX10_235 (pc := 3) rfl (c_isSign (d := d - 1) hS 59) (by omega) (Nat.le_of_ble_eq_true rfl) dX10_closes_3 (fun r1 σ1 e1 => ?_)
  obtain ⟨rfl, hσ⟩ := e1
  subst σ1
  refine gx_if_ne (pc := 6) 15 dX10_closes_6 (by decide) (fun c1 => ?_) (fun c1 => ?_)
  · refine gx_aload_n (pc := 15) dX10_closes_15 rfl ?_
    refine kX10_246 (pc := 16) rfl (c_next (d := d - 1) hb (by omega) hS) (by omega) (Nat.le_of_ble_eq_true rfl) dX10_closes_16 (fun σ1 e1 => ?_)
    subst σ1
    refine gx_iconst (pc := 19) (v := 1) dX10_closes_19 (by decide) ?_
    exact m_retz (pc := 20) rfl (by decide) dX10_closes_20 (⟨rK.tk _ _, by rw [spClo, if_pos (zi_ne0 c1)]; exact ⟨rfl, hS.nx⟩⟩)
  · have c2 : zi (tkG t (tkK t z i) 59) = 0 := c1
    refine gx_aload_n (pc := 9) dX10_closes_9 rfl ?_
    refine gx_iconst (pc := 10) (v := 1) dX10_closes_10 (by decide) ?_
    refine kX10_239 (pc := 11) rfl (c_fails (d := d - 1) hb hS 1) (by omega) (Nat.le_of_ble_eq_true rfl) dX10_closes_11 (fun r1 σ1 e1 => ?_)
    obtain ⟨rfl, hσ⟩ := e1
    subst σ1
    exact m_retz (pc := 14) rfl (by decide) dX10_closes_14 (⟨rK.I σ rfl (by decide) _, by rw [spClo, zi_eq0 c2]; exact ⟨rfl, mI_eq _ _ _⟩⟩)
theorem c_needsBoth (hb : gxN G ≤ b) (hd : 3 ≤ d) (hS : tS t z i σ) (w : Int64) (lo hi : Int32) : mMi G mX10_needsBoth d [.ref b, .long w, .int lo, .int hi] h b σ (fun r σ' => rK σ σ' ∧ rR (spBoth t z w lo hi i) r σ' (fun a => tS t z a.1 σ' ∧ σ'.1 41 = a.2)) := by
  refine gxM_of rfl (Nat.le_of_ble_eq_true rfl) rfl ?_
  refine gx_aload_n (pc := 0) dX10_needsBoth_0 rfl ?_
  refine gx_lload_n (pc := 1) dX10_needsBoth_1 rfl ?_
  refine kX10_315 (pc := 2) rfl (c_needsWord (d := d - 1) hb (by omega) hS w) (by omega) (Nat.le_of_ble_eq_true rfl) dX10_needsBoth_2 (fun r1 σ1 e1 => ?_)
  obtain ⟨k1, e1⟩ := e1
  rw [spBoth]
  cases hs : spWord t z w i with
  | inl f =>
    rw [hs] at e1
    obtain ⟨rfl, hw⟩ := e1
    refine gx_if_eq (pc := 5) 22 dX10_needsBoth_5 (by decide) (fun c1 => ?_) (fun c1 => ?_)
    · refine gx_iconst (pc := 22) (v := 0) dX10_needsBoth_22 (by decide) ?_
      exact m_retz (pc := 23) rfl (by decide) dX10_needsBoth_23 (⟨k1, rfl, hw⟩)
    · exact absurd rfl c1
  | inr j =>
    rw [hs] at e1
    obtain ⟨rfl, hS1⟩ := e1
    refine gx_if_eq (pc := 5) 22 dX10_needsBoth_5 (by decide) (fun c1 => ?_) (fun c1 => ?_)
    · exact absurd c1 (by decide)
    · refine gx_aload_n (pc := 8) dX10_needsBoth_8 rfl ?_
      refine gx_iload_n (pc := 9) dX10_needsBoth_9 rfl ?_
      refine gx_iload (pc := 10) dX10_needsBoth_10 rfl ?_
      refine kX10_318 (pc := 12) rfl (c_needsNumber (d := d - 1) hb (by omega) hS1 lo hi) (by omega) (Nat.le_of_ble_eq_true rfl) dX10_needsBoth_12 (fun r2 σ2 e2 => ?_)
      obtain ⟨k2, e2⟩ := e2
      show gxV _ _ _ _ _ _ _ _ _ (mQi h b (fun r σ' => rK σ σ' ∧ rR (spNum t z lo hi j) r σ' (fun a => tS t z a.1 σ' ∧ σ'.1 41 = a.2)))
      cases hs2 : spNum t z lo hi j with
      | inl f =>
        rw [hs2] at e2
        obtain ⟨rfl, hw⟩ := e2
        refine gx_if_eq (pc := 15) 22 dX10_needsBoth_15 (by decide) (fun c2 => ?_) (fun c2 => ?_)
        · refine gx_iconst (pc := 22) (v := 0) dX10_needsBoth_22 (by decide) ?_
          exact m_retz (pc := 23) rfl (by decide) dX10_needsBoth_23 (⟨k1.tr k2, rfl, hw⟩)
        · exact absurd rfl c2
      | inr a =>
        rw [hs2] at e2
        obtain ⟨rfl, hw⟩ := e2
        refine gx_if_eq (pc := 15) 22 dX10_needsBoth_15 (by decide) (fun c2 => ?_) (fun c2 => ?_)
        · exact absurd c2 (by decide)
        · refine gx_iconst (pc := 18) (v := 1) dX10_needsBoth_18 (by decide) ?_
          refine gx_goto (pc := 19) 23 dX10_needsBoth_19 (by decide) ?_
          exact m_retz (pc := 23) rfl (by decide) dX10_needsBoth_23 (⟨k1.tr k2, rfl, hw⟩)
theorem c_isNew (hb : gxN G ≤ b) (hd : 2 ≤ d) (hS : tS t z i σ) (P S : Nat) (hP : σ.2.2.1 10 4 = nI P) (hP6 : P ≤ 6) (hSS : σ.2.2.1 10 5 = nI S) (hS10 : S ≤ 10) : mMi G mX10_isNew d [.ref b] h b σ (fun r σ' => rK σ σ' ∧ tS t z i σ' ∧ rR (spNew t z σ.2.2.2 P S i) r σ' (fun _ => σ' = σ)) := by
  refine gxM_of rfl (Nat.le_of_ble_eq_true rfl) rfl ?_
  have p1 : ∀ k, spPn σ.2.2.2 1 P (tkK t z i).2.2.2.1 = some k → k < 2 ^ 31 := fun k hk => by have := spNm_lt hk; omega
  have p2 : ∀ k, spSn σ.2.2.2 1 S (tkK t z i).2.2.2.1 = some k → k < 2 ^ 31 := fun k hk => by have := spNm_lt hk; omega
  refine gx_aload_n (pc := 0) dX10_isNew_0 rfl ?_
  refine kX10_322 (pc := 1) rfl (c_isKept (d := d - 1) hS) (by omega) (Nat.le_of_ble_eq_true rfl) dX10_isNew_1 (fun r1 σ1 e1 => ?_)
  obtain ⟨rfl, hσ⟩ := e1
  subst σ1
  refine gx_if_eq (pc := 4) 13 dX10_isNew_4 (by decide) (fun c1 => ?_) (fun c1 => ?_)
  · have c1' := zi_eq0 c1
    have N : ¬ (spPn σ.2.2.2 1 P (tkK t z i).2.2.2.1 = none ∧ spSn σ.2.2.2 1 S (tkK t z i).2.2.2.1 = none) → gxV G mX10_isNew d 0 0 29 [some (.ref b)] [] (mput h b σ) (mQi h b (fun r σ' => rK σ σ' ∧ tS t z i σ' ∧ rR (spNew t z σ.2.2.2 P S i) r σ' (fun _ => σ' = σ))) := by
      intro hn
      refine gx_aload_n (pc := 29) dX10_isNew_29 rfl ?_
      refine gx_iconst (pc := 30) (v := 3) dX10_isNew_30 (by decide) ?_
      refine kX10_239 (pc := 31) rfl (c_fails (d := d - 1) hb hS 3) (by omega) (Nat.le_of_ble_eq_true rfl) dX10_isNew_31 (fun r1 σ1 e1 => ?_)
      obtain ⟨rfl, hσ⟩ := e1
      subst σ1
      refine gx_if_eq (pc := 34) 41 dX10_isNew_34 (by decide) (fun c4 => ?_) (fun c4 => ?_)
      · refine gx_iconst (pc := 41) (v := 0) dX10_isNew_41 (by decide) ?_
        exact m_retz (pc := 42) rfl (by decide) dX10_isNew_42 (⟨rK.I σ rfl (by decide) _, hS.I rfl _, by rw [spNew, c1', if_neg hn]; exact ⟨rfl, mI_eq _ _ _⟩⟩)
      · exact absurd rfl c4
    refine gx_aload_n (pc := 13) dX10_isNew_13 rfl ?_
    refine gx_iconst (pc := 14) (v := 1) dX10_isNew_14 (by decide) ?_
    refine kX10_326 (pc := 15) rfl (c_personNamed (d := d - 1) (by omega) hS 1 P (by decide) hP hP6) (by omega) (Nat.le_of_ble_eq_true rfl) dX10_isNew_15 (fun r1 σ1 e1 => ?_)
    obtain ⟨rfl, hσ⟩ := e1
    subst σ1
    refine gx_if_ge (pc := 18) 29 dX10_isNew_18 (by decide) (fun c2 => ?_) (fun c2 => ?_)
    · exact N (fun hh => absurd ((oI_neg p1).mpr hh.1) (Int32.not_lt.mpr c2))
    · have n1 := (oI_neg p1).mp (Int32.not_le.mp c2)
      refine gx_aload_n (pc := 21) dX10_isNew_21 rfl ?_
      refine gx_iconst (pc := 22) (v := 1) dX10_isNew_22 (by decide) ?_
      refine kX10_329 (pc := 23) rfl (c_secretNamed (d := d - 1) (by omega) hS 1 S (by decide) hSS hS10) (by omega) (Nat.le_of_ble_eq_true rfl) dX10_isNew_23 (fun r1 σ1 e1 => ?_)
      obtain ⟨rfl, hσ⟩ := e1
      subst σ1
      refine gx_if_lt (pc := 26) 37 dX10_isNew_26 (by decide) (fun c3 => ?_) (fun c3 => ?_)
      · have n2 := (oI_neg p2).mp c3
        refine gx_iconst (pc := 37) (v := 1) dX10_isNew_37 (by decide) ?_
        refine gx_goto (pc := 38) 42 dX10_isNew_38 (by decide) ?_
        exact m_retz (pc := 42) rfl (by decide) dX10_isNew_42 (⟨rK.rf _, hS, by rw [spNew, c1', if_pos (And.intro n1 n2)]; exact ⟨rfl, rfl⟩⟩)
      · exact N (fun hh => absurd ((oI_neg p2).mpr hh.2) c3)
  · have c1' := zi_ne0 c1
    refine gx_aload_n (pc := 7) dX10_isNew_7 rfl ?_
    refine gx_iconst (pc := 8) (v := 1) dX10_isNew_8 (by decide) ?_
    refine kX10_239 (pc := 9) rfl (c_fails (d := d - 1) hb hS 1) (by omega) (Nat.le_of_ble_eq_true rfl) dX10_isNew_9 (fun r1 σ1 e1 => ?_)
    obtain ⟨rfl, hσ⟩ := e1
    subst σ1
    exact m_retz (pc := 12) rfl (by decide) dX10_isNew_12 (⟨rK.I σ rfl (by decide) _, hS.I rfl _, by rw [spNew, if_pos c1']; exact ⟨rfl, mI_eq _ _ _⟩⟩)
theorem c_needsPerson (hb : gxN G ≤ b) (hd : 3 ≤ d) (hS : tS t z i σ) (r P : Nat) (hr : r ≤ 1) (hP : σ.2.2.1 10 (4 * r) = nI P) (hP6 : P ≤ 6) : mMi G mX10_needsPerson d [.ref b, .int (nI r)] h b σ (fun v σ' => rK σ σ' ∧ tS t z i σ' ∧ rR (spNd t z i (spPn σ.2.2.2 r P (tkK t z i).2.2.2.1)) v σ' (fun k => k < P ∧ σ'.1 41 = nI k)) := by
  refine gxM_of rfl (Nat.le_of_ble_eq_true rfl) rfl ?_
  refine gx_aload_n (pc := 0) dX10_needsPerson_0 rfl ?_
  refine kX10_322 (pc := 1) rfl (c_isKept (d := d - 1) hS) (by omega) (Nat.le_of_ble_eq_true rfl) dX10_needsPerson_1 (fun r1 σ1 e1 => ?_)
  obtain ⟨rfl, hσ⟩ := e1
  subst σ1
  refine gx_if_eq (pc := 4) 13 dX10_needsPerson_4 (by decide) (fun c1 => ?_) (fun c1 => ?_)
  · have c1' := zi_eq0 c1
    refine gx_aload_n (pc := 13) dX10_needsPerson_13 rfl ?_
    refine gx_aload_n (pc := 14) dX10_needsPerson_14 rfl ?_
    refine gx_iload_n (pc := 15) dX10_needsPerson_15 rfl ?_
    refine kX10_326 (pc := 16) rfl (c_personNamed (d := d - 1) (by omega) hS r P hr hP hP6) (by omega) (Nat.le_of_ble_eq_true rfl) dX10_needsPerson_16 (fun r1 σ1 e1 => ?_)
    obtain ⟨rfl, hσ⟩ := e1
    subst σ1
    refine m_putI (pc := 19) rfl hb fX10_312 rfl (by decide) tX10_41 dX10_needsPerson_19 ?_
    refine gx_aload_n (pc := 22) dX10_needsPerson_22 rfl ?_
    refine m_getI (pc := 23) rfl fX10_312 rfl (by decide) dX10_needsPerson_23 ?_
    rw [mI_eq]
    have hS1 : ∀ v, tS t z i (mI σ 41 v) := fun v => hS.I rfl v
    cases hs : spPn σ.2.2.2 r P (tkK t z i).2.2.2.1 with
    | none =>
      refine gx_if_ge (pc := 26) 37 dX10_needsPerson_26 (by decide) (fun c2 => ?_) (fun c2 => ?_)
      · exact absurd c2 (show ¬ (0 : Int32) ≤ -1 by decide)
      · refine gx_aload_n (pc := 29) dX10_needsPerson_29 rfl ?_
        refine gx_iconst (pc := 30) (v := 2) dX10_needsPerson_30 (by decide) ?_
        refine kX10_239 (pc := 31) rfl (c_fails (d := d - 1) hb (hS1 _) 2) (by omega) (Nat.le_of_ble_eq_true rfl) dX10_needsPerson_31 (fun r1 σ1 e1 => ?_)
        obtain ⟨rfl, hσ⟩ := e1
        subst σ1
        refine gx_if_eq (pc := 34) 41 dX10_needsPerson_34 (by decide) (fun c4 => ?_) (fun c4 => ?_)
        · refine gx_iconst (pc := 41) (v := 0) dX10_needsPerson_41 (by decide) ?_
          exact m_retz (pc := 42) rfl (by decide) dX10_needsPerson_42 (⟨(rK.I σ rfl (by decide) _).tr (rK.I _ rfl (by decide) _), (hS1 _).I rfl _, by rw [spNd, c1']; exact ⟨rfl, mI_eq _ _ _⟩⟩)
        · exact absurd rfl c4
    | some k =>
      have hk := spNm_lt hs
      refine gx_if_ge (pc := 26) 37 dX10_needsPerson_26 (by decide) (fun c2 => ?_) (fun c2 => ?_)
      · refine gx_iconst (pc := 37) (v := 1) dX10_needsPerson_37 (by decide) ?_
        refine gx_goto (pc := 38) 42 dX10_needsPerson_38 (by decide) ?_
        exact m_retz (pc := 42) rfl (by decide) dX10_needsPerson_42 (⟨rK.I σ rfl (by decide) _, hS1 _, by rw [spNd, c1']; exact ⟨rfl, by omega, mI_eq _ _ _⟩⟩)
      · exact absurd (nI_pos' (show k < 2 ^ 31 by omega)) c2
  · have c1' := zi_ne0 c1
    refine gx_aload_n (pc := 7) dX10_needsPerson_7 rfl ?_
    refine gx_iconst (pc := 8) (v := 1) dX10_needsPerson_8 (by decide) ?_
    refine kX10_239 (pc := 9) rfl (c_fails (d := d - 1) hb hS 1) (by omega) (Nat.le_of_ble_eq_true rfl) dX10_needsPerson_9 (fun r1 σ1 e1 => ?_)
    obtain ⟨rfl, hσ⟩ := e1
    subst σ1
    exact m_retz (pc := 12) rfl (by decide) dX10_needsPerson_12 (⟨rK.I σ rfl (by decide) _, hS.I rfl _, by unfold spNd; rw [if_pos c1']; exact ⟨rfl, mI_eq _ _ _⟩⟩)
theorem c_needsSecret (hb : gxN G ≤ b) (hd : 3 ≤ d) (hS : tS t z i σ) (r P : Nat) (hr : r ≤ 1) (hP : σ.2.2.1 10 (4 * r + 1) = nI P) (hP6 : P ≤ 10) : mMi G mX10_needsSecret d [.ref b, .int (nI r)] h b σ (fun v σ' => rK σ σ' ∧ tS t z i σ' ∧ rR (spNd t z i (spSn σ.2.2.2 r P (tkK t z i).2.2.2.1)) v σ' (fun k => k < P ∧ σ'.1 41 = nI k)) := by
  refine gxM_of rfl (Nat.le_of_ble_eq_true rfl) rfl ?_
  refine gx_aload_n (pc := 0) dX10_needsSecret_0 rfl ?_
  refine kX10_322 (pc := 1) rfl (c_isKept (d := d - 1) hS) (by omega) (Nat.le_of_ble_eq_true rfl) dX10_needsSecret_1 (fun r1 σ1 e1 => ?_)
  obtain ⟨rfl, hσ⟩ := e1
  subst σ1
  refine gx_if_eq (pc := 4) 13 dX10_needsSecret_4 (by decide) (fun c1 => ?_) (fun c1 => ?_)
  · have c1' := zi_eq0 c1
    refine gx_aload_n (pc := 13) dX10_needsSecret_13 rfl ?_
    refine gx_aload_n (pc := 14) dX10_needsSecret_14 rfl ?_
    refine gx_iload_n (pc := 15) dX10_needsSecret_15 rfl ?_
    refine kX10_329 (pc := 16) rfl (c_secretNamed (d := d - 1) (by omega) hS r P hr hP hP6) (by omega) (Nat.le_of_ble_eq_true rfl) dX10_needsSecret_16 (fun r1 σ1 e1 => ?_)
    obtain ⟨rfl, hσ⟩ := e1
    subst σ1
    refine m_putI (pc := 19) rfl hb fX10_312 rfl (by decide) tX10_41 dX10_needsSecret_19 ?_
    refine gx_aload_n (pc := 22) dX10_needsSecret_22 rfl ?_
    refine m_getI (pc := 23) rfl fX10_312 rfl (by decide) dX10_needsSecret_23 ?_
    rw [mI_eq]
    have hS1 : ∀ v, tS t z i (mI σ 41 v) := fun v => hS.I rfl v
    cases hs : spSn σ.2.2.2 r P (tkK t z i).2.2.2.1 with
    | none =>
      refine gx_if_ge (pc := 26) 37 dX10_needsSecret_26 (by decide) (fun c2 => ?_) (fun c2 => ?_)
      · exact absurd c2 (show ¬ (0 : Int32) ≤ -1 by decide)
      · refine gx_aload_n (pc := 29) dX10_needsSecret_29 rfl ?_
        refine gx_iconst (pc := 30) (v := 2) dX10_needsSecret_30 (by decide) ?_
        refine kX10_239 (pc := 31) rfl (c_fails (d := d - 1) hb (hS1 _) 2) (by omega) (Nat.le_of_ble_eq_true rfl) dX10_needsSecret_31 (fun r1 σ1 e1 => ?_)
        obtain ⟨rfl, hσ⟩ := e1
        subst σ1
        refine gx_if_eq (pc := 34) 41 dX10_needsSecret_34 (by decide) (fun c4 => ?_) (fun c4 => ?_)
        · refine gx_iconst (pc := 41) (v := 0) dX10_needsSecret_41 (by decide) ?_
          exact m_retz (pc := 42) rfl (by decide) dX10_needsSecret_42 (⟨(rK.I σ rfl (by decide) _).tr (rK.I _ rfl (by decide) _), (hS1 _).I rfl _, by rw [spNd, c1']; exact ⟨rfl, mI_eq _ _ _⟩⟩)
        · exact absurd rfl c4
    | some k =>
      have hk := spNm_lt hs
      refine gx_if_ge (pc := 26) 37 dX10_needsSecret_26 (by decide) (fun c2 => ?_) (fun c2 => ?_)
      · refine gx_iconst (pc := 37) (v := 1) dX10_needsSecret_37 (by decide) ?_
        refine gx_goto (pc := 38) 42 dX10_needsSecret_38 (by decide) ?_
        exact m_retz (pc := 42) rfl (by decide) dX10_needsSecret_42 (⟨rK.I σ rfl (by decide) _, hS1 _, by rw [spNd, c1']; exact ⟨rfl, by omega, mI_eq _ _ _⟩⟩)
      · exact absurd (nI_pos' (show k < 2 ^ 31 by omega)) c2
  · have c1' := zi_ne0 c1
    refine gx_aload_n (pc := 7) dX10_needsSecret_7 rfl ?_
    refine gx_iconst (pc := 8) (v := 1) dX10_needsSecret_8 (by decide) ?_
    refine kX10_239 (pc := 9) rfl (c_fails (d := d - 1) hb hS 1) (by omega) (Nat.le_of_ble_eq_true rfl) dX10_needsSecret_9 (fun r1 σ1 e1 => ?_)
    obtain ⟨rfl, hσ⟩ := e1
    subst σ1
    exact m_retz (pc := 12) rfl (by decide) dX10_needsSecret_12 (⟨rK.I σ rfl (by decide) _, hS.I rfl _, by unfold spNd; rw [if_pos c1']; exact ⟨rfl, mI_eq _ _ _⟩⟩)
end NF
