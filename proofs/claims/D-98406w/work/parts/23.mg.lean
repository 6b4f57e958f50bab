/-! ===== MODEL G: what is asked and done by hand ===== -/
set_option maxRecDepth 100000
/-- an int below N -/
def inN (p : Int32) (N : Nat) : Prop := ∃ p', p' < N ∧ p = nI p'
theorem inN_iff {p : Int32} {N : Nat} (hN : N < 2 ^ 31) : (decide (0 ≤ p) && decide (p < nI N)) = true ↔ inN p N := by
  constructor
  · intro h
    simp only [Bool.and_eq_true, decide_eq_true_eq] at h
    obtain ⟨j, hj, rfl⟩ := nI_of (Int32.not_lt.mpr h.1)
    exact ⟨j, (nI_ltI hj hN).mp h.2, rfl⟩
  · rintro ⟨j, hj, rfl⟩
    simp only [Bool.and_eq_true, decide_eq_true_eq]
    exact ⟨nI_pos' (by omega), nI_lt hj hN⟩
theorem inN_ne {p q : Int32} {N : Nat} (h : ¬ inN p N) : inN q N → p ≠ q := fun hq e => h (e ▸ hq)
section MG
variable {G : gxG} {d : Nat} {h : gxH} {b : Nat} {σ : mS} {P S E : Nat} {w : Option gxEv}
theorem c_isP (p : Int32) (hT : mT σ.2.2.1 P S E w) : mMi G mX10_isPerson d [.ref b, .int p] h b σ (fun r σ' => ((inN p P ∧ r = 1) ∨ (¬ inN p P ∧ r = 0)) ∧ σ' = σ) := by
  refine mMi_post ?_ (c_isPerson P p hT.1)
  rintro r σ' ⟨rfl, hσ⟩
  refine ⟨?_, hσ⟩
  have hP := hT.2.1
  cases e : (decide (0 ≤ p) && decide (p < nI P)) with
  | true => exact Or.inl ⟨(inN_iff (by omega)).mp e, rfl⟩
  | false => exact Or.inr ⟨(fun hh => by rw [(inN_iff (by omega)).mpr hh] at e; cases e), rfl⟩
theorem c_isS (p : Int32) (hT : mT σ.2.2.1 P S E w) : mMi G mX10_isSecret d [.ref b, .int p] h b σ (fun r σ' => ((inN p S ∧ r = 1) ∨ (¬ inN p S ∧ r = 0)) ∧ σ' = σ) := by
  refine mMi_post ?_ (c_isSecret S p hT.2.2.1)
  rintro r σ' ⟨rfl, hσ⟩
  refine ⟨?_, hσ⟩
  have hP := hT.2.2.2.1
  cases e : (decide (0 ≤ p) && decide (p < nI S)) with
  | true => exact Or.inl ⟨(inN_iff (by omega)).mp e, rfl⟩
  | false => exact Or.inr ⟨(fun hh => by rw [(inN_iff (by omega)).mpr hh] at e; cases e), rfl⟩
/-- two people -/
def two (p q : Int32) (P : Nat) : Prop := inN p P ∧ inN q P ∧ p ≠ q
theorem c_are2 (hd : 1 ≤ d) (p q : Int32) (hT : mT σ.2.2.1 P S E w) : mMi G mX10_areTwo d [.ref b, .int p, .int q] h b σ (fun r σ' => ((two p q P ∧ r = 1) ∨ (¬ two p q P ∧ r = 0)) ∧ σ' = σ) := by
  refine mMi_post ?_ (c_areTwo hd hT.1 p q)
  rintro r σ' ⟨rfl, hσ⟩
  refine ⟨?_, hσ⟩
  have hP := hT.2.1
  have i1 := inN_iff (p := p) (N := P) (by omega)
  have i2 := inN_iff (p := q) (N := P) (by omega)
  cases e1 : (decide (0 ≤ p) && decide (p < nI P)) with
  | false => exact Or.inr ⟨(fun hh => by rw [i1.mpr hh.1] at e1; cases e1), rfl⟩
  | true =>
    cases e2 : (decide (0 ≤ q) && decide (q < nI P)) with
    | false => exact Or.inr ⟨(fun hh => by rw [i2.mpr hh.2.1] at e2; cases e2), rfl⟩
    | true =>
      by_cases e3 : p = q
      · exact Or.inr ⟨fun hh => hh.2.2 e3, by simp [zi, e3]⟩
      · exact Or.inl ⟨⟨i1.mp e1, i2.mp e2, e3⟩, by simp [zi, e3]⟩
theorem mI_A (σ : mS) (k : Nat) (v : Int32) : (mI σ k v).2.2.1 = σ.2.2.1 := rfl
theorem mI_ne {σ : mS} {k j : Nat} {v : Int32} (h : j ≠ k) : (mI σ k v).1 j = σ.1 j := by simp [mI, upd, h]
theorem mI_eq (σ : mS) (k : Nat) (v : Int32) : (mI σ k v).1 k = v := by simp [mI, upd]
theorem mI_SA (σ : mS) (k : Nat) (v : Int32) (A : Nat → Nat → Int32) : mSA (mI σ k v) A = mI (mSA σ A) k v := rfl
theorem c_thrown : mMi G mX10_thrown d [.ref b] h b σ (fun r σ' => r = σ.1 0 ∧ σ' = σ) := by
  refine gxM_of rfl (Nat.le_of_ble_eq_true rfl) rfl ?_
  refine gx_aload_n (pc := 0) dX10_thrown_0 rfl ?_
  refine m_getI (pc := 1) rfl fX10_175 rfl (by decide) dX10_thrown_1 ?_
  exact m_ret (pc := 4) rfl dX10_thrown_4 (⟨rfl, rfl⟩)
theorem c_aware (hb : gxN G ≤ b) (hd : 2 ≤ d) (hT : mT σ.2.2.1 P S E w) (p q k : Int32) : mMi G mX10_aware d [.ref b, .int p, .int q, .int k] h b σ (fun r σ' => ((¬ (two p q P ∧ inN k S) ∧ r = -1) ∨ (two p q P ∧ ∃ p' k', p' < P ∧ k' < S ∧ p = nI p' ∧ k = nI k' ∧ r = (σ.2.2.1 50 (10 + 10 * p' + k') >>> (q &&& 31)) &&& 1)) ∧ σ' = mI σ 0 0) := by
  have hP := hT.2.1
  have hS := hT.2.2.2.1
  refine gxM_of rfl (Nat.le_of_ble_eq_true rfl) rfl ?_
  refine gx_aload_n (pc := 0) dX10_aware_0 rfl ?_
  refine gx_iconst (pc := 1) (v := 0) dX10_aware_1 (by decide) ?_
  refine m_putI (pc := 2) rfl hb fX10_175 rfl (by decide) tX10_0 dX10_aware_2 ?_
  refine gx_aload_n (pc := 5) dX10_aware_5 rfl ?_
  refine gx_iload_n (pc := 6) dX10_aware_6 rfl ?_
  refine gx_iload_n (pc := 7) dX10_aware_7 rfl ?_
  refine kX10_448 (pc := 8) rfl (c_are2 (d := d - 1) (by omega) p q (show mT (mI σ 0 0).2.2.1 P S E w from hT)) (by omega) (Nat.le_of_ble_eq_true rfl) dX10_aware_8 (fun r1 σ1 e1 => ?_)
  obtain ⟨e1, hσ⟩ := e1
  subst σ1
  refine gx_if_eq (pc := 11) 43 dX10_aware_11 (by decide) (fun c1 => ?_) (fun c1 => ?_)
  · refine gx_iconst (pc := 43) (v := (-1)) dX10_aware_43 (by decide) ?_
    rcases e1 with ⟨h1, rfl⟩ | ⟨h1, rfl⟩
    · exact absurd c1 (by decide)
    · exact m_ret (pc := 44) rfl dX10_aware_44 (⟨Or.inl ⟨fun hh => h1 hh.1, rfl⟩, rfl⟩)
  · rcases e1 with ⟨h1, rfl⟩ | ⟨h1, rfl⟩
    · refine gx_aload_n (pc := 14) dX10_aware_14 rfl ?_
      refine gx_iload_n (pc := 15) dX10_aware_15 rfl ?_
      refine kX10_445 (pc := 16) rfl (c_isS (d := d - 1) k (show mT (mI σ 0 0).2.2.1 P S E w from hT)) (by omega) (Nat.le_of_ble_eq_true rfl) dX10_aware_16 (fun r1 σ1 e1 => ?_)
      obtain ⟨e1, hσ⟩ := e1
      subst σ1
      refine gx_if_eq (pc := 19) 43 dX10_aware_19 (by decide) (fun c2 => ?_) (fun c2 => ?_)
      · refine gx_iconst (pc := 43) (v := (-1)) dX10_aware_43 (by decide) ?_
        rcases e1 with ⟨h2, rfl⟩ | ⟨h2, rfl⟩
        · exact absurd c2 (by decide)
        · exact m_ret (pc := 44) rfl dX10_aware_44 (⟨Or.inl ⟨fun hh => h2 hh.2, rfl⟩, rfl⟩)
      · rcases e1 with ⟨h2, rfl⟩ | ⟨h2, rfl⟩
        · obtain ⟨k', hk, rfl⟩ := h2
          obtain ⟨p', hp, rfl⟩ := id h1.1
          refine gx_aload_n (pc := 22) dX10_aware_22 rfl ?_
          refine m_getA (pc := 23) rfl fX10_129 rfl (by decide) dX10_aware_23 ?_
          refine gx_bipush (pc := 26) (v := 10) dX10_aware_26 (by decide) ?_
          refine gx_bipush (pc := 28) (v := 10) dX10_aware_28 (by decide) ?_
          refine gx_iload_n (pc := 30) dX10_aware_30 rfl ?_
          refine gx_imul (pc := 31) dX10_aware_31 ?_
          refine gx_iadd (pc := 32) dX10_aware_32 ?_
          refine gx_iload_n (pc := 33) dX10_aware_33 rfl ?_
          refine gx_iadd (pc := 34) dX10_aware_34 ?_
          refine m_iald (pc := 35) 50 (((10 + (10 * p')) + k')) 123 rfl (by decide) rfl (by first | rfl | simp only [gx_lit, nI_add, pk_mul]) (by omega) (by decide) dX10_aware_35 ?_
          refine gx_iload_n (pc := 36) dX10_aware_36 rfl ?_
          refine gx_ishr (pc := 37) dX10_aware_37 ?_
          refine gx_iconst (pc := 38) (v := 1) dX10_aware_38 (by decide) ?_
          refine gx_iand (pc := 39) dX10_aware_39 ?_
          refine gx_goto (pc := 40) 44 dX10_aware_40 (by decide) ?_
          exact m_ret (pc := 44) rfl dX10_aware_44 (⟨Or.inr ⟨h1, p', k', hp, hk, rfl, rfl, rfl⟩, rfl⟩)
        · exact absurd rfl c2
    · exact absurd rfl c1
/-- the ear of one to another, from place k on; none: -1 -/
def spEar (A : Nat → Nat → Int32) (p q : Int32) : Nat → Nat → Int32
  | 0, _ => -1
  | n + 1, k => if A 22 k = p ∧ A 23 k = q then spChance A k else spEar A p q n (k + 1)
theorem c_ear (hb : gxN G ≤ b) (hd : 2 ≤ d) (hT : mT σ.2.2.1 P S E w) (p q : Int32) : mMi G mX10_ear d [.ref b, .int p, .int q] h b σ (fun r σ' => r = spEar σ.2.2.1 p q E 0 ∧ σ' = mI σ 0 0) := by
  have hE := hT.2.2.2.2.1
  have hE1 := hT.2.2.2.2.2.1
  have hP := hT.2.1
  refine gxM_of rfl (Nat.le_of_ble_eq_true rfl) rfl ?_
  refine gx_aload_n (pc := 0) dX10_ear_0 rfl ?_
  refine gx_iconst (pc := 1) (v := 0) dX10_ear_1 (by decide) ?_
  refine m_putI (pc := 2) rfl hb fX10_175 rfl (by decide) tX10_0 dX10_ear_2 ?_
  refine gx_iconst (pc := 5) (v := 0) dX10_ear_5 (by decide) ?_
  refine gx_istore_n (pc := 6) dX10_ear_6 (by decide) rfl ?_
  have L : ∀ n k, n + k = E → spEar σ.2.2.1 p q n k = spEar σ.2.2.1 p q E 0 → gxV G mX10_ear d 0 0 7 [some (.ref b), some (.int p), some (.int q), some (.int (nI k))] [] (mput h b (mI σ 0 0)) (mQi h b (fun r σ' => r = spEar σ.2.2.1 p q E 0 ∧ σ' = mI σ 0 0)) := by
    intro n
    induction n with
    | zero =>
      intro k hk he
      refine gx_iload_n (pc := 7) dX10_ear_7 rfl ?_
      refine gx_aload_n (pc := 8) dX10_ear_8 rfl ?_
      refine m_getA (pc := 9) rfl fX10_13 rfl (by decide) dX10_ear_9 ?_
      refine gx_iconst (pc := 12) (v := 2) dX10_ear_12 (by decide) ?_
      refine m_iald (pc := 13) 10 (2) 8 rfl (by decide) rfl (by first | rfl | simp only [gx_lit, nI_add, pk_mul]) (by omega) (by decide) dX10_ear_13 ?_
      rw [mI_A]
      refine gx_icmp_ge (pc := 14) 49 dX10_ear_14 (by decide) (fun c1 => ?_) (fun c1 => ?_)
      · refine gx_iconst (pc := 49) (v := (-1)) dX10_ear_49 (by decide) ?_
        exact m_ret (pc := 50) rfl dX10_ear_50 (⟨he, rfl⟩)
      · exact absurd (by rw [hE]; exact nI_le (by omega) (by omega)) c1
    | succ n ih =>
      intro k hk he
      refine gx_iload_n (pc := 7) dX10_ear_7 rfl ?_
      refine gx_aload_n (pc := 8) dX10_ear_8 rfl ?_
      refine m_getA (pc := 9) rfl fX10_13 rfl (by decide) dX10_ear_9 ?_
      refine gx_iconst (pc := 12) (v := 2) dX10_ear_12 (by decide) ?_
      refine m_iald (pc := 13) 10 (2) 8 rfl (by decide) rfl (by first | rfl | simp only [gx_lit, nI_add, pk_mul]) (by omega) (by decide) dX10_ear_13 ?_
      rw [mI_A]
      refine gx_icmp_ge (pc := 14) 49 dX10_ear_14 (by decide) (fun c1 => ?_) (fun c1 => ?_)
      · exact absurd c1 (by rw [hE]; exact nI_ge (by omega) (by omega))
      · have K : ¬ (σ.2.2.1 22 k = p ∧ σ.2.2.1 23 k = q) → gxV G mX10_ear d 0 0 43 [some (.ref b), some (.int p), some (.int q), some (.int (nI k))] [] (mput h b (mI σ 0 0)) (mQi h b (fun r σ' => r = spEar σ.2.2.1 p q E 0 ∧ σ' = mI σ 0 0)) := by
          intro hne
          refine gx_iincc (pc := 43) (c := 1) dX10_ear_43 rfl (by decide) (by decide) rfl ?_
          refine gx_goto (pc := 46) 7 dX10_ear_46 (by decide) ?_
          rw [nI_1]
          refine ih (k + 1) (by omega) ?_
          rw [← he]
          simp only [spEar, if_neg hne]
        refine gx_aload_n (pc := 17) dX10_ear_17 rfl ?_
        refine m_getA (pc := 18) rfl fX10_50 rfl (by decide) dX10_ear_18 ?_
        refine gx_iload_n (pc := 21) dX10_ear_21 rfl ?_
        refine m_iald (pc := 22) 22 (k) 60 rfl (by decide) rfl (by first | rfl | simp only [gx_lit, nI_add, pk_mul]) (by omega) (by decide) dX10_ear_22 ?_
        refine gx_iload_n (pc := 23) dX10_ear_23 rfl ?_
        refine gx_icmp_ne (pc := 24) 43 dX10_ear_24 (by decide) (fun c2 => ?_) (fun c2 => ?_)
        · exact K (fun hh => c2 hh.1)
        · refine gx_aload_n (pc := 27) dX10_ear_27 rfl ?_
          refine m_getA (pc := 28) rfl fX10_53 rfl (by decide) dX10_ear_28 ?_
          refine gx_iload_n (pc := 31) dX10_ear_31 rfl ?_
          refine m_iald (pc := 32) 23 (k) 60 rfl (by decide) rfl (by first | rfl | simp only [gx_lit, nI_add, pk_mul]) (by omega) (by decide) dX10_ear_32 ?_
          refine gx_iload_n (pc := 33) dX10_ear_33 rfl ?_
          refine gx_icmp_ne (pc := 34) 43 dX10_ear_34 (by decide) (fun c3 => ?_) (fun c3 => ?_)
          · exact K (fun hh => c3 hh.2)
          · obtain ⟨f, hf, hf2⟩ := (hT.2.2.2.2.2.2.2.2.1 k (by omega)).1
            refine gx_aload_n (pc := 37) dX10_ear_37 rfl ?_
            refine gx_iload_n (pc := 38) dX10_ear_38 rfl ?_
            refine kX10_454 (pc := 39) rfl (c_chanceOf (d := d - 1) (σ := mI σ 0 0) (by omega) k f (by omega) (by omega) hf2) (by omega) (Nat.le_of_ble_eq_true rfl) dX10_ear_39 (fun r1 σ1 e1 => ?_)
            obtain ⟨rfl, hσ⟩ := e1
            subst σ1
            have c2' : σ.2.2.1 22 k = p := c2
            have c3' : σ.2.2.1 23 k = q := c3
            exact m_ret (pc := 42) rfl dX10_ear_42 (⟨by rw [← he]; simp only [spEar, c2', c3', and_self, if_true]; rfl, rfl⟩)
  exact L E 0 (by omega) rfl
/-- the talk with what was kept on the pile -/
def mKeep (σ : mS) (n : Nat) : mS := mI (mSA σ (setJ σ.2.2.1 53 (spKeep (σ.2.2.1 53) (σ.2.2.1 50) n))) 55 (nI (if n = 16 then 16 else n + 1))
/-- with another row of talk -/
def mRow (σ : mS) (s : Nat → Int32) : mS := mSA σ (setS σ.2.2.1 s)
theorem mT.row {A : Nat → Nat → Int32} (hT : mT A P S E w) (s : Nat → Int32) : mT (setS A s) P S E w := by
  unfold mT mWx at *
  rw [setS_ne (by decide), setS_ne (by decide), setS_ne (by decide), setS_ne (by decide), setS_ne (by decide), setS_ne (by decide), setS_ne (by decide), setS_ne (by decide)]
  exact hT
theorem mT.J {A : Nat → Nat → Int32} (hT : mT A P S E w) {j : Nat} (hj : 28 ≤ j) (f : Nat → Int32) : mT (setJ A j f) P S E w := by
  unfold mT mWx at *
  rw [setJ_ne (by omega), setJ_ne (by omega), setJ_ne (by omega), setJ_ne (by omega), setJ_ne (by omega), setJ_ne (by omega), setJ_ne (by omega), setJ_ne (by omega)]
  exact hT
theorem spTell_congr {A B : Nat → Nat → Int32} (h50 : B 50 = A 50) (h16 : B 16 = A 16) (h17 : B 17 = A 17) (p q k : Nat) : spTell B p q k = spTell A p q k := by
  simp only [spTell, h50, h16, h17]
/-- a worth looks at six arrays -/
theorem spBase_congr {A B : Nat → Nat → Int32} (h13 : B 13 = A 13) (h17 : B 17 = A 17) (h18 : B 18 = A 18) (h50 : B 50 = A 50) (w : Option gxEv) (P k : Nat) (set : Int32) : spBase w B P k set = spBase w A P k set := by
  simp only [spBase, h13, h17, h18, h50]
theorem spWorth_congr {A B : Nat → Nat → Int32} (h13 : B 13 = A 13) (h17 : B 17 = A 17) (h18 : B 18 = A 18) (h19 : B 19 = A 19) (h50 : B 50 = A 50) (w : Option gxEv) (P : Nat) : ∀ f k, spWorth w B P f k = spWorth w A P f k
  | 0, _ => rfl
  | f + 1, k => by simp only [spWorth, spBase_congr h13 h17 h18 h50, spWorth_congr h13 h17 h18 h19 h50 w P f, h19, h50]
theorem spW_J53 (A : Nat → Nat → Int32) (f s : Nat → Int32) (w : Option gxEv) (P k : Nat) : spW w (setS (setJ A 53 f) s) P k = spW w (setS A s) P k := by
  refine spWorth_congr ?_ ?_ ?_ ?_ ?_ w P _ _
  · rw [setS_ne (by decide), setS_ne (by decide), setJ_ne (by decide)]
  · rw [setS_ne (by decide), setS_ne (by decide), setJ_ne (by decide)]
  · rw [setS_ne (by decide), setS_ne (by decide), setJ_ne (by decide)]
  · rw [setS_ne (by decide), setS_ne (by decide), setJ_ne (by decide)]
  · rw [setS_50, setS_50]
theorem c_worthOf0 (hb : gxN G ≤ b) (hT : mT σ.2.2.1 P S E w) (k : Nat) (d : Nat) (hd : k + 4 ≤ d) (hk : k < S) : mMi G mX10_worthOf d [.ref b, .int (nI k)] h b σ (fun r σ' => r = spW w σ.2.2.1 P k ∧ wS σ σ') := c_worthOf hb hT k d hd hk σ.2.2.1 wE.rf
theorem c_tell (hb : gxN G ≤ b) (hd : 16 ≤ d) (hT : mT σ.2.2.1 P S E w) (n : Nat) (hn : n ≤ 16) (hdn : σ.1 55 = nI n) (p q k : Int32) : mMi G mX10_tell d [.ref b, .int p, .int q, .int k] h b σ (fun r σ' => (¬ (∃ p' q' k', p' < P ∧ q' < P ∧ k' < S ∧ p = nI p' ∧ q = nI q' ∧ k = nI k' ∧ p' ≠ q' ∧ spCan σ.2.2.1 p' q' k' = true) ∧ r = -1 ∧ σ' = mI σ 0 0) ∨
    ∃ p' q' k', p' < P ∧ q' < P ∧ k' < S ∧ p = nI p' ∧ q = nI q' ∧ k = nI k' ∧ p' ≠ q' ∧ spCan σ.2.2.1 p' q' k' = true ∧ r = spW w (setS σ.2.2.1 (spTell σ.2.2.1 p' q' k')) P k' ∧ wS (mRow (mKeep (mI σ 0 0) n) (spTell σ.2.2.1 p' q' k')) σ') := by
  have hP := hT.2.1
  have hS := hT.2.2.2.1
  refine gxM_of rfl (Nat.le_of_ble_eq_true rfl) rfl ?_
  refine gx_aload_n (pc := 0) dX10_tell_0 rfl ?_
  refine gx_iconst (pc := 1) (v := 0) dX10_tell_1 (by decide) ?_
  refine m_putI (pc := 2) rfl hb fX10_175 rfl (by decide) tX10_0 dX10_tell_2 ?_
  refine gx_aload_n (pc := 5) dX10_tell_5 rfl ?_
  refine gx_iload_n (pc := 6) dX10_tell_6 rfl ?_
  refine gx_iload_n (pc := 7) dX10_tell_7 rfl ?_
  refine kX10_448 (pc := 8) rfl (c_are2 (d := d - 1) (by omega) p q (show mT (mI σ 0 0).2.2.1 P S E w from hT)) (by omega) (Nat.le_of_ble_eq_true rfl) dX10_tell_8 (fun r1 σ1 e1 => ?_)
  obtain ⟨e1, hσ⟩ := e1
  subst σ1
  refine gx_if_eq (pc := 11) 32 dX10_tell_11 (by decide) (fun c1 => ?_) (fun c1 => ?_)
  · rcases e1 with ⟨h1, rfl⟩ | ⟨h1, rfl⟩
    · exact absurd c1 (by decide)
    · refine gx_iconst (pc := 32) (v := (-1)) dX10_tell_32 (by decide) ?_
      exact m_ret (pc := 33) rfl dX10_tell_33 (Or.inl ⟨fun ⟨p', q', k', a1, a2, a3, a4, a5, a6, a7, a8⟩ => h1 ⟨⟨p', a1, a4⟩, ⟨q', a2, a5⟩, fun e => a7 ((nI_eq (by omega) (by omega)).mp (a4.symm.trans (e.trans a5)))⟩, rfl, rfl⟩)
  · rcases e1 with ⟨h1, rfl⟩ | ⟨h1, rfl⟩
    · refine gx_aload_n (pc := 14) dX10_tell_14 rfl ?_
      refine gx_iload_n (pc := 15) dX10_tell_15 rfl ?_
      refine kX10_445 (pc := 16) rfl (c_isS (d := d - 1) k (show mT (mI σ 0 0).2.2.1 P S E w from hT)) (by omega) (Nat.le_of_ble_eq_true rfl) dX10_tell_16 (fun r1 σ1 e1 => ?_)
      obtain ⟨e1, hσ⟩ := e1
      subst σ1
      refine gx_if_eq (pc := 19) 32 dX10_tell_19 (by decide) (fun c2 => ?_) (fun c2 => ?_)
      · rcases e1 with ⟨h2, rfl⟩ | ⟨h2, rfl⟩
        · exact absurd c2 (by decide)
        · refine gx_iconst (pc := 32) (v := (-1)) dX10_tell_32 (by decide) ?_
          exact m_ret (pc := 33) rfl dX10_tell_33 (Or.inl ⟨fun ⟨p', q', k', a1, a2, a3, a4, a5, a6, a7, a8⟩ => h2 ⟨k', a3, a6⟩, rfl, rfl⟩)
      · rcases e1 with ⟨h2, rfl⟩ | ⟨h2, rfl⟩
        · obtain ⟨k', hk, rfl⟩ := h2
          obtain ⟨⟨p', hp, rfl⟩, ⟨q', hq, rfl⟩, hne⟩ := h1
          have hpq : p' ≠ q' := fun e => hne (by rw [e])
          refine gx_aload_n (pc := 22) dX10_tell_22 rfl ?_
          refine gx_iload_n (pc := 23) dX10_tell_23 rfl ?_
          refine gx_iload_n (pc := 24) dX10_tell_24 rfl ?_
          refine gx_iload_n (pc := 25) dX10_tell_25 rfl ?_
          refine kX10_464 (pc := 26) rfl (c_canTell (d := d - 1) (σ := mI σ 0 0) (by omega) p' q' k' (by omega) (by omega)) (by omega) (Nat.le_of_ble_eq_true rfl) dX10_tell_26 (fun r1 σ1 e1 => ?_)
          obtain ⟨rfl, hσ⟩ := e1
          subst σ1
          refine gx_if_ne (pc := 29) 34 dX10_tell_29 (by decide) (fun c3 => ?_) (fun c3 => ?_)
          · have hc : spCan σ.2.2.1 p' q' k' = true := by
              cases e : spCan σ.2.2.1 p' q' k' with
              | true => rfl
              | false => rw [mI_A, e] at c3; exact absurd rfl c3
            refine gx_aload_n (pc := 34) dX10_tell_34 rfl ?_
            refine kX10_467 (pc := 35) rfl (c_keeps (d := d - 1) (σ := mI σ 0 0) hb (by omega) n hn hdn) (by omega) (Nat.le_of_ble_eq_true rfl) dX10_tell_35 (fun σ1 e1 => ?_)
            have hJ : σ1.2.2.1 = setJ σ.2.2.1 53 (spKeep (σ.2.2.1 53) (σ.2.2.1 50) n) := by rw [e1]; rfl
            have hT1 : mT σ1.2.2.1 P S E w := by rw [hJ]; exact hT.J (by omega) _
            refine gx_aload_n (pc := 38) dX10_tell_38 rfl ?_
            refine gx_iload_n (pc := 39) dX10_tell_39 rfl ?_
            refine gx_iload_n (pc := 40) dX10_tell_40 rfl ?_
            refine gx_iload_n (pc := 41) dX10_tell_41 rfl ?_
            refine kX10_470 (pc := 42) rfl (c_tells (d := d - 1) hb p' q' k' (by omega) (by omega) (by omega)) (by omega) (Nat.le_of_ble_eq_true rfl) dX10_tell_42 (fun σ2 e2 => ?_)
            have hte : spTell σ1.2.2.1 p' q' k' = spTell σ.2.2.1 p' q' k' := spTell_congr (by rw [hJ, setJ_ne (by decide)]) (by rw [hJ, setJ_ne (by decide)]) (by rw [hJ, setJ_ne (by decide)]) _ _ _
            have hT2 : mT σ2.2.2.1 P S E w := by rw [e2]; exact hT1.row _
            refine gx_aload_n (pc := 45) dX10_tell_45 rfl ?_
            refine gx_iload_n (pc := 46) dX10_tell_46 rfl ?_
            refine kX10_427 (pc := 47) rfl (c_worthOf0 hb hT2 k' (d - 1) (by omega) hk) (by omega) (Nat.le_of_ble_eq_true rfl) dX10_tell_47 (fun r1 σ3 e3 => ?_)
            obtain ⟨rfl, h3⟩ := e3
            have hr : spW w σ2.2.2.1 P k' = spW w (setS σ.2.2.1 (spTell σ.2.2.1 p' q' k')) P k' := by
              rw [e2, mSA_A, hte, hJ]
              exact spW_J53 _ _ _ _ _ _
            exact m_ret (pc := 50) rfl dX10_tell_50 (Or.inr ⟨p', q', k', hp, hq, hk, rfl, rfl, rfl, hpq, hc, hr, by rw [show mKeep (mI σ 0 0) n = σ1 from e1.symm, mRow, ← hte, ← e2]; exact h3⟩)
          · have hc : spCan σ.2.2.1 p' q' k' = false := by
              cases e : spCan σ.2.2.1 p' q' k' with
              | false => rfl
              | true => rw [mI_A, e] at c3; exact absurd c3 (by decide)
            refine gx_iconst (pc := 32) (v := (-1)) dX10_tell_32 (by decide) ?_
            exact m_ret (pc := 33) rfl dX10_tell_33 (Or.inl ⟨(fun ⟨p2, q2, k2, a1, a2, a3, a4, a5, a6, a7, a8⟩ => by rw [← (nI_eq (by omega) (by omega)).mp a4, ← (nI_eq (by omega) (by omega)).mp a5, ← (nI_eq (by omega) (by omega)).mp a6, hc] at a8; cases a8), rfl, rfl⟩)
        · exact absurd rfl c2
    · exact absurd rfl c1
end MG
