/-! ===== MODEL Q: a feast ===== -/
set_option maxRecDepth 100000
def spCnt (ch : Nat → Int32) (v : Int32) : Nat → Int32
  | 0 => 0
  | k + 1 => spCnt ch v k + zi (decide (ch k = v))
theorem spCnt_nI (ch : Nat → Int32) (v : Int32) (k : Nat) : ∃ c, c ≤ k ∧ spCnt ch v k = nI c ∧ ∀ i, i < k → ch i = v → 1 ≤ c := by
  induction k with
  | zero => exact ⟨0, Nat.le_refl _, rfl, fun i h => by omega⟩
  | succ k ih =>
    obtain ⟨c, hc, he, hi⟩ := ih
    by_cases e : ch k = v
    · refine ⟨c + 1, by omega, ?_, fun _ _ _ => by omega⟩
      rw [spCnt, he, decide_eq_true e]
      exact nI_add c 1
    · refine ⟨c, by omega, ?_, fun i h1 h2 => ?_⟩
      · rw [spCnt, he, decide_eq_false e]
        exact nI_add c 0
      · rcases Nat.lt_or_ge i k with q | q
        · exact hi i q h2
        · rw [show i = k by omega] at h2
          exact absurd h2 e
def spHas (w : Option gxEv) (A : Nat → Nat → Int32) (P : Nat) (ch : Nat → Int32) (g i : Nat) : Int32 :=
  if ch i = 0 then 0 else spW w A P ((ch i).toNatClampNeg - 1) / spCnt ch (ch i) g - 1
def spMay (A : Nat → Nat → Int32) (S : Nat) (gi : Int32) (c : Nat) : Bool := decide (c = 0) || (decide (c ≤ S) && hs (A 50 (c - 1)) gi)
def spMore (w : Option gxEv) (A : Nat → Nat → Int32) (P S : Nat) (gu ch : Nat → Int32) (g i : Nat) : Nat → Bool
  | 0 => false
  | c + 1 => spMore w A P S gu ch g i c || (spMay A S (gu i) c && decide (spHas w A P ch g i < spHas w A P (upd ch i (nI c)) g i))
def spRest (w : Option gxEv) (A : Nat → Nat → Int32) (P S : Nat) (gu ch : Nat → Int32) (g : Nat) : Nat → Bool
  | 0 => true
  | i + 1 => spRest w A P S gu ch g i && !spMore w A P S gu ch g i (S + 1)
theorem upd_upd (f : Nat → Int32) (i : Nat) (x y : Int32) : upd (upd f i x) i y = upd f i y := by
  funext q
  by_cases hq : q = i <;> simp [upd, hq]
theorem upd_self (f : Nat → Int32) (i : Nat) : upd f i (f i) = f := by
  funext q
  by_cases hq : q = i <;> simp [upd, hq]
section MQ
variable {G : gxG} {d : Nat} {h : gxH} {b : Nat} {σ : mS} {P S E : Nat} {w : Option gxEv}
/-- what is chosen: nothing, or a secret -/
def chOk (ch : Nat → Int32) (S g : Nat) : Prop := ∀ i, i < g → ∃ c, c ≤ S ∧ ch i = nI c
theorem c_hasBy (hb : gxN G ≤ b) (hd : 15 ≤ d) (hT : mT σ.2.2.1 P S E w) (g i : Nat) (hg : g ≤ 3) (hgx : σ.1 68 = nI g) (hi : i < g) (hc : chOk (σ.2.2.1 67) S g) : mMi G mX10_hasBy d [.ref b, .int (nI i)] h b σ (fun r σ' => r = spHas w σ.2.2.1 P (σ.2.2.1 67) g i ∧ wS σ σ') := by
  have hS := hT.2.2.2.1
  obtain ⟨c, hc1, hc2⟩ := hc i hi
  refine gxM_of rfl (Nat.le_of_ble_eq_true rfl) rfl ?_
  refine gx_aload_n (pc := 0) dX10_hasBy_0 rfl ?_
  refine m_getA (pc := 1) rfl fX10_172 rfl (by decide) dX10_hasBy_1 ?_
  refine gx_iload_n (pc := 4) dX10_hasBy_4 rfl ?_
  refine m_iald (pc := 5) 67 (i) 3 rfl (by decide) rfl (by first | rfl | simp only [gx_lit, nI_add, pk_mul]) (by omega) (by decide) dX10_hasBy_5 ?_
  refine gx_if_ne (pc := 6) 11 dX10_hasBy_6 (by decide) (fun c1 => ?_) (fun c1 => ?_)
  · refine gx_iconst (pc := 11) (v := 0) dX10_hasBy_11 (by decide) ?_
    refine gx_istore_n (pc := 12) dX10_hasBy_12 (by decide) rfl ?_
    refine gx_iconst (pc := 13) (v := 0) dX10_hasBy_13 (by decide) ?_
    refine gx_istore_n (pc := 14) dX10_hasBy_14 (by decide) rfl ?_
    have L : ∀ m k, m + k = g → gxV G mX10_hasBy d 0 0 15 [some (.ref b), some (.int (nI i)), some (.int (spCnt (σ.2.2.1 67) (σ.2.2.1 67 i) k)), some (.int (nI k))] [] (mput h b σ) (mQi h b (fun r σ' => r = spHas w σ.2.2.1 P (σ.2.2.1 67) g i ∧ wS σ σ')) := by
      intro m
      induction m with
      | zero =>
        intro k hk
        have hkg : k = g := by omega
        subst k
        refine gx_iload_n (pc := 15) dX10_hasBy_15 rfl ?_
        refine gx_aload_n (pc := 16) dX10_hasBy_16 rfl ?_
        refine m_getI (pc := 17) rfl fX10_531 rfl (by decide) dX10_hasBy_17 ?_
        rw [hgx]
        refine gx_icmp_ge (pc := 20) 52 dX10_hasBy_20 (by decide) (fun c2 => ?_) (fun c2 => ?_)
        · have hc0 : c ≠ 0 := fun e => c1 (by rw [hc2, e]; rfl)
          obtain ⟨c', rfl⟩ : ∃ c', c = c' + 1 := ⟨c - 1, by omega⟩
          refine gx_aload_n (pc := 52) dX10_hasBy_52 rfl ?_
          refine gx_aload_n (pc := 53) dX10_hasBy_53 rfl ?_
          refine m_getA (pc := 54) rfl fX10_172 rfl (by decide) dX10_hasBy_54 ?_
          refine gx_iload_n (pc := 57) dX10_hasBy_57 rfl ?_
          refine m_iald (pc := 58) 67 (i) 3 rfl (by decide) rfl (by first | rfl | simp only [gx_lit, nI_add, pk_mul]) (by omega) (by decide) dX10_hasBy_58 ?_
          refine gx_iconst (pc := 59) (v := 1) dX10_hasBy_59 (by decide) ?_
          refine gx_isub (pc := 60) dX10_hasBy_60 ?_
          rw [hc2, nI_pred]
          refine kX10_427 (pc := 61) rfl (c_worthOf0 hb hT c' (d - 1) (by omega) (by omega)) (by omega) (Nat.le_of_ble_eq_true rfl) dX10_hasBy_61 (fun r1 σ1 e1 => ?_)
          obtain ⟨rfl, h1⟩ := e1
          obtain ⟨m, hm1, hm2, hm3⟩ := spCnt_nI (σ.2.2.1 67) (σ.2.2.1 67 i) g
          have hm0 := hm3 i hi rfl
          have hne : ¬ spCnt (σ.2.2.1 67) (nI (c' + 1)) g = 0 := by
            rw [← hc2, hm2]; exact nI_ne0 (by omega) (by omega)
          refine gx_iload_n (pc := 64) dX10_hasBy_64 rfl ?_
          refine gx_idiv (pc := 65) dX10_hasBy_65 (hne) ?_
          refine gx_iconst (pc := 66) (v := 1) dX10_hasBy_66 (by decide) ?_
          refine gx_isub (pc := 67) dX10_hasBy_67 ?_
          exact m_ret (pc := 68) rfl dX10_hasBy_68 (⟨by rw [spHas, if_neg c1, hc2, nI_clamp (by omega), Nat.add_sub_cancel], h1⟩)
        · exact absurd (nI_le (by omega) (by omega)) c2
      | succ m ih =>
        intro k hk
        have K : ∀ r, r = zi (decide (σ.2.2.1 67 k = σ.2.2.1 67 i)) → gxV G mX10_hasBy d 0 0 44 [some (.ref b), some (.int (nI i)), some (.int (spCnt (σ.2.2.1 67) (σ.2.2.1 67 i) k)), some (.int (nI k))] [.int r, .int (spCnt (σ.2.2.1 67) (σ.2.2.1 67 i) k)] (mput h b σ) (mQi h b (fun r σ' => r = spHas w σ.2.2.1 P (σ.2.2.1 67) g i ∧ wS σ σ')) := by
          intro r hr
          subst hr
          refine gx_iadd (pc := 44) dX10_hasBy_44 ?_
          refine gx_istore_n (pc := 45) dX10_hasBy_45 (by decide) rfl ?_
          refine gx_iincc (pc := 46) (c := 1) dX10_hasBy_46 rfl (by decide) (by decide) rfl ?_
          refine gx_goto (pc := 49) 15 dX10_hasBy_49 (by decide) ?_
          rw [nI_1]
          exact ih (k + 1) (by omega)
        refine gx_iload_n (pc := 15) dX10_hasBy_15 rfl ?_
        refine gx_aload_n (pc := 16) dX10_hasBy_16 rfl ?_
        refine m_getI (pc := 17) rfl fX10_531 rfl (by decide) dX10_hasBy_17 ?_
        rw [hgx]
        refine gx_icmp_ge (pc := 20) 52 dX10_hasBy_20 (by decide) (fun c2 => ?_) (fun c2 => ?_)
        · exact absurd c2 (nI_ge (by omega) (by omega))
        · refine gx_iload_n (pc := 23) dX10_hasBy_23 rfl ?_
          refine gx_aload_n (pc := 24) dX10_hasBy_24 rfl ?_
          refine m_getA (pc := 25) rfl fX10_172 rfl (by decide) dX10_hasBy_25 ?_
          refine gx_iload_n (pc := 28) dX10_hasBy_28 rfl ?_
          refine m_iald (pc := 29) 67 (k) 3 rfl (by decide) rfl (by first | rfl | simp only [gx_lit, nI_add, pk_mul]) (by omega) (by decide) dX10_hasBy_29 ?_
          refine gx_aload_n (pc := 30) dX10_hasBy_30 rfl ?_
          refine m_getA (pc := 31) rfl fX10_172 rfl (by decide) dX10_hasBy_31 ?_
          refine gx_iload_n (pc := 34) dX10_hasBy_34 rfl ?_
          refine m_iald (pc := 35) 67 (i) 3 rfl (by decide) rfl (by first | rfl | simp only [gx_lit, nI_add, pk_mul]) (by omega) (by decide) dX10_hasBy_35 ?_
          refine gx_icmp_ne (pc := 36) 43 dX10_hasBy_36 (by decide) (fun c36 => ?_) (fun c36 => ?_)
          · refine gx_iconst (pc := 43) (v := 0) dX10_hasBy_43 (by decide) ?_
            exact K _ (by simp_all [zi])
          · refine gx_iconst (pc := 39) (v := 1) dX10_hasBy_39 (by decide) ?_
            refine gx_goto (pc := 40) 44 dX10_hasBy_40 (by decide) ?_
            exact K _ (by simp_all [zi])
    exact L g 0 (by omega)
  · refine gx_iconst (pc := 9) (v := 0) dX10_hasBy_9 (by decide) ?_
    exact m_ret (pc := 10) rfl dX10_hasBy_10 (⟨by rw [spHas, if_pos c1], wS.rf⟩)
theorem c_may (hT : mT σ.2.2.1 P S E w) (i c : Nat) (hi : i < 3) (hc : c ≤ 10) : mMi G mX10_may d [.ref b, .int (nI i), .int (nI c)] h b σ (fun r σ' => r = zi (spMay σ.2.2.1 S (σ.2.2.1 66 i) c) ∧ σ' = σ) := by
  have hS := hT.2.2.1
  have hS10 := hT.2.2.2.1
  refine gxM_of rfl (Nat.le_of_ble_eq_true rfl) rfl ?_
  refine gx_iload_n (pc := 0) dX10_may_0 rfl ?_
  refine gx_if_eq (pc := 1) 35 dX10_may_1 (by decide) (fun c1 => ?_) (fun c1 => ?_)
  · have hc0 : c = 0 := (nI_eq (b := 0) (by omega) (by decide)).mp c1
    refine gx_iconst (pc := 35) (v := 1) dX10_may_35 (by decide) ?_
    refine gx_goto (pc := 36) 40 dX10_may_36 (by decide) ?_
    exact m_retz (pc := 40) rfl (by decide) dX10_may_40 (⟨by rw [spMay, decide_eq_true hc0]; rfl, rfl⟩)
  · have hc0 : c ≠ 0 := fun e => c1 (by rw [e]; rfl)
    obtain ⟨c', rfl⟩ : ∃ c', c = c' + 1 := ⟨c - 1, by omega⟩
    refine gx_iload_n (pc := 4) dX10_may_4 rfl ?_
    refine gx_aload_n (pc := 5) dX10_may_5 rfl ?_
    refine m_getA (pc := 6) rfl fX10_13 rfl (by decide) dX10_may_6 ?_
    refine gx_iconst (pc := 9) (v := 1) dX10_may_9 (by decide) ?_
    refine m_iald (pc := 10) 10 (1) 8 rfl (by decide) rfl (by first | rfl | simp only [gx_lit, nI_add, pk_mul]) (by omega) (by decide) dX10_may_10 ?_
    rw [hS]
    refine gx_icmp_gt (pc := 11) 39 dX10_may_11 (by decide) (fun c2 => ?_) (fun c2 => ?_)
    · have hno : ¬ c' + 1 ≤ S := fun hh => absurd c2 (nI_nlt hh (by omega))
      refine gx_iconst (pc := 39) (v := 0) dX10_may_39 (by decide) ?_
      exact m_retz (pc := 40) rfl (by decide) dX10_may_40 (⟨by rw [spMay, decide_eq_false hc0, decide_eq_false hno]; rfl, rfl⟩)
    · have hyes : c' + 1 ≤ S := by
        rcases Nat.lt_or_ge S (c' + 1) with q | q
        · exact absurd (nI_lt q (by omega)) c2
        · exact q
      refine gx_aload_n (pc := 14) dX10_may_14 rfl ?_
      refine m_getA (pc := 15) rfl fX10_129 rfl (by decide) dX10_may_15 ?_
      refine gx_iload_n (pc := 18) dX10_may_18 rfl ?_
      refine gx_iconst (pc := 19) (v := 1) dX10_may_19 (by decide) ?_
      refine gx_isub (pc := 20) dX10_may_20 ?_
      rw [nI_pred]
      refine m_iald (pc := 21) 50 (c') 123 rfl (by decide) rfl (by first | rfl | simp only [gx_lit, nI_add, pk_mul]) (by omega) (by decide) dX10_may_21 ?_
      refine gx_aload_n (pc := 22) dX10_may_22 rfl ?_
      refine m_getA (pc := 23) rfl fX10_169 rfl (by decide) dX10_may_23 ?_
      refine gx_iload_n (pc := 26) dX10_may_26 rfl ?_
      refine m_iald (pc := 27) 66 (i) 3 rfl (by decide) rfl (by first | rfl | simp only [gx_lit, nI_add, pk_mul]) (by omega) (by decide) dX10_may_27 ?_
      refine gx_ishr (pc := 28) dX10_may_28 ?_
      refine gx_iconst (pc := 29) (v := 1) dX10_may_29 (by decide) ?_
      refine gx_iand (pc := 30) dX10_may_30 ?_
      refine gx_iconst (pc := 31) (v := 1) dX10_may_31 (by decide) ?_
      refine gx_icmp_ne (pc := 32) 39 dX10_may_32 (by decide) (fun c3 => ?_) (fun c3 => ?_)
      · refine gx_iconst (pc := 39) (v := 0) dX10_may_39 (by decide) ?_
        exact m_retz (pc := 40) rfl (by decide) dX10_may_40 (⟨by rw [spMay, decide_eq_false hc0, decide_eq_true hyes, hs, Nat.add_sub_cancel, decide_eq_false c3]; rfl, rfl⟩)
      · refine gx_iconst (pc := 35) (v := 1) dX10_may_35 (by decide) ?_
        refine gx_goto (pc := 36) 40 dX10_may_36 (by decide) ?_
        exact m_retz (pc := 40) rfl (by decide) dX10_may_40 (⟨by rw [spMay, decide_eq_false hc0, decide_eq_true hyes, hs, Nat.add_sub_cancel, decide_eq_true c3]; rfl, rfl⟩)
theorem spHas_congr {A B : Nat → Nat → Int32} (h13 : B 13 = A 13) (h17 : B 17 = A 17) (h18 : B 18 = A 18) (h19 : B 19 = A 19) (h50 : B 50 = A 50) (w : Option gxEv) (P : Nat) (ch : Nat → Int32) (g i : Nat) : spHas w B P ch g i = spHas w A P ch g i := by
  unfold spHas; rw [spW_congr h13 h17 h18 h19 h50]
theorem c_isRest (hb : gxN G ≤ b) (hd : 16 ≤ d) (hT : mT σ.2.2.1 P S E w) (g : Nat) (hg : g ≤ 3) (hgx : σ.1 68 = nI g) (hc : chOk (σ.2.2.1 67) S g) : mMi G mX10_isRest d [.ref b] h b σ (fun r σ' => r = zi (spRest w σ.2.2.1 P S (σ.2.2.1 66) (σ.2.2.1 67) g g) ∧ ∃ τ, wS (mSA σ (setJ σ.2.2.1 67 τ)) σ') := by
  have hS := hT.2.2.1
  have hS10 := hT.2.2.2.1
  refine gxM_of rfl (Nat.le_of_ble_eq_true rfl) rfl ?_
  have F : ∀ k, spRest w σ.2.2.1 P S (σ.2.2.1 66) (σ.2.2.1 67) g k = false → ∀ m, spRest w σ.2.2.1 P S (σ.2.2.1 66) (σ.2.2.1 67) g (k + m) = false := by
    intro k hk m
    induction m with
    | zero => exact hk
    | succ m ih => show (spRest w σ.2.2.1 P S (σ.2.2.1 66) (σ.2.2.1 67) g (k + m) && _) = false; rw [ih]; rfl
  have L : ∀ m i, m + i = g → spRest w σ.2.2.1 P S (σ.2.2.1 66) (σ.2.2.1 67) g i = true → ∀ σ1 (x2 x3 x4 x5 : Option Value), wS σ σ1 → gxV G mX10_isRest d 0 0 2 [some (.ref b), some (.int (nI i)), x2, x3, x4, x5] [] (mput h b σ1) (mQi h b (fun r σ' => r = zi (spRest w σ.2.2.1 P S (σ.2.2.1 66) (σ.2.2.1 67) g g) ∧ ∃ τ, wS (mSA σ (setJ σ.2.2.1 67 τ)) σ')) := by
    intro m
    induction m with
    | zero =>
      intro i hi ht σ1 x2 x3 x4 x5 h1
      refine gx_iload_n (pc := 2) dX10_isRest_2 rfl ?_
      refine gx_aload_n (pc := 3) dX10_isRest_3 rfl ?_
      refine m_getI (pc := 4) rfl fX10_531 rfl (by decide) dX10_isRest_4 ?_
      rw [h1.x, hgx]
      refine gx_icmp_ge (pc := 7) 108 dX10_isRest_7 (by decide) (fun c1 => ?_) (fun c1 => ?_)
      · refine gx_iconst (pc := 108) (v := 1) dX10_isRest_108 (by decide) ?_
        exact m_retz (pc := 109) rfl (by decide) dX10_isRest_109 (⟨by rw [show i = g by omega] at ht; rw [ht]; rfl, σ.2.2.1 67, by rw [setJ_self]; exact h1⟩)
      · exact absurd (nI_le (by omega) (by omega)) c1
    | succ m ih =>
      intro i hi ht σ1 x2 x3 x4 x5 h1
      have hT1 := h1.T hT
      have g1 : ∀ j, j < 31 ∨ 40 < j → σ1.2.2.1 j = σ.2.2.1 j := fun j hj => h1.A hj
      refine gx_iload_n (pc := 2) dX10_isRest_2 rfl ?_
      refine gx_aload_n (pc := 3) dX10_isRest_3 rfl ?_
      refine m_getI (pc := 4) rfl fX10_531 rfl (by decide) dX10_isRest_4 ?_
      rw [h1.x, hgx]
      refine gx_icmp_ge (pc := 7) 108 dX10_isRest_7 (by decide) (fun c1 => ?_) (fun c1 => ?_)
      · exact absurd c1 (nI_ge (by omega) (by omega))
      · refine gx_aload_n (pc := 10) dX10_isRest_10 rfl ?_
        refine m_getA (pc := 11) rfl fX10_172 rfl (by decide) dX10_isRest_11 ?_
        refine gx_iload_n (pc := 14) dX10_isRest_14 rfl ?_
        refine m_iald (pc := 15) 67 (i) 3 rfl (by decide) rfl (by first | rfl | simp only [gx_lit, nI_add, pk_mul]) (by omega) (by decide) dX10_isRest_15 ?_
        rw [g1 67 (by omega)]
        refine gx_istore_n (pc := 16) dX10_isRest_16 (by decide) rfl ?_
        refine gx_aload_n (pc := 17) dX10_isRest_17 rfl ?_
        refine gx_iload_n (pc := 18) dX10_isRest_18 rfl ?_
        refine kX10_534 (pc := 19) rfl (c_hasBy (d := d - 1) hb (by omega) hT1 g i hg (by rw [h1.x]; exact hgx) (by omega) (by rw [g1 67 (by omega)]; exact hc)) (by omega) (Nat.le_of_ble_eq_true rfl) dX10_isRest_19 (fun r1 σ2 e2 => ?_)
        obtain ⟨rfl, h2⟩ := e2
        have h12 := h1.tr h2
        have hhas : spHas w σ1.2.2.1 P (σ1.2.2.1 67) g i = spHas w σ.2.2.1 P (σ.2.2.1 67) g i := by
          rw [g1 67 (by omega)]
          exact spHas_congr (g1 13 (by omega)) (g1 17 (by omega)) (g1 18 (by omega)) (g1 19 (by omega)) (g1 50 (by omega)) w P _ g i
        rw [hhas]
        refine gx_istore_n (pc := 22) dX10_isRest_22 (by decide) rfl ?_
        refine gx_iconst (pc := 23) (v := 0) dX10_isRest_23 (by decide) ?_
        refine gx_istore (pc := 24) dX10_isRest_24 (by decide) rfl ?_
        refine gx_iconst (pc := 26) (v := 0) dX10_isRest_26 (by decide) ?_
        refine gx_istore (pc := 27) dX10_isRest_27 (by decide) rfl ?_
        have L2 : ∀ m2 c, m2 + c = S + 1 → ∀ σ3 y, wS (mSA σ (setJ σ.2.2.1 67 (upd (σ.2.2.1 67) i y))) σ3 → gxV G mX10_isRest d 0 0 29 [some (.ref b), some (.int (nI i)), some (.int (σ.2.2.1 67 i)), some (.int (spHas w σ.2.2.1 P (σ.2.2.1 67) g i)), some (.int (zi (spMore w σ.2.2.1 P S (σ.2.2.1 66) (σ.2.2.1 67) g i c))), some (.int (nI c))] [] (mput h b σ3) (mQi h b (fun r σ' => r = zi (spRest w σ.2.2.1 P S (σ.2.2.1 66) (σ.2.2.1 67) g g) ∧ ∃ τ, wS (mSA σ (setJ σ.2.2.1 67 τ)) σ')) := by
          intro m2
          induction m2 with
          | zero =>
            intro c hcc σ3 y h3
            have hcS : c = S + 1 := by omega
            subst c
            have q10 : σ3.2.2.1 10 = σ.2.2.1 10 := by rw [h3.A (by omega), mSA_A, setJ_ne (by decide)]
            refine gx_iload (pc := 29) dX10_isRest_29 rfl ?_
            refine gx_aload_n (pc := 31) dX10_isRest_31 rfl ?_
            refine m_getA (pc := 32) rfl fX10_13 rfl (by decide) dX10_isRest_32 ?_
            refine gx_iconst (pc := 35) (v := 1) dX10_isRest_35 (by decide) ?_
            refine m_iald (pc := 36) 10 (1) 8 rfl (by decide) rfl (by first | rfl | simp only [gx_lit, nI_add, pk_mul]) (by omega) (by decide) dX10_isRest_36 ?_
            rw [q10, hS]
            refine gx_icmp_gt (pc := 37) 88 dX10_isRest_37 (by decide) (fun c2 => ?_) (fun c2 => ?_)
            · refine gx_aload_n (pc := 88) dX10_isRest_88 rfl ?_
              refine m_getA (pc := 89) rfl fX10_172 rfl (by decide) dX10_isRest_89 ?_
              refine gx_iload_n (pc := 92) dX10_isRest_92 rfl ?_
              refine gx_iload_n (pc := 93) dX10_isRest_93 rfl ?_
              refine m_iast (pc := 94) hb 67 (i) 3 rfl (by decide) rfl (by first | rfl | simp only [gx_lit, nI_add, pk_mul]) (by omega) (by decide) dX10_isRest_94 ?_
              refine gx_iload (pc := 95) dX10_isRest_95 rfl ?_
              have h4 : wS σ (mA σ3 67 i (σ.2.2.1 67 i)) := by
                obtain ⟨A', hA, e⟩ := h3
                have e5 : mA σ3 67 i (σ.2.2.1 67 i) = mSA σ (setJ A' 67 (σ.2.2.1 67)) := by
                  rw [e, mA_eq, mSA_A, mSA_mSA, mSA_mSA, upA_setJ, hA 67 (by omega), mSA_A, setJ_j, upd_upd, upd_self]
                rw [e5]
                refine ⟨_, ?_, rfl⟩
                have := hA.J 67 (σ.2.2.1 67)
                rw [mSA_A, setJ_setJ, setJ_self] at this
                exact this
              refine gx_if_eq (pc := 97) 102 dX10_isRest_97 (by decide) (fun c3 => ?_) (fun c3 => ?_)
              · have hm : spMore w σ.2.2.1 P S (σ.2.2.1 66) (σ.2.2.1 67) g i (S + 1) = false := by
                  cases e : spMore w σ.2.2.1 P S (σ.2.2.1 66) (σ.2.2.1 67) g i (S + 1) with
                  | false => rfl
                  | true => rw [e] at c3; exact absurd c3 (by decide)
                refine gx_iincc (pc := 102) (c := 1) dX10_isRest_102 rfl (by decide) (by decide) rfl ?_
                refine gx_goto (pc := 105) 2 dX10_isRest_105 (by decide) ?_
                rw [nI_1]
                refine ih (i + 1) (by omega) ?_ _ _ _ _ _ h4
                show (spRest w σ.2.2.1 P S (σ.2.2.1 66) (σ.2.2.1 67) g i && !spMore w σ.2.2.1 P S (σ.2.2.1 66) (σ.2.2.1 67) g i (S + 1)) = true
                rw [ht, hm]; rfl
              · have hm : spMore w σ.2.2.1 P S (σ.2.2.1 66) (σ.2.2.1 67) g i (S + 1) = true := by
                  cases e : spMore w σ.2.2.1 P S (σ.2.2.1 66) (σ.2.2.1 67) g i (S + 1) with
                  | true => rfl
                  | false => rw [e] at c3; exact absurd rfl c3
                have := F (i + 1) (by show (spRest w σ.2.2.1 P S (σ.2.2.1 66) (σ.2.2.1 67) g i && !spMore w σ.2.2.1 P S (σ.2.2.1 66) (σ.2.2.1 67) g i (S + 1)) = false; rw [hm, Bool.not_true, Bool.and_false]) m
                rw [show i + 1 + m = g by omega] at this
                refine gx_iconst (pc := 100) (v := 0) dX10_isRest_100 (by decide) ?_
                exact m_retz (pc := 101) rfl (by decide) dX10_isRest_101 (⟨by rw [this]; rfl, σ.2.2.1 67, by rw [setJ_self]; exact h4⟩)
            · exact absurd (nI_lt (by omega) (by omega)) c2
          | succ m2 ih2 =>
            intro c hcc σ3 y h3
            have q : ∀ j, j ≠ 67 → (j < 31 ∨ 40 < j) → σ3.2.2.1 j = σ.2.2.1 j := fun j h0 h1 => by rw [h3.A h1, mSA_A, setJ_ne h0]
            have hT3 : mT σ3.2.2.1 P S E w := h3.T (by rw [mSA_A]; exact hT.J (by omega) _)
            have K82 : ∀ σ4 y r, r = zi (spMore w σ.2.2.1 P S (σ.2.2.1 66) (σ.2.2.1 67) g i (c + 1)) → wS (mSA σ (setJ σ.2.2.1 67 (upd (σ.2.2.1 67) i y))) σ4 → gxV G mX10_isRest d 0 0 82 [some (.ref b), some (.int (nI i)), some (.int (σ.2.2.1 67 i)), some (.int (spHas w σ.2.2.1 P (σ.2.2.1 67) g i)), some (.int r), some (.int (nI c))] [] (mput h b σ4) (mQi h b (fun r σ' => r = zi (spRest w σ.2.2.1 P S (σ.2.2.1 66) (σ.2.2.1 67) g g) ∧ ∃ τ, wS (mSA σ (setJ σ.2.2.1 67 τ)) σ')) := by
              intro σ4 y r hr h4
              subst hr
              refine gx_iincc (pc := 82) (c := 1) dX10_isRest_82 rfl (by decide) (by decide) rfl ?_
              refine gx_goto (pc := 85) 29 dX10_isRest_85 (by decide) ?_
              rw [nI_1]
              exact ih2 (c + 1) (by omega) σ4 y h4
            refine gx_iload (pc := 29) dX10_isRest_29 rfl ?_
            refine gx_aload_n (pc := 31) dX10_isRest_31 rfl ?_
            refine m_getA (pc := 32) rfl fX10_13 rfl (by decide) dX10_isRest_32 ?_
            refine gx_iconst (pc := 35) (v := 1) dX10_isRest_35 (by decide) ?_
            refine m_iald (pc := 36) 10 (1) 8 rfl (by decide) rfl (by first | rfl | simp only [gx_lit, nI_add, pk_mul]) (by omega) (by decide) dX10_isRest_36 ?_
            rw [q 10 (by decide) (by omega), hS]
            refine gx_icmp_gt (pc := 37) 88 dX10_isRest_37 (by decide) (fun c2 => ?_) (fun c2 => ?_)
            · exact absurd c2 (nI_nlt (by omega) (by omega))
            · refine gx_aload_n (pc := 40) dX10_isRest_40 rfl ?_
              refine gx_iload_n (pc := 41) dX10_isRest_41 rfl ?_
              refine gx_iload (pc := 42) dX10_isRest_42 rfl ?_
              refine kX10_537 (pc := 44) rfl (c_may (d := d - 1) hT3 i c (by omega) (by omega)) (by omega) (Nat.le_of_ble_eq_true rfl) dX10_isRest_44 (fun r1 σ4 e4 => ?_)
              obtain ⟨rfl, hσ⟩ := e4
              subst σ4
              have hmay : spMay σ3.2.2.1 S (σ3.2.2.1 66 i) c = spMay σ.2.2.1 S (σ.2.2.1 66 i) c := by
                unfold spMay; rw [q 66 (by decide) (by omega), q 50 (by decide) (by omega)]
              rw [hmay]
              refine gx_if_ne (pc := 47) 53 dX10_isRest_47 (by decide) (fun c3 => ?_) (fun c3 => ?_)
              · have hm : spMay σ.2.2.1 S (σ.2.2.1 66 i) c = true := by
                  cases e : spMay σ.2.2.1 S (σ.2.2.1 66 i) c with
                  | true => rfl
                  | false => rw [e] at c3; exact absurd rfl c3
                refine gx_aload_n (pc := 53) dX10_isRest_53 rfl ?_
                refine m_getA (pc := 54) rfl fX10_172 rfl (by decide) dX10_isRest_54 ?_
                refine gx_iload_n (pc := 57) dX10_isRest_57 rfl ?_
                refine gx_iload (pc := 58) dX10_isRest_58 rfl ?_
                refine m_iast (pc := 60) hb 67 (i) 3 rfl (by decide) rfl (by first | rfl | simp only [gx_lit, nI_add, pk_mul]) (by omega) (by decide) dX10_isRest_60 ?_
                have h4 : wS (mSA σ (setJ σ.2.2.1 67 (upd (σ.2.2.1 67) i (nI c)))) (mA σ3 67 i (nI c)) := by
                  obtain ⟨A', hA, e⟩ := h3
                  have e5 : mA σ3 67 i (nI c) = mSA (mSA σ (setJ σ.2.2.1 67 (upd (σ.2.2.1 67) i (nI c)))) (setJ A' 67 (upd (σ.2.2.1 67) i (nI c))) := by
                    rw [e, mA_eq, mSA_A, mSA_mSA, mSA_mSA, mSA_mSA, upA_setJ, hA 67 (by omega), mSA_A, setJ_j, upd_upd]
                  rw [e5]
                  refine ⟨_, ?_, rfl⟩
                  have := hA.J 67 (upd (σ.2.2.1 67) i (nI c))
                  rw [mSA_A, setJ_setJ] at this
                  exact this
                generalize hσ4 : mA σ3 67 i (nI c) = σ4 at *
                have q4 : ∀ j, j ≠ 67 → (j < 31 ∨ 40 < j) → σ4.2.2.1 j = σ.2.2.1 j := fun j h0 h1 => by rw [h4.A h1, mSA_A, setJ_ne h0]
                have q67 : σ4.2.2.1 67 = upd (σ.2.2.1 67) i (nI c) := by rw [h4.A (by omega), mSA_A, setJ_j]
                have hmo : ∀ bb : Bool, bb = decide (spHas w σ.2.2.1 P (σ.2.2.1 67) g i < spHas w σ.2.2.1 P (upd (σ.2.2.1 67) i (nI c)) g i) → spMore w σ.2.2.1 P S (σ.2.2.1 66) (σ.2.2.1 67) g i (c + 1) = (spMore w σ.2.2.1 P S (σ.2.2.1 66) (σ.2.2.1 67) g i c || bb) := by
                  intro bb hbb
                  rw [hbb, spMore, hm]
                  rfl
                refine gx_iload (pc := 61) dX10_isRest_61 rfl ?_
                refine gx_if_ne (pc := 63) 75 dX10_isRest_63 (by decide) (fun c4 => ?_) (fun c4 => ?_)
                · have hmc : spMore w σ.2.2.1 P S (σ.2.2.1 66) (σ.2.2.1 67) g i c = true := by
                    cases e : spMore w σ.2.2.1 P S (σ.2.2.1 66) (σ.2.2.1 67) g i c with
                    | true => rfl
                    | false => rw [e] at c4; exact absurd rfl c4
                  refine gx_iconst (pc := 75) (v := 1) dX10_isRest_75 (by decide) ?_
                  refine gx_goto (pc := 76) 80 dX10_isRest_76 (by decide) ?_
                  refine gx_istore (pc := 80) dX10_isRest_80 (by decide) rfl ?_
                  refine K82 σ4 (nI c) _ ?_ h4
                  rw [hmo _ rfl, hmc]; rfl
                · have hmc : spMore w σ.2.2.1 P S (σ.2.2.1 66) (σ.2.2.1 67) g i c = false := by
                    cases e : spMore w σ.2.2.1 P S (σ.2.2.1 66) (σ.2.2.1 67) g i c with
                    | false => rfl
                    | true => rw [e] at c4; exact absurd c4 (by decide)
                  have hx4 : σ4.1 68 = nI g := by rw [h4.x]; exact hgx
                  have hch4 : chOk (σ4.2.2.1 67) S g := by
                    rw [q67]
                    intro k hk
                    by_cases hki : k = i
                    · subst hki
                      exact ⟨c, by omega, by simp [upd]⟩
                    · obtain ⟨c', h1', h2'⟩ := hc k hk
                      exact ⟨c', h1', by simp [upd, hki, h2']⟩
                  refine gx_aload_n (pc := 66) dX10_isRest_66 rfl ?_
                  refine gx_iload_n (pc := 67) dX10_isRest_67 rfl ?_
                  refine kX10_534 (pc := 68) rfl (c_hasBy (d := d - 1) hb (by omega) (h4.T (by rw [mSA_A]; exact hT.J (by omega) _)) g i hg hx4 (by omega) hch4) (by omega) (Nat.le_of_ble_eq_true rfl) dX10_isRest_68 (fun r1 σ5 e5 => ?_)
                  obtain ⟨rfl, h5⟩ := e5
                  have hhas4 : spHas w σ4.2.2.1 P (σ4.2.2.1 67) g i = spHas w σ.2.2.1 P (upd (σ.2.2.1 67) i (nI c)) g i := by
                    rw [q67]
                    exact spHas_congr (q4 13 (by decide) (by omega)) (q4 17 (by decide) (by omega)) (q4 18 (by decide) (by omega)) (q4 19 (by decide) (by omega)) (q4 50 (by decide) (by omega)) w P _ g i
                  rw [hhas4]
                  refine gx_iload_n (pc := 71) dX10_isRest_71 rfl ?_
                  refine gx_icmp_le (pc := 72) 79 dX10_isRest_72 (by decide) (fun c5 => ?_) (fun c5 => ?_)
                  · refine gx_iconst (pc := 79) (v := 0) dX10_isRest_79 (by decide) ?_
                    refine gx_istore (pc := 80) dX10_isRest_80 (by decide) rfl ?_
                    refine K82 σ5 (nI c) _ ?_ (h4.tr h5)
                    rw [hmo _ rfl, hmc, decide_eq_false (Int32.not_lt.mpr c5)]; rfl
                  · refine gx_iconst (pc := 75) (v := 1) dX10_isRest_75 (by decide) ?_
                    refine gx_goto (pc := 76) 80 dX10_isRest_76 (by decide) ?_
                    refine gx_istore (pc := 80) dX10_isRest_80 (by decide) rfl ?_
                    refine K82 σ5 (nI c) _ ?_ (h4.tr h5)
                    rw [hmo _ rfl, hmc, decide_eq_true (Int32.not_le.mp c5)]; rfl
              · have hm : spMay σ.2.2.1 S (σ.2.2.1 66 i) c = false := by
                  cases e : spMay σ.2.2.1 S (σ.2.2.1 66 i) c with
                  | false => rfl
                  | true => rw [e] at c3; exact absurd c3 (by decide)
                refine gx_goto (pc := 50) 82 dX10_isRest_50 (by decide) ?_
                refine K82 σ3 y _ ?_ h3
                rw [spMore, hm, Bool.false_and, Bool.or_false]
        refine L2 (S + 1) 0 (by omega) σ2 (σ.2.2.1 67 i) ?_
        rw [upd_self, setJ_self]
        exact h12
  refine gx_iconst (pc := 0) (v := 0) dX10_isRest_0 (by decide) ?_
  refine gx_istore_n (pc := 1) dX10_isRest_1 (by decide) rfl ?_
  exact L g 0 (by omega) rfl σ _ _ _ _ wS.rf
end MQ
