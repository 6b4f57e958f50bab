/-! ===== MODEL I: gossip judged, the least to pay by ===== -/
set_option maxRecDepth 100000
/-- scratch: arrays that no later call reads before it writes them -/
def scr (j : Nat) : Bool := decide (29 ≤ j ∧ j ≤ 40) || decide (j = 51) || decide (56 ≤ j ∧ j ≤ 59) || decide (62 ≤ j ∧ j ≤ 67)
/-- alike but for scratch -/
def sE (σ σ' : mS) : Prop := σ'.1 = σ.1 ∧ σ'.2.1 = σ.2.1 ∧ σ'.2.2.2 = σ.2.2.2 ∧ ∀ j, scr j = false → σ'.2.2.1 j = σ.2.2.1 j
theorem sE.rf {σ : mS} : sE σ σ := ⟨rfl, rfl, rfl, fun _ _ => rfl⟩
theorem sE.tr {σ σ' σ'' : mS} (h : sE σ σ') (g : sE σ' σ'') : sE σ σ'' := ⟨g.1.trans h.1, g.2.1.trans h.2.1, g.2.2.1.trans h.2.2.1, fun j hj => (g.2.2.2 j hj).trans (h.2.2.2 j hj)⟩
theorem wS.sE {σ σ' : mS} (h : wS σ σ') : sE σ σ' := by
  obtain ⟨A', hA, rfl⟩ := h
  refine ⟨rfl, rfl, rfl, fun j hj => hA j ?_⟩
  simp only [scr, Bool.or_eq_false_iff, decide_eq_false_iff_not] at hj
  omega
def spAll (S : Nat) : Int32 := (1 <<< (nI S &&& 31)) - 1
theorem spAll_eq : ∀ S, S < 11 → spAll S = nI (2 ^ S - 1) := by decide +kernel
def spFsum (s : Nat → Int32) : Nat → Int32
  | 0 => 0
  | p + 1 => spFsum s p + s (79 + p)
/-- the row with which a town's talk begins -/
def spFresh (A : Nat → Nat → Int32) (P S : Nat) : Nat → Int32 := fun k => if 123 ≤ k then A 50 k else if k < S then A 20 k else if 70 ≤ k ∧ k < 70 + P then A 14 (k - 70) else 0
/-- a line of gossip that was read for this town -/
def lnOk (A : Nat → Nat → Int32) (P S k : Nat) : Prop :=
  (A 43 k = 0 ∧ ∃ p q c, p < P ∧ q < P ∧ c < S ∧ p ≠ q ∧ A 44 k = nI p ∧ A 45 k = nI q ∧ A 46 k = nI c) ∨
  (A 43 k = 1 ∧ ∃ p, p < P ∧ A 44 k = nI p) ∨ (A 43 k = 2 ∧ ∃ p, p < P ∧ A 44 k = nI p) ∨ A 43 k = 3
def spGo (w : Option gxEv) (A : Nat → Nat → Int32) (P S k : Nat) : Bool × (Nat → Int32) :=
  if A 43 k = 0 then (if spCan A (A 44 k).toNatClampNeg (A 45 k).toNatClampNeg (A 46 k).toNatClampNeg then (true, spTell A (A 44 k).toNatClampNeg (A 45 k).toNatClampNeg (A 46 k).toNatClampNeg) else (false, A 50))
  else if A 43 k = 1 then (if spCanPay w A P S (A 44 k).toNatClampNeg (A 46 k) then (true, spPay (A 50) (A 44 k).toNatClampNeg (A 46 k)) else (false, A 50))
  else if A 43 k = 3 then (true, spPass A P)
  else if A 50 (70 + (A 44 k).toNatClampNeg) < 9 then (true, upd (A 50) (70 + (A 44 k).toNatClampNeg) (A 50 (70 + (A 44 k).toNatClampNeg) + 1)) else (false, A 50)
def spJ (w : Option gxEv) (A : Nat → Nat → Int32) (P S : Nat) : Nat → Int32 × (Nat → Int32)
  | 0 => (-1, spFresh A P S)
  | k + 1 => (if (spGo w (setS A (spJ w A P S k).2) P S k).1 = false ∧ (spJ w A P S k).1 < 0 then nI k else (spJ w A P S k).1, (spGo w (setS A (spJ w A P S k).2) P S k).2)
section MI
variable {G : gxG} {d : Nat} {h : gxH} {b : Nat} {σ : mS} {P S E : Nat} {w : Option gxEv}
theorem c_allSecrets (hT : mT σ.2.2.1 P S E w) : mMi G mX10_allSecrets d [.ref b] h b σ (fun r σ' => r = spAll S ∧ σ' = σ) := by
  refine gxM_of rfl (Nat.le_of_ble_eq_true rfl) rfl ?_
  refine gx_iconst (pc := 0) (v := 1) dX10_allSecrets_0 (by decide) ?_
  refine gx_aload_n (pc := 1) dX10_allSecrets_1 rfl ?_
  refine m_getA (pc := 2) rfl fX10_13 rfl (by decide) dX10_allSecrets_2 ?_
  refine gx_iconst (pc := 5) (v := 1) dX10_allSecrets_5 (by decide) ?_
  refine m_iald (pc := 6) 10 (1) 8 rfl (by decide) rfl (by first | rfl | simp only [gx_lit, nI_add, pk_mul]) (by omega) (by decide) dX10_allSecrets_6 ?_
  refine gx_ishl (pc := 7) dX10_allSecrets_7 ?_
  refine gx_iconst (pc := 8) (v := 1) dX10_allSecrets_8 (by decide) ?_
  refine gx_isub (pc := 9) dX10_allSecrets_9 ?_
  exact m_ret (pc := 10) rfl dX10_allSecrets_10 (⟨by rw [hT.2.2.1]; rfl, rfl⟩)
theorem c_finesOfAll : mMi G mX10_finesOfAll d [.ref b] h b σ (fun r σ' => r = spFsum (σ.2.2.1 50) 6 ∧ σ' = σ) := by
  refine gxM_of rfl (Nat.le_of_ble_eq_true rfl) rfl ?_
  refine gx_iconst (pc := 0) (v := 0) dX10_finesOfAll_0 (by decide) ?_
  refine gx_istore_n (pc := 1) dX10_finesOfAll_1 (by decide) rfl ?_
  refine gx_iconst (pc := 2) (v := 0) dX10_finesOfAll_2 (by decide) ?_
  refine gx_istore_n (pc := 3) dX10_finesOfAll_3 (by decide) rfl ?_
  have L : ∀ n k, n + k = 6 → gxV G mX10_finesOfAll d 0 0 4 [some (.ref b), some (.int (spFsum (σ.2.2.1 50) k)), some (.int (nI k))] [] (mput h b σ) (mQi h b (fun r σ' => r = spFsum (σ.2.2.1 50) 6 ∧ σ' = σ)) := by
    intro n
    induction n with
    | zero =>
      intro k hk
      refine gx_iload_n (pc := 4) dX10_finesOfAll_4 rfl ?_
      refine gx_bipush (pc := 5) (v := 6) dX10_finesOfAll_5 (by decide) ?_
      refine gx_icmp_ge (pc := 7) 28 dX10_finesOfAll_7 (by decide) (fun c1 => ?_) (fun c1 => ?_)
      · refine gx_iload_n (pc := 28) dX10_finesOfAll_28 rfl ?_
        exact m_ret (pc := 29) rfl dX10_finesOfAll_29 (⟨by rw [show k = 6 by omega], rfl⟩)
      · exact absurd (nI_le (a := 6) (b := k) (by omega) (by omega)) c1
    | succ n ih =>
      intro k hk
      refine gx_iload_n (pc := 4) dX10_finesOfAll_4 rfl ?_
      refine gx_bipush (pc := 5) (v := 6) dX10_finesOfAll_5 (by decide) ?_
      refine gx_icmp_ge (pc := 7) 28 dX10_finesOfAll_7 (by decide) (fun c1 => ?_) (fun c1 => ?_)
      · exact absurd c1 (nI_ge (a := k) (b := 6) (by omega) (by omega))
      · refine gx_iload_n (pc := 10) dX10_finesOfAll_10 rfl ?_
        refine gx_aload_n (pc := 11) dX10_finesOfAll_11 rfl ?_
        refine m_getA (pc := 12) rfl fX10_129 rfl (by decide) dX10_finesOfAll_12 ?_
        refine gx_bipush (pc := 15) (v := 79) dX10_finesOfAll_15 (by decide) ?_
        refine gx_iload_n (pc := 17) dX10_finesOfAll_17 rfl ?_
        refine gx_iadd (pc := 18) dX10_finesOfAll_18 ?_
        refine m_iald (pc := 19) 50 ((79 + k)) 123 rfl (by decide) rfl (by first | rfl | simp only [gx_lit, nI_add, pk_mul]) (by omega) (by decide) dX10_finesOfAll_19 ?_
        refine gx_iadd (pc := 20) dX10_finesOfAll_20 ?_
        refine gx_istore_n (pc := 21) dX10_finesOfAll_21 (by decide) rfl ?_
        refine gx_iincc (pc := 22) (c := 1) dX10_finesOfAll_22 rfl (by decide) (by decide) rfl ?_
        refine gx_goto (pc := 25) 4 dX10_finesOfAll_25 (by decide) ?_
        rw [nI_1]
        exact ih (k + 1) (by omega)
  exact L 6 0 (by omega)
theorem c_fresh (hb : gxN G ≤ b) (hT : mT σ.2.2.1 P S E w) : mMv G mX10_fresh d [.ref b] h b σ (fun σ' => σ' = mRow σ (spFresh σ.2.2.1 P S)) := by
  have hP := hT.1
  have hP6 := hT.2.1
  have hS := hT.2.2.1
  have hS10 := hT.2.2.2.1
  refine gxM_of rfl (Nat.le_of_ble_eq_true rfl) rfl ?_
  have L3 : ∀ n k, n + k = P → gxV G mX10_fresh d 0 0 53 [some (.ref b), some (.int (nI k))] [] (mput h b (mRow σ (fun q => if 123 ≤ q then σ.2.2.1 50 q else if q < S then σ.2.2.1 20 q else if 70 ≤ q ∧ q < 70 + k then σ.2.2.1 14 (q - 70) else 0))) (mQv h b (fun σ' => σ' = mRow σ (spFresh σ.2.2.1 P S))) := by
    intro n
    induction n with
    | zero =>
      intro k hk
      refine gx_iload_n (pc := 53) dX10_fresh_53 rfl ?_
      refine gx_aload_n (pc := 54) dX10_fresh_54 rfl ?_
      refine m_getA (pc := 55) rfl fX10_13 rfl (by decide) dX10_fresh_55 ?_
      refine gx_iconst (pc := 58) (v := 0) dX10_fresh_58 (by decide) ?_
      refine m_iald (pc := 59) 10 (0) 8 rfl (by decide) rfl (by first | rfl | simp only [gx_lit, nI_add, pk_mul]) (by omega) (by decide) dX10_fresh_59 ?_
      rw [mRow_A (by decide)]
      refine gx_icmp_ge (pc := 60) 84 dX10_fresh_60 (by decide) (fun c1 => ?_) (fun c1 => ?_)
      · exact m_retv (pc := 84) rfl dX10_fresh_84 (by rw [show k = P by omega]; rfl)
      · exact absurd (by rw [hP]; exact nI_le (by omega) (by omega)) c1
    | succ n ih =>
      intro k hk
      refine gx_iload_n (pc := 53) dX10_fresh_53 rfl ?_
      refine gx_aload_n (pc := 54) dX10_fresh_54 rfl ?_
      refine m_getA (pc := 55) rfl fX10_13 rfl (by decide) dX10_fresh_55 ?_
      refine gx_iconst (pc := 58) (v := 0) dX10_fresh_58 (by decide) ?_
      refine m_iald (pc := 59) 10 (0) 8 rfl (by decide) rfl (by first | rfl | simp only [gx_lit, nI_add, pk_mul]) (by omega) (by decide) dX10_fresh_59 ?_
      rw [mRow_A (by decide)]
      refine gx_icmp_ge (pc := 60) 84 dX10_fresh_60 (by decide) (fun c1 => ?_) (fun c1 => ?_)
      · exact absurd c1 (by rw [hP]; exact nI_ge (by omega) (by omega))
      · refine gx_aload_n (pc := 63) dX10_fresh_63 rfl ?_
        refine m_getA (pc := 64) rfl fX10_129 rfl (by decide) dX10_fresh_64 ?_
        refine gx_bipush (pc := 67) (v := 70) dX10_fresh_67 (by decide) ?_
        refine gx_iload_n (pc := 69) dX10_fresh_69 rfl ?_
        refine gx_iadd (pc := 70) dX10_fresh_70 ?_
        refine gx_aload_n (pc := 71) dX10_fresh_71 rfl ?_
        refine m_getA (pc := 72) rfl fX10_26 rfl (by decide) dX10_fresh_72 ?_
        refine gx_iload_n (pc := 75) dX10_fresh_75 rfl ?_
        refine m_iald (pc := 76) 14 (k) 12 rfl (by decide) rfl (by first | rfl | simp only [gx_lit, nI_add, pk_mul]) (by omega) (by decide) dX10_fresh_76 ?_
        refine m_iast (pc := 77) hb 50 ((70 + k)) 123 rfl (by decide) rfl (by first | rfl | simp only [gx_lit, nI_add, pk_mul]) (by omega) (by decide) dX10_fresh_77 ?_
        refine gx_iincc (pc := 78) (c := 1) dX10_fresh_78 rfl (by decide) (by decide) rfl ?_
        refine gx_goto (pc := 81) 53 dX10_fresh_81 (by decide) ?_
        rw [nI_1, mRow_A (by decide)]
        have e : ∀ v, mA (mRow σ (fun q => if 123 ≤ q then σ.2.2.1 50 q else if q < S then σ.2.2.1 20 q else if 70 ≤ q ∧ q < 70 + k then σ.2.2.1 14 (q - 70) else 0)) 50 (70 + k) v = mRow σ (upd (fun q => if 123 ≤ q then σ.2.2.1 50 q else if q < S then σ.2.2.1 20 q else if 70 ≤ q ∧ q < 70 + k then σ.2.2.1 14 (q - 70) else 0) (70 + k) v) := by
          intro v
          rw [mA_eq, setS_up0, mRow_50]
          simp only [mRow, mSA_A, mSA_mSA, setS_setS]
        rw [e]
        have e2 : upd (fun q => if 123 ≤ q then σ.2.2.1 50 q else if q < S then σ.2.2.1 20 q else if 70 ≤ q ∧ q < 70 + k then σ.2.2.1 14 (q - 70) else 0) (70 + k) (σ.2.2.1 14 k) = fun q => if 123 ≤ q then σ.2.2.1 50 q else if q < S then σ.2.2.1 20 q else if 70 ≤ q ∧ q < 70 + (k + 1) then σ.2.2.1 14 (q - 70) else 0 := by
          funext q
          by_cases hq : q = 70 + k
          · subst hq
            simp only [upd]
            rw [if_pos trivial, if_neg (by omega), if_neg (by omega), if_pos (by omega), show 70 + k - 70 = k by omega]
          · simp only [upd]
            rw [if_neg hq]
            by_cases h1 : 123 ≤ q
            · rw [if_pos h1, if_pos h1]
            · rw [if_neg h1, if_neg h1]
              by_cases h2 : q < S
              · rw [if_pos h2, if_pos h2]
              · rw [if_neg h2, if_neg h2]
                by_cases h3 : 70 ≤ q ∧ q < 70 + k
                · rw [if_pos h3, if_pos (by omega)]
                · rw [if_neg h3, if_neg (by omega)]
        rw [e2]
        exact ih (k + 1) (by omega)
  have L2 : ∀ n k, n + k = S → gxV G mX10_fresh d 0 0 23 [some (.ref b), some (.int (nI k))] [] (mput h b (mRow σ (fun q => if 123 ≤ q then σ.2.2.1 50 q else if q < k then σ.2.2.1 20 q else 0))) (mQv h b (fun σ' => σ' = mRow σ (spFresh σ.2.2.1 P S))) := by
    intro n
    induction n with
    | zero =>
      intro k hk
      refine gx_iload_n (pc := 23) dX10_fresh_23 rfl ?_
      refine gx_aload_n (pc := 24) dX10_fresh_24 rfl ?_
      refine m_getA (pc := 25) rfl fX10_13 rfl (by decide) dX10_fresh_25 ?_
      refine gx_iconst (pc := 28) (v := 1) dX10_fresh_28 (by decide) ?_
      refine m_iald (pc := 29) 10 (1) 8 rfl (by decide) rfl (by first | rfl | simp only [gx_lit, nI_add, pk_mul]) (by omega) (by decide) dX10_fresh_29 ?_
      rw [mRow_A (by decide)]
      refine gx_icmp_ge (pc := 30) 51 dX10_fresh_30 (by decide) (fun c1 => ?_) (fun c1 => ?_)
      · refine gx_iconst (pc := 51) (v := 0) dX10_fresh_51 (by decide) ?_
        refine gx_istore_n (pc := 52) dX10_fresh_52 (by decide) rfl ?_
        have L30 := L3 P 0 (by omega)
        have e : (fun q => if 123 ≤ q then σ.2.2.1 50 q else if q < k then σ.2.2.1 20 q else (0 : Int32)) = fun q => if 123 ≤ q then σ.2.2.1 50 q else if q < S then σ.2.2.1 20 q else if 70 ≤ q ∧ q < 70 + 0 then σ.2.2.1 14 (q - 70) else 0 := by
          funext q
          rw [show k = S by omega, if_neg (show ¬ (70 ≤ q ∧ q < 70 + 0) by omega)]
        rw [e]
        exact L30
      · exact absurd (by rw [hS]; exact nI_le (by omega) (by omega)) c1
    | succ n ih =>
      intro k hk
      refine gx_iload_n (pc := 23) dX10_fresh_23 rfl ?_
      refine gx_aload_n (pc := 24) dX10_fresh_24 rfl ?_
      refine m_getA (pc := 25) rfl fX10_13 rfl (by decide) dX10_fresh_25 ?_
      refine gx_iconst (pc := 28) (v := 1) dX10_fresh_28 (by decide) ?_
      refine m_iald (pc := 29) 10 (1) 8 rfl (by decide) rfl (by first | rfl | simp only [gx_lit, nI_add, pk_mul]) (by omega) (by decide) dX10_fresh_29 ?_
      rw [mRow_A (by decide)]
      refine gx_icmp_ge (pc := 30) 51 dX10_fresh_30 (by decide) (fun c1 => ?_) (fun c1 => ?_)
      · exact absurd c1 (by rw [hS]; exact nI_ge (by omega) (by omega))
      · refine gx_aload_n (pc := 33) dX10_fresh_33 rfl ?_
        refine m_getA (pc := 34) rfl fX10_129 rfl (by decide) dX10_fresh_34 ?_
        refine gx_iload_n (pc := 37) dX10_fresh_37 rfl ?_
        refine gx_aload_n (pc := 38) dX10_fresh_38 rfl ?_
        refine m_getA (pc := 39) rfl fX10_44 rfl (by decide) dX10_fresh_39 ?_
        refine gx_iload_n (pc := 42) dX10_fresh_42 rfl ?_
        refine m_iald (pc := 43) 20 (k) 20 rfl (by decide) rfl (by first | rfl | simp only [gx_lit, nI_add, pk_mul]) (by omega) (by decide) dX10_fresh_43 ?_
        refine m_iast (pc := 44) hb 50 (k) 123 rfl (by decide) rfl (by first | rfl | simp only [gx_lit, nI_add, pk_mul]) (by omega) (by decide) dX10_fresh_44 ?_
        refine gx_iincc (pc := 45) (c := 1) dX10_fresh_45 rfl (by decide) (by decide) rfl ?_
        refine gx_goto (pc := 48) 23 dX10_fresh_48 (by decide) ?_
        rw [nI_1, mRow_A (by decide)]
        have e : ∀ v, mA (mRow σ (fun q => if 123 ≤ q then σ.2.2.1 50 q else if q < k then σ.2.2.1 20 q else 0)) 50 k v = mRow σ (upd (fun q => if 123 ≤ q then σ.2.2.1 50 q else if q < k then σ.2.2.1 20 q else 0) k v) := by
          intro v
          rw [mA_eq, setS_up0, mRow_50]
          simp only [mRow, mSA_A, mSA_mSA, setS_setS]
        rw [e]
        have e2 : upd (fun q => if 123 ≤ q then σ.2.2.1 50 q else if q < k then σ.2.2.1 20 q else 0) k (σ.2.2.1 20 k) = fun q => if 123 ≤ q then σ.2.2.1 50 q else if q < k + 1 then σ.2.2.1 20 q else 0 := by
          funext q
          by_cases hq : q = k
          · subst hq
            simp only [upd]
            rw [if_pos trivial, if_neg (by omega), if_pos (by omega)]
          · simp only [upd]
            rw [if_neg hq]
            by_cases h1 : 123 ≤ q
            · rw [if_pos h1, if_pos h1]
            · rw [if_neg h1, if_neg h1]
              by_cases h2 : q < k
              · rw [if_pos h2, if_pos (by omega)]
              · rw [if_neg h2, if_neg (by omega)]
        rw [e2]
        exact ih (k + 1) (by omega)
  have L1 : ∀ n k, n + k = 123 → gxV G mX10_fresh d 0 0 2 [some (.ref b), some (.int (nI k))] [] (mput h b (mRow σ (fun q => if k ≤ q then σ.2.2.1 50 q else 0))) (mQv h b (fun σ' => σ' = mRow σ (spFresh σ.2.2.1 P S))) := by
    intro n
    induction n with
    | zero =>
      intro k hk
      refine gx_iload_n (pc := 2) dX10_fresh_2 rfl ?_
      refine gx_bipush (pc := 3) (v := 123) dX10_fresh_3 (by decide) ?_
      refine gx_icmp_ge (pc := 5) 21 dX10_fresh_5 (by decide) (fun c1 => ?_) (fun c1 => ?_)
      · refine gx_iconst (pc := 21) (v := 0) dX10_fresh_21 (by decide) ?_
        refine gx_istore_n (pc := 22) dX10_fresh_22 (by decide) rfl ?_
        have L20 := L2 S 0 (by omega)
        have e : (fun q => if k ≤ q then σ.2.2.1 50 q else (0 : Int32)) = fun q => if 123 ≤ q then σ.2.2.1 50 q else if q < 0 then σ.2.2.1 20 q else 0 := by
          funext q
          rw [show k = 123 by omega, if_neg (show ¬ q < 0 by omega)]
        rw [e]
        exact L20
      · exact absurd (nI_le (a := 123) (b := k) (by omega) (by omega)) c1
    | succ n ih =>
      intro k hk
      refine gx_iload_n (pc := 2) dX10_fresh_2 rfl ?_
      refine gx_bipush (pc := 3) (v := 123) dX10_fresh_3 (by decide) ?_
      refine gx_icmp_ge (pc := 5) 21 dX10_fresh_5 (by decide) (fun c1 => ?_) (fun c1 => ?_)
      · exact absurd c1 (nI_ge (a := k) (b := 123) (by omega) (by omega))
      · refine gx_aload_n (pc := 8) dX10_fresh_8 rfl ?_
        refine m_getA (pc := 9) rfl fX10_129 rfl (by decide) dX10_fresh_9 ?_
        refine gx_iload_n (pc := 12) dX10_fresh_12 rfl ?_
        refine gx_iconst (pc := 13) (v := 0) dX10_fresh_13 (by decide) ?_
        refine m_iast (pc := 14) hb 50 (k) 123 rfl (by decide) rfl (by first | rfl | simp only [gx_lit, nI_add, pk_mul]) (by omega) (by decide) dX10_fresh_14 ?_
        refine gx_iincc (pc := 15) (c := 1) dX10_fresh_15 rfl (by decide) (by decide) rfl ?_
        refine gx_goto (pc := 18) 2 dX10_fresh_18 (by decide) ?_
        rw [nI_1]
        have e : mA (mRow σ (fun q => if k ≤ q then σ.2.2.1 50 q else 0)) 50 k 0 = mRow σ (upd (fun q => if k ≤ q then σ.2.2.1 50 q else 0) k 0) := by
          rw [mA_eq, setS_up0, mRow_50]
          simp only [mRow, mSA_A, mSA_mSA, setS_setS]
        rw [e]
        have e2 : upd (fun q => if k ≤ q then σ.2.2.1 50 q else (0 : Int32)) k 0 = fun q => if k + 1 ≤ q then σ.2.2.1 50 q else 0 := by
          funext q
          by_cases hq : q = k
          · subst hq
            simp only [upd]
            rw [if_pos trivial, if_neg (by omega)]
          · simp only [upd]
            rw [if_neg hq]
            by_cases h2 : k ≤ q
            · rw [if_pos h2, if_pos (by omega)]
            · rw [if_neg h2, if_neg (by omega)]
        rw [e2]
        exact ih (k + 1) (by omega)
  refine gx_iconst (pc := 0) (v := 0) dX10_fresh_0 (by decide) ?_
  refine gx_istore_n (pc := 1) dX10_fresh_1 (by decide) rfl ?_
  have L0 := L1 123 0 (by omega)
  have e : mRow σ (fun q => if 0 ≤ q then σ.2.2.1 50 q else 0) = σ := by
    have : (fun q => if 0 ≤ q then σ.2.2.1 50 q else (0 : Int32)) = σ.2.2.1 50 := by
      funext q
      rw [if_pos (by omega)]
    rw [this, mRow, setS_J, setJ_self]; rfl
  rw [e] at L0
  exact L0
theorem c_goes (hb : gxN G ≤ b) (hd : 17 ≤ d) (hT : mT σ.2.2.1 P S E w) (k : Nat) (hk : k < 30) (hl : lnOk σ.2.2.1 P S k) : mMi G mX10_goes d [.ref b, .int (nI k)] h b σ (fun r σ' => r = zi (spGo w σ.2.2.1 P S k).1 ∧ wS (mRow σ (spGo w σ.2.2.1 P S k).2) σ') := by
  have hP := hT.2.1
  have hS := hT.2.2.2.1
  have hrow : mRow σ (σ.2.2.1 50) = σ := by rw [mRow, setS_J, setJ_self]; rfl
  refine gxM_of rfl (Nat.le_of_ble_eq_true rfl) rfl ?_
  refine gx_aload_n (pc := 0) dX10_goes_0 rfl ?_
  refine m_getA (pc := 1) rfl fX10_108 rfl (by decide) dX10_goes_1 ?_
  refine gx_iload_n (pc := 4) dX10_goes_4 rfl ?_
  refine m_iald (pc := 5) 43 (k) 180 rfl (by decide) rfl (by first | rfl | simp only [gx_lit, nI_add, pk_mul]) (by omega) (by decide) dX10_goes_5 ?_
  refine gx_istore_n (pc := 6) dX10_goes_6 (by decide) rfl ?_
  refine gx_aload_n (pc := 7) dX10_goes_7 rfl ?_
  refine m_getA (pc := 8) rfl fX10_111 rfl (by decide) dX10_goes_8 ?_
  refine gx_iload_n (pc := 11) dX10_goes_11 rfl ?_
  refine m_iald (pc := 12) 44 (k) 180 rfl (by decide) rfl (by first | rfl | simp only [gx_lit, nI_add, pk_mul]) (by omega) (by decide) dX10_goes_12 ?_
  refine gx_istore_n (pc := 13) dX10_goes_13 (by decide) rfl ?_
  rcases hl with ⟨e43, p, q, c, hp, hq, hc, hpq, e44, e45, e46⟩ | ⟨e43, p, hp, e44⟩ | ⟨e43, p, hp, e44⟩ | e43
  · have sg : spGo w σ.2.2.1 P S k = if spCan σ.2.2.1 p q c then (true, spTell σ.2.2.1 p q c) else (false, σ.2.2.1 50) := by
      unfold spGo
      rw [if_pos e43, e44, e45, e46, nI_clamp (by omega), nI_clamp (by omega), nI_clamp (by omega)]
    rw [e43, e44]
    refine gx_iload_n (pc := 14) dX10_goes_14 rfl ?_
    refine gx_if_ne (pc := 15) 38 dX10_goes_15 (by decide) (fun c1 => ?_) (fun c1 => ?_)
    · exact absurd rfl c1
    · refine gx_aload_n (pc := 18) dX10_goes_18 rfl ?_
      refine gx_iload_n (pc := 19) dX10_goes_19 rfl ?_
      refine gx_aload_n (pc := 20) dX10_goes_20 rfl ?_
      refine m_getA (pc := 21) rfl fX10_114 rfl (by decide) dX10_goes_21 ?_
      refine gx_iload_n (pc := 24) dX10_goes_24 rfl ?_
      refine m_iald (pc := 25) 45 (k) 180 rfl (by decide) rfl (by first | rfl | simp only [gx_lit, nI_add, pk_mul]) (by omega) (by decide) dX10_goes_25 ?_
      refine gx_aload_n (pc := 26) dX10_goes_26 rfl ?_
      refine m_getA (pc := 27) rfl fX10_117 rfl (by decide) dX10_goes_27 ?_
      refine gx_iload_n (pc := 30) dX10_goes_30 rfl ?_
      refine m_iald (pc := 31) 46 (k) 180 rfl (by decide) rfl (by first | rfl | simp only [gx_lit, nI_add, pk_mul]) (by omega) (by decide) dX10_goes_31 ?_
      rw [e45, e46]
      refine kX10_464 (pc := 32) rfl (c_canTell (d := d - 1) (by omega) p q c (by omega) (by omega)) (by omega) (Nat.le_of_ble_eq_true rfl) dX10_goes_32 (fun r1 σ1 e1 => ?_)
      refine gx_goto (pc := 35) 81 dX10_goes_35 (by decide) ?_
      refine gx_istore (pc := 81) dX10_goes_81 (by decide) rfl ?_
      refine gx_iload (pc := 83) dX10_goes_83 rfl ?_
      obtain ⟨rfl, hσ⟩ := e1
      subst σ1
      refine gx_if_ne (pc := 85) 90 dX10_goes_85 (by decide) (fun c2 => ?_) (fun c2 => ?_)
      · have hcan : spCan σ.2.2.1 p q c = true := by
          cases e : spCan σ.2.2.1 p q c with
          | true => rfl
          | false => rw [e] at c2; exact absurd rfl c2
        refine gx_iload_n (pc := 90) dX10_goes_90 rfl ?_
        refine gx_if_ne (pc := 91) 114 dX10_goes_91 (by decide) (fun c3 => ?_) (fun c3 => ?_)
        · exact absurd rfl c3
        · refine gx_aload_n (pc := 94) dX10_goes_94 rfl ?_
          refine gx_iload_n (pc := 95) dX10_goes_95 rfl ?_
          refine gx_aload_n (pc := 96) dX10_goes_96 rfl ?_
          refine m_getA (pc := 97) rfl fX10_114 rfl (by decide) dX10_goes_97 ?_
          refine gx_iload_n (pc := 100) dX10_goes_100 rfl ?_
          refine m_iald (pc := 101) 45 (k) 180 rfl (by decide) rfl (by first | rfl | simp only [gx_lit, nI_add, pk_mul]) (by omega) (by decide) dX10_goes_101 ?_
          refine gx_aload_n (pc := 102) dX10_goes_102 rfl ?_
          refine m_getA (pc := 103) rfl fX10_117 rfl (by decide) dX10_goes_103 ?_
          refine gx_iload_n (pc := 106) dX10_goes_106 rfl ?_
          refine m_iald (pc := 107) 46 (k) 180 rfl (by decide) rfl (by first | rfl | simp only [gx_lit, nI_add, pk_mul]) (by omega) (by decide) dX10_goes_107 ?_
          rw [e45, e46]
          refine kX10_470 (pc := 108) rfl (c_tells' (d := d - 1) hb p q c (by omega) (by omega) (by omega)) (by omega) (Nat.le_of_ble_eq_true rfl) dX10_goes_108 (fun σ1 e1 => ?_)
          refine gx_goto (pc := 111) 159 dX10_goes_111 (by decide) ?_
          refine gx_iconst (pc := 159) (v := 1) dX10_goes_159 (by decide) ?_
          subst e1
          exact m_retz (pc := 160) rfl (by decide) dX10_goes_160 (⟨by rw [sg, if_pos hcan]; rfl, by rw [sg, if_pos hcan]; exact wS.rf⟩)
      · have hcan : spCan σ.2.2.1 p q c = false := by
          cases e : spCan σ.2.2.1 p q c with
          | false => rfl
          | true => rw [e] at c2; exact absurd c2 (by decide)
        refine gx_iconst (pc := 88) (v := 0) dX10_goes_88 (by decide) ?_
        exact m_retz (pc := 89) rfl (by decide) dX10_goes_89 (⟨by rw [sg, hcan]; rfl, by rw [sg, hcan]; exact hrow.symm ▸ wS.rf⟩)
  · have sg : spGo w σ.2.2.1 P S k = if spCanPay w σ.2.2.1 P S p (σ.2.2.1 46 k) then (true, spPay (σ.2.2.1 50) p (σ.2.2.1 46 k)) else (false, σ.2.2.1 50) := by
      unfold spGo
      rw [e43, e44, nI_clamp (by omega)]
      rfl
    rw [e43, e44]
    refine gx_iload_n (pc := 14) dX10_goes_14 rfl ?_
    refine gx_if_ne (pc := 15) 38 dX10_goes_15 (by decide) (fun c1 => ?_) (fun c1 => ?_)
    · refine gx_iload_n (pc := 38) dX10_goes_38 rfl ?_
      refine gx_iconst (pc := 39) (v := 1) dX10_goes_39 (by decide) ?_
      refine gx_icmp_ne (pc := 40) 57 dX10_goes_40 (by decide) (fun c2 => ?_) (fun c2 => ?_)
      · exact absurd rfl c2
      · refine gx_aload_n (pc := 43) dX10_goes_43 rfl ?_
        refine gx_iload_n (pc := 44) dX10_goes_44 rfl ?_
        refine gx_aload_n (pc := 45) dX10_goes_45 rfl ?_
        refine m_getA (pc := 46) rfl fX10_117 rfl (by decide) dX10_goes_46 ?_
        refine gx_iload_n (pc := 49) dX10_goes_49 rfl ?_
        refine m_iald (pc := 50) 46 (k) 180 rfl (by decide) rfl (by first | rfl | simp only [gx_lit, nI_add, pk_mul]) (by omega) (by decide) dX10_goes_50 ?_
        refine kX10_474 (pc := 51) rfl (c_canPay (d := d - 1) hb (by omega) hT p (by omega) _) (by omega) (Nat.le_of_ble_eq_true rfl) dX10_goes_51 (fun r1 σ1 e1 => ?_)
        refine gx_goto (pc := 54) 81 dX10_goes_54 (by decide) ?_
        refine gx_istore (pc := 81) dX10_goes_81 (by decide) rfl ?_
        refine gx_iload (pc := 83) dX10_goes_83 rfl ?_
        obtain ⟨rfl, h1⟩ := e1
        refine gx_if_ne (pc := 85) 90 dX10_goes_85 (by decide) (fun c3 => ?_) (fun c3 => ?_)
        · have hcan : spCanPay w σ.2.2.1 P S p (σ.2.2.1 46 k) = true := by
            cases e : spCanPay w σ.2.2.1 P S p (σ.2.2.1 46 k) with
            | true => rfl
            | false => rw [e] at c3; exact absurd rfl c3
          refine gx_iload_n (pc := 90) dX10_goes_90 rfl ?_
          refine gx_if_ne (pc := 91) 114 dX10_goes_91 (by decide) (fun c4 => ?_) (fun c4 => ?_)
          · refine gx_iload_n (pc := 114) dX10_goes_114 rfl ?_
            refine gx_iconst (pc := 115) (v := 1) dX10_goes_115 (by decide) ?_
            refine gx_icmp_ne (pc := 116) 133 dX10_goes_116 (by decide) (fun c5 => ?_) (fun c5 => ?_)
            · exact absurd rfl c5
            · refine gx_aload_n (pc := 119) dX10_goes_119 rfl ?_
              refine gx_iload_n (pc := 120) dX10_goes_120 rfl ?_
              refine gx_aload_n (pc := 121) dX10_goes_121 rfl ?_
              refine m_getA (pc := 122) rfl fX10_117 rfl (by decide) dX10_goes_122 ?_
              refine gx_iload_n (pc := 125) dX10_goes_125 rfl ?_
              refine m_iald (pc := 126) 46 (k) 180 rfl (by decide) rfl (by first | rfl | simp only [gx_lit, nI_add, pk_mul]) (by omega) (by decide) dX10_goes_126 ?_
              rw [h1.A (j := 46) (by omega)]
              refine kX10_477 (pc := 127) rfl (c_pays' (d := d - 1) hb p _) (by omega) (Nat.le_of_ble_eq_true rfl) dX10_goes_127 (fun σ2 e2 => ?_)
              refine gx_goto (pc := 130) 159 dX10_goes_130 (by decide) ?_
              refine gx_iconst (pc := 159) (v := 1) dX10_goes_159 (by decide) ?_
              have h2 : wS (mRow σ (spPay (σ.2.2.1 50) p (σ.2.2.1 46 k))) σ2 := by
                rw [e2, h1.A (j := 50) (by omega)]
                exact h1.row _
              exact m_retz (pc := 160) rfl (by decide) dX10_goes_160 (⟨by rw [sg, if_pos hcan]; rfl, by rw [sg, if_pos hcan]; exact h2⟩)
          · exact absurd c4 (by decide)
        · have hcan : spCanPay w σ.2.2.1 P S p (σ.2.2.1 46 k) = false := by
            cases e : spCanPay w σ.2.2.1 P S p (σ.2.2.1 46 k) with
            | false => rfl
            | true => rw [e] at c3; exact absurd c3 (by decide)
          refine gx_iconst (pc := 88) (v := 0) dX10_goes_88 (by decide) ?_
          exact m_retz (pc := 89) rfl (by decide) dX10_goes_89 (⟨by rw [sg, hcan]; rfl, by rw [sg, hcan]; exact hrow.symm ▸ h1⟩)
    · exact absurd c1 (by decide)
  · have sg : spGo w σ.2.2.1 P S k = if σ.2.2.1 50 (70 + p) < 9 then (true, upd (σ.2.2.1 50) (70 + p) (σ.2.2.1 50 (70 + p) + 1)) else (false, σ.2.2.1 50) := by
      unfold spGo
      rw [e43, e44, nI_clamp (by omega)]
      rfl
    rw [e43, e44]
    refine gx_iload_n (pc := 14) dX10_goes_14 rfl ?_
    refine gx_if_ne (pc := 15) 38 dX10_goes_15 (by decide) (fun c1 => ?_) (fun c1 => ?_)
    · refine gx_iload_n (pc := 38) dX10_goes_38 rfl ?_
      refine gx_iconst (pc := 39) (v := 1) dX10_goes_39 (by decide) ?_
      refine gx_icmp_ne (pc := 40) 57 dX10_goes_40 (by decide) (fun c2 => ?_) (fun c2 => ?_)
      · refine gx_iload_n (pc := 57) dX10_goes_57 rfl ?_
        refine gx_iconst (pc := 58) (v := 3) dX10_goes_58 (by decide) ?_
        refine gx_icmp_eq (pc := 59) 76 dX10_goes_59 (by decide) (fun c3 => ?_) (fun c3 => ?_)
        · exact absurd c3 (by decide)
        · refine gx_aload_n (pc := 62) dX10_goes_62 rfl ?_
          refine m_getA (pc := 63) rfl fX10_129 rfl (by decide) dX10_goes_63 ?_
          refine gx_bipush (pc := 66) (v := 70) dX10_goes_66 (by decide) ?_
          refine gx_iload_n (pc := 68) dX10_goes_68 rfl ?_
          refine gx_iadd (pc := 69) dX10_goes_69 ?_
          refine m_iald (pc := 70) 50 ((70 + p)) 123 rfl (by decide) rfl (by first | rfl | simp only [gx_lit, nI_add, pk_mul]) (by omega) (by decide) dX10_goes_70 ?_
          refine gx_bipush (pc := 71) (v := 9) dX10_goes_71 (by decide) ?_
          refine gx_icmp_ge (pc := 73) 80 dX10_goes_73 (by decide) (fun c4 => ?_) (fun c4 => ?_)
          · refine gx_iconst (pc := 80) (v := 0) dX10_goes_80 (by decide) ?_
            refine gx_istore (pc := 81) dX10_goes_81 (by decide) rfl ?_
            refine gx_iload (pc := 83) dX10_goes_83 rfl ?_
            refine gx_if_ne (pc := 85) 90 dX10_goes_85 (by decide) (fun c5 => ?_) (fun c5 => ?_)
            · exact absurd rfl c5
            · refine gx_iconst (pc := 88) (v := 0) dX10_goes_88 (by decide) ?_
              exact m_retz (pc := 89) rfl (by decide) dX10_goes_89 (⟨by rw [sg, if_neg (Int32.not_lt.mpr c4)]; rfl, by rw [sg, if_neg (Int32.not_lt.mpr c4)]; exact hrow.symm ▸ wS.rf⟩)
          · refine gx_iconst (pc := 76) (v := 1) dX10_goes_76 (by decide) ?_
            refine gx_goto (pc := 77) 81 dX10_goes_77 (by decide) ?_
            refine gx_istore (pc := 81) dX10_goes_81 (by decide) rfl ?_
            refine gx_iload (pc := 83) dX10_goes_83 rfl ?_
            refine gx_if_ne (pc := 85) 90 dX10_goes_85 (by decide) (fun c5 => ?_) (fun c5 => ?_)
            · refine gx_iload_n (pc := 90) dX10_goes_90 rfl ?_
              refine gx_if_ne (pc := 91) 114 dX10_goes_91 (by decide) (fun c6 => ?_) (fun c6 => ?_)
              · refine gx_iload_n (pc := 114) dX10_goes_114 rfl ?_
                refine gx_iconst (pc := 115) (v := 1) dX10_goes_115 (by decide) ?_
                refine gx_icmp_ne (pc := 116) 133 dX10_goes_116 (by decide) (fun c7 => ?_) (fun c7 => ?_)
                · refine gx_iload_n (pc := 133) dX10_goes_133 rfl ?_
                  refine gx_iconst (pc := 134) (v := 2) dX10_goes_134 (by decide) ?_
                  refine gx_icmp_ne (pc := 135) 154 dX10_goes_135 (by decide) (fun c8 => ?_) (fun c8 => ?_)
                  · exact absurd rfl c8
                  · refine gx_aload_n (pc := 138) dX10_goes_138 rfl ?_
                    refine m_getA (pc := 139) rfl fX10_129 rfl (by decide) dX10_goes_139 ?_
                    refine gx_bipush (pc := 142) (v := 70) dX10_goes_142 (by decide) ?_
                    refine gx_iload_n (pc := 144) dX10_goes_144 rfl ?_
                    refine gx_iadd (pc := 145) dX10_goes_145 ?_
                    refine gx_dup2 (pc := 146) dX10_goes_146 rfl rfl ?_
                    refine m_iald (pc := 147) 50 ((70 + p)) 123 rfl (by decide) rfl (by first | rfl | simp only [gx_lit, nI_add, pk_mul]) (by omega) (by decide) dX10_goes_147 ?_
                    refine gx_iconst (pc := 148) (v := 1) dX10_goes_148 (by decide) ?_
                    refine gx_iadd (pc := 149) dX10_goes_149 ?_
                    refine m_iast (pc := 150) hb 50 ((70 + p)) 123 rfl (by decide) rfl (by first | rfl | simp only [gx_lit, nI_add, pk_mul]) (by omega) (by decide) dX10_goes_150 ?_
                    refine gx_goto (pc := 151) 159 dX10_goes_151 (by decide) ?_
                    refine gx_iconst (pc := 159) (v := 1) dX10_goes_159 (by decide) ?_
                    rw [mA_eq, setS_up0]
                    exact m_retz (pc := 160) rfl (by decide) dX10_goes_160 (⟨by rw [sg, if_pos (Int32.not_le.mp c4)]; rfl, by rw [sg, if_pos (Int32.not_le.mp c4)]; exact wS.rf⟩)
                · exact absurd c7 (by decide)
              · exact absurd c6 (by decide)
            · exact absurd c5 (by decide)
      · exact absurd c2 (by decide)
    · exact absurd c1 (by decide)
  · have sg : spGo w σ.2.2.1 P S k = (true, spPass σ.2.2.1 P) := by
      unfold spGo
      rw [e43]
      rfl
    rw [e43]
    refine gx_iload_n (pc := 14) dX10_goes_14 rfl ?_
    refine gx_if_ne (pc := 15) 38 dX10_goes_15 (by decide) (fun c1 => ?_) (fun c1 => ?_)
    · refine gx_iload_n (pc := 38) dX10_goes_38 rfl ?_
      refine gx_iconst (pc := 39) (v := 1) dX10_goes_39 (by decide) ?_
      refine gx_icmp_ne (pc := 40) 57 dX10_goes_40 (by decide) (fun c2 => ?_) (fun c2 => ?_)
      · refine gx_iload_n (pc := 57) dX10_goes_57 rfl ?_
        refine gx_iconst (pc := 58) (v := 3) dX10_goes_58 (by decide) ?_
        refine gx_icmp_eq (pc := 59) 76 dX10_goes_59 (by decide) (fun c3 => ?_) (fun c3 => ?_)
        · refine gx_iconst (pc := 76) (v := 1) dX10_goes_76 (by decide) ?_
          refine gx_goto (pc := 77) 81 dX10_goes_77 (by decide) ?_
          refine gx_istore (pc := 81) dX10_goes_81 (by decide) rfl ?_
          refine gx_iload (pc := 83) dX10_goes_83 rfl ?_
          refine gx_if_ne (pc := 85) 90 dX10_goes_85 (by decide) (fun c5 => ?_) (fun c5 => ?_)
          · refine gx_iload_n (pc := 90) dX10_goes_90 rfl ?_
            refine gx_if_ne (pc := 91) 114 dX10_goes_91 (by decide) (fun c6 => ?_) (fun c6 => ?_)
            · refine gx_iload_n (pc := 114) dX10_goes_114 rfl ?_
              refine gx_iconst (pc := 115) (v := 1) dX10_goes_115 (by decide) ?_
              refine gx_icmp_ne (pc := 116) 133 dX10_goes_116 (by decide) (fun c7 => ?_) (fun c7 => ?_)
              · refine gx_iload_n (pc := 133) dX10_goes_133 rfl ?_
                refine gx_iconst (pc := 134) (v := 2) dX10_goes_134 (by decide) ?_
                refine gx_icmp_ne (pc := 135) 154 dX10_goes_135 (by decide) (fun c8 => ?_) (fun c8 => ?_)
                · refine gx_aload_n (pc := 154) dX10_goes_154 rfl ?_
                  refine kX10_480 (pc := 155) rfl (c_passes' (d := d - 1) hb hT) (by omega) (Nat.le_of_ble_eq_true rfl) dX10_goes_155 (fun r1 σ1 e1 => ?_)
                  refine gx_pop (pc := 158) dX10_goes_158 rfl ?_
                  refine gx_iconst (pc := 159) (v := 1) dX10_goes_159 (by decide) ?_
                  obtain ⟨rfl, e1⟩ := e1
                  exact m_retz (pc := 160) rfl (by decide) dX10_goes_160 (⟨by rw [sg]; rfl, by rw [sg, e1]; exact wS.rf⟩)
                · exact absurd c8 (by decide)
              · exact absurd c7 (by decide)
            · exact absurd c6 (by decide)
          · exact absurd c5 (by decide)
        · exact absurd rfl c3
      · exact absurd c2 (by decide)
    · exact absurd c1 (by decide)
end MI
