/-! ===== MODEL F: rows copied, talk by hand ===== -/
set_option maxRecDepth 100000
/-- the arrays with another array at j -/
def setJ (A : Nat → Nat → Int32) (j : Nat) (f : Nat → Int32) : Nat → Nat → Int32 := fun q => if q = j then f else A q
theorem setJ_j (A : Nat → Nat → Int32) (j : Nat) (f : Nat → Int32) : setJ A j f j = f := by simp [setJ]
theorem setJ_ne {A : Nat → Nat → Int32} {j q : Nat} {f : Nat → Int32} (h : q ≠ j) : setJ A j f q = A q := by simp [setJ, h]
theorem setJ_setJ (A : Nat → Nat → Int32) (j : Nat) (f g : Nat → Int32) : setJ (setJ A j f) j g = setJ A j g := by
  funext q
  by_cases hq : q = j <;> simp [setJ, hq]
theorem setJ_self (A : Nat → Nat → Int32) (j : Nat) : setJ A j (A j) = A := by
  funext q
  by_cases hq : q = j <;> simp [setJ, hq]
theorem upA_setJ (A : Nat → Nat → Int32) (j k : Nat) (v : Int32) : upA A j k v = setJ A j (upd (A j) k v) := rfl
theorem setS_J (A : Nat → Nat → Int32) (s : Nat → Int32) : setS A s = setJ A 50 s := rfl
theorem cpy0 {α : Type} (f g : Nat → α) (sp dp : Nat) : va_cpy f g sp dp 0 = g := by
  funext k
  simp only [va_cpy]
  rw [if_neg (by omega)]
theorem cpyS (f g : Nat → Int32) (sp dp n : Nat) : upd (va_cpy f g sp dp n) (dp + n) (f (sp + n)) = va_cpy f g sp dp (n + 1) := by
  funext k
  simp only [va_cpy, upd]
  by_cases hk : k = dp + n
  · subst hk
    rw [if_pos rfl, if_pos (by omega), show dp + n - dp = n by omega]
  · rw [if_neg hk]
    by_cases h2 : dp ≤ k ∧ k < dp + n
    · rw [if_pos h2, if_pos (by omega)]
    · rw [if_neg h2, if_neg (by omega)]
theorem cpy_hi {α : Type} {f g : Nat → α} {sp dp n k : Nat} (h : dp + n ≤ k) : va_cpy f g sp dp n k = g k := by
  simp only [va_cpy]
  rw [if_neg (by omega)]
theorem cpy_lo {α : Type} {f g : Nat → α} {sp dp n k : Nat} (h : k < dp) : va_cpy f g sp dp n k = g k := by
  simp only [va_cpy]
  rw [if_neg (by omega)]
theorem cpy_in {α : Type} {f g : Nat → α} {sp dp n : Nat} (i : Nat) (h : i < n) : va_cpy f g sp dp n (dp + i) = f (sp + i) := by
  simp only [va_cpy]
  rw [if_pos (by omega), show dp + i - dp = i by omega]
section MF
variable {G : gxG} {d : Nat} {h : gxH} {b : Nat} {σ : mS} {P S E : Nat} {w : Option gxEv}
theorem c_copies (hb : gxN G ≤ b) (jf jt n_jf n_jt a c : Nat) (hj_jf : mknd jf = 3) (ho_jf : mOk jf) (hn_jf : mlen jf = n_jf) (hb_jf : n_jf < 2 ^ 31) (hj_jt : mknd jt = 3) (ho_jt : mOk jt) (hn_jt : mlen jt = n_jt) (hb_jt : n_jt < 2 ^ 31) (hne : jf ≠ jt) (ha : a + 123 ≤ n_jf) (hc : c + 123 ≤ n_jt) : mMv G mX10_copies d [.ref (b + moff jf), .int (nI a), .ref (b + moff jt), .int (nI c)] h b σ (fun σ' => σ' = mSA σ (setJ σ.2.2.1 jt (va_cpy (σ.2.2.1 jf) (σ.2.2.1 jt) a c 123))) := by
  refine gxM_of rfl (Nat.le_of_ble_eq_true rfl) rfl ?_
  refine gx_iconst (pc := 0) (v := 0) dX10_copies_0 (by decide) ?_
  refine gx_istore (pc := 1) dX10_copies_1 (by decide) rfl ?_
  have L : ∀ n k, n + k = 123 → gxV G mX10_copies d 0 0 3 [some (.ref (b + moff jf)), some (.int (nI a)), some (.ref (b + moff jt)), some (.int (nI c)), some (.int (nI k))] [] (mput h b (mSA σ (setJ σ.2.2.1 jt (va_cpy (σ.2.2.1 jf) (σ.2.2.1 jt) a c k)))) (mQv h b (fun σ' => σ' = mSA σ (setJ σ.2.2.1 jt (va_cpy (σ.2.2.1 jf) (σ.2.2.1 jt) a c 123)))) := by
    intro n
    induction n with
    | zero =>
      intro k hk
      refine gx_iload (pc := 3) dX10_copies_3 rfl ?_
      refine gx_bipush (pc := 5) (v := 123) dX10_copies_5 (by decide) ?_
      refine gx_icmp_ge (pc := 7) 28 dX10_copies_7 (by decide) (fun c1 => ?_) (fun c1 => ?_)
      · exact m_retv (pc := 28) rfl dX10_copies_28 (by rw [show k = 123 by omega])
      · exact absurd (nI_le (a := 123) (b := k) (by omega) (by omega)) c1
    | succ n ih =>
      intro k hk
      refine gx_iload (pc := 3) dX10_copies_3 rfl ?_
      refine gx_bipush (pc := 5) (v := 123) dX10_copies_5 (by decide) ?_
      refine gx_icmp_ge (pc := 7) 28 dX10_copies_7 (by decide) (fun c1 => ?_) (fun c1 => ?_)
      · exact absurd c1 (nI_ge (a := k) (b := 123) (by omega) (by omega))
      · refine gx_aload_n (pc := 10) dX10_copies_10 rfl ?_
        refine gx_iload_n (pc := 11) dX10_copies_11 rfl ?_
        refine gx_iload (pc := 12) dX10_copies_12 rfl ?_
        refine gx_iadd (pc := 14) dX10_copies_14 ?_
        refine gx_aload_n (pc := 15) dX10_copies_15 rfl ?_
        refine gx_iload_n (pc := 16) dX10_copies_16 rfl ?_
        refine gx_iload (pc := 17) dX10_copies_17 rfl ?_
        refine gx_iadd (pc := 19) dX10_copies_19 ?_
        refine m_iald (pc := 20) jf ((a + k)) n_jf hj_jf ho_jf hn_jf (by first | rfl | simp only [gx_lit, nI_add, pk_mul]) (by omega) hb_jf dX10_copies_20 ?_
        refine m_iast (pc := 21) hb jt ((c + k)) n_jt hj_jt ho_jt hn_jt (by first | rfl | simp only [gx_lit, nI_add, pk_mul]) (by omega) hb_jt dX10_copies_21 ?_
        refine gx_iincc (pc := 22) (c := 1) dX10_copies_22 rfl (by decide) (by decide) rfl ?_
        refine gx_goto (pc := 25) 3 dX10_copies_25 (by decide) ?_
        rw [nI_1]
        have e1 : mA (mSA σ (setJ σ.2.2.1 jt (va_cpy (σ.2.2.1 jf) (σ.2.2.1 jt) a c k))) jt (c + k) ((mSA σ (setJ σ.2.2.1 jt (va_cpy (σ.2.2.1 jf) (σ.2.2.1 jt) a c k))).2.2.1 jf (a + k)) = mSA σ (setJ σ.2.2.1 jt (va_cpy (σ.2.2.1 jf) (σ.2.2.1 jt) a c (k + 1))) := by
          rw [mA_eq, mSA_A, mSA_mSA, upA_setJ, setJ_j, setJ_setJ, setJ_ne hne, cpyS]
        rw [e1]
        exact ih (k + 1) (by omega)
  have e0 : mSA σ (setJ σ.2.2.1 jt (va_cpy (σ.2.2.1 jf) (σ.2.2.1 jt) a c 0)) = σ := by
    rw [cpy0, setJ_self]; rfl
  rw [← e0]
  rw [e0]
  have L0 := L 123 0 (by omega)
  rw [e0] at L0
  exact L0
/-- what keeps lays aside: the row of talk, on top of the rows that were -/
def spKeep (U s : Nat → Int32) (n : Nat) : Nat → Int32 := if n = 16 then va_cpy s (va_cpy U U 123 0 1845) 0 1845 123 else va_cpy s U 0 (123 * n) 123
theorem c_keeps (hb : gxN G ≤ b) (hd : 1 ≤ d) (n : Nat) (hn : n ≤ 16) (hdn : σ.1 55 = nI n) : mMv G mX10_keeps d [.ref b] h b σ (fun σ' => σ' = mI (mSA σ (setJ σ.2.2.1 53 (spKeep (σ.2.2.1 53) (σ.2.2.1 50) n))) 55 (nI (if n = 16 then 16 else n + 1))) := by
  refine gxM_of rfl (Nat.le_of_ble_eq_true rfl) rfl ?_
  have K : ∀ (σ2 : mS) (m : Nat) (x : Option Value), m ≤ 15 → σ2.1 55 = nI m → mI (mSA σ2 (setJ σ2.2.2.1 53 (va_cpy (σ2.2.2.1 50) (σ2.2.2.1 53) 0 (123 * m) 123))) 55 (nI (m + 1)) = mI (mSA σ (setJ σ.2.2.1 53 (spKeep (σ.2.2.1 53) (σ.2.2.1 50) n))) 55 (nI (if n = 16 then 16 else n + 1)) → gxV G mX10_keeps d 0 0 49 [some (.ref b), x] [] (mput h b σ2) (mQv h b (fun σ' => σ' = mI (mSA σ (setJ σ.2.2.1 53 (spKeep (σ.2.2.1 53) (σ.2.2.1 50) n))) 55 (nI (if n = 16 then 16 else n + 1)))) := by
    intro σ2 m x hm hm2 he
    refine gx_aload_n (pc := 49) dX10_keeps_49 rfl ?_
    refine m_getA (pc := 50) rfl fX10_129 rfl (by decide) dX10_keeps_50 ?_
    refine gx_iconst (pc := 53) (v := 0) dX10_keeps_53 (by decide) ?_
    refine gx_aload_n (pc := 54) dX10_keeps_54 rfl ?_
    refine m_getA (pc := 55) rfl fX10_138 rfl (by decide) dX10_keeps_55 ?_
    refine gx_bipush (pc := 58) (v := 123) dX10_keeps_58 (by decide) ?_
    refine gx_aload_n (pc := 60) dX10_keeps_60 rfl ?_
    refine m_getI (pc := 61) rfl fX10_398 rfl (by decide) dX10_keeps_61 ?_
    rw [hm2]
    refine gx_imul (pc := 64) dX10_keeps_64 ?_
    rw [show (123 : Int32) * nI m = nI (123 * m) from pk_mul 123 m]
    refine kX10_457 (pc := 65) rfl (c_copies (d := d - 1) (a := 0) (c := 123 * m) hb 50 53 123 1968 (hj_jf := rfl) (ho_jf := by decide) (hn_jf := rfl) (hb_jf := by decide) (hj_jt := rfl) (ho_jt := by decide) (hn_jt := rfl) (hb_jt := by decide) (hne := by decide) (ha := by decide) (hc := by omega)) (by omega) (Nat.le_of_ble_eq_true rfl) dX10_keeps_65 (fun σ1 e1 => ?_)
    subst e1
    refine gx_aload_n (pc := 68) dX10_keeps_68 rfl ?_
    refine gx_dup (pc := 69) dX10_keeps_69 rfl ?_
    refine m_getI (pc := 70) rfl fX10_398 rfl (by decide) dX10_keeps_70 ?_
    have e2 : (mSA σ2 (setJ σ2.2.2.1 53 (va_cpy (σ2.2.2.1 50) (σ2.2.2.1 53) 0 (123 * m) 123))).1 55 = nI m := hm2
    rw [e2]
    refine gx_iconst (pc := 73) (v := 1) dX10_keeps_73 (by decide) ?_
    refine gx_iadd (pc := 74) dX10_keeps_74 ?_
    refine m_putI (pc := 75) rfl hb fX10_398 rfl (by decide) tX10_55 dX10_keeps_75 ?_
    rw [nI_1, he]
    exact m_retv (pc := 78) rfl dX10_keeps_78 (rfl)
  refine gx_aload_n (pc := 0) dX10_keeps_0 rfl ?_
  refine m_getI (pc := 1) rfl fX10_398 rfl (by decide) dX10_keeps_1 ?_
  refine gx_bipush (pc := 4) (v := 16) dX10_keeps_4 (by decide) ?_
  rw [hdn]
  refine gx_icmp_ne (pc := 6) 49 dX10_keeps_6 (by decide) (fun c1 => ?_) (fun c1 => ?_)
  · have hn16 : n ≠ 16 := fun e => c1 (by rw [e]; rfl)
    refine K σ n _ (by omega) hdn ?_
    simp only [spKeep, if_neg hn16]
  · have hn16 : n = 16 := (nI_eq (b := 16) (by omega) (by omega)).mp c1
    refine gx_iconst (pc := 9) (v := 0) dX10_keeps_9 (by decide) ?_
    refine gx_istore_n (pc := 10) dX10_keeps_10 (by decide) rfl ?_
    have L : ∀ m k, m + k = 1845 → gxV G mX10_keeps d 0 0 11 [some (.ref b), some (.int (nI k))] [] (mput h b (mSA σ (setJ σ.2.2.1 53 (va_cpy (σ.2.2.1 53) (σ.2.2.1 53) 123 0 k)))) (mQv h b (fun σ' => σ' = mI (mSA σ (setJ σ.2.2.1 53 (spKeep (σ.2.2.1 53) (σ.2.2.1 50) n))) 55 (nI (if n = 16 then 16 else n + 1)))) := by
      intro m
      induction m with
      | zero =>
        intro k hk
        refine gx_iload_n (pc := 11) dX10_keeps_11 rfl ?_
        refine gx_sipush (pc := 12) (v := 1845) dX10_keeps_12 (by decide) ?_
        refine gx_icmp_ge (pc := 15) 39 dX10_keeps_15 (by decide) (fun c2 => ?_) (fun c2 => ?_)
        · refine gx_aload_n (pc := 39) dX10_keeps_39 rfl ?_
          refine gx_dup (pc := 40) dX10_keeps_40 rfl ?_
          refine m_getI (pc := 41) rfl fX10_398 rfl (by decide) dX10_keeps_41 ?_
          have e2 : (mSA σ (setJ σ.2.2.1 53 (va_cpy (σ.2.2.1 53) (σ.2.2.1 53) 123 0 k))).1 55 = nI 16 := by show σ.1 55 = _; rw [hdn, hn16]
          rw [e2]
          refine gx_iconst (pc := 44) (v := 1) dX10_keeps_44 (by decide) ?_
          refine gx_isub (pc := 45) dX10_keeps_45 ?_
          refine m_putI (pc := 46) rfl hb fX10_398 rfl (by decide) tX10_55 dX10_keeps_46 ?_
          rw [show nI 16 - 1 = nI 15 from nI_pred 15]
          refine K _ 15 _ (by omega) ?_ ?_
          · rfl
          rw [show k = 1845 by omega]
          simp only [spKeep, if_pos hn16]
          have : ∀ (τ : mS) (X Y : Nat → Int32) (v v' : Int32), mI (mSA (mI (mSA τ (setJ τ.2.2.1 53 X)) 55 v) (setJ (setJ τ.2.2.1 53 X) 53 Y)) 55 v' = mI (mSA τ (setJ τ.2.2.1 53 Y)) 55 v' := by
            intro τ X Y v v'
            rw [setJ_setJ]
            simp only [mI, mSA]
            congr 1
            funext q
            by_cases hq : q = 55 <;> simp [upd, hq]
          exact this σ _ _ _ _
        · exact absurd (nI_le (a := 1845) (b := k) (by omega) (by omega)) c2
      | succ m ih =>
        intro k hk
        refine gx_iload_n (pc := 11) dX10_keeps_11 rfl ?_
        refine gx_sipush (pc := 12) (v := 1845) dX10_keeps_12 (by decide) ?_
        refine gx_icmp_ge (pc := 15) 39 dX10_keeps_15 (by decide) (fun c2 => ?_) (fun c2 => ?_)
        · exact absurd c2 (nI_ge (a := k) (b := 1845) (by omega) (by omega))
        · refine gx_aload_n (pc := 18) dX10_keeps_18 rfl ?_
          refine m_getA (pc := 19) rfl fX10_138 rfl (by decide) dX10_keeps_19 ?_
          refine gx_iload_n (pc := 22) dX10_keeps_22 rfl ?_
          refine gx_aload_n (pc := 23) dX10_keeps_23 rfl ?_
          refine m_getA (pc := 24) rfl fX10_138 rfl (by decide) dX10_keeps_24 ?_
          refine gx_iload_n (pc := 27) dX10_keeps_27 rfl ?_
          refine gx_bipush (pc := 28) (v := 123) dX10_keeps_28 (by decide) ?_
          refine gx_iadd (pc := 30) dX10_keeps_30 ?_
          refine m_iald (pc := 31) 53 ((k + 123)) 1968 rfl (by decide) rfl (by first | rfl | simp only [gx_lit, nI_add, pk_mul]) (by omega) (by decide) dX10_keeps_31 ?_
          refine m_iast (pc := 32) hb 53 (k) 1968 rfl (by decide) rfl (by first | rfl | simp only [gx_lit, nI_add, pk_mul]) (by omega) (by decide) dX10_keeps_32 ?_
          refine gx_iincc (pc := 33) (c := 1) dX10_keeps_33 rfl (by decide) (by decide) rfl ?_
          refine gx_goto (pc := 36) 11 dX10_keeps_36 (by decide) ?_
          rw [nI_1]
          have e1 : mA (mSA σ (setJ σ.2.2.1 53 (va_cpy (σ.2.2.1 53) (σ.2.2.1 53) 123 0 k))) 53 k ((mSA σ (setJ σ.2.2.1 53 (va_cpy (σ.2.2.1 53) (σ.2.2.1 53) 123 0 k))).2.2.1 53 (k + 123)) = mSA σ (setJ σ.2.2.1 53 (va_cpy (σ.2.2.1 53) (σ.2.2.1 53) 123 0 (k + 1))) := by
            rw [mA_eq, mSA_A, mSA_mSA, upA_setJ, setJ_j, setJ_setJ, cpy_hi (by omega), ← cpyS, Nat.zero_add, Nat.add_comm 123 k]
          rw [e1]
          exact ih (k + 1) (by omega)
    have e0 : mSA σ (setJ σ.2.2.1 53 (va_cpy (σ.2.2.1 53) (σ.2.2.1 53) 123 0 0)) = σ := by
      rw [cpy0, setJ_self]; rfl
    have L0 := L 1845 0 (by omega)
    rw [e0] at L0
    exact L0
/-- whether one can pay by a set -/
def spCanPay (w : Option gxEv) (A : Nat → Nat → Int32) (P S p : Nat) (set : Int32) : Bool :=
  decide ((A 50 78 >>> (nI p &&& 31)) &&& 1 = 0) && decide (0 < set) && decide (set &&& ((spKnown A (nI p) S &&& (A 50 77 ^^^ (-1))) ^^^ (-1)) = 0) && decide (A 15 p ≤ spWs w A P set S)
theorem c_canPay (hb : gxN G ≤ b) (hd : 16 ≤ d) (hT : mT σ.2.2.1 P S E w) (p : Nat) (hp : p < 6) (set : Int32) : mMi G mX10_canPay d [.ref b, .int (nI p), .int set] h b σ (fun r σ' => r = zi (spCanPay w σ.2.2.1 P S p set) ∧ wS σ σ') := by
  refine gxM_of rfl (Nat.le_of_ble_eq_true rfl) rfl ?_
  refine gx_aload_n (pc := 0) dX10_canPay_0 rfl ?_
  refine m_getA (pc := 1) rfl fX10_129 rfl (by decide) dX10_canPay_1 ?_
  refine gx_bipush (pc := 4) (v := 78) dX10_canPay_4 (by decide) ?_
  refine m_iald (pc := 6) 50 (78) 123 rfl (by decide) rfl (by first | rfl | simp only [gx_lit, nI_add, pk_mul]) (by omega) (by decide) dX10_canPay_6 ?_
  refine gx_iload_n (pc := 7) dX10_canPay_7 rfl ?_
  refine gx_ishr (pc := 8) dX10_canPay_8 ?_
  refine gx_iconst (pc := 9) (v := 1) dX10_canPay_9 (by decide) ?_
  refine gx_iand (pc := 10) dX10_canPay_10 ?_
  refine gx_if_ne (pc := 11) 58 dX10_canPay_11 (by decide) (fun c1 => ?_) (fun c1 => ?_)
  · refine gx_iconst (pc := 58) (v := 0) dX10_canPay_58 (by decide) ?_
    exact m_retz (pc := 59) rfl (by decide) dX10_canPay_59 (⟨by simp [zi, spCanPay, c1], wS.rf⟩)
  · refine gx_iload_n (pc := 14) dX10_canPay_14 rfl ?_
    refine gx_if_le (pc := 15) 58 dX10_canPay_15 (by decide) (fun c2 => ?_) (fun c2 => ?_)
    · refine gx_iconst (pc := 58) (v := 0) dX10_canPay_58 (by decide) ?_
      exact m_retz (pc := 59) rfl (by decide) dX10_canPay_59 (⟨by simp [zi, spCanPay, Int32.not_lt.mpr c2], wS.rf⟩)
    · refine gx_iload_n (pc := 18) dX10_canPay_18 rfl ?_
      refine gx_aload_n (pc := 19) dX10_canPay_19 rfl ?_
      refine gx_iload_n (pc := 20) dX10_canPay_20 rfl ?_
      refine kX10_430 (pc := 21) rfl (c_knownBy (d := d - 1) hT.2.2.1 hT.2.2.2.1 _) (by omega) (Nat.le_of_ble_eq_true rfl) dX10_canPay_21 (fun r1 σ1 e1 => ?_)
      obtain ⟨rfl, hσ⟩ := e1
      subst σ1
      refine gx_aload_n (pc := 24) dX10_canPay_24 rfl ?_
      refine m_getA (pc := 25) rfl fX10_129 rfl (by decide) dX10_canPay_25 ?_
      refine gx_bipush (pc := 28) (v := 77) dX10_canPay_28 (by decide) ?_
      refine m_iald (pc := 30) 50 (77) 123 rfl (by decide) rfl (by first | rfl | simp only [gx_lit, nI_add, pk_mul]) (by omega) (by decide) dX10_canPay_30 ?_
      refine gx_iconst (pc := 31) (v := (-1)) dX10_canPay_31 (by decide) ?_
      refine gx_ixor (pc := 32) dX10_canPay_32 ?_
      refine gx_iand (pc := 33) dX10_canPay_33 ?_
      refine gx_iconst (pc := 34) (v := (-1)) dX10_canPay_34 (by decide) ?_
      refine gx_ixor (pc := 35) dX10_canPay_35 ?_
      refine gx_iand (pc := 36) dX10_canPay_36 ?_
      refine gx_if_ne (pc := 37) 58 dX10_canPay_37 (by decide) (fun c3 => ?_) (fun c3 => ?_)
      · refine gx_iconst (pc := 58) (v := 0) dX10_canPay_58 (by decide) ?_
        exact m_retz (pc := 59) rfl (by decide) dX10_canPay_59 (⟨by rw [spCanPay, decide_eq_false c3, Bool.and_false, Bool.false_and]; rfl, wS.rf⟩)
      · refine gx_aload_n (pc := 40) dX10_canPay_40 rfl ?_
        refine gx_iload_n (pc := 41) dX10_canPay_41 rfl ?_
        refine kX10_433 (pc := 42) rfl (c_worthsOf (d := d - 1) hb (by omega) hT set) (by omega) (Nat.le_of_ble_eq_true rfl) dX10_canPay_42 (fun r1 σ1 e1 => ?_)
        obtain ⟨rfl, A', hA, rfl⟩ := e1
        refine gx_aload_n (pc := 45) dX10_canPay_45 rfl ?_
        refine m_getA (pc := 46) rfl fX10_29 rfl (by decide) dX10_canPay_46 ?_
        refine gx_iload_n (pc := 49) dX10_canPay_49 rfl ?_
        refine m_iald (pc := 50) 15 (p) 12 rfl (by decide) rfl (by first | rfl | simp only [gx_lit, nI_add, pk_mul]) (by omega) (by decide) dX10_canPay_50 ?_
        rw [mSA_A, hA 15 (by omega)]
        refine gx_icmp_lt (pc := 51) 58 dX10_canPay_51 (by decide) (fun c4 => ?_) (fun c4 => ?_)
        · refine gx_iconst (pc := 58) (v := 0) dX10_canPay_58 (by decide) ?_
          exact m_retz (pc := 59) rfl (by decide) dX10_canPay_59 (⟨by rw [spCanPay, decide_eq_false (Int32.not_le.mpr c4), Bool.and_false]; rfl, ⟨A', hA, rfl⟩⟩)
        · refine gx_iconst (pc := 54) (v := 1) dX10_canPay_54 (by decide) ?_
          refine gx_goto (pc := 55) 59 dX10_canPay_55 (by decide) ?_
          exact m_retz (pc := 59) rfl (by decide) dX10_canPay_59 (⟨by rw [spCanPay, decide_eq_true c1, decide_eq_true (Int32.not_le.mp c2), decide_eq_true c3, decide_eq_true (Int32.not_lt.mp c4)]; rfl, ⟨A', hA, rfl⟩⟩)
theorem c_pays (hb : gxN G ≤ b) (p : Nat) (set : Int32) : mMv G mX10_pays d [.ref b, .int (nI p), .int set] h b σ (fun σ' => σ' = mSA σ (setS σ.2.2.1 (upd (upd (σ.2.2.1 50) 77 (σ.2.2.1 50 77 ||| set)) 78 (σ.2.2.1 50 78 ||| (1 <<< (nI p &&& 31)))))) := by
  refine gxM_of rfl (Nat.le_of_ble_eq_true rfl) rfl ?_
  refine gx_aload_n (pc := 0) dX10_pays_0 rfl ?_
  refine m_getA (pc := 1) rfl fX10_129 rfl (by decide) dX10_pays_1 ?_
  refine gx_bipush (pc := 4) (v := 77) dX10_pays_4 (by decide) ?_
  refine gx_dup2 (pc := 6) dX10_pays_6 rfl rfl ?_
  refine m_iald (pc := 7) 50 (77) 123 rfl (by decide) rfl (by first | rfl | simp only [gx_lit, nI_add, pk_mul]) (by omega) (by decide) dX10_pays_7 ?_
  refine gx_iload_n (pc := 8) dX10_pays_8 rfl ?_
  refine gx_ior (pc := 9) dX10_pays_9 ?_
  refine m_iast (pc := 10) hb 50 (77) 123 rfl (by decide) rfl (by first | rfl | simp only [gx_lit, nI_add, pk_mul]) (by omega) (by decide) dX10_pays_10 ?_
  refine gx_aload_n (pc := 11) dX10_pays_11 rfl ?_
  refine m_getA (pc := 12) rfl fX10_129 rfl (by decide) dX10_pays_12 ?_
  refine gx_bipush (pc := 15) (v := 78) dX10_pays_15 (by decide) ?_
  refine gx_dup2 (pc := 17) dX10_pays_17 rfl rfl ?_
  refine m_iald (pc := 18) 50 (78) 123 rfl (by decide) rfl (by first | rfl | simp only [gx_lit, nI_add, pk_mul]) (by omega) (by decide) dX10_pays_18 ?_
  refine gx_iconst (pc := 19) (v := 1) dX10_pays_19 (by decide) ?_
  refine gx_iload_n (pc := 20) dX10_pays_20 rfl ?_
  refine gx_ishl (pc := 21) dX10_pays_21 ?_
  refine gx_ior (pc := 22) dX10_pays_22 ?_
  refine m_iast (pc := 23) hb 50 (78) 123 rfl (by decide) rfl (by first | rfl | simp only [gx_lit, nI_add, pk_mul]) (by omega) (by decide) dX10_pays_23 ?_
  exact m_retv (pc := 24) rfl dX10_pays_24 (by simp only [mA_eq, mSA_A, mSA_mSA, setS_up0, setS_50, setS_setS]; rfl)
/-- a quarter's end -/
def spFine (A : Nat → Nat → Int32) (p : Nat) : Bool := !decide (A 15 p = 0) && !hs (A 50 78) (nI p)
def spFined (A : Nat → Nat → Int32) : Nat → Int32
  | 0 => 0
  | p + 1 => if spFine A p then spFined A p ||| (1 <<< (nI p &&& 31)) else spFined A p
def spFines (A : Nat → Nat → Int32) : Nat → Nat → Int32
  | 0 => A 50
  | p + 1 => if spFine A p then upd (spFines A p) (79 + p) (spFines A p (79 + p) + 1) else spFines A p
def spPass (A : Nat → Nat → Int32) (P : Nat) : Nat → Int32 := upd (upd (upd (spFines A P) 77 0) 78 0) 85 (A 50 85 + 1)
theorem spFines_lo (A : Nat → Nat → Int32) (k : Nat) (hk : k < 79 ∨ 85 ≤ k) : ∀ p, p ≤ 6 → spFines A p k = A 50 k
  | 0, _ => rfl
  | p + 1, hp => by
    simp only [spFines]
    split
    · simp only [upd]; rw [if_neg (by omega)]; exact spFines_lo A k hk p (by omega)
    · exact spFines_lo A k hk p (by omega)
theorem c_passes (hb : gxN G ≤ b) (hP : σ.2.2.1 10 0 = nI P) (hP6 : P ≤ 6) : mMi G mX10_passes d [.ref b] h b σ (fun r σ' => r = spFined σ.2.2.1 P ∧ σ' = mSA σ (setS σ.2.2.1 (spPass σ.2.2.1 P))) := by
  refine gxM_of rfl (Nat.le_of_ble_eq_true rfl) rfl ?_
  refine gx_iconst (pc := 0) (v := 0) dX10_passes_0 (by decide) ?_
  refine gx_istore_n (pc := 1) dX10_passes_1 (by decide) rfl ?_
  refine gx_iconst (pc := 2) (v := 0) dX10_passes_2 (by decide) ?_
  refine gx_istore_n (pc := 3) dX10_passes_3 (by decide) rfl ?_
  have L : ∀ n p, n + p = P → gxV G mX10_passes d 0 0 4 [some (.ref b), some (.int (spFined σ.2.2.1 p)), some (.int (nI p))] [] (mput h b (mSA σ (setS σ.2.2.1 (spFines σ.2.2.1 p)))) (mQi h b (fun r σ' => r = spFined σ.2.2.1 P ∧ σ' = mSA σ (setS σ.2.2.1 (spPass σ.2.2.1 P)))) := by
    intro n
    induction n with
    | zero =>
      intro p hp
      refine gx_iload_n (pc := 4) dX10_passes_4 rfl ?_
      refine gx_aload_n (pc := 5) dX10_passes_5 rfl ?_
      refine m_getA (pc := 6) rfl fX10_13 rfl (by decide) dX10_passes_6 ?_
      refine gx_iconst (pc := 9) (v := 0) dX10_passes_9 (by decide) ?_
      refine m_iald (pc := 10) 10 (0) 8 rfl (by decide) rfl (by first | rfl | simp only [gx_lit, nI_add, pk_mul]) (by omega) (by decide) dX10_passes_10 ?_
      rw [mSA_A, setS_ne (by decide)]
      refine gx_icmp_ge (pc := 11) 66 dX10_passes_11 (by decide) (fun c1 => ?_) (fun c1 => ?_)
      · refine gx_aload_n (pc := 66) dX10_passes_66 rfl ?_
        refine m_getA (pc := 67) rfl fX10_129 rfl (by decide) dX10_passes_67 ?_
        refine gx_bipush (pc := 70) (v := 77) dX10_passes_70 (by decide) ?_
        refine gx_iconst (pc := 72) (v := 0) dX10_passes_72 (by decide) ?_
        refine m_iast (pc := 73) hb 50 (77) 123 rfl (by decide) rfl (by first | rfl | simp only [gx_lit, nI_add, pk_mul]) (by omega) (by decide) dX10_passes_73 ?_
        refine gx_aload_n (pc := 74) dX10_passes_74 rfl ?_
        refine m_getA (pc := 75) rfl fX10_129 rfl (by decide) dX10_passes_75 ?_
        refine gx_bipush (pc := 78) (v := 78) dX10_passes_78 (by decide) ?_
        refine gx_iconst (pc := 80) (v := 0) dX10_passes_80 (by decide) ?_
        refine m_iast (pc := 81) hb 50 (78) 123 rfl (by decide) rfl (by first | rfl | simp only [gx_lit, nI_add, pk_mul]) (by omega) (by decide) dX10_passes_81 ?_
        refine gx_aload_n (pc := 82) dX10_passes_82 rfl ?_
        refine m_getA (pc := 83) rfl fX10_129 rfl (by decide) dX10_passes_83 ?_
        refine gx_bipush (pc := 86) (v := 85) dX10_passes_86 (by decide) ?_
        refine gx_dup2 (pc := 88) dX10_passes_88 rfl rfl ?_
        refine m_iald (pc := 89) 50 (85) 123 rfl (by decide) rfl (by first | rfl | simp only [gx_lit, nI_add, pk_mul]) (by omega) (by decide) dX10_passes_89 ?_
        refine gx_iconst (pc := 90) (v := 1) dX10_passes_90 (by decide) ?_
        refine gx_iadd (pc := 91) dX10_passes_91 ?_
        refine m_iast (pc := 92) hb 50 (85) 123 rfl (by decide) rfl (by first | rfl | simp only [gx_lit, nI_add, pk_mul]) (by omega) (by decide) dX10_passes_92 ?_
        refine gx_iload_n (pc := 93) dX10_passes_93 rfl ?_
        simp only [mA_eq, mSA_A, mSA_mSA, setS_up0, setS_50, setS_setS]
        have e : upd (upd (spFines σ.2.2.1 P) 77 0) 78 0 85 = σ.2.2.1 50 85 := by
          simp only [upd]
          rw [if_neg (by decide), if_neg (by decide)]
          exact spFines_lo _ _ (by omega) P hP6
        rw [show p = P by omega, e]
        exact m_ret (pc := 94) rfl dX10_passes_94 (⟨rfl, rfl⟩)
      · exact absurd (by rw [hP]; exact nI_le (by omega) (by omega)) c1
    | succ n ih =>
      intro p hp
      refine gx_iload_n (pc := 4) dX10_passes_4 rfl ?_
      refine gx_aload_n (pc := 5) dX10_passes_5 rfl ?_
      refine m_getA (pc := 6) rfl fX10_13 rfl (by decide) dX10_passes_6 ?_
      refine gx_iconst (pc := 9) (v := 0) dX10_passes_9 (by decide) ?_
      refine m_iald (pc := 10) 10 (0) 8 rfl (by decide) rfl (by first | rfl | simp only [gx_lit, nI_add, pk_mul]) (by omega) (by decide) dX10_passes_10 ?_
      rw [mSA_A, setS_ne (by decide)]
      refine gx_icmp_ge (pc := 11) 66 dX10_passes_11 (by decide) (fun c1 => ?_) (fun c1 => ?_)
      · exact absurd c1 (by rw [hP]; exact nI_ge (by omega) (by omega))
      · have K : ∀ (σ2 : mS) (r : Int32), r = spFined σ.2.2.1 (p + 1) → σ2 = mSA σ (setS σ.2.2.1 (spFines σ.2.2.1 (p + 1))) → gxV G mX10_passes d 0 0 60 [some (.ref b), some (.int r), some (.int (nI p))] [] (mput h b σ2) (mQi h b (fun r σ' => r = spFined σ.2.2.1 P ∧ σ' = mSA σ (setS σ.2.2.1 (spPass σ.2.2.1 P)))) := by
          intro σ2 r hr hσ2
          subst hr; subst hσ2
          refine gx_iincc (pc := 60) (c := 1) dX10_passes_60 rfl (by decide) (by decide) rfl ?_
          refine gx_goto (pc := 63) 4 dX10_passes_63 (by decide) ?_
          rw [nI_1]
          exact ih (p + 1) (by omega)
        refine gx_aload_n (pc := 14) dX10_passes_14 rfl ?_
        refine m_getA (pc := 15) rfl fX10_29 rfl (by decide) dX10_passes_15 ?_
        refine gx_iload_n (pc := 18) dX10_passes_18 rfl ?_
        refine m_iald (pc := 19) 15 (p) 12 rfl (by decide) rfl (by first | rfl | simp only [gx_lit, nI_add, pk_mul]) (by omega) (by decide) dX10_passes_19 ?_
        refine gx_if_eq (pc := 20) 60 dX10_passes_20 (by decide) (fun c2 => ?_) (fun c2 => ?_)
        · have c2' : σ.2.2.1 15 p = 0 := c2
          exact K _ _ (by simp [spFined, spFine, c2']) (by simp [spFines, spFine, c2'])
        · have c2' : ¬ σ.2.2.1 15 p = 0 := c2
          refine gx_aload_n (pc := 23) dX10_passes_23 rfl ?_
          refine m_getA (pc := 24) rfl fX10_129 rfl (by decide) dX10_passes_24 ?_
          refine gx_bipush (pc := 27) (v := 78) dX10_passes_27 (by decide) ?_
          refine m_iald (pc := 29) 50 (78) 123 rfl (by decide) rfl (by first | rfl | simp only [gx_lit, nI_add, pk_mul]) (by omega) (by decide) dX10_passes_29 ?_
          refine gx_iload_n (pc := 30) dX10_passes_30 rfl ?_
          refine gx_ishr (pc := 31) dX10_passes_31 ?_
          refine gx_iconst (pc := 32) (v := 1) dX10_passes_32 (by decide) ?_
          refine gx_iand (pc := 33) dX10_passes_33 ?_
          refine gx_iconst (pc := 34) (v := 1) dX10_passes_34 (by decide) ?_
          rw [mSA_A, setS_50, spFines_lo _ 78 (by omega) p (by omega)]
          refine gx_icmp_ne (pc := 35) 41 dX10_passes_35 (by decide) (fun c3 => ?_) (fun c3 => ?_)
          · refine gx_aload_n (pc := 41) dX10_passes_41 rfl ?_
            refine m_getA (pc := 42) rfl fX10_129 rfl (by decide) dX10_passes_42 ?_
            refine gx_bipush (pc := 45) (v := 79) dX10_passes_45 (by decide) ?_
            refine gx_iload_n (pc := 47) dX10_passes_47 rfl ?_
            refine gx_iadd (pc := 48) dX10_passes_48 ?_
            refine gx_dup2 (pc := 49) dX10_passes_49 rfl rfl ?_
            refine m_iald (pc := 50) 50 ((79 + p)) 123 rfl (by decide) rfl (by first | rfl | simp only [gx_lit, nI_add, pk_mul]) (by omega) (by decide) dX10_passes_50 ?_
            refine gx_iconst (pc := 51) (v := 1) dX10_passes_51 (by decide) ?_
            refine gx_iadd (pc := 52) dX10_passes_52 ?_
            refine m_iast (pc := 53) hb 50 ((79 + p)) 123 rfl (by decide) rfl (by first | rfl | simp only [gx_lit, nI_add, pk_mul]) (by omega) (by decide) dX10_passes_53 ?_
            refine gx_iload_n (pc := 54) dX10_passes_54 rfl ?_
            refine gx_iconst (pc := 55) (v := 1) dX10_passes_55 (by decide) ?_
            refine gx_iload_n (pc := 56) dX10_passes_56 rfl ?_
            refine gx_ishl (pc := 57) dX10_passes_57 ?_
            refine gx_ior (pc := 58) dX10_passes_58 ?_
            refine gx_istore_n (pc := 59) dX10_passes_59 (by decide) rfl ?_
            refine K _ _ (by simp [spFined, spFine, c2', hs, c3]) ?_
            simp only [mA_eq, mSA_A, mSA_mSA, setS_up0, setS_50, setS_setS]
            simp [spFines, spFine, c2', hs, c3]
          · refine gx_goto (pc := 38) 60 dX10_passes_38 (by decide) ?_
            exact K _ _ (by simp [spFined, spFine, hs, c3]) (by simp [spFines, spFine, hs, c3])
  have e0 : mSA σ (setS σ.2.2.1 (spFines σ.2.2.1 0)) = σ := by
    rw [setS_J]; show mSA σ (setJ σ.2.2.1 50 (σ.2.2.1 50)) = σ; rw [setJ_self]; rfl
  have L0 := L P 0 (by omega)
  rw [e0] at L0
  exact L0
end MF
