/-! ===== MODEL H: pay, rise, quarter, lend, undo, person, secret ===== -/
set_option maxRecDepth 100000
theorem wE.J {A B : Nat → Nat → Int32} (h : wE A B) (j : Nat) (f : Nat → Int32) : wE (setJ A j f) (setJ B j f) := by
  intro q hq
  by_cases e : q = j
  · subst e; rw [setJ_j, setJ_j]
  · rw [setJ_ne e, setJ_ne e]; exact h q hq
theorem wS.keep {σ τ : mS} (h : wS σ τ) (n : Nat) : wS (mKeep σ n) (mKeep τ n) := by
  obtain ⟨A', hA, rfl⟩ := h
  refine ⟨_, hA.J 53 (spKeep (σ.2.2.1 53) (σ.2.2.1 50) n), ?_⟩
  unfold mKeep
  rw [mSA_A, hA 53 (by omega), hA 50 (by omega)]
  rfl
theorem wS.row {σ τ : mS} (h : wS σ τ) (s : Nat → Int32) : wS (mRow σ s) (mRow τ s) := by
  obtain ⟨A', hA, rfl⟩ := h
  exact ⟨_, hA.J 50 s, rfl⟩
theorem wS.A {σ τ : mS} (h : wS σ τ) {j : Nat} (hj : j < 31 ∨ 40 < j) : τ.2.2.1 j = σ.2.2.1 j := by
  obtain ⟨A', hA, rfl⟩ := h
  exact hA j hj
theorem wS.x {σ τ : mS} (h : wS σ τ) : τ.1 = σ.1 := by
  obtain ⟨A', hA, rfl⟩ := h
  rfl
theorem wS.T {σ τ : mS} (h : wS σ τ) {P S E : Nat} {w : Option gxEv} (hT : mT σ.2.2.1 P S E w) : mT τ.2.2.1 P S E w := by
  obtain ⟨A', hA, rfl⟩ := h
  exact hT.wE hA
theorem mKeep_A {σ : mS} {n j : Nat} (hj : j ≠ 53) : (mKeep σ n).2.2.1 j = σ.2.2.1 j := setJ_ne hj
theorem mRow_A {σ : mS} {s : Nat → Int32} {j : Nat} (hj : j ≠ 50) : (mRow σ s).2.2.1 j = σ.2.2.1 j := setS_ne hj
theorem mRow_50 (σ : mS) (s : Nat → Int32) : (mRow σ s).2.2.1 50 = s := setS_50 σ.2.2.1 s
theorem mKeep_T {σ : mS} {P S E : Nat} {w : Option gxEv} (hT : mT σ.2.2.1 P S E w) (n : Nat) : mT (mKeep σ n).2.2.1 P S E w := hT.J (by omega) _
theorem mRow_T {σ : mS} {P S E : Nat} {w : Option gxEv} (hT : mT σ.2.2.1 P S E w) (s : Nat → Int32) : mT (mRow σ s).2.2.1 P S E w := hT.row _
/-- a worth and its sums look at six arrays -/
theorem spW_congr {A B : Nat → Nat → Int32} (h13 : B 13 = A 13) (h17 : B 17 = A 17) (h18 : B 18 = A 18) (h19 : B 19 = A 19) (h50 : B 50 = A 50) (w : Option gxEv) (P k : Nat) : spW w B P k = spW w A P k := spWorth_congr h13 h17 h18 h19 h50 w P _ _
theorem spWs_congr {A B : Nat → Nat → Int32} (h13 : B 13 = A 13) (h17 : B 17 = A 17) (h18 : B 18 = A 18) (h19 : B 19 = A 19) (h50 : B 50 = A 50) (w : Option gxEv) (P : Nat) (set : Int32) : ∀ k, spWs w B P set k = spWs w A P set k
  | 0 => rfl
  | k + 1 => by simp only [spWs, spWs_congr h13 h17 h18 h19 h50 w P set k, spW_congr h13 h17 h18 h19 h50]
/-- one pays -/
def spPay (s : Nat → Int32) (p : Nat) (set : Int32) : Nat → Int32 := upd (upd s 77 (s 77 ||| set)) 78 (s 78 ||| (1 <<< (nI p &&& 31)))
section MH
variable {G : gxG} {d : Nat} {h : gxH} {b : Nat} {σ : mS} {P S E : Nat} {w : Option gxEv}
theorem c_keeps' (hb : gxN G ≤ b) (hd : 1 ≤ d) (n : Nat) (hn : n ≤ 16) (hdn : σ.1 55 = nI n) : mMv G mX10_keeps d [.ref b] h b σ (fun σ' => σ' = mKeep σ n) := c_keeps hb hd n hn hdn
theorem c_pays' (hb : gxN G ≤ b) (p : Nat) (set : Int32) : mMv G mX10_pays d [.ref b, .int (nI p), .int set] h b σ (fun σ' => σ' = mRow σ (spPay (σ.2.2.1 50) p set)) := c_pays hb p set
theorem c_tells' (hb : gxN G ≤ b) (p q k : Nat) (hp : p < 6) (hq : q < 6) (hk : k < 10) : mMv G mX10_tells d [.ref b, .int (nI p), .int (nI q), .int (nI k)] h b σ (fun σ' => σ' = mRow σ (spTell σ.2.2.1 p q k)) := c_tells hb p q k hp hq hk
theorem c_passes' (hb : gxN G ≤ b) (hT : mT σ.2.2.1 P S E w) : mMi G mX10_passes d [.ref b] h b σ (fun r σ' => r = spFined σ.2.2.1 P ∧ σ' = mRow σ (spPass σ.2.2.1 P)) := c_passes hb hT.1 hT.2.1
theorem c_pay (hb : gxN G ≤ b) (hd : 17 ≤ d) (hT : mT σ.2.2.1 P S E w) (n : Nat) (hn : n ≤ 16) (hdn : σ.1 55 = nI n) (p set : Int32) : mMi G mX10_pay d [.ref b, .int p, .int set] h b σ (fun r σ' => (¬ (∃ p', p' < P ∧ p = nI p' ∧ spCanPay w σ.2.2.1 P S p' set = true) ∧ r = -1 ∧ wS (mI σ 0 0) σ') ∨
    ∃ p', p' < P ∧ p = nI p' ∧ spCanPay w σ.2.2.1 P S p' set = true ∧ r = spWs w (setS σ.2.2.1 (spPay (σ.2.2.1 50) p' set)) P set S ∧ wS (mRow (mKeep (mI σ 0 0) n) (spPay (σ.2.2.1 50) p' set)) σ') := by
  have hP := hT.2.1
  refine gxM_of rfl (Nat.le_of_ble_eq_true rfl) rfl ?_
  refine gx_aload_n (pc := 0) dX10_pay_0 rfl ?_
  refine gx_iconst (pc := 1) (v := 0) dX10_pay_1 (by decide) ?_
  refine m_putI (pc := 2) rfl hb fX10_175 rfl (by decide) tX10_0 dX10_pay_2 ?_
  refine gx_aload_n (pc := 5) dX10_pay_5 rfl ?_
  refine gx_iload_n (pc := 6) dX10_pay_6 rfl ?_
  refine kX10_436 (pc := 7) rfl (c_isP (d := d - 1) p (show mT (mI σ 0 0).2.2.1 P S E w from hT)) (by omega) (Nat.le_of_ble_eq_true rfl) dX10_pay_7 (fun r1 σ1 e1 => ?_)
  obtain ⟨e1, hσ⟩ := e1
  subst σ1
  refine gx_if_eq (pc := 10) 22 dX10_pay_10 (by decide) (fun c1 => ?_) (fun c1 => ?_)
  · rcases e1 with ⟨h1, rfl⟩ | ⟨h1, rfl⟩
    · exact absurd c1 (by decide)
    · refine gx_iconst (pc := 22) (v := (-1)) dX10_pay_22 (by decide) ?_
      exact m_ret (pc := 23) rfl dX10_pay_23 (Or.inl ⟨fun ⟨p', a1, a2, a3⟩ => h1 ⟨p', a1, a2⟩, rfl, wS.rf⟩)
  · rcases e1 with ⟨⟨p', hp, rfl⟩, rfl⟩ | ⟨h1, rfl⟩
    · refine gx_aload_n (pc := 13) dX10_pay_13 rfl ?_
      refine gx_iload_n (pc := 14) dX10_pay_14 rfl ?_
      refine gx_iload_n (pc := 15) dX10_pay_15 rfl ?_
      refine kX10_474 (pc := 16) rfl (c_canPay (d := d - 1) (σ := mI σ 0 0) hb (by omega) hT p' (by omega) set) (by omega) (Nat.le_of_ble_eq_true rfl) dX10_pay_16 (fun r1 σ1 e1 => ?_)
      obtain ⟨rfl, h1⟩ := e1
      refine gx_if_ne (pc := 19) 24 dX10_pay_19 (by decide) (fun c2 => ?_) (fun c2 => ?_)
      · have hc : spCanPay w σ.2.2.1 P S p' set = true := by
          cases e : spCanPay w σ.2.2.1 P S p' set with
          | true => rfl
          | false => rw [mI_A, e] at c2; exact absurd rfl c2
        refine gx_aload_n (pc := 24) dX10_pay_24 rfl ?_
        refine kX10_467 (pc := 25) rfl (c_keeps' (d := d - 1) hb (by omega) n hn (by rw [h1.x]; exact hdn)) (by omega) (Nat.le_of_ble_eq_true rfl) dX10_pay_25 (fun σ2 e2 => ?_)
        have h2 : wS (mKeep (mI σ 0 0) n) σ2 := by rw [e2]; exact h1.keep n
        refine gx_aload_n (pc := 28) dX10_pay_28 rfl ?_
        refine gx_iload_n (pc := 29) dX10_pay_29 rfl ?_
        refine gx_iload_n (pc := 30) dX10_pay_30 rfl ?_
        refine kX10_477 (pc := 31) rfl (c_pays' (d := d - 1) hb p' set) (by omega) (Nat.le_of_ble_eq_true rfl) dX10_pay_31 (fun σ3 e3 => ?_)
        have h3 : wS (mRow (mKeep (mI σ 0 0) n) (spPay (σ.2.2.1 50) p' set)) σ3 := by
          rw [e3, show σ2.2.2.1 50 = σ.2.2.1 50 by rw [h2.A (by omega), mKeep_A (by decide)]; rfl]
          exact h2.row _
        refine gx_aload_n (pc := 34) dX10_pay_34 rfl ?_
        refine gx_iload_n (pc := 35) dX10_pay_35 rfl ?_
        refine kX10_433 (pc := 36) rfl (c_worthsOf (d := d - 1) hb (by omega) (h3.T (mRow_T (mKeep_T hT n) _)) set) (by omega) (Nat.le_of_ble_eq_true rfl) dX10_pay_36 (fun r1 σ4 e4 => ?_)
        obtain ⟨rfl, h4⟩ := e4
        have hr : spWs w σ3.2.2.1 P set S = spWs w (setS σ.2.2.1 (spPay (σ.2.2.1 50) p' set)) P set S := by
          refine spWs_congr ?_ ?_ ?_ ?_ ?_ w P set S
          · rw [h3.A (by omega), mRow_A (by decide), mKeep_A (by decide), setS_ne (by decide)]; rfl
          · rw [h3.A (by omega), mRow_A (by decide), mKeep_A (by decide), setS_ne (by decide)]; rfl
          · rw [h3.A (by omega), mRow_A (by decide), mKeep_A (by decide), setS_ne (by decide)]; rfl
          · rw [h3.A (by omega), mRow_A (by decide), mKeep_A (by decide), setS_ne (by decide)]; rfl
          · rw [h3.A (by omega), mRow_50, setS_50]
        exact m_ret (pc := 39) rfl dX10_pay_39 (Or.inr ⟨p', hp, rfl, hc, hr, h3.tr h4⟩)
      · have hc : spCanPay w σ.2.2.1 P S p' set = false := by
          cases e : spCanPay w σ.2.2.1 P S p' set with
          | false => rfl
          | true => rw [mI_A, e] at c2; exact absurd c2 (by decide)
        refine gx_iconst (pc := 22) (v := (-1)) dX10_pay_22 (by decide) ?_
        exact m_ret (pc := 23) rfl dX10_pay_23 (Or.inl ⟨(fun ⟨p2, a1, a4, a8⟩ => by rw [← (nI_eq (by omega) (by omega)).mp a4, hc] at a8; cases a8), rfl, h1⟩)
    · exact absurd rfl c1
theorem c_rise (hb : gxN G ≤ b) (hd : 2 ≤ d) (hT : mT σ.2.2.1 P S E w) (n : Nat) (hn : n ≤ 16) (hdn : σ.1 55 = nI n) (p : Int32) : mMi G mX10_rise d [.ref b, .int p] h b σ (fun r σ' => (¬ (∃ p', p' < P ∧ p = nI p' ∧ ¬ σ.2.2.1 50 (70 + p') = 9) ∧ r = -1 ∧ σ' = mI σ 0 0) ∨
    ∃ p', p' < P ∧ p = nI p' ∧ ¬ σ.2.2.1 50 (70 + p') = 9 ∧ r = σ.2.2.1 50 (70 + p') + 1 ∧ σ' = mRow (mKeep (mI σ 0 0) n) (upd (σ.2.2.1 50) (70 + p') (σ.2.2.1 50 (70 + p') + 1))) := by
  have hP := hT.2.1
  refine gxM_of rfl (Nat.le_of_ble_eq_true rfl) rfl ?_
  refine gx_aload_n (pc := 0) dX10_rise_0 rfl ?_
  refine gx_iconst (pc := 1) (v := 0) dX10_rise_1 (by decide) ?_
  refine m_putI (pc := 2) rfl hb fX10_175 rfl (by decide) tX10_0 dX10_rise_2 ?_
  refine gx_aload_n (pc := 5) dX10_rise_5 rfl ?_
  refine gx_iload_n (pc := 6) dX10_rise_6 rfl ?_
  refine kX10_436 (pc := 7) rfl (c_isP (d := d - 1) p (show mT (mI σ 0 0).2.2.1 P S E w from hT)) (by omega) (Nat.le_of_ble_eq_true rfl) dX10_rise_7 (fun r1 σ1 e1 => ?_)
  obtain ⟨e1, hσ⟩ := e1
  subst σ1
  refine gx_if_eq (pc := 10) 27 dX10_rise_10 (by decide) (fun c1 => ?_) (fun c1 => ?_)
  · rcases e1 with ⟨h1, rfl⟩ | ⟨h1, rfl⟩
    · exact absurd c1 (by decide)
    · refine gx_iconst (pc := 27) (v := (-1)) dX10_rise_27 (by decide) ?_
      exact m_ret (pc := 28) rfl dX10_rise_28 (Or.inl ⟨fun ⟨p', a1, a2, a3⟩ => h1 ⟨p', a1, a2⟩, rfl, rfl⟩)
  · rcases e1 with ⟨⟨p', hp, rfl⟩, rfl⟩ | ⟨h1, rfl⟩
    · refine gx_aload_n (pc := 13) dX10_rise_13 rfl ?_
      refine m_getA (pc := 14) rfl fX10_129 rfl (by decide) dX10_rise_14 ?_
      refine gx_bipush (pc := 17) (v := 70) dX10_rise_17 (by decide) ?_
      refine gx_iload_n (pc := 19) dX10_rise_19 rfl ?_
      refine gx_iadd (pc := 20) dX10_rise_20 ?_
      refine m_iald (pc := 21) 50 ((70 + p')) 123 rfl (by decide) rfl (by first | rfl | simp only [gx_lit, nI_add, pk_mul]) (by omega) (by decide) dX10_rise_21 ?_
      refine gx_bipush (pc := 22) (v := 9) dX10_rise_22 (by decide) ?_
      rw [mI_A]
      refine gx_icmp_ne (pc := 24) 29 dX10_rise_24 (by decide) (fun c2 => ?_) (fun c2 => ?_)
      · refine gx_aload_n (pc := 29) dX10_rise_29 rfl ?_
        refine kX10_467 (pc := 30) rfl (c_keeps' (d := d - 1) (σ := mI σ 0 0) hb (by omega) n hn hdn) (by omega) (Nat.le_of_ble_eq_true rfl) dX10_rise_30 (fun σ2 e2 => ?_)
        have e50 : σ2.2.2.1 50 = σ.2.2.1 50 := by rw [e2, mKeep_A (by decide)]; rfl
        refine gx_aload_n (pc := 33) dX10_rise_33 rfl ?_
        refine m_getA (pc := 34) rfl fX10_129 rfl (by decide) dX10_rise_34 ?_
        refine gx_bipush (pc := 37) (v := 70) dX10_rise_37 (by decide) ?_
        refine gx_iload_n (pc := 39) dX10_rise_39 rfl ?_
        refine gx_iadd (pc := 40) dX10_rise_40 ?_
        refine gx_dup2 (pc := 41) dX10_rise_41 rfl rfl ?_
        refine m_iald (pc := 42) 50 ((70 + p')) 123 rfl (by decide) rfl (by first | rfl | simp only [gx_lit, nI_add, pk_mul]) (by omega) (by decide) dX10_rise_42 ?_
        refine gx_iconst (pc := 43) (v := 1) dX10_rise_43 (by decide) ?_
        refine gx_iadd (pc := 44) dX10_rise_44 ?_
        refine m_iast (pc := 45) hb 50 ((70 + p')) 123 rfl (by decide) rfl (by first | rfl | simp only [gx_lit, nI_add, pk_mul]) (by omega) (by decide) dX10_rise_45 ?_
        rw [e50]
        refine gx_aload_n (pc := 46) dX10_rise_46 rfl ?_
        refine m_getA (pc := 47) rfl fX10_129 rfl (by decide) dX10_rise_47 ?_
        refine gx_bipush (pc := 50) (v := 70) dX10_rise_50 (by decide) ?_
        refine gx_iload_n (pc := 52) dX10_rise_52 rfl ?_
        refine gx_iadd (pc := 53) dX10_rise_53 ?_
        refine m_iald (pc := 54) 50 ((70 + p')) 123 rfl (by decide) rfl (by first | rfl | simp only [gx_lit, nI_add, pk_mul]) (by omega) (by decide) dX10_rise_54 ?_
        have e3 : mA σ2 50 (70 + p') (σ.2.2.1 50 (70 + p') + 1) = mRow (mKeep (mI σ 0 0) n) (upd (σ.2.2.1 50) (70 + p') (σ.2.2.1 50 (70 + p') + 1)) := by
          rw [mA_eq, setS_up0, e50, e2]; rfl
        rw [e3, mRow_50]
        exact m_ret (pc := 55) rfl dX10_rise_55 (Or.inr ⟨p', hp, rfl, c2, by simp [upd], rfl⟩)
      · refine gx_iconst (pc := 27) (v := (-1)) dX10_rise_27 (by decide) ?_
        exact m_ret (pc := 28) rfl dX10_rise_28 (Or.inl ⟨(fun ⟨p2, a1, a4, a8⟩ => a8 (by rw [← (nI_eq (by omega) (by omega)).mp a4]; exact c2)), rfl, rfl⟩)
    · exact absurd rfl c1
theorem c_quarter (hb : gxN G ≤ b) (hd : 2 ≤ d) (hT : mT σ.2.2.1 P S E w) (n : Nat) (hn : n ≤ 16) (hdn : σ.1 55 = nI n) : mMi G mX10_quarter d [.ref b] h b σ (fun r σ' => r = spFined σ.2.2.1 P ∧ σ' = mRow (mKeep (mI σ 0 0) n) (spPass σ.2.2.1 P)) := by
  refine gxM_of rfl (Nat.le_of_ble_eq_true rfl) rfl ?_
  refine gx_aload_n (pc := 0) dX10_quarter_0 rfl ?_
  refine gx_iconst (pc := 1) (v := 0) dX10_quarter_1 (by decide) ?_
  refine m_putI (pc := 2) rfl hb fX10_175 rfl (by decide) tX10_0 dX10_quarter_2 ?_
  refine gx_aload_n (pc := 5) dX10_quarter_5 rfl ?_
  refine kX10_467 (pc := 6) rfl (c_keeps' (d := d - 1) (σ := mI σ 0 0) hb (by omega) n hn hdn) (by omega) (Nat.le_of_ble_eq_true rfl) dX10_quarter_6 (fun σ2 e2 => ?_)
  have hT2 : mT σ2.2.2.1 P S E w := by rw [e2]; exact mKeep_T (σ := mI σ 0 0) hT n
  refine gx_aload_n (pc := 9) dX10_quarter_9 rfl ?_
  refine kX10_480 (pc := 10) rfl (c_passes' (d := d - 1) hb hT2) (by omega) (Nat.le_of_ble_eq_true rfl) dX10_quarter_10 (fun r1 σ3 e3 => ?_)
  obtain ⟨rfl, e3⟩ := e3
  have f1 : spFine σ2.2.2.1 = spFine σ.2.2.1 := by
    funext p
    simp only [spFine]
    rw [e2, mKeep_A (by decide), mKeep_A (by decide)]; rfl
  have f2 : ∀ p, spFined σ2.2.2.1 p = spFined σ.2.2.1 p := by
    intro p
    induction p with
    | zero => rfl
    | succ p ih => simp only [spFined, ih, f1]
  have e50 : σ2.2.2.1 50 = σ.2.2.1 50 := by rw [e2, mKeep_A (by decide)]; rfl
  have f3 : ∀ p, spFines σ2.2.2.1 p = spFines σ.2.2.1 p := by
    intro p
    induction p with
    | zero => exact e50
    | succ p ih => simp only [spFines, ih, f1]
  exact m_ret (pc := 13) rfl dX10_quarter_13 (⟨f2 P, by rw [e3, spPass, f3 P, e50, e2]; rfl⟩)
/-- a loan -/
def spLend (s : Nat → Int32) (p q : Nat) (n : Int32) : Nat → Int32 := upd (upd s (86 + 6 * q + p) (s (86 + 6 * q + p) + n)) 122 (s 122 + 1)
theorem c_lend (hb : gxN G ≤ b) (hd : 16 ≤ d) (hT : mT σ.2.2.1 P S E w) (n : Nat) (hn : n ≤ 16) (hdn : σ.1 55 = nI n) (p q k : Int32) : mMi G mX10_lend d [.ref b, .int p, .int q, .int k] h b σ (fun r σ' => (¬ (∃ p' q' k', p' < P ∧ q' < P ∧ k' < S ∧ p = nI p' ∧ q = nI q' ∧ k = nI k' ∧ p' ≠ q' ∧ σ.2.2.1 17 k' = nI q' ∧ ¬ (σ.2.2.1 50 k' >>> (nI p' &&& 31)) &&& 1 = 0 ∧ ¬ σ.2.2.1 50 122 = 12) ∧ r = -1 ∧ σ' = mI σ 0 0) ∨
    ∃ p' q' k', p' < P ∧ q' < P ∧ k' < S ∧ p = nI p' ∧ q = nI q' ∧ k = nI k' ∧ p' ≠ q' ∧ σ.2.2.1 17 k' = nI q' ∧ ¬ (σ.2.2.1 50 k' >>> (nI p' &&& 31)) &&& 1 = 0 ∧ ¬ σ.2.2.1 50 122 = 12 ∧ r = spW w σ.2.2.1 P k' ∧ wS (mRow (mKeep (mI σ 0 0) n) (spLend (σ.2.2.1 50) p' q' (spW w σ.2.2.1 P k'))) σ') := by
  have hP := hT.2.1
  have hS := hT.2.2.2.1
  refine gxM_of rfl (Nat.le_of_ble_eq_true rfl) rfl ?_
  refine gx_aload_n (pc := 0) dX10_lend_0 rfl ?_
  refine gx_iconst (pc := 1) (v := 0) dX10_lend_1 (by decide) ?_
  refine m_putI (pc := 2) rfl hb fX10_175 rfl (by decide) tX10_0 dX10_lend_2 ?_
  refine gx_aload_n (pc := 5) dX10_lend_5 rfl ?_
  refine gx_iload_n (pc := 6) dX10_lend_6 rfl ?_
  refine gx_iload_n (pc := 7) dX10_lend_7 rfl ?_
  refine kX10_448 (pc := 8) rfl (c_are2 (d := d - 1) (by omega) p q (show mT (mI σ 0 0).2.2.1 P S E w from hT)) (by omega) (Nat.le_of_ble_eq_true rfl) dX10_lend_8 (fun r1 σ1 e1 => ?_)
  obtain ⟨e1, hσ⟩ := e1
  subst σ1
  refine gx_if_eq (pc := 11) 57 dX10_lend_11 (by decide) (fun c1 => ?_) (fun c1 => ?_)
  · rcases e1 with ⟨h1, rfl⟩ | ⟨h1, rfl⟩
    · exact absurd c1 (by decide)
    · refine gx_iconst (pc := 57) (v := (-1)) dX10_lend_57 (by decide) ?_
      exact m_ret (pc := 58) rfl dX10_lend_58 (Or.inl ⟨fun ⟨p', q', k', a1, a2, a3, a4, a5, a6, a7, a8⟩ => h1 ⟨⟨p', a1, a4⟩, ⟨q', a2, a5⟩, fun e => a7 ((nI_eq (by omega) (by omega)).mp (a4.symm.trans (e.trans a5)))⟩, rfl, rfl⟩)
  · rcases e1 with ⟨h1, rfl⟩ | ⟨h1, rfl⟩
    · refine gx_aload_n (pc := 14) dX10_lend_14 rfl ?_
      refine gx_iload_n (pc := 15) dX10_lend_15 rfl ?_
      refine kX10_445 (pc := 16) rfl (c_isS (d := d - 1) k (show mT (mI σ 0 0).2.2.1 P S E w from hT)) (by omega) (Nat.le_of_ble_eq_true rfl) dX10_lend_16 (fun r1 σ1 e1 => ?_)
      obtain ⟨e1, hσ⟩ := e1
      subst σ1
      refine gx_if_eq (pc := 19) 57 dX10_lend_19 (by decide) (fun c2 => ?_) (fun c2 => ?_)
      · rcases e1 with ⟨h2, rfl⟩ | ⟨h2, rfl⟩
        · exact absurd c2 (by decide)
        · refine gx_iconst (pc := 57) (v := (-1)) dX10_lend_57 (by decide) ?_
          exact m_ret (pc := 58) rfl dX10_lend_58 (Or.inl ⟨fun ⟨p', q', k', a1, a2, a3, a4, a5, a6, a7, a8⟩ => h2 ⟨k', a3, a6⟩, rfl, rfl⟩)
      · rcases e1 with ⟨h2, rfl⟩ | ⟨h2, rfl⟩
        · obtain ⟨k', hk, rfl⟩ := h2
          obtain ⟨⟨p', hp, rfl⟩, ⟨q', hq, rfl⟩, hne⟩ := h1
          have hpq : p' ≠ q' := fun e => hne (by rw [e])
          have inj : ∀ {p2 q2 k2 : Nat}, p2 < P → q2 < P → k2 < S → nI p' = nI p2 → nI q' = nI q2 → nI k' = nI k2 → p2 = p' ∧ q2 = q' ∧ k2 = k' := fun a1 a2 a3 a4 a5 a6 => ⟨((nI_eq (by omega) (by omega)).mp a4).symm, ((nI_eq (by omega) (by omega)).mp a5).symm, ((nI_eq (by omega) (by omega)).mp a6).symm⟩
          refine gx_aload_n (pc := 22) dX10_lend_22 rfl ?_
          refine m_getA (pc := 23) rfl fX10_35 rfl (by decide) dX10_lend_23 ?_
          refine gx_iload_n (pc := 26) dX10_lend_26 rfl ?_
          refine m_iald (pc := 27) 17 (k') 20 rfl (by decide) rfl (by first | rfl | simp only [gx_lit, nI_add, pk_mul]) (by omega) (by decide) dX10_lend_27 ?_
          refine gx_iload_n (pc := 28) dX10_lend_28 rfl ?_
          rw [mI_A]
          refine gx_icmp_ne (pc := 29) 57 dX10_lend_29 (by decide) (fun c3 => ?_) (fun c3 => ?_)
          · refine gx_iconst (pc := 57) (v := (-1)) dX10_lend_57 (by decide) ?_
            exact m_ret (pc := 58) rfl dX10_lend_58 (Or.inl ⟨(fun ⟨p2, q2, k2, a1, a2, a3, a4, a5, a6, a7, a8, a9, a10⟩ => by obtain ⟨rfl, rfl, rfl⟩ := inj a1 a2 a3 a4 a5 a6; exact c3 a8), rfl, rfl⟩)
          · refine gx_aload_n (pc := 32) dX10_lend_32 rfl ?_
            refine m_getA (pc := 33) rfl fX10_129 rfl (by decide) dX10_lend_33 ?_
            refine gx_iload_n (pc := 36) dX10_lend_36 rfl ?_
            refine m_iald (pc := 37) 50 (k') 123 rfl (by decide) rfl (by first | rfl | simp only [gx_lit, nI_add, pk_mul]) (by omega) (by decide) dX10_lend_37 ?_
            refine gx_iload_n (pc := 38) dX10_lend_38 rfl ?_
            refine gx_ishr (pc := 39) dX10_lend_39 ?_
            refine gx_iconst (pc := 40) (v := 1) dX10_lend_40 (by decide) ?_
            refine gx_iand (pc := 41) dX10_lend_41 ?_
            rw [mI_A]
            refine gx_if_eq (pc := 42) 57 dX10_lend_42 (by decide) (fun c4 => ?_) (fun c4 => ?_)
            · refine gx_iconst (pc := 57) (v := (-1)) dX10_lend_57 (by decide) ?_
              exact m_ret (pc := 58) rfl dX10_lend_58 (Or.inl ⟨(fun ⟨p2, q2, k2, a1, a2, a3, a4, a5, a6, a7, a8, a9, a10⟩ => by obtain ⟨rfl, rfl, rfl⟩ := inj a1 a2 a3 a4 a5 a6; exact a9 c4), rfl, rfl⟩)
            · refine gx_aload_n (pc := 45) dX10_lend_45 rfl ?_
              refine m_getA (pc := 46) rfl fX10_129 rfl (by decide) dX10_lend_46 ?_
              refine gx_bipush (pc := 49) (v := 122) dX10_lend_49 (by decide) ?_
              refine m_iald (pc := 51) 50 (122) 123 rfl (by decide) rfl (by first | rfl | simp only [gx_lit, nI_add, pk_mul]) (by omega) (by decide) dX10_lend_51 ?_
              refine gx_bipush (pc := 52) (v := 12) dX10_lend_52 (by decide) ?_
              rw [mI_A]
              refine gx_icmp_ne (pc := 54) 59 dX10_lend_54 (by decide) (fun c5 => ?_) (fun c5 => ?_)
              · refine gx_aload_n (pc := 59) dX10_lend_59 rfl ?_
                refine kX10_467 (pc := 60) rfl (c_keeps' (d := d - 1) (σ := mI σ 0 0) hb (by omega) n hn hdn) (by omega) (Nat.le_of_ble_eq_true rfl) dX10_lend_60 (fun σ2 e2 => ?_)
                have hT2 : mT σ2.2.2.1 P S E w := by rw [e2]; exact mKeep_T (σ := mI σ 0 0) hT n
                refine gx_aload_n (pc := 63) dX10_lend_63 rfl ?_
                refine gx_iload_n (pc := 64) dX10_lend_64 rfl ?_
                refine kX10_427 (pc := 65) rfl (c_worthOf0 hb hT2 k' (d - 1) (by omega) hk) (by omega) (Nat.le_of_ble_eq_true rfl) dX10_lend_65 (fun r1 σ3 e3 => ?_)
                refine gx_istore (pc := 68) dX10_lend_68 (by decide) rfl ?_
                obtain ⟨rfl, h3⟩ := e3
                have hr : spW w σ2.2.2.1 P k' = spW w σ.2.2.1 P k' := by
                  refine spW_congr ?_ ?_ ?_ ?_ ?_ w P k' <;> (rw [e2, mKeep_A (by decide)]; rfl)
                rw [hr]
                have e50 : σ3.2.2.1 50 = σ.2.2.1 50 := by rw [h3.A (by omega), e2, mKeep_A (by decide)]; rfl
                refine gx_aload_n (pc := 70) dX10_lend_70 rfl ?_
                refine m_getA (pc := 71) rfl fX10_129 rfl (by decide) dX10_lend_71 ?_
                refine gx_bipush (pc := 74) (v := 86) dX10_lend_74 (by decide) ?_
                refine gx_bipush (pc := 76) (v := 6) dX10_lend_76 (by decide) ?_
                refine gx_iload_n (pc := 78) dX10_lend_78 rfl ?_
                refine gx_imul (pc := 79) dX10_lend_79 ?_
                refine gx_iadd (pc := 80) dX10_lend_80 ?_
                refine gx_iload_n (pc := 81) dX10_lend_81 rfl ?_
                refine gx_iadd (pc := 82) dX10_lend_82 ?_
                refine gx_dup2 (pc := 83) dX10_lend_83 rfl rfl ?_
                refine m_iald (pc := 84) 50 (((86 + (6 * q')) + p')) 123 rfl (by decide) rfl (by first | rfl | simp only [gx_lit, nI_add, pk_mul]) (by omega) (by decide) dX10_lend_84 ?_
                refine gx_iload (pc := 85) dX10_lend_85 rfl ?_
                refine gx_iadd (pc := 87) dX10_lend_87 ?_
                refine m_iast (pc := 88) hb 50 (((86 + (6 * q')) + p')) 123 rfl (by decide) rfl (by first | rfl | simp only [gx_lit, nI_add, pk_mul]) (by omega) (by decide) dX10_lend_88 ?_
                rw [e50]
                refine gx_aload_n (pc := 89) dX10_lend_89 rfl ?_
                refine m_getA (pc := 90) rfl fX10_129 rfl (by decide) dX10_lend_90 ?_
                refine gx_bipush (pc := 93) (v := 122) dX10_lend_93 (by decide) ?_
                refine gx_dup2 (pc := 95) dX10_lend_95 rfl rfl ?_
                refine m_iald (pc := 96) 50 (122) 123 rfl (by decide) rfl (by first | rfl | simp only [gx_lit, nI_add, pk_mul]) (by omega) (by decide) dX10_lend_96 ?_
                refine gx_iconst (pc := 97) (v := 1) dX10_lend_97 (by decide) ?_
                refine gx_iadd (pc := 98) dX10_lend_98 ?_
                refine m_iast (pc := 99) hb 50 (122) 123 rfl (by decide) rfl (by first | rfl | simp only [gx_lit, nI_add, pk_mul]) (by omega) (by decide) dX10_lend_99 ?_
                refine gx_iload (pc := 100) dX10_lend_100 rfl ?_
                have e4 : (mA σ3 50 (86 + 6 * q' + p') (σ.2.2.1 50 (86 + 6 * q' + p') + spW w σ.2.2.1 P k')).2.2.1 50 122 = σ.2.2.1 50 122 := by
                  rw [mA_eq, mSA_A, setS_up0, setS_50, e50]
                  simp only [upd]
                  rw [if_neg (by omega)]
                rw [e4]
                have e5 : mA (mA σ3 50 (86 + 6 * q' + p') (σ.2.2.1 50 (86 + 6 * q' + p') + spW w σ.2.2.1 P k')) 50 122 (σ.2.2.1 50 122 + 1) = mRow σ3 (spLend (σ.2.2.1 50) p' q' (spW w σ.2.2.1 P k')) := by
                  simp only [mA_eq, mSA_A, mSA_mSA, setS_up0, setS_50, setS_setS, e50]; rfl
                rw [e5]
                exact m_ret (pc := 102) rfl dX10_lend_102 (Or.inr ⟨p', q', k', hp, hq, hk, rfl, rfl, rfl, hpq, c3, c4, c5, rfl, by rw [show mKeep (mI σ 0 0) n = σ2 from e2.symm]; exact h3.row _⟩)
              · refine gx_iconst (pc := 57) (v := (-1)) dX10_lend_57 (by decide) ?_
                exact m_ret (pc := 58) rfl dX10_lend_58 (Or.inl ⟨(fun ⟨p2, q2, k2, a1, a2, a3, a4, a5, a6, a7, a8, a9, a10⟩ => a10 c5), rfl, rfl⟩)
        · exact absurd rfl c2
    · exact absurd rfl c1
theorem c_undo (hb : gxN G ≤ b) (hd : 1 ≤ d) (n : Nat) (hn : n ≤ 16) (hdn : σ.1 55 = nI n) : mMi G mX10_undo d [.ref b] h b σ (fun r σ' => (n = 0 ∧ r = 0 ∧ σ' = mI σ 0 0) ∨ ∃ n', n = n' + 1 ∧ r = 1 ∧ σ' = mRow (mI (mI σ 0 0) 55 (nI n')) (va_cpy (σ.2.2.1 53) (σ.2.2.1 50) (123 * n') 0 123)) := by
  refine gxM_of rfl (Nat.le_of_ble_eq_true rfl) rfl ?_
  refine gx_aload_n (pc := 0) dX10_undo_0 rfl ?_
  refine gx_iconst (pc := 1) (v := 0) dX10_undo_1 (by decide) ?_
  refine m_putI (pc := 2) rfl hb fX10_175 rfl (by decide) tX10_0 dX10_undo_2 ?_
  refine gx_aload_n (pc := 5) dX10_undo_5 rfl ?_
  refine m_getI (pc := 6) rfl fX10_398 rfl (by decide) dX10_undo_6 ?_
  have hd1 : (mI σ 0 0).1 55 = nI n := hdn
  rw [hd1]
  refine gx_if_ne (pc := 9) 14 dX10_undo_9 (by decide) (fun c1 => ?_) (fun c1 => ?_)
  · obtain ⟨n', rfl⟩ : ∃ n', n = n' + 1 := ⟨n - 1, by
      rcases Nat.eq_zero_or_pos n with e | e
      · subst e; exact absurd rfl c1
      · omega⟩
    refine gx_aload_n (pc := 14) dX10_undo_14 rfl ?_
    refine gx_dup (pc := 15) dX10_undo_15 rfl ?_
    refine m_getI (pc := 16) rfl fX10_398 rfl (by decide) dX10_undo_16 ?_
    rw [hd1]
    refine gx_iconst (pc := 19) (v := 1) dX10_undo_19 (by decide) ?_
    refine gx_isub (pc := 20) dX10_undo_20 ?_
    refine m_putI (pc := 21) rfl hb fX10_398 rfl (by decide) tX10_55 dX10_undo_21 ?_
    rw [nI_pred]
    refine gx_aload_n (pc := 24) dX10_undo_24 rfl ?_
    refine m_getA (pc := 25) rfl fX10_138 rfl (by decide) dX10_undo_25 ?_
    refine gx_bipush (pc := 28) (v := 123) dX10_undo_28 (by decide) ?_
    refine gx_aload_n (pc := 30) dX10_undo_30 rfl ?_
    refine m_getI (pc := 31) rfl fX10_398 rfl (by decide) dX10_undo_31 ?_
    rw [mI_eq]
    refine gx_imul (pc := 34) dX10_undo_34 ?_
    refine gx_aload_n (pc := 35) dX10_undo_35 rfl ?_
    refine m_getA (pc := 36) rfl fX10_129 rfl (by decide) dX10_undo_36 ?_
    refine gx_iconst (pc := 39) (v := 0) dX10_undo_39 (by decide) ?_
    rw [show (123 : Int32) * nI n' = nI (123 * n') from pk_mul 123 n']
    refine kX10_457 (pc := 40) rfl (c_copies (d := d - 1) (a := 123 * n') (c := 0) hb 53 50 1968 123 (hj_jf := rfl) (ho_jf := by decide) (hn_jf := rfl) (hb_jf := by decide) (hj_jt := rfl) (ho_jt := by decide) (hn_jt := rfl) (hb_jt := by decide) (hne := by decide) (ha := by omega) (hc := by decide)) (by omega) (Nat.le_of_ble_eq_true rfl) dX10_undo_40 (fun σ1 e1 => ?_)
    refine gx_iconst (pc := 43) (v := 1) dX10_undo_43 (by decide) ?_
    exact m_retz (pc := 44) rfl (by decide) dX10_undo_44 (Or.inr ⟨n', rfl, rfl, e1⟩)
  · refine gx_iconst (pc := 12) (v := 0) dX10_undo_12 (by decide) ?_
    have hn0 : n = 0 := (nI_eq (b := 0) (by omega) (by omega)).mp c1
    exact m_retz (pc := 13) rfl (by decide) dX10_undo_13 (Or.inl ⟨hn0, rfl, rfl⟩)
end MH
