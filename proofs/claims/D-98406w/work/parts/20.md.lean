/-! ===== MODEL D: worths, purses, nets ===== -/
set_option maxRecDepth 100000
abbrev gxEv : Type := Int32 → Int32 → Int32 → Int32 → Int32
/-- the worth's codes in the arrays A, from f on, n of them; what they come to -/
def mWx (A : Nat → Nat → Int32) (w : Option gxEv) : Prop := ∃ f n, A 25 0 = nI f ∧ A 26 0 = nI (f + n) ∧ f + n ≤ 1000 ∧ match w with
  | none => n = 0
  | some ev => 0 < n ∧ ∀ A' : Nat → Nat → Int32, okRun (opensA A' 0, 0) (codesL (A 27) f n) ∧ spWk A' (codesL (A 27) f n) 31 0 = ev (A' 40 1) (A' 40 2) (A' 40 3) (A' 40 4)
/-- a town stands in the arrays A -/
def mT (A : Nat → Nat → Int32) (P S E : Nat) (w : Option gxEv) : Prop :=
  A 10 0 = nI P ∧ P ≤ 6 ∧ A 10 1 = nI S ∧ S ≤ 10 ∧ A 10 2 = nI E ∧ E ≤ 30 ∧ (∀ k, k < S → ∃ p, p < P ∧ A 17 k = nI p) ∧ (∀ k, k < S → A 19 k = -1 ∨ ∃ o, o < k ∧ A 19 k = nI o) ∧
  (∀ e, e < E → (∃ p, p < P ∧ A 22 e = nI p) ∧ (∃ p, p < P ∧ A 23 e = nI p) ∧ A 22 e ≠ A 23 e) ∧ mWx A w
/-- arrays alike but for the worth's working and its facts -/
def wE (A B : Nat → Nat → Int32) : Prop := ∀ j, j < 31 ∨ 40 < j → B j = A j
theorem wE.rf {A : Nat → Nat → Int32} : wE A A := fun _ _ => rfl
theorem wE.tr {A B C : Nat → Nat → Int32} (h : wE A B) (h2 : wE B C) : wE A C := fun j hj => (h2 j hj).trans (h j hj)
theorem wkE.wE {A B : Nat → Nat → Int32} (h : wkE A B) : wE A B := fun j hj => h j (by omega)
theorem mT.wE {A B : Nat → Nat → Int32} {P S E : Nat} {w : Option gxEv} (h : mT A P S E w) (e : wE A B) : mT B P S E w := by
  unfold mT mWx at *
  rw [e 10 (by omega), e 17 (by omega), e 19 (by omega), e 22 (by omega), e 23 (by omega), e 25 (by omega), e 26 (by omega), e 27 (by omega)]
  exact h
def spBase (w : Option gxEv) (A : Nat → Nat → Int32) (P k : Nat) (set : Int32) : Int32 :=
  match w with
  | none => if 4 < spKn (fun p => decide (¬ A 13 p = 3)) set P then 0 else A 18 k / spMax 1 (spKn (fun p => decide (¬ A 13 p = 3)) set P)
  | some ev => spBt (ev (A 18 k) (spKn (fun p => decide (¬ A 13 p = 3)) set P) (A 50 85) (A 50 (70 + (A 17 k).toNatClampNeg))) 0 999
theorem spBase_wE {A B : Nat → Nat → Int32} (e : wE A B) (w : Option gxEv) (P k : Nat) (set : Int32) : spBase w B P k set = spBase w A P k set := by
  unfold spBase
  rw [e 13 (by omega), e 17 (by omega), e 18 (by omega), e 50 (by omega)]
def spWorth (w : Option gxEv) (A : Nat → Nat → Int32) (P : Nat) : Nat → Nat → Int32
  | 0, _ => 0
  | f + 1, k => if hs (A 50 76) (nI k) then 0 else spBase w A P k (A 50 k) + (if A 19 k < 0 then 0 else spWorth w A P f (A 19 k).toNatClampNeg)
theorem spWorth_wE {A B : Nat → Nat → Int32} (e : wE A B) (w : Option gxEv) (P : Nat) : ∀ f k, spWorth w B P f k = spWorth w A P f k := by
  intro f
  induction f with
  | zero => intro k; rfl
  | succ f ih =>
    intro k
    simp only [spWorth, spBase_wE e, ih]
    rw [e 50 (by omega), e 19 (by omega)]
theorem spWorth_fuel {w : Option gxEv} {A : Nat → Nat → Int32} {P S E : Nat} (hT : mT A P S E w) : ∀ k, k < S → ∀ f, k < f → spWorth w A P f k = spWorth w A P (k + 1) k := by
  intro k
  induction k using Nat.strongRecOn with
  | ind k ih =>
    intro hk f hf
    have hS := hT.2.2.2.1
    obtain ⟨g, rfl⟩ : ∃ g, f = g + 1 := ⟨f - 1, by omega⟩
    simp only [spWorth]
    rcases hT.2.2.2.2.2.2.2.1 k hk with h1 | ⟨o, ho, h1⟩
    · rw [h1]; rfl
    · rw [h1, nI_clamp (by omega)]
      rw [ih o ho (by omega) g (by omega), ih o ho (by omega) k (by omega)]
/-- a secret's worth, with enough steps -/
def spW (w : Option gxEv) (A : Nat → Nat → Int32) (P k : Nat) : Int32 := spWorth w A P (k + 1) k
theorem spW_wE {A B : Nat → Nat → Int32} (e : wE A B) (w : Option gxEv) (P k : Nat) : spW w B P k = spW w A P k := spWorth_wE e w P _ _
def spKnown (A : Nat → Nat → Int32) (p : Int32) : Nat → Int32
  | 0 => 0
  | k + 1 => spKnown A p k ||| (((A 50 k >>> (p &&& 31)) &&& 1) <<< (nI k &&& 31))
def spWs (w : Option gxEv) (A : Nat → Nat → Int32) (P : Nat) (set : Int32) : Nat → Int32
  | 0 => 0
  | k + 1 => spWs w A P set k + (if hs set (nI k) then spW w A P k else 0)
theorem spWs_wE {A B : Nat → Nat → Int32} (e : wE A B) (w : Option gxEv) (P : Nat) (set : Int32) : ∀ k, spWs w B P set k = spWs w A P set k
  | 0 => rfl
  | k + 1 => by simp only [spWs, spWs_wE e w P set k, spW_wE e]
theorem spKnown_wE {A B : Nat → Nat → Int32} (e : wE A B) (p : Int32) : ∀ k, spKnown B p k = spKnown A p k
  | 0 => rfl
  | k + 1 => by simp only [spKnown, spKnown_wE e p k]; rw [e 50 (by omega)]
def spNet (A : Nat → Nat → Int32) (p : Nat) : Nat → Int32
  | 0 => 0
  | o + 1 => spNet A p o + (A 50 (86 + 6 * o + p) - A 50 (86 + 6 * p + o))
/-- what a method leaves that works worths out -/
def wS (σ σ' : mS) : Prop := ∃ A', wE σ.2.2.1 A' ∧ σ' = mSA σ A'
theorem wS.rf {σ : mS} : wS σ σ := ⟨_, wE.rf, rfl⟩
theorem wS.tr {σ σ' σ'' : mS} (h : wS σ σ') (h2 : wS σ' σ'') : wS σ σ'' := by
  obtain ⟨A, e, rfl⟩ := h
  obtain ⟨B, e', rfl⟩ := h2
  exact ⟨B, e.tr e', rfl⟩
theorem mSA_A (σ : mS) (A : Nat → Nat → Int32) : (mSA σ A).2.2.1 = A := rfl
section MD
variable {G : gxG} {d : Nat} {h : gxH} {b : Nat} {σ : mS} {P S E : Nat} {w : Option gxEv}
theorem c_baseOf (hb : gxN G ≤ b) (hd : 3 ≤ d) (hT : mT σ.2.2.1 P S E w) (k : Nat) (hk : k < S) (set : Int32) : mMi G mX10_baseOf d [.ref b, .int (nI k), .int set] h b σ (fun r σ' => r = spBase w σ.2.2.1 P k set ∧ wS σ σ') := by
  obtain ⟨h1, h2, h3, h4, h5, h6, h7, h8, h9, f, n, h10, h11, h12, h13⟩ := id hT
  refine gxM_of rfl (Nat.le_of_ble_eq_true rfl) rfl ?_
  refine gx_aload_n (pc := 0) dX10_baseOf_0 rfl ?_
  refine gx_iload_n (pc := 1) dX10_baseOf_1 rfl ?_
  refine kX10_408 (pc := 2) rfl (c_knowersOf (d := d - 1) P set h1 h2) (by omega) (Nat.le_of_ble_eq_true rfl) dX10_baseOf_2 (fun r1 σ1 e1 => ?_)
  refine gx_istore_n (pc := 5) dX10_baseOf_5 (by decide) rfl ?_
  obtain ⟨rfl, hσ⟩ := e1
  subst σ1
  refine gx_aload_n (pc := 6) dX10_baseOf_6 rfl ?_
  refine m_getA (pc := 7) rfl fX10_62 rfl (by decide) dX10_baseOf_7 ?_
  refine gx_iconst (pc := 10) (v := 0) dX10_baseOf_10 (by decide) ?_
  refine m_iald (pc := 11) 26 (0) 2 rfl (by decide) rfl (by first | rfl | simp only [gx_lit, nI_add, pk_mul]) (by omega) (by decide) dX10_baseOf_11 ?_
  refine gx_aload_n (pc := 12) dX10_baseOf_12 rfl ?_
  refine m_getA (pc := 13) rfl fX10_59 rfl (by decide) dX10_baseOf_13 ?_
  refine gx_iconst (pc := 16) (v := 0) dX10_baseOf_16 (by decide) ?_
  refine m_iald (pc := 17) 25 (0) 2 rfl (by decide) rfl (by first | rfl | simp only [gx_lit, nI_add, pk_mul]) (by omega) (by decide) dX10_baseOf_17 ?_
  refine gx_icmp_ne (pc := 18) 43 dX10_baseOf_18 (by decide) (fun c1 => ?_) (fun c1 => ?_)
  · cases w with
    | none => exact absurd (by rw [h10, h11, h13]; rfl) c1
    | some ev =>
      obtain ⟨h14, h15⟩ := h13
      obtain ⟨p, hp1, hp2⟩ := h7 k hk
      have key : ∀ σ2 : mS, wE σ.2.2.1 σ2.2.2.1 → σ2 = mSA σ σ2.2.2.1 → σ2.2.2.1 40 1 = σ.2.2.1 18 k → σ2.2.2.1 40 2 = spKn (fun p => decide (¬ σ.2.2.1 13 p = 3)) set P → σ2.2.2.1 40 3 = σ.2.2.1 50 85 → σ2.2.2.1 40 4 = σ.2.2.1 50 (70 + p) → gxV G mX10_baseOf d 0 0 95 [some (.ref b), some (.int (nI k)), some (.int set), some (.int (spKn (fun p => decide (¬ σ.2.2.1 13 p = 3)) set P))] [] (mput h b σ2) (mQi h b (fun r σ' => r = spBase (some ev) σ.2.2.1 P k set ∧ wS σ σ')) := by
        intro σ2 g1 g2 g3 g4 g5 g6
        have e27 : σ2.2.2.1 27 = σ.2.2.1 27 := g1 27 (by omega)
        refine gx_aload_n (pc := 95) dX10_baseOf_95 rfl ?_
        refine gx_iconst (pc := 96) (v := 0) dX10_baseOf_96 (by decide) ?_
        refine kX10_417 (pc := 97) rfl (c_worked (d := d - 1) hb (by omega) f n (by rw [g1 25 (by omega)]; exact h10) (by rw [g1 26 (by omega)]; exact h11) (by omega) (by rw [e27]; exact (h15 _).1)) (by omega) (Nat.le_of_ble_eq_true rfl) dX10_baseOf_97 (fun r1 σ1 e1 => ?_)
        obtain ⟨rfl, hσ⟩ := e1
        subst σ1
        rw [e27, (h15 _).2, g3, g4, g5, g6]
        refine gx_iconst (pc := 100) (v := 0) dX10_baseOf_100 (by decide) ?_
        refine gx_sipush (pc := 101) (v := 999) dX10_baseOf_101 (by decide) ?_
        refine kX10_420 (pc := 104) rfl (c_between (d := d - 1) _ _ _) (by omega) (Nat.le_of_ble_eq_true rfl) dX10_baseOf_104 (fun r1 σ1 e1 => ?_)
        obtain ⟨rfl, hσ⟩ := e1
        subst σ1
        exact m_ret (pc := 107) rfl dX10_baseOf_107 (⟨by simp only [spBase]; rw [hp2, nI_clamp (by omega)], ⟨_, g1.tr (wkE.wk _ _).wE, by rw [g2]; rfl⟩⟩)
      refine gx_aload_n (pc := 43) dX10_baseOf_43 rfl ?_
      refine m_getA (pc := 44) rfl fX10_102 rfl (by decide) dX10_baseOf_44 ?_
      refine gx_iconst (pc := 47) (v := 1) dX10_baseOf_47 (by decide) ?_
      refine gx_aload_n (pc := 48) dX10_baseOf_48 rfl ?_
      refine m_getA (pc := 49) rfl fX10_38 rfl (by decide) dX10_baseOf_49 ?_
      refine gx_iload_n (pc := 52) dX10_baseOf_52 rfl ?_
      refine m_iald (pc := 53) 18 (k) 20 rfl (by decide) rfl (by first | rfl | simp only [gx_lit, nI_add, pk_mul]) (by omega) (by decide) dX10_baseOf_53 ?_
      refine m_iast (pc := 54) hb 40 (1) 20 rfl (by decide) rfl (by first | rfl | simp only [gx_lit, nI_add, pk_mul]) (by omega) (by decide) dX10_baseOf_54 ?_
      refine gx_aload_n (pc := 55) dX10_baseOf_55 rfl ?_
      refine m_getA (pc := 56) rfl fX10_102 rfl (by decide) dX10_baseOf_56 ?_
      refine gx_iconst (pc := 59) (v := 2) dX10_baseOf_59 (by decide) ?_
      refine gx_iload_n (pc := 60) dX10_baseOf_60 rfl ?_
      refine m_iast (pc := 61) hb 40 (2) 20 rfl (by decide) rfl (by first | rfl | simp only [gx_lit, nI_add, pk_mul]) (by omega) (by decide) dX10_baseOf_61 ?_
      refine gx_aload_n (pc := 62) dX10_baseOf_62 rfl ?_
      refine m_getA (pc := 63) rfl fX10_102 rfl (by decide) dX10_baseOf_63 ?_
      refine gx_iconst (pc := 66) (v := 3) dX10_baseOf_66 (by decide) ?_
      refine gx_aload_n (pc := 67) dX10_baseOf_67 rfl ?_
      refine m_getA (pc := 68) rfl fX10_129 rfl (by decide) dX10_baseOf_68 ?_
      refine gx_bipush (pc := 71) (v := 85) dX10_baseOf_71 (by decide) ?_
      refine m_iald (pc := 73) 50 (85) 123 rfl (by decide) rfl (by first | rfl | simp only [gx_lit, nI_add, pk_mul]) (by omega) (by decide) dX10_baseOf_73 ?_
      refine m_iast (pc := 74) hb 40 (3) 20 rfl (by decide) rfl (by first | rfl | simp only [gx_lit, nI_add, pk_mul]) (by omega) (by decide) dX10_baseOf_74 ?_
      refine gx_aload_n (pc := 75) dX10_baseOf_75 rfl ?_
      refine m_getA (pc := 76) rfl fX10_102 rfl (by decide) dX10_baseOf_76 ?_
      refine gx_iconst (pc := 79) (v := 4) dX10_baseOf_79 (by decide) ?_
      refine gx_aload_n (pc := 80) dX10_baseOf_80 rfl ?_
      refine m_getA (pc := 81) rfl fX10_129 rfl (by decide) dX10_baseOf_81 ?_
      refine gx_bipush (pc := 84) (v := 70) dX10_baseOf_84 (by decide) ?_
      refine gx_aload_n (pc := 86) dX10_baseOf_86 rfl ?_
      refine m_getA (pc := 87) rfl fX10_35 rfl (by decide) dX10_baseOf_87 ?_
      refine gx_iload_n (pc := 90) dX10_baseOf_90 rfl ?_
      refine m_iald (pc := 91) 17 (k) 20 rfl (by decide) rfl (by first | rfl | simp only [gx_lit, nI_add, pk_mul]) (by omega) (by decide) dX10_baseOf_91 ?_
      refine gx_iadd (pc := 92) dX10_baseOf_92 ?_
      refine m_iald (pc := 93) 50 (70 + p) 123 rfl (by decide) rfl ((congrArg (fun z => (70 : Int32) + z) hp2).trans (nI_add 70 p)) (by omega) (by decide) dX10_baseOf_93 ?_
      refine m_iast (pc := 94) hb 40 (4) 20 rfl (by decide) rfl (by first | rfl | simp only [gx_lit, nI_add, pk_mul]) (by omega) (by decide) dX10_baseOf_94 ?_
      exact key _ (fun j hj => by simp [mA, show j ≠ 40 by omega]) rfl rfl rfl rfl rfl
  · cases w with
    | none =>
      refine gx_iload_n (pc := 21) dX10_baseOf_21 rfl ?_
      refine gx_iconst (pc := 22) (v := 4) dX10_baseOf_22 (by decide) ?_
      refine gx_icmp_le (pc := 23) 30 dX10_baseOf_23 (by decide) (fun c2 => ?_) (fun c2 => ?_)
      · refine gx_aload_n (pc := 30) dX10_baseOf_30 rfl ?_
        refine m_getA (pc := 31) rfl fX10_38 rfl (by decide) dX10_baseOf_31 ?_
        refine gx_iload_n (pc := 34) dX10_baseOf_34 rfl ?_
        refine m_iald (pc := 35) 18 (k) 20 rfl (by decide) rfl (by first | rfl | simp only [gx_lit, nI_add, pk_mul]) (by omega) (by decide) dX10_baseOf_35 ?_
        refine gx_iconst (pc := 36) (v := 1) dX10_baseOf_36 (by decide) ?_
        refine gx_iload_n (pc := 37) dX10_baseOf_37 rfl ?_
        refine kX10_411 (pc := 38) rfl (c_max (d := d - 1) _ _) (by omega) (Nat.le_of_ble_eq_true rfl) dX10_baseOf_38 (fun r1 σ1 e1 => ?_)
        obtain ⟨rfl, hσ⟩ := e1
        subst σ1
        refine gx_idiv (pc := 41) dX10_baseOf_41 (by grind [spMax]) ?_
        exact m_ret (pc := 42) rfl dX10_baseOf_42 (⟨by simp only [spBase]; rw [if_neg (Int32.not_lt.mpr c2)], wS.rf⟩)
      · refine gx_iconst (pc := 26) (v := 0) dX10_baseOf_26 (by decide) ?_
        refine gx_goto (pc := 27) 42 dX10_baseOf_27 (by decide) ?_
        exact m_ret (pc := 42) rfl dX10_baseOf_42 (⟨by simp only [spBase]; rw [if_pos (Int32.not_le.mp c2)], wS.rf⟩)
    | some ev =>
      obtain ⟨h14, h15⟩ := h13
      rw [h10, h11] at c1
      exact absurd ((nI_eq (by omega) (by omega)).mp c1) (by omega)
theorem c_worthOf (hb : gxN G ≤ b) (hT : mT σ.2.2.1 P S E w) : ∀ (k : Nat) (d : Nat), k + 4 ≤ d → k < S → ∀ A', wE σ.2.2.1 A' → mMi G mX10_worthOf d [.ref b, .int (nI k)] h b (mSA σ A') (fun r σ' => r = spW w σ.2.2.1 P k ∧ wS σ σ') := by
  intro k
  induction k using Nat.strongRecOn with
  | ind k ih =>
    intro d hd hk A' hA
    have hS := hT.2.2.2.1
    have hT' := hT.wE hA
    refine gxM_of rfl (Nat.le_of_ble_eq_true rfl) rfl ?_
    refine gx_aload_n (pc := 0) dX10_worthOf_0 rfl ?_
    refine m_getA (pc := 1) rfl fX10_129 rfl (by decide) dX10_worthOf_1 ?_
    refine gx_bipush (pc := 4) (v := 76) dX10_worthOf_4 (by decide) ?_
    refine m_iald (pc := 6) 50 (76) 123 rfl (by decide) rfl (by first | rfl | simp only [gx_lit, nI_add, pk_mul]) (by omega) (by decide) dX10_worthOf_6 ?_
    refine gx_iload_n (pc := 7) dX10_worthOf_7 rfl ?_
    refine gx_ishr (pc := 8) dX10_worthOf_8 ?_
    refine gx_iconst (pc := 9) (v := 1) dX10_worthOf_9 (by decide) ?_
    refine gx_iand (pc := 10) dX10_worthOf_10 ?_
    refine gx_iconst (pc := 11) (v := 1) dX10_worthOf_11 (by decide) ?_
    have e50 : A' 50 = σ.2.2.1 50 := hA 50 (by omega)
    have e19 : A' 19 = σ.2.2.1 19 := hA 19 (by omega)
    rw [mSA_A, e50]
    refine gx_icmp_ne (pc := 12) 17 dX10_worthOf_12 (by decide) (fun c1 => ?_) (fun c1 => ?_)
    · refine gx_aload_n (pc := 17) dX10_worthOf_17 rfl ?_
      refine gx_iload_n (pc := 18) dX10_worthOf_18 rfl ?_
      refine gx_aload_n (pc := 19) dX10_worthOf_19 rfl ?_
      refine m_getA (pc := 20) rfl fX10_129 rfl (by decide) dX10_worthOf_20 ?_
      refine gx_iload_n (pc := 23) dX10_worthOf_23 rfl ?_
      refine m_iald (pc := 24) 50 (k) 123 rfl (by decide) rfl (by first | rfl | simp only [gx_lit, nI_add, pk_mul]) (by omega) (by decide) dX10_worthOf_24 ?_
      refine kX10_424 (pc := 25) rfl (c_baseOf (d := d - 1) (σ := mSA σ A') hb (by omega) hT' k hk _) (by omega) (Nat.le_of_ble_eq_true rfl) dX10_worthOf_25 (fun r1 σ1 e1 => ?_)
      obtain ⟨rfl, A2, hA2, rfl⟩ := e1
      have hA3 := hA.tr hA2
      have e19b : A2 19 = σ.2.2.1 19 := hA3 19 (by omega)
      have hc : hs (σ.2.2.1 50 76) (nI k) = false := by simpa [hs] using c1
      rw [mSA_A, spBase_wE hA, e50]
      refine gx_aload_n (pc := 28) dX10_worthOf_28 rfl ?_
      refine m_getA (pc := 29) rfl fX10_41 rfl (by decide) dX10_worthOf_29 ?_
      refine gx_iload_n (pc := 32) dX10_worthOf_32 rfl ?_
      refine m_iald (pc := 33) 19 (k) 20 rfl (by decide) rfl (by first | rfl | simp only [gx_lit, nI_add, pk_mul]) (by omega) (by decide) dX10_worthOf_33 ?_
      have e19c : (mSA (mSA σ A') A2).2.2.1 19 k = σ.2.2.1 19 k := by show A2 19 k = _; rw [e19b]
      rw [e19c]
      refine gx_if_ge (pc := 34) 41 dX10_worthOf_34 (by decide) (fun c2 => ?_) (fun c2 => ?_)
      · rcases hT.2.2.2.2.2.2.2.1 k hk with h1 | ⟨o, ho, h1⟩
        · rw [h1] at c2; exact absurd c2 (by decide)
        · refine gx_aload_n (pc := 41) dX10_worthOf_41 rfl ?_
          refine gx_aload_n (pc := 42) dX10_worthOf_42 rfl ?_
          refine m_getA (pc := 43) rfl fX10_41 rfl (by decide) dX10_worthOf_43 ?_
          refine gx_iload_n (pc := 46) dX10_worthOf_46 rfl ?_
          refine m_iald (pc := 47) 19 (k) 20 rfl (by decide) rfl (by first | rfl | simp only [gx_lit, nI_add, pk_mul]) (by omega) (by decide) dX10_worthOf_47 ?_
          rw [e19c, h1]
          refine kX10_427 (pc := 48) rfl (ih o ho (d - 1) (by omega) (by omega) A2 hA3) (by omega) (Nat.le_of_ble_eq_true rfl) dX10_worthOf_48 (fun r1 σ1 e1 => ?_)
          obtain ⟨rfl, h2⟩ := e1
          refine gx_iadd (pc := 51) dX10_worthOf_51 ?_
          exact m_ret (pc := 52) rfl dX10_worthOf_52 (⟨by simp only [spW, spWorth, hc, h1]; rw [if_neg Bool.false_ne_true, if_neg (nI_pos (by omega)), nI_clamp (by omega)]; congr 1; exact (spWorth_fuel hT o (by omega) k ho).symm, h2⟩)
      · refine gx_iconst (pc := 37) (v := 0) dX10_worthOf_37 (by decide) ?_
        refine gx_goto (pc := 38) 51 dX10_worthOf_38 (by decide) ?_
        refine gx_iadd (pc := 51) dX10_worthOf_51 ?_
        exact m_ret (pc := 52) rfl dX10_worthOf_52 (⟨by simp only [spW, spWorth, hc]; rw [if_neg Bool.false_ne_true, if_pos (Int32.not_le.mp c2)], ⟨A2, hA3, rfl⟩⟩)
    · refine gx_iconst (pc := 15) (v := 0) dX10_worthOf_15 (by decide) ?_
      have hc : hs (σ.2.2.1 50 76) (nI k) = true := by simpa [hs] using c1
      exact m_ret (pc := 16) rfl dX10_worthOf_16 (⟨by simp [spW, spWorth, hc], ⟨A', hA, rfl⟩⟩)
end MD
