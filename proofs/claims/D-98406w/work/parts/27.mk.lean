/-! ===== MODEL K: least, see, leaks, lies ===== -/
set_option maxRecDepth 100000
def lsStep (w : Option gxEv) (A : Nat → Nat → Int32) (P S p : Nat) (q : Int32 × Int32) (set : Int32) : Int32 × Int32 :=
  if (0 ≤ q.1 ∧ spBits q.1 10 < spBits set 10) ∨ spCanPay w A P S p set = false then q
  else if 0 ≤ q.1 ∧ spBits set 10 = spBits q.1 10 ∧ q.2 ≤ spWs w A P set S then q else (set, spWs w A P set S)
def spLs (w : Option gxEv) (A : Nat → Nat → Int32) (P S p : Nat) : Nat → Int32 × Int32
  | 0 => (-1, 0)
  | m + 1 => lsStep w A P S p (spLs w A P S p m) (nI (m + 1))
/-- the fewest by which one can pay -/
def spLeast (w : Option gxEv) (A : Nat → Nat → Int32) (P S p : Nat) : Int32 := (spLs w A P S p (2 ^ S - 1)).1
theorem pow_S {S : Nat} (h : S ≤ 10) : 1 ≤ 2 ^ S ∧ 2 ^ S ≤ 1024 := by
  have : ∀ S, S < 11 → 1 ≤ 2 ^ S ∧ 2 ^ S ≤ 1024 := by decide +kernel
  exact this S (by omega)
def asStep (A : Nat → Nat → Int32) (set : Int32) (k : Nat) : Bool := decide (zi (!decide (A 50 (A 48 k).toNatClampNeg &&& set = 0)) = A 49 k)
def spAs (A : Nat → Nat → Int32) (set : Int32) : Nat → Bool
  | 0 => true
  | k + 1 => spAs A set k && asStep A set k
/-- how many, what is in all, in some, the least -/
abbrev lkT : Type := Int32 × Int32 × Int32 × Int32
def lkStep (A : Nat → Nat → Int32) (N : Nat) (q : lkT) (set : Int32) : lkT :=
  if spAs A set N then (q.1 + 1, q.2.1 &&& set, q.2.2.1 ||| set, if q.2.2.2 < 0 ∨ spBits set 10 < spBits q.2.2.2 10 then set else q.2.2.2) else q
def spLk (A : Nat → Nat → Int32) (N : Nat) : Nat → lkT
  | 0 => (0, 63, 0, -1)
  | m + 1 => lkStep A N (spLk A N m) (nI m)
def spLkr (q : lkT) (what : Int32) : Int32 := if what = 0 then q.1 else if q.1 = 0 then -1 else if what = 1 then q.2.1 else if what = 2 then q.2.2.1 else q.2.2.2
def clStep (A : Nat → Nat → Int32) (set : Int32) (k : Nat) : Bool := hs set (nI k) && !decide (A 21 k &&& set = 0)
def spCl (A : Nat → Nat → Int32) (set : Int32) : Nat → Bool
  | 0 => false
  | k + 1 => spCl A set k || clStep A set k
/-- the best, how many, what is in all -/
abbrev liT : Type := Int32 × Int32 × Int32
def liStep (A : Nat → Nat → Int32) (S : Nat) (q : liT) (set : Int32) : liT :=
  if (0 ≤ q.1 ∧ spBits q.1 10 < spBits set 10) ∨ spCl A (spAll S &&& (set ^^^ (-1))) S = true then q
  else if q.1 < 0 ∨ spBits set 10 < spBits q.1 10 then (set, 1, spAll S &&& set) else (q.1, q.2.1 + 1, q.2.2 &&& set)
def spLi (A : Nat → Nat → Int32) (S : Nat) : Nat → liT
  | 0 => (-1, 0, 0)
  | m + 1 => liStep A S (spLi A S m) (nI m)
def spLir (q : liT) (what : Int32) : Int32 := if what = 0 then spBits q.1 10 else if what = 1 then q.1 else if what = 2 then q.2.1 else q.2.2
section MK
variable {G : gxG} {d : Nat} {h : gxH} {b : Nat} {σ : mS} {P S E : Nat} {w : Option gxEv}
theorem c_leastOf (hb : gxN G ≤ b) (hd : 17 ≤ d) (hT : mT σ.2.2.1 P S E w) (p : Nat) (hp : p < 6) : mMi G mX10_leastOf d [.ref b, .int (nI p)] h b σ (fun r σ' => r = spLeast w σ.2.2.1 P S p ∧ wS σ σ') := by
  have hS := hT.2.2.2.1
  obtain ⟨hp1, hp2⟩ := pow_S hS
  refine gxM_of rfl (Nat.le_of_ble_eq_true rfl) rfl ?_
  have L : ∀ n m, n + m = 2 ^ S - 1 → ∀ σ1 x5, wS σ σ1 → gxV G mX10_leastOf d 0 0 7 [some (.ref b), some (.int (nI p)), some (.int (spLs w σ.2.2.1 P S p m).1), some (.int (spLs w σ.2.2.1 P S p m).2), some (.int (nI (m + 1))), x5] [] (mput h b σ1) (mQi h b (fun r σ' => r = spLeast w σ.2.2.1 P S p ∧ wS σ σ')) := by
    intro n
    induction n with
    | zero =>
      intro m hm σ1 x5 h1
      refine gx_iload (pc := 7) dX10_leastOf_7 rfl ?_
      refine gx_aload_n (pc := 9) dX10_leastOf_9 rfl ?_
      refine kX10_489 (pc := 10) rfl (c_allSecrets (d := d - 1) (h1.T hT)) (by omega) (Nat.le_of_ble_eq_true rfl) dX10_leastOf_10 (fun r1 σ2 e2 => ?_)
      obtain ⟨rfl, hσ⟩ := e2
      subst σ2
      rw [spAll_eq S (by omega)]
      refine gx_icmp_gt (pc := 13) 90 dX10_leastOf_13 (by decide) (fun c1 => ?_) (fun c1 => ?_)
      · refine gx_iload_n (pc := 90) dX10_leastOf_90 rfl ?_
        exact m_ret (pc := 91) rfl dX10_leastOf_91 (⟨by rw [spLeast, show m = 2 ^ S - 1 by omega], h1⟩)
      · exact absurd (nI_lt (by omega) (by omega)) c1
    | succ n ih =>
      intro m hm σ1 x5 h1
      have hT1 := h1.T hT
      have g : ∀ j, j < 31 ∨ 40 < j → σ1.2.2.1 j = σ.2.2.1 j := fun j hj => h1.A hj
      have hcp : spCanPay w σ1.2.2.1 P S p (nI (m + 1)) = spCanPay w σ.2.2.1 P S p (nI (m + 1)) := spCanPay_congr (g 13 (by omega)) (g 15 (by omega)) (g 17 (by omega)) (g 18 (by omega)) (g 19 (by omega)) (g 50 (by omega)) _ _ _ _ _
      refine gx_iload (pc := 7) dX10_leastOf_7 rfl ?_
      refine gx_aload_n (pc := 9) dX10_leastOf_9 rfl ?_
      refine kX10_489 (pc := 10) rfl (c_allSecrets (d := d - 1) hT1) (by omega) (Nat.le_of_ble_eq_true rfl) dX10_leastOf_10 (fun r1 σ2 e2 => ?_)
      obtain ⟨rfl, hσ⟩ := e2
      subst σ2
      rw [spAll_eq S (by omega)]
      refine gx_icmp_gt (pc := 13) 90 dX10_leastOf_13 (by decide) (fun c1 => ?_) (fun c1 => ?_)
      · exact absurd c1 (nI_nlt (by omega) (by omega))
      · have K84 : ∀ σ2 x5 bb ll, wS σ σ2 → (bb, ll) = spLs w σ.2.2.1 P S p (m + 1) → gxV G mX10_leastOf d 0 0 84 [some (.ref b), some (.int (nI p)), some (.int bb), some (.int ll), some (.int (nI (m + 1))), x5] [] (mput h b σ2) (mQi h b (fun r σ' => r = spLeast w σ.2.2.1 P S p ∧ wS σ σ')) := by
          intro σ2 x5 bb ll h2 hq
          have hb1 : bb = (spLs w σ.2.2.1 P S p (m + 1)).1 := by rw [← hq]
          have hb2 : ll = (spLs w σ.2.2.1 P S p (m + 1)).2 := by rw [← hq]
          subst hb1; subst hb2
          refine gx_iincc (pc := 84) (c := 1) dX10_leastOf_84 rfl (by decide) (by decide) rfl ?_
          refine gx_goto (pc := 87) 7 dX10_leastOf_87 (by decide) ?_
          rw [nI_1]
          exact ih (m + 1) (by omega) σ2 x5 h2
        generalize hq : spLs w σ.2.2.1 P S p m = q at *
        obtain ⟨bb, ll⟩ := q
        have hstep : spLs w σ.2.2.1 P S p (m + 1) = lsStep w σ.2.2.1 P S p (bb, ll) (nI (m + 1)) := by rw [spLs, hq]
        have K78 : ∀ σ2, wS σ σ2 → lsStep w σ.2.2.1 P S p (bb, ll) (nI (m + 1)) = (nI (m + 1), spWs w σ.2.2.1 P (nI (m + 1)) S) → gxV G mX10_leastOf d 0 0 78 [some (.ref b), some (.int (nI p)), some (.int bb), some (.int ll), some (.int (nI (m + 1))), some (.int (spWs w σ.2.2.1 P (nI (m + 1)) S))] [] (mput h b σ2) (mQi h b (fun r σ' => r = spLeast w σ.2.2.1 P S p ∧ wS σ σ')) := by
          intro σ2 h2 he
          refine gx_iload (pc := 78) dX10_leastOf_78 rfl ?_
          refine gx_istore_n (pc := 80) dX10_leastOf_80 (by decide) rfl ?_
          refine gx_iload (pc := 81) dX10_leastOf_81 rfl ?_
          refine gx_istore_n (pc := 83) dX10_leastOf_83 (by decide) rfl ?_
          exact K84 σ2 _ _ _ h2 (by rw [hstep, he])
        have K32 : ¬ (0 ≤ bb ∧ spBits bb 10 < spBits (nI (m + 1)) 10) → gxV G mX10_leastOf d 0 0 32 [some (.ref b), some (.int (nI p)), some (.int bb), some (.int ll), some (.int (nI (m + 1))), x5] [] (mput h b σ1) (mQi h b (fun r σ' => r = spLeast w σ.2.2.1 P S p ∧ wS σ σ')) := by
          intro hno
          refine gx_aload_n (pc := 32) dX10_leastOf_32 rfl ?_
          refine gx_iload_n (pc := 33) dX10_leastOf_33 rfl ?_
          refine gx_iload (pc := 34) dX10_leastOf_34 rfl ?_
          refine kX10_474 (pc := 36) rfl (c_canPay (d := d - 1) hb (by omega) hT1 p hp _) (by omega) (Nat.le_of_ble_eq_true rfl) dX10_leastOf_36 (fun r1 σ2 e2 => ?_)
          obtain ⟨rfl, h2⟩ := e2
          have h12 := h1.tr h2
          rw [hcp]
          refine gx_if_ne (pc := 39) 45 dX10_leastOf_39 (by decide) (fun c2 => ?_) (fun c2 => ?_)
          · have hc : spCanPay w σ.2.2.1 P S p (nI (m + 1)) = true := by
              cases e : spCanPay w σ.2.2.1 P S p (nI (m + 1)) with
              | true => rfl
              | false => rw [e] at c2; exact absurd rfl c2
            refine gx_aload_n (pc := 45) dX10_leastOf_45 rfl ?_
            refine gx_iload (pc := 46) dX10_leastOf_46 rfl ?_
            refine kX10_433 (pc := 48) rfl (c_worthsOf (d := d - 1) hb (by omega) (h12.T hT) _) (by omega) (Nat.le_of_ble_eq_true rfl) dX10_leastOf_48 (fun r1 σ3 e3 => ?_)
            refine gx_istore (pc := 51) dX10_leastOf_51 (by decide) rfl ?_
            obtain ⟨rfl, h3⟩ := e3
            have h13 := h12.tr h3
            have hw2 : spWs w σ2.2.2.1 P (nI (m + 1)) S = spWs w σ.2.2.1 P (nI (m + 1)) S := spWs_congr (h12.A (by omega)) (h12.A (by omega)) (h12.A (by omega)) (h12.A (by omega)) (h12.A (by omega)) _ _ _ _
            rw [hw2]
            have hno2 : ¬ ((0 ≤ (bb, ll).1 ∧ spBits (bb, ll).1 10 < spBits (nI (m + 1)) 10) ∨ spCanPay w σ.2.2.1 P S p (nI (m + 1)) = false) := by
              rintro (hh | hh)
              · exact hno hh
              · rw [hc] at hh; cases hh
            refine gx_iload_n (pc := 53) dX10_leastOf_53 rfl ?_
            refine gx_if_lt (pc := 54) 78 dX10_leastOf_54 (by decide) (fun c3 => ?_) (fun c3 => ?_)
            · refine K78 σ3 h13 ?_
              simp only [lsStep]
              rw [if_neg hno2, if_neg (fun hh => absurd hh.1 (Int32.not_le.mpr c3))]
            · refine gx_iload (pc := 57) dX10_leastOf_57 rfl ?_
              refine kX10_492 (pc := 59) rfl (c_bits (d := d - 1) _) (by omega) (Nat.le_of_ble_eq_true rfl) dX10_leastOf_59 (fun r1 σ4 e4 => ?_)
              refine gx_iload_n (pc := 62) dX10_leastOf_62 rfl ?_
              refine kX10_492 (pc := 63) rfl (c_bits (d := d - 1) _) (by omega) (Nat.le_of_ble_eq_true rfl) dX10_leastOf_63 (fun r2 σ5 e5 => ?_)
              obtain ⟨rfl, hσ⟩ := e4
              subst σ4
              obtain ⟨rfl, hσ⟩ := e5
              subst σ5
              refine gx_icmp_ne (pc := 66) 78 dX10_leastOf_66 (by decide) (fun c4 => ?_) (fun c4 => ?_)
              · refine K78 σ3 h13 ?_
                simp only [lsStep]
                rw [if_neg hno2, if_neg (fun hh => c4 hh.2.1)]
              · refine gx_iload (pc := 69) dX10_leastOf_69 rfl ?_
                refine gx_iload_n (pc := 71) dX10_leastOf_71 rfl ?_
                refine gx_icmp_lt (pc := 72) 78 dX10_leastOf_72 (by decide) (fun c5 => ?_) (fun c5 => ?_)
                · refine K78 σ3 h13 ?_
                  simp only [lsStep]
                  rw [if_neg hno2, if_neg (fun hh => absurd hh.2.2 (Int32.not_le.mpr c5))]
                · refine gx_goto (pc := 75) 84 dX10_leastOf_75 (by decide) ?_
                  refine K84 σ3 _ _ _ h13 ?_
                  rw [hstep]
                  simp only [lsStep]
                  rw [if_neg hno2, if_pos ⟨Int32.not_lt.mp c3, c4, Int32.not_lt.mp c5⟩]
          · have hc : spCanPay w σ.2.2.1 P S p (nI (m + 1)) = false := by
              cases e : spCanPay w σ.2.2.1 P S p (nI (m + 1)) with
              | false => rfl
              | true => rw [e] at c2; exact absurd c2 (by decide)
            refine gx_goto (pc := 42) 84 dX10_leastOf_42 (by decide) ?_
            refine K84 σ2 _ _ _ h12 ?_
            rw [hstep]
            simp only [lsStep]
            rw [if_pos (Or.inr hc)]
        refine gx_iload_n (pc := 16) dX10_leastOf_16 rfl ?_
        refine gx_if_lt (pc := 17) 32 dX10_leastOf_17 (by decide) (fun c2 => ?_) (fun c2 => ?_)
        · exact K32 (fun hh => absurd hh.1 (Int32.not_le.mpr c2))
        · refine gx_iload (pc := 20) dX10_leastOf_20 rfl ?_
          refine kX10_492 (pc := 22) rfl (c_bits (d := d - 1) _) (by omega) (Nat.le_of_ble_eq_true rfl) dX10_leastOf_22 (fun r1 σ4 e4 => ?_)
          refine gx_iload_n (pc := 25) dX10_leastOf_25 rfl ?_
          refine kX10_492 (pc := 26) rfl (c_bits (d := d - 1) _) (by omega) (Nat.le_of_ble_eq_true rfl) dX10_leastOf_26 (fun r2 σ5 e5 => ?_)
          obtain ⟨rfl, hσ⟩ := e4
          subst σ4
          obtain ⟨rfl, hσ⟩ := e5
          subst σ5
          refine gx_icmp_gt (pc := 29) 84 dX10_leastOf_29 (by decide) (fun c3 => ?_) (fun c3 => ?_)
          · refine K84 σ1 _ _ _ h1 ?_
            rw [hstep]
            simp only [lsStep]
            rw [if_pos (Or.inl ⟨Int32.not_lt.mp c2, c3⟩)]
          · exact K32 (fun hh => c3 hh.2)
  refine gx_iconst (pc := 0) (v := (-1)) dX10_leastOf_0 (by decide) ?_
  refine gx_istore_n (pc := 1) dX10_leastOf_1 (by decide) rfl ?_
  refine gx_iconst (pc := 2) (v := 0) dX10_leastOf_2 (by decide) ?_
  refine gx_istore_n (pc := 3) dX10_leastOf_3 (by decide) rfl ?_
  refine gx_iconst (pc := 4) (v := 1) dX10_leastOf_4 (by decide) ?_
  refine gx_istore (pc := 5) dX10_leastOf_5 (by decide) rfl ?_
  exact L (2 ^ S - 1) 0 (by omega) σ _ wS.rf
theorem c_least (hb : gxN G ≤ b) (hd : 18 ≤ d) (hT : mT σ.2.2.1 P S E w) (p : Int32) : mMi G mX10_least d [.ref b, .int p] h b σ (fun r σ' => ((¬ inN p P ∧ r = -1) ∨ ∃ p', p' < P ∧ p = nI p' ∧ r = spLeast w σ.2.2.1 P S p') ∧ wS (mI σ 0 0) σ') := by
  have hP := hT.2.1
  refine gxM_of rfl (Nat.le_of_ble_eq_true rfl) rfl ?_
  refine gx_aload_n (pc := 0) dX10_least_0 rfl ?_
  refine gx_iconst (pc := 1) (v := 0) dX10_least_1 (by decide) ?_
  refine m_putI (pc := 2) rfl hb fX10_175 rfl (by decide) tX10_0 dX10_least_2 ?_
  refine gx_aload_n (pc := 5) dX10_least_5 rfl ?_
  refine gx_iload_n (pc := 6) dX10_least_6 rfl ?_
  refine kX10_436 (pc := 7) rfl (c_isP (d := d - 1) p (show mT (mI σ 0 0).2.2.1 P S E w from hT)) (by omega) (Nat.le_of_ble_eq_true rfl) dX10_least_7 (fun r1 σ1 e1 => ?_)
  obtain ⟨e1, hσ⟩ := e1
  subst σ1
  refine gx_if_eq (pc := 10) 21 dX10_least_10 (by decide) (fun c1 => ?_) (fun c1 => ?_)
  · rcases e1 with ⟨h1, rfl⟩ | ⟨h1, rfl⟩
    · exact absurd c1 (by decide)
    · refine gx_iconst (pc := 21) (v := (-1)) dX10_least_21 (by decide) ?_
      exact m_ret (pc := 22) rfl dX10_least_22 (⟨Or.inl ⟨h1, rfl⟩, wS.rf⟩)
  · rcases e1 with ⟨⟨p', hp, rfl⟩, rfl⟩ | ⟨h1, rfl⟩
    · refine gx_aload_n (pc := 13) dX10_least_13 rfl ?_
      refine gx_iload_n (pc := 14) dX10_least_14 rfl ?_
      refine kX10_495 (pc := 15) rfl (c_leastOf (d := d - 1) (σ := mI σ 0 0) hb (by omega) hT p' (by omega)) (by omega) (Nat.le_of_ble_eq_true rfl) dX10_least_15 (fun r1 σ1 e1 => ?_)
      refine gx_goto (pc := 18) 22 dX10_least_18 (by decide) ?_
      obtain ⟨rfl, h1⟩ := e1
      exact m_ret (pc := 22) rfl dX10_least_22 (⟨Or.inr ⟨p', hp, rfl, rfl⟩, h1⟩)
    · exact absurd rfl c1
theorem c_see (hb : gxN G ≤ b) (hd : 1 ≤ d) (hT : mT σ.2.2.1 P S E w) (n : Nat) (hn : n ≤ 10) (hsn : σ.2.2.1 47 0 = nI n) (k fell : Int32) (hf : fell = 0 ∨ fell = 1) : mMi G mX10_see d [.ref b, .int k, .int fell] h b σ (fun r σ' => (¬ (inN k S ∧ n ≠ 10) ∧ r = 0 ∧ σ' = mI σ 0 0) ∨ ((inN k S ∧ n ≠ 10) ∧ r = 1 ∧ σ' = mSA (mI σ 0 0) (upA (upA (upA σ.2.2.1 48 n k) 49 n fell) 47 0 (nI (n + 1))))) := by
  refine gxM_of rfl (Nat.le_of_ble_eq_true rfl) rfl ?_
  refine gx_aload_n (pc := 0) dX10_see_0 rfl ?_
  refine gx_iconst (pc := 1) (v := 0) dX10_see_1 (by decide) ?_
  refine m_putI (pc := 2) rfl hb fX10_175 rfl (by decide) tX10_0 dX10_see_2 ?_
  refine gx_aload_n (pc := 5) dX10_see_5 rfl ?_
  refine gx_iload_n (pc := 6) dX10_see_6 rfl ?_
  refine kX10_445 (pc := 7) rfl (c_isS (d := d - 1) k (show mT (mI σ 0 0).2.2.1 P S E w from hT)) (by omega) (Nat.le_of_ble_eq_true rfl) dX10_see_7 (fun r1 σ1 e1 => ?_)
  obtain ⟨e1, hσ⟩ := e1
  subst σ1
  refine gx_if_eq (pc := 10) 24 dX10_see_10 (by decide) (fun c1 => ?_) (fun c1 => ?_)
  · rcases e1 with ⟨h1, rfl⟩ | ⟨h1, rfl⟩
    · exact absurd c1 (by decide)
    · refine gx_iconst (pc := 24) (v := 0) dX10_see_24 (by decide) ?_
      exact m_retz (pc := 25) rfl (by decide) dX10_see_25 (Or.inl ⟨fun hh => h1 hh.1, rfl, rfl⟩)
  · rcases e1 with ⟨h1, rfl⟩ | ⟨h1, rfl⟩
    · refine gx_aload_n (pc := 13) dX10_see_13 rfl ?_
      refine m_getA (pc := 14) rfl fX10_120 rfl (by decide) dX10_see_14 ?_
      refine gx_iconst (pc := 17) (v := 0) dX10_see_17 (by decide) ?_
      refine m_iald (pc := 18) 47 (0) 5 rfl (by decide) rfl (by first | rfl | simp only [gx_lit, nI_add, pk_mul]) (by omega) (by decide) dX10_see_18 ?_
      refine gx_bipush (pc := 19) (v := 10) dX10_see_19 (by decide) ?_
      rw [mI_A, hsn]
      refine gx_icmp_ne (pc := 21) 26 dX10_see_21 (by decide) (fun c2 => ?_) (fun c2 => ?_)
      · have hn10 : n ≠ 10 := fun e => c2 (by rw [e]; rfl)
        refine gx_aload_n (pc := 26) dX10_see_26 rfl ?_
        refine m_getA (pc := 27) rfl fX10_123 rfl (by decide) dX10_see_27 ?_
        refine gx_aload_n (pc := 30) dX10_see_30 rfl ?_
        refine m_getA (pc := 31) rfl fX10_120 rfl (by decide) dX10_see_31 ?_
        refine gx_iconst (pc := 34) (v := 0) dX10_see_34 (by decide) ?_
        refine m_iald (pc := 35) 47 (0) 5 rfl (by decide) rfl (by first | rfl | simp only [gx_lit, nI_add, pk_mul]) (by omega) (by decide) dX10_see_35 ?_
        rw [mI_A, hsn]
        refine gx_iload_n (pc := 36) dX10_see_36 rfl ?_
        refine m_iast (pc := 37) hb 48 (n) 50 rfl (by decide) rfl (by first | rfl | simp only [gx_lit, nI_add, pk_mul]) (by omega) (by decide) dX10_see_37 ?_
        refine gx_aload_n (pc := 38) dX10_see_38 rfl ?_
        refine m_getA (pc := 39) rfl fX10_126 rfl (by decide) dX10_see_39 ?_
        refine gx_aload_n (pc := 42) dX10_see_42 rfl ?_
        refine m_getA (pc := 43) rfl fX10_120 rfl (by decide) dX10_see_43 ?_
        refine gx_iconst (pc := 46) (v := 0) dX10_see_46 (by decide) ?_
        refine m_iald (pc := 47) 47 (0) 5 rfl (by decide) rfl (by first | rfl | simp only [gx_lit, nI_add, pk_mul]) (by omega) (by decide) dX10_see_47 ?_
        have e1 : (mA (mI σ 0 0) 48 n k).2.2.1 47 0 = nI n := hsn
        rw [e1]
        refine gx_iload_n (pc := 48) dX10_see_48 rfl ?_
        refine m_zast (pc := 49) hb 49 (n) 50 (hf) rfl (by decide) rfl (by first | rfl | simp only [gx_lit, nI_add, pk_mul]) (by omega) (by decide) dX10_see_49 ?_
        refine gx_aload_n (pc := 50) dX10_see_50 rfl ?_
        refine m_getA (pc := 51) rfl fX10_120 rfl (by decide) dX10_see_51 ?_
        refine gx_iconst (pc := 54) (v := 0) dX10_see_54 (by decide) ?_
        refine gx_dup2 (pc := 55) dX10_see_55 rfl rfl ?_
        refine m_iald (pc := 56) 47 (0) 5 rfl (by decide) rfl (by first | rfl | simp only [gx_lit, nI_add, pk_mul]) (by omega) (by decide) dX10_see_56 ?_
        have e2 : (mA (mA (mI σ 0 0) 48 n k) 49 n fell).2.2.1 47 0 = nI n := hsn
        rw [e2]
        refine gx_iconst (pc := 57) (v := 1) dX10_see_57 (by decide) ?_
        refine gx_iadd (pc := 58) dX10_see_58 ?_
        refine m_iast (pc := 59) hb 47 (0) 5 rfl (by decide) rfl (by first | rfl | simp only [gx_lit, nI_add, pk_mul]) (by omega) (by decide) dX10_see_59 ?_
        refine gx_iconst (pc := 60) (v := 1) dX10_see_60 (by decide) ?_
        rw [nI_1]
        exact m_retz (pc := 61) rfl (by decide) dX10_see_61 (Or.inr ⟨⟨h1, hn10⟩, rfl, rfl⟩)
      · refine gx_iconst (pc := 24) (v := 0) dX10_see_24 (by decide) ?_
        have hn10 : n = 10 := (nI_eq (b := 10) (by omega) (by omega)).mp c2
        exact m_retz (pc := 25) rfl (by decide) dX10_see_25 (Or.inl ⟨fun hh => hh.2 hn10, rfl, rfl⟩)
    · exact absurd rfl c1
theorem c_isAsSeen (n : Nat) (hn : n ≤ 10) (hsn : σ.2.2.1 47 0 = nI n) (hse : ∀ k, k < n → ∃ c, c < 10 ∧ σ.2.2.1 48 k = nI c) (set : Int32) : mMi G mX10_isAsSeen d [.ref b, .int set] h b σ (fun r σ' => r = zi (spAs σ.2.2.1 set n) ∧ σ' = σ) := by
  refine gxM_of rfl (Nat.le_of_ble_eq_true rfl) rfl ?_
  refine gx_iconst (pc := 0) (v := 0) dX10_isAsSeen_0 (by decide) ?_
  refine gx_istore_n (pc := 1) dX10_isAsSeen_1 (by decide) rfl ?_
  have F : ∀ k, spAs σ.2.2.1 set k = false → ∀ m, spAs σ.2.2.1 set (k + m) = false := by
    intro k hk m
    induction m with
    | zero => exact hk
    | succ m ih => show (spAs σ.2.2.1 set (k + m) && _) = false; rw [ih]; rfl
  have L : ∀ m k, m + k = n → spAs σ.2.2.1 set k = true → gxV G mX10_isAsSeen d 0 0 2 [some (.ref b), some (.int set), some (.int (nI k))] [] (mput h b σ) (mQi h b (fun r σ' => r = zi (spAs σ.2.2.1 set n) ∧ σ' = σ)) := by
    intro m
    induction m with
    | zero =>
      intro k hk ht
      refine gx_iload_n (pc := 2) dX10_isAsSeen_2 rfl ?_
      refine gx_aload_n (pc := 3) dX10_isAsSeen_3 rfl ?_
      refine m_getA (pc := 4) rfl fX10_120 rfl (by decide) dX10_isAsSeen_4 ?_
      refine gx_iconst (pc := 7) (v := 0) dX10_isAsSeen_7 (by decide) ?_
      refine m_iald (pc := 8) 47 (0) 5 rfl (by decide) rfl (by first | rfl | simp only [gx_lit, nI_add, pk_mul]) (by omega) (by decide) dX10_isAsSeen_8 ?_
      rw [hsn]
      refine gx_icmp_ge (pc := 9) 50 dX10_isAsSeen_9 (by decide) (fun c1 => ?_) (fun c1 => ?_)
      · refine gx_iconst (pc := 50) (v := 1) dX10_isAsSeen_50 (by decide) ?_
        exact m_retz (pc := 51) rfl (by decide) dX10_isAsSeen_51 (⟨by rw [show k = n by omega] at ht; rw [ht]; rfl, rfl⟩)
      · exact absurd (nI_le (by omega) (by omega)) c1
    | succ m ih =>
      intro k hk ht
      obtain ⟨c, hc, hc2⟩ := hse k (by omega)
      refine gx_iload_n (pc := 2) dX10_isAsSeen_2 rfl ?_
      refine gx_aload_n (pc := 3) dX10_isAsSeen_3 rfl ?_
      refine m_getA (pc := 4) rfl fX10_120 rfl (by decide) dX10_isAsSeen_4 ?_
      refine gx_iconst (pc := 7) (v := 0) dX10_isAsSeen_7 (by decide) ?_
      refine m_iald (pc := 8) 47 (0) 5 rfl (by decide) rfl (by first | rfl | simp only [gx_lit, nI_add, pk_mul]) (by omega) (by decide) dX10_isAsSeen_8 ?_
      rw [hsn]
      refine gx_icmp_ge (pc := 9) 50 dX10_isAsSeen_9 (by decide) (fun c1 => ?_) (fun c1 => ?_)
      · exact absurd c1 (nI_ge (by omega) (by omega))
      · have K : ∀ r, r = zi (!decide (σ.2.2.1 50 c &&& set = 0)) → gxV G mX10_isAsSeen d 0 0 33 [some (.ref b), some (.int set), some (.int (nI k))] [.int r] (mput h b σ) (mQi h b (fun r σ' => r = zi (spAs σ.2.2.1 set n) ∧ σ' = σ)) := by
          intro r hr
          refine gx_aload_n (pc := 33) dX10_isAsSeen_33 rfl ?_
          refine m_getA (pc := 34) rfl fX10_126 rfl (by decide) dX10_isAsSeen_34 ?_
          refine gx_iload_n (pc := 37) dX10_isAsSeen_37 rfl ?_
          refine m_zald (pc := 38) 49 (k) 50 rfl (by decide) rfl (by first | rfl | simp only [gx_lit, nI_add, pk_mul]) (by omega) (by decide) dX10_isAsSeen_38 ?_
          have ha : asStep σ.2.2.1 set k = decide (r = σ.2.2.1 49 k) := by
            unfold asStep
            rw [hc2, nI_clamp (by omega), hr]
          refine gx_icmp_eq (pc := 39) 44 dX10_isAsSeen_39 (by decide) (fun c2 => ?_) (fun c2 => ?_)
          · refine gx_iincc (pc := 44) (c := 1) dX10_isAsSeen_44 rfl (by decide) (by decide) rfl ?_
            refine gx_goto (pc := 47) 2 dX10_isAsSeen_47 (by decide) ?_
            rw [nI_1]
            refine ih (k + 1) (by omega) ?_
            show (spAs σ.2.2.1 set k && asStep σ.2.2.1 set k) = true
            rw [ht, ha, decide_eq_true c2]
            rfl
          · have hfalse : spAs σ.2.2.1 set (k + 1) = false := by
              show (spAs σ.2.2.1 set k && asStep σ.2.2.1 set k) = false
              rw [ha, decide_eq_false c2, Bool.and_false]
            have := F (k + 1) hfalse m
            rw [show k + 1 + m = n by omega] at this
            refine gx_iconst (pc := 42) (v := 0) dX10_isAsSeen_42 (by decide) ?_
            exact m_retz (pc := 43) rfl (by decide) dX10_isAsSeen_43 (⟨by rw [this]; rfl, rfl⟩)
        refine gx_aload_n (pc := 12) dX10_isAsSeen_12 rfl ?_
        refine m_getA (pc := 13) rfl fX10_129 rfl (by decide) dX10_isAsSeen_13 ?_
        refine gx_aload_n (pc := 16) dX10_isAsSeen_16 rfl ?_
        refine m_getA (pc := 17) rfl fX10_123 rfl (by decide) dX10_isAsSeen_17 ?_
        refine gx_iload_n (pc := 20) dX10_isAsSeen_20 rfl ?_
        refine m_iald (pc := 21) 48 (k) 50 rfl (by decide) rfl (by first | rfl | simp only [gx_lit, nI_add, pk_mul]) (by omega) (by decide) dX10_isAsSeen_21 ?_
        rw [hc2]
        refine m_iald (pc := 22) 50 (c) 123 rfl (by decide) rfl (by first | rfl | simp only [gx_lit, nI_add, pk_mul]) (by omega) (by decide) dX10_isAsSeen_22 ?_
        refine gx_iload_n (pc := 23) dX10_isAsSeen_23 rfl ?_
        refine gx_iand (pc := 24) dX10_isAsSeen_24 ?_
        refine gx_if_eq (pc := 25) 32 dX10_isAsSeen_25 (by decide) (fun c2 => ?_) (fun c2 => ?_)
        · refine gx_iconst (pc := 32) (v := 0) dX10_isAsSeen_32 (by decide) ?_
          exact K _ (by simp [zi, c2])
        · refine gx_iconst (pc := 28) (v := 1) dX10_isAsSeen_28 (by decide) ?_
          refine gx_goto (pc := 29) 33 dX10_isAsSeen_29 (by decide) ?_
          exact K _ (by simp [zi, c2])
  exact L n 0 (by omega) rfl
theorem shl_P {P : Nat} (hP : P ≤ 6) : (1 : Int32) <<< (nI P &&& 31) = nI (2 ^ P) ∧ 2 ^ P ≤ 64 := by
  have : ∀ P, P < 7 → (1 : Int32) <<< (nI P &&& 31) = nI (2 ^ P) ∧ 2 ^ P ≤ 64 := by decide +kernel
  exact this P (by omega)
theorem c_leaks (hb : gxN G ≤ b) (hd : 1 ≤ d) (hT : mT σ.2.2.1 P S E w) (n : Nat) (hn : n ≤ 10) (hsn : σ.2.2.1 47 0 = nI n) (hse : ∀ k, k < n → ∃ c, c < 10 ∧ σ.2.2.1 48 k = nI c) (what : Int32) : mMi G mX10_leaks d [.ref b, .int what] h b σ (fun r σ' => ((¬ (0 ≤ what ∧ what ≤ 3) ∧ r = -1) ∨ ((0 ≤ what ∧ what ≤ 3) ∧ r = spLkr (spLk σ.2.2.1 n (2 ^ P)) what)) ∧ σ' = mI σ 0 0) := by
  have hP := hT.1
  have hP6 := hT.2.1
  obtain ⟨hsh, h64⟩ := shl_P hP6
  refine gxM_of rfl (Nat.le_of_ble_eq_true rfl) rfl ?_
  refine gx_aload_n (pc := 0) dX10_leaks_0 rfl ?_
  refine gx_iconst (pc := 1) (v := 0) dX10_leaks_1 (by decide) ?_
  refine m_putI (pc := 2) rfl hb fX10_175 rfl (by decide) tX10_0 dX10_leaks_2 ?_
  refine gx_iload_n (pc := 5) dX10_leaks_5 rfl ?_
  refine gx_iconst (pc := 6) (v := 0) dX10_leaks_6 (by decide) ?_
  refine gx_iconst (pc := 7) (v := 3) dX10_leaks_7 (by decide) ?_
  refine kX10_308 (pc := 8) rfl (c_within (d := d - 1) what 0 3) (by omega) (Nat.le_of_ble_eq_true rfl) dX10_leaks_8 (fun r1 σ1 e1 => ?_)
  obtain ⟨rfl, hσ⟩ := e1
  subst σ1
  refine gx_if_ne (pc := 11) 16 dX10_leaks_11 (by decide) (fun c1 => ?_) (fun c1 => ?_)
  · have hw : 0 ≤ what ∧ what ≤ 3 := by
      cases e : (decide (0 ≤ what) && decide (what ≤ 3)) with
      | true => simpa using e
      | false => rw [e] at c1; exact absurd rfl c1
    refine gx_iconst (pc := 16) (v := 0) dX10_leaks_16 (by decide) ?_
    refine gx_istore_n (pc := 17) dX10_leaks_17 (by decide) rfl ?_
    refine gx_bipush (pc := 18) (v := 63) dX10_leaks_18 (by decide) ?_
    refine gx_istore_n (pc := 20) dX10_leaks_20 (by decide) rfl ?_
    refine gx_iconst (pc := 21) (v := 0) dX10_leaks_21 (by decide) ?_
    refine gx_istore (pc := 22) dX10_leaks_22 (by decide) rfl ?_
    refine gx_iconst (pc := 24) (v := (-1)) dX10_leaks_24 (by decide) ?_
    refine gx_istore (pc := 25) dX10_leaks_25 (by decide) rfl ?_
    refine gx_iconst (pc := 27) (v := 0) dX10_leaks_27 (by decide) ?_
    refine gx_istore (pc := 28) dX10_leaks_28 (by decide) rfl ?_
    have L : ∀ j m, j + m = 2 ^ P → gxV G mX10_leaks d 0 0 30 [some (.ref b), some (.int what), some (.int (spLk σ.2.2.1 n m).1), some (.int (spLk σ.2.2.1 n m).2.1), some (.int (spLk σ.2.2.1 n m).2.2.1), some (.int (spLk σ.2.2.1 n m).2.2.2), some (.int (nI m))] [] (mput h b (mI σ 0 0)) (mQi h b (fun r σ' => ((¬ (0 ≤ what ∧ what ≤ 3) ∧ r = -1) ∨ ((0 ≤ what ∧ what ≤ 3) ∧ r = spLkr (spLk σ.2.2.1 n (2 ^ P)) what)) ∧ σ' = mI σ 0 0)) := by
      intro j
      induction j with
      | zero =>
        intro m hm
        have hm' : m = 2 ^ P := by omega
        refine gx_iload (pc := 30) dX10_leaks_30 rfl ?_
        refine gx_iconst (pc := 32) (v := 1) dX10_leaks_32 (by decide) ?_
        refine gx_aload_n (pc := 33) dX10_leaks_33 rfl ?_
        refine m_getA (pc := 34) rfl fX10_13 rfl (by decide) dX10_leaks_34 ?_
        refine gx_iconst (pc := 37) (v := 0) dX10_leaks_37 (by decide) ?_
        refine m_iald (pc := 38) 10 (0) 8 rfl (by decide) rfl (by first | rfl | simp only [gx_lit, nI_add, pk_mul]) (by omega) (by decide) dX10_leaks_38 ?_
        rw [mI_A, hP]
        refine gx_ishl (pc := 39) dX10_leaks_39 ?_
        rw [hsh]
        refine gx_icmp_ge (pc := 40) 98 dX10_leaks_40 (by decide) (fun c2 => ?_) (fun c2 => ?_)
        · refine gx_iload_n (pc := 98) dX10_leaks_98 rfl ?_
          refine gx_if_ne (pc := 99) 106 dX10_leaks_99 (by decide) (fun c99 => ?_) (fun c99 => ?_)
          · refine gx_iload_n (pc := 106) dX10_leaks_106 rfl ?_
            refine gx_if_ne (pc := 107) 114 dX10_leaks_107 (by decide) (fun c107 => ?_) (fun c107 => ?_)
            · refine gx_iload_n (pc := 114) dX10_leaks_114 rfl ?_
              refine gx_iconst (pc := 115) (v := 1) dX10_leaks_115 (by decide) ?_
              refine gx_icmp_ne (pc := 116) 123 dX10_leaks_116 (by decide) (fun c116 => ?_) (fun c116 => ?_)
              · refine gx_iload_n (pc := 123) dX10_leaks_123 rfl ?_
                refine gx_iconst (pc := 124) (v := 2) dX10_leaks_124 (by decide) ?_
                refine gx_icmp_ne (pc := 125) 133 dX10_leaks_125 (by decide) (fun c125 => ?_) (fun c125 => ?_)
                · refine gx_iload (pc := 133) dX10_leaks_133 rfl ?_
                  exact m_ret (pc := 135) rfl dX10_leaks_135 (⟨Or.inr ⟨hw, by rw [← hm']; simp_all [spLkr]⟩, rfl⟩)
                · refine gx_iload (pc := 128) dX10_leaks_128 rfl ?_
                  refine gx_goto (pc := 130) 135 dX10_leaks_130 (by decide) ?_
                  exact m_ret (pc := 135) rfl dX10_leaks_135 (⟨Or.inr ⟨hw, by rw [← hm']; simp_all [spLkr]⟩, rfl⟩)
              · refine gx_iload_n (pc := 119) dX10_leaks_119 rfl ?_
                refine gx_goto (pc := 120) 135 dX10_leaks_120 (by decide) ?_
                exact m_ret (pc := 135) rfl dX10_leaks_135 (⟨Or.inr ⟨hw, by rw [← hm']; simp_all [spLkr]⟩, rfl⟩)
            · refine gx_iconst (pc := 110) (v := (-1)) dX10_leaks_110 (by decide) ?_
              refine gx_goto (pc := 111) 135 dX10_leaks_111 (by decide) ?_
              exact m_ret (pc := 135) rfl dX10_leaks_135 (⟨Or.inr ⟨hw, by rw [← hm']; simp_all [spLkr]⟩, rfl⟩)
          · refine gx_iload_n (pc := 102) dX10_leaks_102 rfl ?_
            refine gx_goto (pc := 103) 135 dX10_leaks_103 (by decide) ?_
            exact m_ret (pc := 135) rfl dX10_leaks_135 (⟨Or.inr ⟨hw, by rw [← hm']; simp_all [spLkr]⟩, rfl⟩)
        · exact absurd (nI_le (by omega) (by omega)) c2
      | succ j ih =>
        intro m hm
        refine gx_iload (pc := 30) dX10_leaks_30 rfl ?_
        refine gx_iconst (pc := 32) (v := 1) dX10_leaks_32 (by decide) ?_
        refine gx_aload_n (pc := 33) dX10_leaks_33 rfl ?_
        refine m_getA (pc := 34) rfl fX10_13 rfl (by decide) dX10_leaks_34 ?_
        refine gx_iconst (pc := 37) (v := 0) dX10_leaks_37 (by decide) ?_
        refine m_iald (pc := 38) 10 (0) 8 rfl (by decide) rfl (by first | rfl | simp only [gx_lit, nI_add, pk_mul]) (by omega) (by decide) dX10_leaks_38 ?_
        rw [mI_A, hP]
        refine gx_ishl (pc := 39) dX10_leaks_39 ?_
        rw [hsh]
        refine gx_icmp_ge (pc := 40) 98 dX10_leaks_40 (by decide) (fun c2 => ?_) (fun c2 => ?_)
        · exact absurd c2 (nI_ge (by omega) (by omega))
        · have K92 : ∀ q : lkT, q = spLk σ.2.2.1 n (m + 1) → gxV G mX10_leaks d 0 0 92 [some (.ref b), some (.int what), some (.int q.1), some (.int q.2.1), some (.int q.2.2.1), some (.int q.2.2.2), some (.int (nI m))] [] (mput h b (mI σ 0 0)) (mQi h b (fun r σ' => ((¬ (0 ≤ what ∧ what ≤ 3) ∧ r = -1) ∨ ((0 ≤ what ∧ what ≤ 3) ∧ r = spLkr (spLk σ.2.2.1 n (2 ^ P)) what)) ∧ σ' = mI σ 0 0)) := by
            intro q hq
            subst hq
            refine gx_iincc (pc := 92) (c := 1) dX10_leaks_92 rfl (by decide) (by decide) rfl ?_
            refine gx_goto (pc := 95) 30 dX10_leaks_95 (by decide) ?_
            rw [nI_1]
            exact ih (m + 1) (by omega)
          refine gx_aload_n (pc := 43) dX10_leaks_43 rfl ?_
          refine gx_iload (pc := 44) dX10_leaks_44 rfl ?_
          refine kX10_511 (pc := 46) rfl (c_isAsSeen (d := d - 1) (σ := mI σ 0 0) n hn hsn hse _) (by omega) (Nat.le_of_ble_eq_true rfl) dX10_leaks_46 (fun r1 σ1 e1 => ?_)
          obtain ⟨rfl, hσ⟩ := e1
          subst σ1
          rw [mI_A]
          generalize hq : spLk σ.2.2.1 n m = q at *
          obtain ⟨q1, q2, q3, q4⟩ := q
          have hstep : spLk σ.2.2.1 n (m + 1) = lkStep σ.2.2.1 n (q1, q2, q3, q4) (nI m) := by rw [spLk, hq]
          refine gx_if_ne (pc := 49) 55 dX10_leaks_49 (by decide) (fun c3 => ?_) (fun c3 => ?_)
          · have hc : spAs σ.2.2.1 (nI m) n = true := by
              cases e : spAs σ.2.2.1 (nI m) n with
              | true => rfl
              | false => rw [e] at c3; exact absurd rfl c3
            have K88 : (q4 < 0 ∨ spBits (nI m) 10 < spBits q4 10) → gxV G mX10_leaks d 0 0 88 [some (.ref b), some (.int what), some (.int (q1 + 1)), some (.int (q2 &&& nI m)), some (.int (q3 ||| nI m)), some (.int q4), some (.int (nI m))] [] (mput h b (mI σ 0 0)) (mQi h b (fun r σ' => ((¬ (0 ≤ what ∧ what ≤ 3) ∧ r = -1) ∨ ((0 ≤ what ∧ what ≤ 3) ∧ r = spLkr (spLk σ.2.2.1 n (2 ^ P)) what)) ∧ σ' = mI σ 0 0)) := by
              intro hor
              refine gx_iload (pc := 88) dX10_leaks_88 rfl ?_
              refine gx_istore (pc := 90) dX10_leaks_90 (by decide) rfl ?_
              refine K92 (q1 + 1, q2 &&& nI m, q3 ||| nI m, nI m) ?_
              rw [hstep, lkStep, if_pos hc, if_pos hor]
            refine gx_iincc (pc := 55) (c := 1) dX10_leaks_55 rfl (by decide) (by decide) rfl ?_
            refine gx_iload_n (pc := 58) dX10_leaks_58 rfl ?_
            refine gx_iload (pc := 59) dX10_leaks_59 rfl ?_
            refine gx_iand (pc := 61) dX10_leaks_61 ?_
            refine gx_istore_n (pc := 62) dX10_leaks_62 (by decide) rfl ?_
            refine gx_iload (pc := 63) dX10_leaks_63 rfl ?_
            refine gx_iload (pc := 65) dX10_leaks_65 rfl ?_
            refine gx_ior (pc := 67) dX10_leaks_67 ?_
            refine gx_istore (pc := 68) dX10_leaks_68 (by decide) rfl ?_
            refine gx_iload (pc := 70) dX10_leaks_70 rfl ?_
            refine gx_if_lt (pc := 72) 88 dX10_leaks_72 (by decide) (fun c4 => ?_) (fun c4 => ?_)
            · exact K88 (Or.inl c4)
            · refine gx_iload (pc := 75) dX10_leaks_75 rfl ?_
              refine kX10_492 (pc := 77) rfl (c_bits (d := d - 1) _) (by omega) (Nat.le_of_ble_eq_true rfl) dX10_leaks_77 (fun r1 σ4 e4 => ?_)
              refine gx_iload (pc := 80) dX10_leaks_80 rfl ?_
              refine kX10_492 (pc := 82) rfl (c_bits (d := d - 1) _) (by omega) (Nat.le_of_ble_eq_true rfl) dX10_leaks_82 (fun r2 σ5 e5 => ?_)
              obtain ⟨rfl, hσ⟩ := e4
              subst σ4
              obtain ⟨rfl, hσ⟩ := e5
              subst σ5
              refine gx_icmp_ge (pc := 85) 92 dX10_leaks_85 (by decide) (fun c5 => ?_) (fun c5 => ?_)
              · refine K92 (q1 + 1, q2 &&& nI m, q3 ||| nI m, q4) ?_
                rw [hstep, lkStep, if_pos hc, if_neg]
                rintro (hh | hh)
                · exact c4 hh
                · exact absurd c5 (Int32.not_le.mpr hh)
              · exact K88 (Or.inr (Int32.not_le.mp c5))
          · have hc : spAs σ.2.2.1 (nI m) n = false := by
              cases e : spAs σ.2.2.1 (nI m) n with
              | false => rfl
              | true => rw [e] at c3; exact absurd c3 (by decide)
            refine gx_goto (pc := 52) 92 dX10_leaks_52 (by decide) ?_
            refine K92 (q1, q2, q3, q4) ?_
            rw [hstep, lkStep, hc]
            rfl
    exact L (2 ^ P) 0 (by omega)
  · refine gx_iconst (pc := 14) (v := (-1)) dX10_leaks_14 (by decide) ?_
    exact m_ret (pc := 15) rfl dX10_leaks_15 (⟨Or.inl ⟨(fun hh => by rw [decide_eq_true hh.1, decide_eq_true hh.2] at c1; exact absurd c1 (by decide)), rfl⟩, rfl⟩)
theorem c_isClashing (hT : mT σ.2.2.1 P S E w) (set : Int32) : mMi G mX10_isClashing d [.ref b, .int set] h b σ (fun r σ' => r = zi (spCl σ.2.2.1 set S) ∧ σ' = σ) := by
  have hS := hT.2.2.1
  have hS10 := hT.2.2.2.1
  refine gxM_of rfl (Nat.le_of_ble_eq_true rfl) rfl ?_
  refine gx_iconst (pc := 0) (v := 0) dX10_isClashing_0 (by decide) ?_
  refine gx_istore_n (pc := 1) dX10_isClashing_1 (by decide) rfl ?_
  have F : ∀ k, spCl σ.2.2.1 set k = true → ∀ m, spCl σ.2.2.1 set (k + m) = true := by
    intro k hk m
    induction m with
    | zero => exact hk
    | succ m ih => show (spCl σ.2.2.1 set (k + m) || _) = true; rw [ih]; rfl
  have L : ∀ m k, m + k = S → spCl σ.2.2.1 set k = false → gxV G mX10_isClashing d 0 0 2 [some (.ref b), some (.int set), some (.int (nI k))] [] (mput h b σ) (mQi h b (fun r σ' => r = zi (spCl σ.2.2.1 set S) ∧ σ' = σ)) := by
    intro m
    induction m with
    | zero =>
      intro k hk ht
      refine gx_iload_n (pc := 2) dX10_isClashing_2 rfl ?_
      refine gx_aload_n (pc := 3) dX10_isClashing_3 rfl ?_
      refine m_getA (pc := 4) rfl fX10_13 rfl (by decide) dX10_isClashing_4 ?_
      refine gx_iconst (pc := 7) (v := 1) dX10_isClashing_7 (by decide) ?_
      refine m_iald (pc := 8) 10 (1) 8 rfl (by decide) rfl (by first | rfl | simp only [gx_lit, nI_add, pk_mul]) (by omega) (by decide) dX10_isClashing_8 ?_
      rw [hS]
      refine gx_icmp_ge (pc := 9) 40 dX10_isClashing_9 (by decide) (fun c1 => ?_) (fun c1 => ?_)
      · refine gx_iconst (pc := 40) (v := 0) dX10_isClashing_40 (by decide) ?_
        exact m_retz (pc := 41) rfl (by decide) dX10_isClashing_41 (⟨by rw [show k = S by omega] at ht; rw [ht]; rfl, rfl⟩)
      · exact absurd (nI_le (by omega) (by omega)) c1
    | succ m ih =>
      intro k hk ht
      refine gx_iload_n (pc := 2) dX10_isClashing_2 rfl ?_
      refine gx_aload_n (pc := 3) dX10_isClashing_3 rfl ?_
      refine m_getA (pc := 4) rfl fX10_13 rfl (by decide) dX10_isClashing_4 ?_
      refine gx_iconst (pc := 7) (v := 1) dX10_isClashing_7 (by decide) ?_
      refine m_iald (pc := 8) 10 (1) 8 rfl (by decide) rfl (by first | rfl | simp only [gx_lit, nI_add, pk_mul]) (by omega) (by decide) dX10_isClashing_8 ?_
      rw [hS]
      refine gx_icmp_ge (pc := 9) 40 dX10_isClashing_9 (by decide) (fun c1 => ?_) (fun c1 => ?_)
      · exact absurd c1 (nI_ge (by omega) (by omega))
      · have K : clStep σ.2.2.1 set k = false → gxV G mX10_isClashing d 0 0 34 [some (.ref b), some (.int set), some (.int (nI k))] [] (mput h b σ) (mQi h b (fun r σ' => r = zi (spCl σ.2.2.1 set S) ∧ σ' = σ)) := by
          intro hc
          refine gx_iincc (pc := 34) (c := 1) dX10_isClashing_34 rfl (by decide) (by decide) rfl ?_
          refine gx_goto (pc := 37) 2 dX10_isClashing_37 (by decide) ?_
          rw [nI_1]
          refine ih (k + 1) (by omega) ?_
          show (spCl σ.2.2.1 set k || clStep σ.2.2.1 set k) = false
          rw [ht, hc]; rfl
        refine gx_iload_n (pc := 12) dX10_isClashing_12 rfl ?_
        refine gx_iload_n (pc := 13) dX10_isClashing_13 rfl ?_
        refine gx_ishr (pc := 14) dX10_isClashing_14 ?_
        refine gx_iconst (pc := 15) (v := 1) dX10_isClashing_15 (by decide) ?_
        refine gx_iand (pc := 16) dX10_isClashing_16 ?_
        refine gx_iconst (pc := 17) (v := 1) dX10_isClashing_17 (by decide) ?_
        refine gx_icmp_ne (pc := 18) 34 dX10_isClashing_18 (by decide) (fun c2 => ?_) (fun c2 => ?_)
        · exact K (by simp [clStep, hs, c2])
        · refine gx_aload_n (pc := 21) dX10_isClashing_21 rfl ?_
          refine m_getA (pc := 22) rfl fX10_47 rfl (by decide) dX10_isClashing_22 ?_
          refine gx_iload_n (pc := 25) dX10_isClashing_25 rfl ?_
          refine m_iald (pc := 26) 21 (k) 20 rfl (by decide) rfl (by first | rfl | simp only [gx_lit, nI_add, pk_mul]) (by omega) (by decide) dX10_isClashing_26 ?_
          refine gx_iload_n (pc := 27) dX10_isClashing_27 rfl ?_
          refine gx_iand (pc := 28) dX10_isClashing_28 ?_
          refine gx_if_eq (pc := 29) 34 dX10_isClashing_29 (by decide) (fun c3 => ?_) (fun c3 => ?_)
          · exact K (by simp [clStep, c3])
          · have := F (k + 1) (by show (spCl σ.2.2.1 set k || clStep σ.2.2.1 set k) = true; simp [clStep, hs, c2, c3]) m
            rw [show k + 1 + m = S by omega] at this
            refine gx_iconst (pc := 32) (v := 1) dX10_isClashing_32 (by decide) ?_
            exact m_retz (pc := 33) rfl (by decide) dX10_isClashing_33 (⟨by rw [this]; rfl, rfl⟩)
  exact L S 0 (by omega) rfl
theorem c_lies (hb : gxN G ≤ b) (hd : 1 ≤ d) (hT : mT σ.2.2.1 P S E w) (what : Int32) : mMi G mX10_lies d [.ref b, .int what] h b σ (fun r σ' => ((¬ (0 ≤ what ∧ what ≤ 3) ∧ r = -1) ∨ ((0 ≤ what ∧ what ≤ 3) ∧ r = spLir (spLi σ.2.2.1 S (2 ^ S)) what)) ∧ σ' = mI σ 0 0) := by
  have hS := hT.2.2.2.1
  obtain ⟨hp1, hp2⟩ := pow_S hS
  refine gxM_of rfl (Nat.le_of_ble_eq_true rfl) rfl ?_
  refine gx_aload_n (pc := 0) dX10_lies_0 rfl ?_
  refine gx_iconst (pc := 1) (v := 0) dX10_lies_1 (by decide) ?_
  refine m_putI (pc := 2) rfl hb fX10_175 rfl (by decide) tX10_0 dX10_lies_2 ?_
  refine gx_iload_n (pc := 5) dX10_lies_5 rfl ?_
  refine gx_iconst (pc := 6) (v := 0) dX10_lies_6 (by decide) ?_
  refine gx_iconst (pc := 7) (v := 3) dX10_lies_7 (by decide) ?_
  refine kX10_308 (pc := 8) rfl (c_within (d := d - 1) what 0 3) (by omega) (Nat.le_of_ble_eq_true rfl) dX10_lies_8 (fun r1 σ1 e1 => ?_)
  obtain ⟨rfl, hσ⟩ := e1
  subst σ1
  refine gx_if_ne (pc := 11) 16 dX10_lies_11 (by decide) (fun c1 => ?_) (fun c1 => ?_)
  · have hw : 0 ≤ what ∧ what ≤ 3 := by
      cases e : (decide (0 ≤ what) && decide (what ≤ 3)) with
      | true => simpa using e
      | false => rw [e] at c1; exact absurd rfl c1
    refine gx_iconst (pc := 16) (v := (-1)) dX10_lies_16 (by decide) ?_
    refine gx_istore_n (pc := 17) dX10_lies_17 (by decide) rfl ?_
    refine gx_iconst (pc := 18) (v := 0) dX10_lies_18 (by decide) ?_
    refine gx_istore_n (pc := 19) dX10_lies_19 (by decide) rfl ?_
    refine gx_iconst (pc := 20) (v := 0) dX10_lies_20 (by decide) ?_
    refine gx_istore (pc := 21) dX10_lies_21 (by decide) rfl ?_
    refine gx_iconst (pc := 23) (v := 0) dX10_lies_23 (by decide) ?_
    refine gx_istore (pc := 24) dX10_lies_24 (by decide) rfl ?_
    have L : ∀ j m, j + m = 2 ^ S → gxV G mX10_lies d 0 0 26 [some (.ref b), some (.int what), some (.int (spLi σ.2.2.1 S m).1), some (.int (spLi σ.2.2.1 S m).2.1), some (.int (spLi σ.2.2.1 S m).2.2), some (.int (nI m))] [] (mput h b (mI σ 0 0)) (mQi h b (fun r σ' => ((¬ (0 ≤ what ∧ what ≤ 3) ∧ r = -1) ∨ ((0 ≤ what ∧ what ≤ 3) ∧ r = spLir (spLi σ.2.2.1 S (2 ^ S)) what)) ∧ σ' = mI σ 0 0)) := by
      intro j
      induction j with
      | zero =>
        intro m hm
        have hm' : m = 2 ^ S := by omega
        refine gx_iload (pc := 26) dX10_lies_26 rfl ?_
        refine gx_aload_n (pc := 28) dX10_lies_28 rfl ?_
        refine kX10_489 (pc := 29) rfl (c_allSecrets (d := d - 1) (show mT (mI σ 0 0).2.2.1 P S E w from hT)) (by omega) (Nat.le_of_ble_eq_true rfl) dX10_lies_29 (fun r1 σ2 e2 => ?_)
        obtain ⟨rfl, hσ⟩ := e2
        subst σ2
        rw [spAll_eq S (by omega)]
        refine gx_icmp_gt (pc := 32) 113 dX10_lies_32 (by decide) (fun c2 => ?_) (fun c2 => ?_)
        · refine gx_iload_n (pc := 113) dX10_lies_113 rfl ?_
          refine gx_if_ne (pc := 114) 124 dX10_lies_114 (by decide) (fun c3 => ?_) (fun c3 => ?_)
          · refine gx_iload_n (pc := 124) dX10_lies_124 rfl ?_
            refine gx_iconst (pc := 125) (v := 1) dX10_lies_125 (by decide) ?_
            refine gx_icmp_ne (pc := 126) 133 dX10_lies_126 (by decide) (fun c126 => ?_) (fun c126 => ?_)
            · refine gx_iload_n (pc := 133) dX10_lies_133 rfl ?_
              refine gx_iconst (pc := 134) (v := 2) dX10_lies_134 (by decide) ?_
              refine gx_icmp_ne (pc := 135) 142 dX10_lies_135 (by decide) (fun c135 => ?_) (fun c135 => ?_)
              · refine gx_iload (pc := 142) dX10_lies_142 rfl ?_
                exact m_ret (pc := 144) rfl dX10_lies_144 (⟨Or.inr ⟨hw, by rw [← hm']; simp_all [spLir]⟩, rfl⟩)
              · refine gx_iload_n (pc := 138) dX10_lies_138 rfl ?_
                refine gx_goto (pc := 139) 144 dX10_lies_139 (by decide) ?_
                exact m_ret (pc := 144) rfl dX10_lies_144 (⟨Or.inr ⟨hw, by rw [← hm']; simp_all [spLir]⟩, rfl⟩)
            · refine gx_iload_n (pc := 129) dX10_lies_129 rfl ?_
              refine gx_goto (pc := 130) 144 dX10_lies_130 (by decide) ?_
              exact m_ret (pc := 144) rfl dX10_lies_144 (⟨Or.inr ⟨hw, by rw [← hm']; simp_all [spLir]⟩, rfl⟩)
          · refine gx_iload_n (pc := 117) dX10_lies_117 rfl ?_
            refine kX10_492 (pc := 118) rfl (c_bits (d := d - 1) _) (by omega) (Nat.le_of_ble_eq_true rfl) dX10_lies_118 (fun r1 σ4 e4 => ?_)
            refine gx_goto (pc := 121) 144 dX10_lies_121 (by decide) ?_
            obtain ⟨rfl, hσ⟩ := e4
            subst σ4
            exact m_ret (pc := 144) rfl dX10_lies_144 (⟨Or.inr ⟨hw, by rw [← hm', spLir, if_pos c3]⟩, rfl⟩)
        · exact absurd (nI_lt (by omega) (by omega)) c2
      | succ j ih =>
        intro m hm
        refine gx_iload (pc := 26) dX10_lies_26 rfl ?_
        refine gx_aload_n (pc := 28) dX10_lies_28 rfl ?_
        refine kX10_489 (pc := 29) rfl (c_allSecrets (d := d - 1) (show mT (mI σ 0 0).2.2.1 P S E w from hT)) (by omega) (Nat.le_of_ble_eq_true rfl) dX10_lies_29 (fun r1 σ2 e2 => ?_)
        obtain ⟨rfl, hσ⟩ := e2
        subst σ2
        rw [spAll_eq S (by omega)]
        refine gx_icmp_gt (pc := 32) 113 dX10_lies_32 (by decide) (fun c2 => ?_) (fun c2 => ?_)
        · exact absurd c2 (nI_nlt (by omega) (by omega))
        · have K107 : ∀ q : liT, q = spLi σ.2.2.1 S (m + 1) → gxV G mX10_lies d 0 0 107 [some (.ref b), some (.int what), some (.int q.1), some (.int q.2.1), some (.int q.2.2), some (.int (nI m))] [] (mput h b (mI σ 0 0)) (mQi h b (fun r σ' => ((¬ (0 ≤ what ∧ what ≤ 3) ∧ r = -1) ∨ ((0 ≤ what ∧ what ≤ 3) ∧ r = spLir (spLi σ.2.2.1 S (2 ^ S)) what)) ∧ σ' = mI σ 0 0)) := by
            intro q hq
            subst hq
            refine gx_iincc (pc := 107) (c := 1) dX10_lies_107 rfl (by decide) (by decide) rfl ?_
            refine gx_goto (pc := 110) 26 dX10_lies_110 (by decide) ?_
            rw [nI_1]
            exact ih (m + 1) (by omega)
          generalize hq : spLi σ.2.2.1 S m = q at *
          obtain ⟨q1, q2, q3⟩ := q
          have hstep : spLi σ.2.2.1 S (m + 1) = liStep σ.2.2.1 S (q1, q2, q3) (nI m) := by rw [spLi, hq]
          have K51 : ¬ (0 ≤ q1 ∧ spBits q1 10 < spBits (nI m) 10) → gxV G mX10_lies d 0 0 51 [some (.ref b), some (.int what), some (.int q1), some (.int q2), some (.int q3), some (.int (nI m))] [] (mput h b (mI σ 0 0)) (mQi h b (fun r σ' => ((¬ (0 ≤ what ∧ what ≤ 3) ∧ r = -1) ∨ ((0 ≤ what ∧ what ≤ 3) ∧ r = spLir (spLi σ.2.2.1 S (2 ^ S)) what)) ∧ σ' = mI σ 0 0)) := by
            intro hno
            refine gx_aload_n (pc := 51) dX10_lies_51 rfl ?_
            refine gx_aload_n (pc := 52) dX10_lies_52 rfl ?_
            refine kX10_489 (pc := 53) rfl (c_allSecrets (d := d - 1) (show mT (mI σ 0 0).2.2.1 P S E w from hT)) (by omega) (Nat.le_of_ble_eq_true rfl) dX10_lies_53 (fun r1 σ2 e2 => ?_)
            refine gx_iload (pc := 56) dX10_lies_56 rfl ?_
            refine gx_iconst (pc := 58) (v := (-1)) dX10_lies_58 (by decide) ?_
            refine gx_ixor (pc := 59) dX10_lies_59 ?_
            refine gx_iand (pc := 60) dX10_lies_60 ?_
            obtain ⟨rfl, hσ⟩ := e2
            subst σ2
            refine kX10_514 (pc := 61) rfl (c_isClashing (d := d - 1) (show mT (mI σ 0 0).2.2.1 P S E w from hT) _) (by omega) (Nat.le_of_ble_eq_true rfl) dX10_lies_61 (fun r1 σ2 e2 => ?_)
            obtain ⟨rfl, hσ⟩ := e2
            subst σ2
            rw [mI_A]
            refine gx_if_eq (pc := 64) 70 dX10_lies_64 (by decide) (fun c3 => ?_) (fun c3 => ?_)
            · have hc : ¬ ((0 ≤ (q1, q2, q3).1 ∧ spBits (q1, q2, q3).1 10 < spBits (nI m) 10) ∨ spCl σ.2.2.1 (spAll S &&& (nI m ^^^ (-1))) S = true) := by
                rintro (hh | hh)
                · exact hno hh
                · rw [hh] at c3; exact absurd c3 (by decide)
              have K97 : ∀ a1 a2 a3 : Int32, (a1, a2 + 1, a3 &&& nI m) = spLi σ.2.2.1 S (m + 1) → gxV G mX10_lies d 0 0 97 [some (.ref b), some (.int what), some (.int a1), some (.int a2), some (.int a3), some (.int (nI m))] [] (mput h b (mI σ 0 0)) (mQi h b (fun r σ' => ((¬ (0 ≤ what ∧ what ≤ 3) ∧ r = -1) ∨ ((0 ≤ what ∧ what ≤ 3) ∧ r = spLir (spLi σ.2.2.1 S (2 ^ S)) what)) ∧ σ' = mI σ 0 0)) := by
                intro a1 a2 a3 ha
                refine gx_iincc (pc := 97) (c := 1) dX10_lies_97 rfl (by decide) (by decide) rfl ?_
                refine gx_iload (pc := 100) dX10_lies_100 rfl ?_
                refine gx_iload (pc := 102) dX10_lies_102 rfl ?_
                refine gx_iand (pc := 104) dX10_lies_104 ?_
                refine gx_istore (pc := 105) dX10_lies_105 (by decide) rfl ?_
                exact K107 _ ha
              have K86 : (q1 < 0 ∨ spBits (nI m) 10 < spBits q1 10) → gxV G mX10_lies d 0 0 86 [some (.ref b), some (.int what), some (.int q1), some (.int q2), some (.int q3), some (.int (nI m))] [] (mput h b (mI σ 0 0)) (mQi h b (fun r σ' => ((¬ (0 ≤ what ∧ what ≤ 3) ∧ r = -1) ∨ ((0 ≤ what ∧ what ≤ 3) ∧ r = spLir (spLi σ.2.2.1 S (2 ^ S)) what)) ∧ σ' = mI σ 0 0)) := by
                intro hor
                refine gx_iload (pc := 86) dX10_lies_86 rfl ?_
                refine gx_istore_n (pc := 88) dX10_lies_88 (by decide) rfl ?_
                refine gx_iconst (pc := 89) (v := 0) dX10_lies_89 (by decide) ?_
                refine gx_istore_n (pc := 90) dX10_lies_90 (by decide) rfl ?_
                refine gx_aload_n (pc := 91) dX10_lies_91 rfl ?_
                refine kX10_489 (pc := 92) rfl (c_allSecrets (d := d - 1) (show mT (mI σ 0 0).2.2.1 P S E w from hT)) (by omega) (Nat.le_of_ble_eq_true rfl) dX10_lies_92 (fun r1 σ2 e2 => ?_)
                refine gx_istore (pc := 95) dX10_lies_95 (by decide) rfl ?_
                obtain ⟨rfl, hσ⟩ := e2
                subst σ2
                refine K97 _ _ _ ?_
                rw [hstep, liStep, if_neg hc, if_pos hor]
                rfl
              refine gx_iload_n (pc := 70) dX10_lies_70 rfl ?_
              refine gx_if_lt (pc := 71) 86 dX10_lies_71 (by decide) (fun c4 => ?_) (fun c4 => ?_)
              · exact K86 (Or.inl c4)
              · refine gx_iload (pc := 74) dX10_lies_74 rfl ?_
                refine kX10_492 (pc := 76) rfl (c_bits (d := d - 1) _) (by omega) (Nat.le_of_ble_eq_true rfl) dX10_lies_76 (fun r1 σ4 e4 => ?_)
                refine gx_iload_n (pc := 79) dX10_lies_79 rfl ?_
                refine kX10_492 (pc := 80) rfl (c_bits (d := d - 1) _) (by omega) (Nat.le_of_ble_eq_true rfl) dX10_lies_80 (fun r2 σ5 e5 => ?_)
                obtain ⟨rfl, hσ⟩ := e4
                subst σ4
                obtain ⟨rfl, hσ⟩ := e5
                subst σ5
                refine gx_icmp_ge (pc := 83) 97 dX10_lies_83 (by decide) (fun c5 => ?_) (fun c5 => ?_)
                · refine K97 _ _ _ ?_
                  rw [hstep, liStep, if_neg hc, if_neg]
                  rintro (hh | hh)
                  · exact c4 hh
                  · exact absurd c5 (Int32.not_le.mpr hh)
                · exact K86 (Or.inr (Int32.not_le.mp c5))
            · have hc : spCl σ.2.2.1 (spAll S &&& (nI m ^^^ (-1))) S = true := by
                cases e : spCl σ.2.2.1 (spAll S &&& (nI m ^^^ (-1))) S with
                | true => rfl
                | false => rw [e] at c3; exact absurd rfl c3
              refine gx_goto (pc := 67) 107 dX10_lies_67 (by decide) ?_
              refine K107 (q1, q2, q3) ?_
              rw [hstep, liStep, if_pos (Or.inr hc)]
          refine gx_iload_n (pc := 35) dX10_lies_35 rfl ?_
          refine gx_if_lt (pc := 36) 51 dX10_lies_36 (by decide) (fun c3 => ?_) (fun c3 => ?_)
          · exact K51 (fun hh => absurd hh.1 (Int32.not_le.mpr c3))
          · refine gx_iload (pc := 39) dX10_lies_39 rfl ?_
            refine kX10_492 (pc := 41) rfl (c_bits (d := d - 1) _) (by omega) (Nat.le_of_ble_eq_true rfl) dX10_lies_41 (fun r1 σ4 e4 => ?_)
            refine gx_iload_n (pc := 44) dX10_lies_44 rfl ?_
            refine kX10_492 (pc := 45) rfl (c_bits (d := d - 1) _) (by omega) (Nat.le_of_ble_eq_true rfl) dX10_lies_45 (fun r2 σ5 e5 => ?_)
            obtain ⟨rfl, hσ⟩ := e4
            subst σ4
            obtain ⟨rfl, hσ⟩ := e5
            subst σ5
            refine gx_icmp_gt (pc := 48) 107 dX10_lies_48 (by decide) (fun c4 => ?_) (fun c4 => ?_)
            · refine K107 (q1, q2, q3) ?_
              rw [hstep, liStep, if_pos (Or.inl ⟨Int32.not_lt.mp c3, c4⟩)]
            · exact K51 (fun hh => c4 hh.2)
    exact L (2 ^ S) 0 (by omega)
  · refine gx_iconst (pc := 14) (v := (-1)) dX10_lies_14 (by decide) ?_
    exact m_ret (pc := 15) rfl dX10_lies_15 (⟨Or.inl ⟨(fun hh => by rw [decide_eq_true hh.1, decide_eq_true hh.2] at c1; exact absurd c1 (by decide)), rfl⟩, rfl⟩)
end MK
