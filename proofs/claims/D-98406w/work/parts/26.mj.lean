/-! ===== MODEL J: judged, least, what is seen, lies ===== -/
set_option maxRecDepth 100000
theorem spTell_hi {A : Nat → Nat → Int32} {p q k i : Nat} (hp : p < 6) (hq : q < 6) (hk : k < 10) (hi : 123 ≤ i) : spTell A p q k i = A 50 i := by
  have h1 : i ≠ k := by omega
  have h2 : i ≠ 10 + 10 * p + k := by omega
  have h3 : i ≠ 10 + 10 * q + k := by omega
  have h4 : i ≠ 76 := by omega
  simp only [spTell]
  split <;> simp [upd, h1, h2, h3, h4]
theorem spPay_hi {s : Nat → Int32} {p i : Nat} {set : Int32} (hi : 123 ≤ i) : spPay s p set i = s i := by
  have h1 : i ≠ 77 := by omega
  have h2 : i ≠ 78 := by omega
  simp [spPay, upd, h1, h2]
theorem spPass_hi {A : Nat → Nat → Int32} {P i : Nat} (hP : P ≤ 6) (hi : 123 ≤ i) : spPass A P i = A 50 i := by
  have h1 : i ≠ 77 := by omega
  have h2 : i ≠ 78 := by omega
  have h3 : i ≠ 85 := by omega
  simp only [spPass, upd]
  rw [if_neg h3, if_neg h2, if_neg h1]
  exact spFines_lo A i (by omega) P hP
theorem spGo_hi {w : Option gxEv} {A : Nat → Nat → Int32} {P S k i : Nat} (hP : P ≤ 6) (hS : S ≤ 10) (hl : lnOk A P S k) (hi : 123 ≤ i) : (spGo w A P S k).2 i = A 50 i := by
  unfold spGo
  rcases hl with ⟨e43, p, q, c, hp, hq, hc, hpq, e44, e45, e46⟩ | ⟨e43, p, hp, e44⟩ | ⟨e43, p, hp, e44⟩ | e43
  · rw [if_pos e43, e44, e45, e46, nI_clamp (by omega), nI_clamp (by omega), nI_clamp (by omega)]
    split
    · exact spTell_hi (by omega) (by omega) (by omega) hi
    · rfl
  · rw [e43, e44, nI_clamp (by omega), if_neg (by decide), if_pos rfl]
    split
    · exact spPay_hi hi
    · rfl
  · rw [e43, e44, nI_clamp (by omega), if_neg (by decide), if_neg (by decide), if_neg (by decide)]
    split
    · have : i ≠ 70 + p := by omega
      simp [upd, this]
    · rfl
  · rw [e43, if_neg (by decide), if_neg (by decide), if_pos rfl]
    exact spPass_hi hP hi
theorem lnOk.setS {A : Nat → Nat → Int32} {P S k : Nat} (h : lnOk A P S k) (s : Nat → Int32) : lnOk (setS A s) P S k := by
  unfold lnOk at *
  rw [setS_ne (by decide), setS_ne (by decide), setS_ne (by decide), setS_ne (by decide)]
  exact h
theorem spJ_hi {w : Option gxEv} {A : Nat → Nat → Int32} {P S i : Nat} (hP : P ≤ 6) (hS : S ≤ 10) (hi : 123 ≤ i) : ∀ n, (∀ k, k < n → lnOk A P S k) → (spJ w A P S n).2 i = A 50 i
  | 0, _ => by simp only [spJ, spFresh]; rw [if_pos hi]
  | n + 1, hl => by
    simp only [spJ]
    rw [spGo_hi hP hS ((hl n (by omega)).setS _) hi, setS_50]
    exact spJ_hi hP hS hi n (fun k hk => hl k (by omega))
/-- arrays that gossip's judgement looks at -/
def jE (A B : Nat → Nat → Int32) : Prop := ∀ j, j ≠ 51 → (j < 31 ∨ 40 < j) → B j = A j
theorem spKnown_congr {A B : Nat → Nat → Int32} (h50 : B 50 = A 50) (p : Int32) : ∀ k, spKnown B p k = spKnown A p k
  | 0 => rfl
  | k + 1 => by simp only [spKnown, spKnown_congr h50 p k, h50]
theorem spCanPay_congr {A B : Nat → Nat → Int32} (h13 : B 13 = A 13) (h15 : B 15 = A 15) (h17 : B 17 = A 17) (h18 : B 18 = A 18) (h19 : B 19 = A 19) (h50 : B 50 = A 50) (w : Option gxEv) (P S p : Nat) (set : Int32) : spCanPay w B P S p set = spCanPay w A P S p set := by
  unfold spCanPay; rw [spKnown_congr h50, spWs_congr h13 h17 h18 h19 h50, h15, h50]
theorem spCan_congr {A B : Nat → Nat → Int32} (h13 : B 13 = A 13) (h50 : B 50 = A 50) (p q k : Nat) : spCan B p q k = spCan A p q k := by
  unfold spCan spSpeaks; rw [h13, h50]
theorem spFine_congr {A B : Nat → Nat → Int32} (h15 : B 15 = A 15) (h50 : B 50 = A 50) (p : Nat) : spFine B p = spFine A p := by
  unfold spFine; rw [h15, h50]
theorem spFines_congr {A B : Nat → Nat → Int32} (h15 : B 15 = A 15) (h50 : B 50 = A 50) : ∀ p, spFines B p = spFines A p
  | 0 => h50
  | p + 1 => by simp only [spFines, spFine_congr h15 h50, spFines_congr h15 h50 p]
theorem spPass_congr {A B : Nat → Nat → Int32} (h15 : B 15 = A 15) (h50 : B 50 = A 50) (P : Nat) : spPass B P = spPass A P := by
  simp only [spPass, spFines_congr h15 h50, h50]
theorem spFined_congr {A B : Nat → Nat → Int32} (h15 : B 15 = A 15) (h50 : B 50 = A 50) : ∀ p, spFined B p = spFined A p
  | 0 => rfl
  | p + 1 => by simp only [spFined, spFine_congr h15 h50, spFined_congr h15 h50 p]
theorem spGo_congr {A B : Nat → Nat → Int32} (h13 : B 13 = A 13) (h15 : B 15 = A 15) (h16 : B 16 = A 16) (h17 : B 17 = A 17) (h18 : B 18 = A 18) (h19 : B 19 = A 19) (h43 : B 43 = A 43) (h44 : B 44 = A 44) (h45 : B 45 = A 45) (h46 : B 46 = A 46) (h50 : B 50 = A 50) (w : Option gxEv) (P S k : Nat) : spGo w B P S k = spGo w A P S k := by
  unfold spGo; rw [h43, h44, h45, h46, h50, spCan_congr h13 h50, spTell_congr h50 h16 h17, spCanPay_congr h13 h15 h17 h18 h19 h50, spPass_congr h15 h50]
def spJr (w : Option gxEv) (A : Nat → Nat → Int32) (P S n : Nat) (what : Int32) : Int32 :=
  if what = 0 then (spJ w A P S n).1 else if what = 1 then spFsum (spJ w A P S n).2 6 else spWs w (setS A (spJ w A P S n).2) P (spAll S) S
section MJ
variable {G : gxG} {d : Nat} {h : gxH} {b : Nat} {σ : mS} {P S E : Nat} {w : Option gxEv}
theorem c_judged (hb : gxN G ≤ b) (hd : 18 ≤ d) (hT : mT σ.2.2.1 P S E w) (n : Nat) (hn : n ≤ 30) (hln : σ.2.2.1 42 0 = nI n) (hl : ∀ k, k < n → lnOk σ.2.2.1 P S k) (what : Int32) : mMi G mX10_judged d [.ref b, .int what] h b σ (fun r σ' => ((¬ (0 ≤ what ∧ what ≤ 2) ∧ r = -2) ∨ ((0 ≤ what ∧ what ≤ 2) ∧ r = spJr w σ.2.2.1 P S n what)) ∧ sE (mI σ 0 0) σ') := by
  have hP := hT.2.1
  have hS := hT.2.2.2.1
  refine gxM_of rfl (Nat.le_of_ble_eq_true rfl) rfl ?_
  refine gx_aload_n (pc := 0) dX10_judged_0 rfl ?_
  refine gx_iconst (pc := 1) (v := 0) dX10_judged_1 (by decide) ?_
  refine m_putI (pc := 2) rfl hb fX10_175 rfl (by decide) tX10_0 dX10_judged_2 ?_
  refine gx_iload_n (pc := 5) dX10_judged_5 rfl ?_
  refine gx_iconst (pc := 6) (v := 0) dX10_judged_6 (by decide) ?_
  refine gx_iconst (pc := 7) (v := 2) dX10_judged_7 (by decide) ?_
  refine kX10_308 (pc := 8) rfl (c_within (d := d - 1) what 0 2) (by omega) (Nat.le_of_ble_eq_true rfl) dX10_judged_8 (fun r1 σ1 e1 => ?_)
  obtain ⟨rfl, hσ⟩ := e1
  subst σ1
  refine gx_if_ne (pc := 11) 17 dX10_judged_11 (by decide) (fun c1 => ?_) (fun c1 => ?_)
  · have hw : 0 ≤ what ∧ what ≤ 2 := by
      cases e : (decide (0 ≤ what) && decide (what ≤ 2)) with
      | true => simpa using e
      | false => rw [e] at c1; exact absurd rfl c1
    refine gx_aload_n (pc := 17) dX10_judged_17 rfl ?_
    refine m_getA (pc := 18) rfl fX10_129 rfl (by decide) dX10_judged_18 ?_
    refine gx_iconst (pc := 21) (v := 0) dX10_judged_21 (by decide) ?_
    refine gx_aload_n (pc := 22) dX10_judged_22 rfl ?_
    refine m_getA (pc := 23) rfl fX10_132 rfl (by decide) dX10_judged_23 ?_
    refine gx_iconst (pc := 26) (v := 0) dX10_judged_26 (by decide) ?_
    refine kX10_457 (pc := 27) rfl (c_copies (d := d - 1) (a := 0) (c := 0) (σ := mI σ 0 0) hb 50 51 123 246 (hj_jf := rfl) (ho_jf := by decide) (hn_jf := rfl) (hb_jf := by decide) (hj_jt := rfl) (ho_jt := by decide) (hn_jt := rfl) (hb_jt := by decide) (hne := by decide) (ha := by decide) (hc := by decide)) (by omega) (Nat.le_of_ble_eq_true rfl) dX10_judged_27 (fun σ1 e1 => ?_)
    have f1 : ∀ j, j ≠ 51 → σ1.2.2.1 j = σ.2.2.1 j := fun j hj => by rw [e1, mSA_A, setJ_ne hj]; rfl
    have f51 : ∀ k, k < 123 → σ1.2.2.1 51 k = σ.2.2.1 50 k := fun k hk => by
      rw [e1, mSA_A, setJ_j]
      have := cpy_in (f := (mI σ 0 0).2.2.1 50) (g := (mI σ 0 0).2.2.1 51) (sp := 0) (dp := 0) (n := 123) k hk
      rw [Nat.zero_add] at this
      exact this
    have hT1 : mT σ1.2.2.1 P S E w := by rw [e1, mSA_A]; exact hT.J (by omega) _
    have fr : spFresh σ1.2.2.1 P S = spFresh σ.2.2.1 P S := by
      unfold spFresh; rw [f1 50 (by decide), f1 20 (by decide), f1 14 (by decide)]
    refine gx_aload_n (pc := 30) dX10_judged_30 rfl ?_
    refine kX10_395 (pc := 31) rfl (c_fresh (d := d - 1) hb hT1) (by omega) (Nat.le_of_ble_eq_true rfl) dX10_judged_31 (fun σ2 e2 => ?_)
    refine gx_iconst (pc := 34) (v := (-1)) dX10_judged_34 (by decide) ?_
    refine gx_istore_n (pc := 35) dX10_judged_35 (by decide) rfl ?_
    refine gx_iconst (pc := 36) (v := 0) dX10_judged_36 (by decide) ?_
    refine gx_istore_n (pc := 37) dX10_judged_37 (by decide) rfl ?_
    have L : ∀ m k, m + k = n → ∀ σ3, wS (mRow σ1 (spJ w σ.2.2.1 P S k).2) σ3 → gxV G mX10_judged d 0 0 38 [some (.ref b), some (.int what), some (.int (spJ w σ.2.2.1 P S k).1), some (.int (nI k))] [] (mput h b σ3) (mQi h b (fun r σ' => ((¬ (0 ≤ what ∧ what ≤ 2) ∧ r = -2) ∨ ((0 ≤ what ∧ what ≤ 2) ∧ r = spJr w σ.2.2.1 P S n what)) ∧ sE (mI σ 0 0) σ')) := by
      intro m
      induction m with
      | zero =>
        intro k hk σ3 h3
        have hkn : k = n := by omega
        subst k
        refine gx_iload_n (pc := 38) dX10_judged_38 rfl ?_
        refine gx_aload_n (pc := 39) dX10_judged_39 rfl ?_
        refine m_getA (pc := 40) rfl fX10_105 rfl (by decide) dX10_judged_40 ?_
        refine gx_iconst (pc := 43) (v := 0) dX10_judged_43 (by decide) ?_
        refine m_iald (pc := 44) 42 (0) 6 rfl (by decide) rfl (by first | rfl | simp only [gx_lit, nI_add, pk_mul]) (by omega) (by decide) dX10_judged_44 ?_
        rw [h3.A (by omega), mRow_A (by decide), f1 42 (by decide)]
        refine gx_icmp_ge (pc := 45) 68 dX10_judged_45 (by decide) (fun c2 => ?_) (fun c2 => ?_)
        · have K : ∀ σ4 r (x2 : Int32), wS σ3 σ4 → r = spJr w σ.2.2.1 P S n what → gxV G mX10_judged d 0 0 96 [some (.ref b), some (.int what), some (.int x2), some (.int (nI n))] [.int r] (mput h b σ4) (mQi h b (fun r σ' => ((¬ (0 ≤ what ∧ what ≤ 2) ∧ r = -2) ∨ ((0 ≤ what ∧ what ≤ 2) ∧ r = spJr w σ.2.2.1 P S n what)) ∧ sE (mI σ 0 0) σ')) := by
            intro σ4 r x2 h4 hr
            have h34 := h3.tr h4
            refine gx_istore_n (pc := 96) dX10_judged_96 (by decide) rfl ?_
            refine gx_aload_n (pc := 97) dX10_judged_97 rfl ?_
            refine m_getA (pc := 98) rfl fX10_132 rfl (by decide) dX10_judged_98 ?_
            refine gx_iconst (pc := 101) (v := 0) dX10_judged_101 (by decide) ?_
            refine gx_aload_n (pc := 102) dX10_judged_102 rfl ?_
            refine m_getA (pc := 103) rfl fX10_129 rfl (by decide) dX10_judged_103 ?_
            refine gx_iconst (pc := 106) (v := 0) dX10_judged_106 (by decide) ?_
            refine kX10_457 (pc := 107) rfl (c_copies (d := d - 1) (a := 0) (c := 0) hb 51 50 246 123 (hj_jf := rfl) (ho_jf := by decide) (hn_jf := rfl) (hb_jf := by decide) (hj_jt := rfl) (ho_jt := by decide) (hn_jt := rfl) (hb_jt := by decide) (hne := by decide) (ha := by decide) (hc := by decide)) (by omega) (Nat.le_of_ble_eq_true rfl) dX10_judged_107 (fun σ5 e5 => ?_)
            refine gx_iload_n (pc := 110) dX10_judged_110 rfl ?_
            have h50 : σ5.2.2.1 50 = σ.2.2.1 50 := by
              rw [e5, mSA_A, setJ_j]
              funext q
              by_cases hq : q < 123
              · have := cpy_in (f := σ4.2.2.1 51) (g := σ4.2.2.1 50) (sp := 0) (dp := 0) (n := 123) q hq
                rw [Nat.zero_add] at this
                rw [this, h34.A (by omega), mRow_A (by decide), f51 q hq]
              · rw [cpy_hi (by omega), h34.A (by omega), mRow_50]
                exact spJ_hi hP hS (by omega) n hl
            have hfin : sE (mI σ 0 0) σ5 := by
              obtain ⟨A4, hA4, e4⟩ := h34
              refine ⟨by rw [e5, e4, e1]; rfl, by rw [e5, e4, e1]; rfl, by rw [e5, e4, e1]; rfl, fun j hj => ?_⟩
              by_cases hj5 : j = 50
              · subst hj5; exact h50
              · have hjs : j ≠ 51 ∧ (j < 31 ∨ 40 < j) := by
                  simp only [scr, Bool.or_eq_false_iff, decide_eq_false_iff_not] at hj
                  omega
                rw [e5, mSA_A, setJ_ne hj5, e4, mSA_A, hA4 j hjs.2, mRow_A hj5, f1 j hjs.1]
                rfl
            exact m_ret (pc := 111) rfl dX10_judged_111 (⟨Or.inr ⟨hw, hr⟩, hfin⟩)
          refine gx_iload_n (pc := 68) dX10_judged_68 rfl ?_
          refine gx_if_ne (pc := 69) 76 dX10_judged_69 (by decide) (fun c3 => ?_) (fun c3 => ?_)
          · refine gx_iload_n (pc := 76) dX10_judged_76 rfl ?_
            refine gx_iconst (pc := 77) (v := 1) dX10_judged_77 (by decide) ?_
            refine gx_icmp_ne (pc := 78) 88 dX10_judged_78 (by decide) (fun c4 => ?_) (fun c4 => ?_)
            · have hT3 : mT σ3.2.2.1 P S E w := h3.T (mRow_T hT1 _)
              refine gx_aload_n (pc := 88) dX10_judged_88 rfl ?_
              refine gx_aload_n (pc := 89) dX10_judged_89 rfl ?_
              refine kX10_489 (pc := 90) rfl (c_allSecrets (d := d - 1) hT3) (by omega) (Nat.le_of_ble_eq_true rfl) dX10_judged_90 (fun r1 σ4 e4 => ?_)
              obtain ⟨rfl, hσ⟩ := e4
              subst σ4
              refine kX10_433 (pc := 93) rfl (c_worthsOf (d := d - 1) hb (by omega) hT3 _) (by omega) (Nat.le_of_ble_eq_true rfl) dX10_judged_93 (fun r1 σ4 e4 => ?_)
              obtain ⟨rfl, h4⟩ := e4
              refine K σ4 _ _ h4 ?_
              rw [spJr, if_neg c3, if_neg c4]
              refine spWs_congr ?_ ?_ ?_ ?_ ?_ w P _ S
              · rw [h3.A (by omega), mRow_A (by decide), setS_ne (by decide), f1 13 (by decide)]
              · rw [h3.A (by omega), mRow_A (by decide), setS_ne (by decide), f1 17 (by decide)]
              · rw [h3.A (by omega), mRow_A (by decide), setS_ne (by decide), f1 18 (by decide)]
              · rw [h3.A (by omega), mRow_A (by decide), setS_ne (by decide), f1 19 (by decide)]
              · rw [h3.A (by omega), mRow_50, setS_50]
            · refine gx_aload_n (pc := 81) dX10_judged_81 rfl ?_
              refine kX10_486 (pc := 82) rfl (c_finesOfAll (d := d - 1)) (by omega) (Nat.le_of_ble_eq_true rfl) dX10_judged_82 (fun r1 σ4 e4 => ?_)
              refine gx_goto (pc := 85) 96 dX10_judged_85 (by decide) ?_
              obtain ⟨rfl, hσ⟩ := e4
              subst σ4
              refine K σ3 _ _ wS.rf ?_
              rw [spJr, if_neg c3, if_pos c4, h3.A (by omega), mRow_50]
          · refine gx_iload_n (pc := 72) dX10_judged_72 rfl ?_
            refine gx_goto (pc := 73) 96 dX10_judged_73 (by decide) ?_
            exact K σ3 _ _ wS.rf (by rw [spJr, if_pos c3])
        · exact absurd (by rw [hln]; exact nI_le (by omega) (by omega)) c2
      | succ m ih =>
        intro k hk σ3 h3
        refine gx_iload_n (pc := 38) dX10_judged_38 rfl ?_
        refine gx_aload_n (pc := 39) dX10_judged_39 rfl ?_
        refine m_getA (pc := 40) rfl fX10_105 rfl (by decide) dX10_judged_40 ?_
        refine gx_iconst (pc := 43) (v := 0) dX10_judged_43 (by decide) ?_
        refine m_iald (pc := 44) 42 (0) 6 rfl (by decide) rfl (by first | rfl | simp only [gx_lit, nI_add, pk_mul]) (by omega) (by decide) dX10_judged_44 ?_
        rw [h3.A (by omega), mRow_A (by decide), f1 42 (by decide)]
        refine gx_icmp_ge (pc := 45) 68 dX10_judged_45 (by decide) (fun c2 => ?_) (fun c2 => ?_)
        · exact absurd c2 (by rw [hln]; exact nI_ge (by omega) (by omega))
        · have hT3 : mT σ3.2.2.1 P S E w := h3.T (mRow_T hT1 _)
          have g : ∀ j, j ≠ 50 → j ≠ 51 → (j < 31 ∨ 40 < j) → σ3.2.2.1 j = σ.2.2.1 j := fun j h0 h1 h2 => by rw [h3.A h2, mRow_A h0, f1 j h1]
          have hlk : lnOk σ3.2.2.1 P S k := by
            have := hl k (by omega)
            unfold lnOk at *
            rw [g 43 (by omega) (by omega) (by omega), g 44 (by omega) (by omega) (by omega), g 45 (by omega) (by omega) (by omega), g 46 (by omega) (by omega) (by omega)]
            exact this
          have hgo : spGo w σ3.2.2.1 P S k = spGo w (setS σ.2.2.1 (spJ w σ.2.2.1 P S k).2) P S k := by
            refine spGo_congr ?_ ?_ ?_ ?_ ?_ ?_ ?_ ?_ ?_ ?_ ?_ w P S k <;> first | (rw [setS_ne (by decide), g _ (by decide) (by decide) (by decide)]) | (rw [h3.A (by decide), mRow_50, setS_50])
          refine gx_aload_n (pc := 48) dX10_judged_48 rfl ?_
          refine gx_iload_n (pc := 49) dX10_judged_49 rfl ?_
          refine kX10_483 (pc := 50) rfl (c_goes (d := d - 1) hb (by omega) hT3 k (by omega) hlk) (by omega) (Nat.le_of_ble_eq_true rfl) dX10_judged_50 (fun r1 σ4 e4 => ?_)
          obtain ⟨rfl, h4⟩ := e4
          rw [hgo] at h4 ⊢
          have h5 : wS (mRow σ1 (spJ w σ.2.2.1 P S (k + 1)).2) σ4 := by
            have h6 := (h3.row (spJ w σ.2.2.1 P S (k + 1)).2)
            have e6 : mRow (mRow σ1 (spJ w σ.2.2.1 P S k).2) (spJ w σ.2.2.1 P S (k + 1)).2 = mRow σ1 (spJ w σ.2.2.1 P S (k + 1)).2 := by
              simp only [mRow, mSA_A, mSA_mSA, setS_setS]
            rw [e6] at h6
            exact h6.tr h4
          have K : ∀ r, r = (spJ w σ.2.2.1 P S (k + 1)).1 → gxV G mX10_judged d 0 0 62 [some (.ref b), some (.int what), some (.int r), some (.int (nI k))] [] (mput h b σ4) (mQi h b (fun r σ' => ((¬ (0 ≤ what ∧ what ≤ 2) ∧ r = -2) ∨ ((0 ≤ what ∧ what ≤ 2) ∧ r = spJr w σ.2.2.1 P S n what)) ∧ sE (mI σ 0 0) σ')) := by
            intro r hr
            subst hr
            refine gx_iincc (pc := 62) (c := 1) dX10_judged_62 rfl (by decide) (by decide) rfl ?_
            refine gx_goto (pc := 65) 38 dX10_judged_65 (by decide) ?_
            rw [nI_1]
            exact ih (k + 1) (by omega) σ4 h5
          refine gx_if_ne (pc := 53) 62 dX10_judged_53 (by decide) (fun c3 => ?_) (fun c3 => ?_)
          · refine K _ ?_
            simp only [spJ]
            rw [if_neg]
            rintro ⟨a1, -⟩
            rw [a1] at c3
            exact absurd rfl c3
          · have hf : (spGo w (setS σ.2.2.1 (spJ w σ.2.2.1 P S k).2) P S k).1 = false := by
              cases e : (spGo w (setS σ.2.2.1 (spJ w σ.2.2.1 P S k).2) P S k).1 with
              | false => rfl
              | true => rw [e] at c3; exact absurd c3 (by decide)
            refine gx_iload_n (pc := 56) dX10_judged_56 rfl ?_
            refine gx_if_ge (pc := 57) 62 dX10_judged_57 (by decide) (fun c4 => ?_) (fun c4 => ?_)
            · refine K _ ?_
              simp only [spJ]
              rw [if_neg (fun hh => absurd hh.2 (Int32.not_lt.mpr c4))]
            · refine gx_iload_n (pc := 60) dX10_judged_60 rfl ?_
              refine gx_istore_n (pc := 61) dX10_judged_61 (by decide) rfl ?_
              refine K _ ?_
              simp only [spJ]
              rw [if_pos ⟨hf, Int32.not_le.mp c4⟩]
    refine L n 0 (by omega) σ2 ?_
    rw [e2]
    show wS (mRow σ1 (spFresh σ.2.2.1 P S)) _
    rw [fr]
    exact wS.rf
  · refine gx_bipush (pc := 14) (v := (-2)) dX10_judged_14 (by decide) ?_
    exact m_ret (pc := 16) rfl dX10_judged_16 (⟨Or.inl ⟨(fun hh => by rw [decide_eq_true hh.1, decide_eq_true hh.2] at c1; exact absurd c1 (by decide)), rfl⟩, sE.rf⟩)
end MJ
