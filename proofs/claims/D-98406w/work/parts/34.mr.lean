/-! ===== MODEL R: rests ===== -/
set_option maxRecDepth 100000
theorem bit01 (x : Int32) : x &&& 1 = 0 ∨ x &&& 1 = 1 := by
  obtain ⟨j, hj, he⟩ := pk_andE x (m := 1) 1 (by decide)
  have : j = 0 ∨ j = 1 := by omega
  rcases this with rfl | rfl
  · exact Or.inl he
  · exact Or.inr he
abbrev guT : Type := Nat × (Nat → Int32) × Nat
def spGu (f : Nat → Int32) (pe : Int32) : Nat → guT
  | 0 => (0, f, 1)
  | p + 1 => if (pe >>> (nI p &&& 31)) &&& 1 = 0 then spGu f pe p else ((spGu f pe p).1 + 1, upd (spGu f pe p).2.1 (spGu f pe p).1 (nI p), (spGu f pe p).2.2 * 11)
theorem spGu_bits (f : Nat → Int32) (pe : Int32) (p : Nat) : spBits pe p = nI (spGu f pe p).1 := by
  induction p with
  | zero => rfl
  | succ p ih =>
    rw [spBits, spGu, ih]
    by_cases h : (pe >>> (nI p &&& 31)) &&& 1 = 0
    · rw [if_pos h, h]; exact nI_add _ 0
    · rw [if_neg h]
      rcases bit01 (pe >>> (nI p &&& 31)) with e | e
      · exact absurd e h
      · rw [e]; exact nI_add _ 1
theorem spGu_all (f : Nat → Int32) (pe : Int32) (p : Nat) : (spGu f pe p).2.2 = 11 ^ (spGu f pe p).1 := by
  induction p with
  | zero => rfl
  | succ p ih =>
    rw [spGu]
    split
    · exact ih
    · rw [Nat.pow_succ, ← ih]
theorem spGu_mono (f : Nat → Int32) (pe : Int32) (p : Nat) : (spGu f pe p).1 ≤ (spGu f pe (p + 1)).1 := by
  rw [spGu]
  split
  · exact Nat.le_refl _
  · exact Nat.le_succ _
theorem spGu_le (f : Nat → Int32) (pe : Int32) (p : Nat) : ∀ m, (spGu f pe p).1 ≤ (spGu f pe (p + m)).1
  | 0 => Nat.le_refl _
  | m + 1 => Nat.le_trans (spGu_le f pe p m) (spGu_mono f pe (p + m))
theorem sh_lt : ∀ k, k < 32 → (((nI k) &&& 31).toBitVec.smod 32).toNat = k := by decide +kernel
theorem spBits_6 (q : Nat) (hq : q < 64) : spBits (nI q) 10 = spBits (nI q) 6 := by
  have z : ∀ k, 6 ≤ k → k < 10 → (nI q >>> (nI k &&& 31)) &&& 1 = 0 := by
    intro k h6 h10
    rw [pk_shrN (by omega) _ k (sh_lt k (by omega))]
    have : q / 2 ^ k = 0 := Nat.div_eq_of_lt (Nat.lt_of_lt_of_le hq (Nat.pow_le_pow_right (n := 2) (by decide) h6))
    rw [this]
    decide
  simp only [spBits]
  rw [z 6 (by omega) (by omega), z 7 (by omega) (by omega), z 8 (by omega) (by omega), z 9 (by omega) (by omega)]
  simp
/-- the choice of the guest i among g, of the number c -/
def spDig (g c i : Nat) : Nat := c / 11 ^ (g - 1 - i) % 11
def spIs (A : Nat → Nat → Int32) (S : Nat) (gu : Nat → Int32) (g c : Nat) : Nat → Bool
  | 0 => true
  | k + 1 => spIs A S gu g c k && spMay A S (gu (g - 1 - k)) (spDig g c (g - 1 - k))
def spChf (ch : Nat → Int32) (g c k : Nat) : Nat → Int32 := fun i => if g - k ≤ i ∧ i < g then nI (spDig g c i) else ch i
def spOk (w : Option gxEv) (A : Nat → Nat → Int32) (P S : Nat) (gu : Nat → Int32) (g c : Nat) : Bool := spIs A S gu g c g && spRest w A P S gu (spChf (fun _ => 0) g c g) g g
def spRr (ok : Nat → Bool) (what : Int32) : Nat → Nat → Nat → Int32
  | 0, _, n => if what = -1 then nI n else -1
  | m + 1, c, n => if ok c then (if nI n = what then nI c else spRr ok what m (c + 1) (n + 1)) else spRr ok what m (c + 1) n
theorem spChf_step {ch : Nat → Int32} {g c k : Nat} (hk : k < g) : upd (spChf ch g c k) (g - 1 - k) (nI (spDig g c (g - 1 - k))) = spChf ch g c (k + 1) := by
  funext i
  simp only [upd, spChf]
  by_cases h : i = g - 1 - k
  · subst h
    rw [if_pos rfl, if_pos (by omega)]
  · rw [if_neg h]
    by_cases h2 : g - k ≤ i ∧ i < g
    · rw [if_pos h2, if_pos (by omega)]
    · rw [if_neg h2, if_neg (by omega)]
theorem spCnt_congr {ch ch' : Nat → Int32} {v : Int32} : ∀ g, (∀ i, i < g → ch' i = ch i) → spCnt ch' v g = spCnt ch v g
  | 0, _ => rfl
  | g + 1, h => by rw [spCnt, spCnt, spCnt_congr g (fun i hi => h i (by omega)), h g (by omega)]
theorem spHas_ch {w : Option gxEv} {A : Nat → Nat → Int32} {P : Nat} {ch ch' : Nat → Int32} {g i : Nat} (h : ∀ i, i < g → ch' i = ch i) (hi : i < g) : spHas w A P ch' g i = spHas w A P ch g i := by
  unfold spHas; rw [h i hi, spCnt_congr g h]
theorem spMore_ch {w : Option gxEv} {A : Nat → Nat → Int32} {P S : Nat} {gu ch ch' : Nat → Int32} {g i : Nat} (h : ∀ i, i < g → ch' i = ch i) (hi : i < g) (c : Nat) : spMore w A P S gu ch' g i c = spMore w A P S gu ch g i c := by
  induction c with
  | zero => rfl
  | succ c ih =>
    have h2 : ∀ k, k < g → upd ch' i (nI c) k = upd ch i (nI c) k := fun k hk => by
      by_cases e : k = i <;> simp [upd, e, h k hk]
    rw [spMore, spMore, ih, spHas_ch h hi, spHas_ch h2 hi]
theorem spRest_ch {w : Option gxEv} {A : Nat → Nat → Int32} {P S : Nat} {gu ch ch' : Nat → Int32} {g : Nat} (h : ∀ i, i < g → ch' i = ch i) (n : Nat) (hn : n ≤ g) : spRest w A P S gu ch' g n = spRest w A P S gu ch g n := by
  induction n with
  | zero => rfl
  | succ n ih => rw [spRest, spRest, ih (by omega), spMore_ch h (by omega)]
theorem spMay_le {A : Nat → Nat → Int32} {S c : Nat} {gi : Int32} (h : spMay A S gi c = true) : c ≤ S := by
  simp only [spMay, Bool.or_eq_true, Bool.and_eq_true, decide_eq_true_eq] at h
  rcases h with h | h
  · omega
  · exact h.1
theorem spIs_may {A : Nat → Nat → Int32} {S g c : Nat} {gu : Nat → Int32} : ∀ k, spIs A S gu g c k = true → ∀ j, j < k → spMay A S (gu (g - 1 - j)) (spDig g c (g - 1 - j)) = true
  | 0, _, j, hj => by omega
  | k + 1, h, j, hj => by
    simp only [spIs, Bool.and_eq_true] at h
    rcases Nat.lt_or_ge j k with q | q
    · exact spIs_may k h.1 j q
    · rw [show j = k by omega]; exact h.2
theorem wS.J67 {X τ : mS} {B : Nat → Nat → Int32} {f : Nat → Int32} (h : wS (mSA X (setJ B 67 f)) τ) (m : Nat) (v : Int32) : wS (mSA X (setJ B 67 (upd f m v))) (mA τ 67 m v) := by
  obtain ⟨A', hA, e⟩ := h
  have e5 : mA τ 67 m v = mSA (mSA X (setJ B 67 (upd f m v))) (setJ A' 67 (upd f m v)) := by
    rw [e, mA_eq, mSA_A, mSA_mSA, mSA_mSA, mSA_mSA, upA_setJ, hA 67 (by omega), mSA_A, setJ_j]
  rw [e5]
  refine ⟨_, ?_, rfl⟩
  have := hA.J 67 (upd f m v)
  rw [mSA_A, setJ_setJ] at this
  exact this
theorem wS.S67 {X τ : mS} {B : Nat → Nat → Int32} {f : Nat → Int32} (h : wS (mSA X (setJ B 67 f)) τ) (f' : Nat → Int32) : wS (mSA X (setJ B 67 f')) (mSA τ (setJ τ.2.2.1 67 f')) := by
  obtain ⟨A', hA, e⟩ := h
  have e5 : mSA τ (setJ τ.2.2.1 67 f') = mSA (mSA X (setJ B 67 f')) (setJ A' 67 f') := by
    rw [e, mSA_A, mSA_mSA, mSA_mSA, mSA_mSA]
  rw [e5]
  refine ⟨_, ?_, rfl⟩
  have := hA.J 67 f'
  rw [mSA_A, setJ_setJ] at this
  exact this
theorem spMore_congr {A B : Nat → Nat → Int32} (h13 : B 13 = A 13) (h17 : B 17 = A 17) (h18 : B 18 = A 18) (h19 : B 19 = A 19) (h50 : B 50 = A 50) (w : Option gxEv) (P S : Nat) (gu ch : Nat → Int32) (g i c : Nat) : spMore w B P S gu ch g i c = spMore w A P S gu ch g i c := by
  induction c with
  | zero => rfl
  | succ c ih => rw [spMore, spMore, ih, spHas_congr h13 h17 h18 h19 h50, spHas_congr h13 h17 h18 h19 h50, spMay, spMay, h50]
theorem spRest_congr {A B : Nat → Nat → Int32} (h13 : B 13 = A 13) (h17 : B 17 = A 17) (h18 : B 18 = A 18) (h19 : B 19 = A 19) (h50 : B 50 = A 50) (w : Option gxEv) (P S : Nat) (gu ch : Nat → Int32) (g n : Nat) : spRest w B P S gu ch g n = spRest w A P S gu ch g n := by
  induction n with
  | zero => rfl
  | succ n ih => rw [spRest, spRest, ih, spMore_congr h13 h17 h18 h19 h50]
theorem d11 : ∀ a, a < 1332 → nI a / 11 = nI (a / 11) ∧ nI a - nI a / 11 * 11 = nI (a % 11) := by decide +kernel
theorem nI_m1 (m : Nat) : nI (m + 1) + (-1) = nI m := (Int32.sub_eq_add_neg _ 1).symm.trans (nI_pred m)
section MR
variable {G : gxG} {d : Nat} {h : gxH} {b : Nat} {σ : mS} {P S E : Nat} {w : Option gxEv}
theorem c_rests (hb : gxN G ≤ b) (hd : 17 ≤ d) (hT : mT σ.2.2.1 P S E w) (pe what : Int32) : mMi G mX10_rests d [.ref b, .int pe, .int what] h b σ (fun r σ' => ((¬ (∃ q, q < 2 ^ P ∧ pe = nI q ∧ -1 ≤ what ∧ 2 ≤ (spGu (σ.2.2.1 66) (nI q) 6).1 ∧ (spGu (σ.2.2.1 66) (nI q) 6).1 ≤ 3) ∧ r = -1) ∨ ∃ q, q < 2 ^ P ∧ pe = nI q ∧ -1 ≤ what ∧ 2 ≤ (spGu (σ.2.2.1 66) (nI q) 6).1 ∧ (spGu (σ.2.2.1 66) (nI q) 6).1 ≤ 3 ∧ r = spRr (spOk w σ.2.2.1 P S (spGu (σ.2.2.1 66) (nI q) 6).2.1 (spGu (σ.2.2.1 66) (nI q) 6).1) what (spGu (σ.2.2.1 66) (nI q) 6).2.2 0 0) ∧ ∃ v, sE (mI (mI σ 0 0) 68 v) σ') := by
  have hP := hT.1
  have hP6 := hT.2.1
  have hS := hT.2.2.2.1
  obtain ⟨hsh, h64⟩ := shl_P hP6
  refine gxM_of rfl (Nat.le_of_ble_eq_true rfl) rfl ?_
  have rf68 : ∃ v, sE (mI (mI σ 0 0) 68 v) (mI σ 0 0) := by
    refine ⟨(mI σ 0 0).1 68, ?_, rfl, rfl, fun _ _ => rfl⟩
    funext q
    by_cases hq : q = 68 <;> simp [mI, upd, hq]
  have N : ¬ (∃ q, q < 2 ^ P ∧ pe = nI q ∧ -1 ≤ what ∧ 2 ≤ (spGu (σ.2.2.1 66) (nI q) 6).1 ∧ (spGu (σ.2.2.1 66) (nI q) 6).1 ≤ 3) → gxV G mX10_rests d 0 0 38 [some (.ref b), some (.int pe), some (.int what), none, none, none, none, none, none] [] (mput h b (mI σ 0 0)) (mQi h b (fun r σ' => ((¬ (∃ q, q < 2 ^ P ∧ pe = nI q ∧ -1 ≤ what ∧ 2 ≤ (spGu (σ.2.2.1 66) (nI q) 6).1 ∧ (spGu (σ.2.2.1 66) (nI q) 6).1 ≤ 3) ∧ r = -1) ∨ ∃ q, q < 2 ^ P ∧ pe = nI q ∧ -1 ≤ what ∧ 2 ≤ (spGu (σ.2.2.1 66) (nI q) 6).1 ∧ (spGu (σ.2.2.1 66) (nI q) 6).1 ≤ 3 ∧ r = spRr (spOk w σ.2.2.1 P S (spGu (σ.2.2.1 66) (nI q) 6).2.1 (spGu (σ.2.2.1 66) (nI q) 6).1) what (spGu (σ.2.2.1 66) (nI q) 6).2.2 0 0) ∧ ∃ v, sE (mI (mI σ 0 0) 68 v) σ')) := by
    intro hno
    refine gx_iconst (pc := 38) (v := (-1)) dX10_rests_38 (by decide) ?_
    exact m_ret (pc := 39) rfl dX10_rests_39 (⟨Or.inl ⟨hno, rfl⟩, rf68⟩)
  refine gx_aload_n (pc := 0) dX10_rests_0 rfl ?_
  refine gx_iconst (pc := 1) (v := 0) dX10_rests_1 (by decide) ?_
  refine m_putI (pc := 2) rfl hb fX10_175 rfl (by decide) tX10_0 dX10_rests_2 ?_
  refine gx_iload_n (pc := 5) dX10_rests_5 rfl ?_
  refine gx_if_lt (pc := 6) 38 dX10_rests_6 (by decide) (fun c1 => ?_) (fun c1 => ?_)
  · exact N (fun ⟨q, a1, a2, _⟩ => absurd c1 (by rw [a2]; exact nI_pos (by omega)))
  · obtain ⟨q, hq31, hqe⟩ := nI_of c1
    refine gx_iload_n (pc := 9) dX10_rests_9 rfl ?_
    refine gx_iconst (pc := 10) (v := 1) dX10_rests_10 (by decide) ?_
    refine gx_aload_n (pc := 11) dX10_rests_11 rfl ?_
    refine m_getA (pc := 12) rfl fX10_13 rfl (by decide) dX10_rests_12 ?_
    refine gx_iconst (pc := 15) (v := 0) dX10_rests_15 (by decide) ?_
    refine m_iald (pc := 16) 10 (0) 8 rfl (by decide) rfl (by first | rfl | simp only [gx_lit, nI_add, pk_mul]) (by omega) (by decide) dX10_rests_16 ?_
    rw [mI_A, hP]
    refine gx_ishl (pc := 17) dX10_rests_17 ?_
    rw [hsh]
    refine gx_icmp_ge (pc := 18) 38 dX10_rests_18 (by decide) (fun c2 => ?_) (fun c2 => ?_)
    · refine N (fun ⟨q2, a1, a2, _⟩ => absurd c2 ?_)
      rw [a2]
      exact nI_ge a1 (by omega)
    · have hq : q < 2 ^ P := by
        rcases Nat.lt_or_ge q (2 ^ P) with z | z
        · exact z
        · exact absurd (by rw [hqe]; exact nI_le z hq31) c2
      have inj : ∀ {q2 : Nat}, q2 < 2 ^ P → pe = nI q2 → q2 = q := fun a1 a2 => ((nI_eq (by omega) (by omega)).mp (hqe.symm.trans a2)).symm
      refine gx_iload_n (pc := 21) dX10_rests_21 rfl ?_
      refine gx_iconst (pc := 22) (v := (-1)) dX10_rests_22 (by decide) ?_
      refine gx_icmp_lt (pc := 23) 38 dX10_rests_23 (by decide) (fun c3 => ?_) (fun c3 => ?_)
      · exact N (fun ⟨q2, a1, a2, a3, _⟩ => absurd c3 (Int32.not_lt.mpr a3))
      · have hbits : spBits pe 10 = nI (spGu (σ.2.2.1 66) (nI q) 6).1 := by rw [hqe, spBits_6 q (by omega), spGu_bits]
        refine gx_iload_n (pc := 26) dX10_rests_26 rfl ?_
        refine kX10_492 (pc := 27) rfl (c_bits (d := d - 1) _) (by omega) (Nat.le_of_ble_eq_true rfl) dX10_rests_27 (fun r1 σ1 e1 => ?_)
        obtain ⟨rfl, hσ⟩ := e1
        subst σ1
        rw [hbits]
        have hg6 : (spGu (σ.2.2.1 66) (nI q) 6).1 ≤ 6 := by
          have : ∀ p, (spGu (σ.2.2.1 66) (nI q) p).1 ≤ p := by
            intro p
            induction p with
            | zero => exact Nat.le_refl _
            | succ p ih => rw [spGu]; split; omega; exact Nat.succ_le_succ ih
          exact this 6
        refine gx_iconst (pc := 30) (v := 2) dX10_rests_30 (by decide) ?_
        refine gx_iconst (pc := 31) (v := 3) dX10_rests_31 (by decide) ?_
        refine kX10_308 (pc := 32) rfl (c_within (d := d - 1) _ 2 3) (by omega) (Nat.le_of_ble_eq_true rfl) dX10_rests_32 (fun r1 σ1 e1 => ?_)
        obtain ⟨rfl, hσ⟩ := e1
        subst σ1
        refine gx_if_ne (pc := 35) 40 dX10_rests_35 (by decide) (fun c4 => ?_) (fun c4 => ?_)
        · have hg := wi_in c4
          have hg2 : 2 ≤ (spGu (σ.2.2.1 66) (nI q) 6).1 := (nI_leI (a := 2) (by decide) (by omega)).mp hg.1
          have hg3 : (spGu (σ.2.2.1 66) (nI q) 6).1 ≤ 3 := (nI_leI (b := 3) (by omega) (by decide)).mp hg.2
          subst hqe
          have fin : ∀ (τ : mS) (t : Nat → Int32) (r : Int32), wS (mSA (mI (mI σ 0 0) 68 (nI (spGu (σ.2.2.1 66) (nI q) 6).1)) (setJ (setJ σ.2.2.1 66 (spGu (σ.2.2.1 66) (nI q) 6).2.1) 67 t)) τ → r = spRr (spOk w σ.2.2.1 P S (spGu (σ.2.2.1 66) (nI q) 6).2.1 (spGu (σ.2.2.1 66) (nI q) 6).1) what (spGu (σ.2.2.1 66) (nI q) 6).2.2 0 0 → (fun r σ' => ((¬ (∃ q2, q2 < 2 ^ P ∧ nI q = nI q2 ∧ -1 ≤ what ∧ 2 ≤ (spGu (σ.2.2.1 66) (nI q2) 6).1 ∧ (spGu (σ.2.2.1 66) (nI q2) 6).1 ≤ 3) ∧ r = -1) ∨ ∃ q2, q2 < 2 ^ P ∧ nI q = nI q2 ∧ -1 ≤ what ∧ 2 ≤ (spGu (σ.2.2.1 66) (nI q2) 6).1 ∧ (spGu (σ.2.2.1 66) (nI q2) 6).1 ≤ 3 ∧ r = spRr (spOk w σ.2.2.1 P S (spGu (σ.2.2.1 66) (nI q2) 6).2.1 (spGu (σ.2.2.1 66) (nI q2) 6).1) what (spGu (σ.2.2.1 66) (nI q2) 6).2.2 0 0) ∧ ∃ v, sE (mI (mI σ 0 0) 68 v) σ') r τ := by
            intro τ t r hw1 hr
            refine ⟨Or.inr ⟨q, hq, rfl, Int32.not_lt.mp c3, hg2, hg3, hr⟩, nI (spGu (σ.2.2.1 66) (nI q) 6).1, ?_⟩
            suffices h1 : sE (mI (mI σ 0 0) 68 (nI (spGu (σ.2.2.1 66) (nI q) 6).1)) (mSA (mI (mI σ 0 0) 68 (nI (spGu (σ.2.2.1 66) (nI q) 6).1)) (setJ (setJ σ.2.2.1 66 (spGu (σ.2.2.1 66) (nI q) 6).2.1) 67 t)) from sE.tr h1 hw1.sE
            refine ⟨rfl, rfl, rfl, fun j hj => ?_⟩
            have : j ≠ 66 ∧ j ≠ 67 := by
              simp only [scr, Bool.or_eq_false_iff, decide_eq_false_iff_not] at hj
              omega
            rw [mSA_A, setJ_ne this.2, setJ_ne this.1]
            rfl
          have hle : ∀ p, p ≤ 6 → (spGu (σ.2.2.1 66) (nI q) p).1 ≤ 3 := fun p hp => by
            have := spGu_le (σ.2.2.1 66) (nI q) p (6 - p)
            rw [show p + (6 - p) = 6 by omega] at this
            omega
          refine gx_aload_n (pc := 40) dX10_rests_40 rfl ?_
          refine gx_iconst (pc := 41) (v := 0) dX10_rests_41 (by decide) ?_
          refine m_putI (pc := 42) rfl hb fX10_531 rfl (by decide) tX10_68 dX10_rests_42 ?_
          refine gx_iconst (pc := 45) (v := 1) dX10_rests_45 (by decide) ?_
          refine gx_istore_n (pc := 46) dX10_rests_46 (by decide) rfl ?_
          refine gx_iconst (pc := 47) (v := 0) dX10_rests_47 (by decide) ?_
          refine gx_istore (pc := 48) dX10_rests_48 (by decide) rfl ?_
          have L1 : ∀ m p, m + p = 6 → gxV G mX10_rests d 0 0 50 [some (.ref b), some (.int (nI q)), some (.int what), some (.int (nI (spGu (σ.2.2.1 66) (nI q) p).2.2)), some (.int (nI p)), none, none, none, none] [] (mput h b (mSA (mI (mI σ 0 0) 68 (nI (spGu (σ.2.2.1 66) (nI q) p).1)) (setJ σ.2.2.1 66 (spGu (σ.2.2.1 66) (nI q) p).2.1))) (mQi h b (fun r σ' => ((¬ (∃ q2, q2 < 2 ^ P ∧ nI q = nI q2 ∧ -1 ≤ what ∧ 2 ≤ (spGu (σ.2.2.1 66) (nI q2) 6).1 ∧ (spGu (σ.2.2.1 66) (nI q2) 6).1 ≤ 3) ∧ r = -1) ∨ ∃ q2, q2 < 2 ^ P ∧ nI q = nI q2 ∧ -1 ≤ what ∧ 2 ≤ (spGu (σ.2.2.1 66) (nI q2) 6).1 ∧ (spGu (σ.2.2.1 66) (nI q2) 6).1 ≤ 3 ∧ r = spRr (spOk w σ.2.2.1 P S (spGu (σ.2.2.1 66) (nI q2) 6).2.1 (spGu (σ.2.2.1 66) (nI q2) 6).1) what (spGu (σ.2.2.1 66) (nI q2) 6).2.2 0 0) ∧ ∃ v, sE (mI (mI σ 0 0) 68 v) σ')) := by
            intro m
            induction m with
            | zero =>
              intro p hp
              have hp6 : p = 6 := by omega
              subst p
              have hall := spGu_all (σ.2.2.1 66) (nI q) 6
              generalize hU : spGu (σ.2.2.1 66) (nI q) 6 = u at *
              obtain ⟨g, gu, al⟩ := u
              dsimp only at hg2 hg3 hall
              have hal : al ≤ 1331 := by
                rw [hall]
                exact Nat.pow_le_pow_right (n := 11) (by decide) hg3
              refine gx_iload (pc := 50) dX10_rests_50 rfl ?_
              refine gx_bipush (pc := 52) (v := 6) dX10_rests_52 (by decide) ?_
              refine gx_icmp_ge (pc := 54) 101 dX10_rests_54 (by decide) (fun c5 => ?_) (fun c5 => ?_)
              · refine gx_iconst (pc := 101) (v := 0) dX10_rests_101 (by decide) ?_
                refine gx_istore (pc := 102) dX10_rests_102 (by decide) rfl ?_
                refine gx_iconst (pc := 104) (v := 0) dX10_rests_104 (by decide) ?_
                refine gx_istore (pc := 105) dX10_rests_105 (by decide) rfl ?_
                have L2 : ∀ m c n, m + c = al → n ≤ c → spRr (spOk w σ.2.2.1 P S gu g) what m c n = spRr (spOk w σ.2.2.1 P S gu g) what al 0 0 → ∀ τ t (x6 x7 x8 : Option Value), wS (mSA (mI (mI σ 0 0) 68 (nI g)) (setJ (setJ σ.2.2.1 66 gu) 67 t)) τ → gxV G mX10_rests d 0 0 107 [some (.ref b), some (.int (nI q)), some (.int what), some (.int (nI al)), some (.int (nI n)), some (.int (nI c)), x6, x7, x8] [] (mput h b τ) (mQi h b (fun r σ' => ((¬ (∃ q2, q2 < 2 ^ P ∧ nI q = nI q2 ∧ -1 ≤ what ∧ 2 ≤ (spGu (σ.2.2.1 66) (nI q2) 6).1 ∧ (spGu (σ.2.2.1 66) (nI q2) 6).1 ≤ 3) ∧ r = -1) ∨ ∃ q2, q2 < 2 ^ P ∧ nI q = nI q2 ∧ -1 ≤ what ∧ 2 ≤ (spGu (σ.2.2.1 66) (nI q2) 6).1 ∧ (spGu (σ.2.2.1 66) (nI q2) 6).1 ≤ 3 ∧ r = spRr (spOk w σ.2.2.1 P S (spGu (σ.2.2.1 66) (nI q2) 6).2.1 (spGu (σ.2.2.1 66) (nI q2) 6).1) what (spGu (σ.2.2.1 66) (nI q2) 6).2.2 0 0) ∧ ∃ v, sE (mI (mI σ 0 0) 68 v) σ')) := by
                  intro m
                  induction m with
                  | zero =>
                    intro c n hc hnc hr τ t x6 x7 x8 hτ
                    refine gx_iload (pc := 107) dX10_rests_107 rfl ?_
                    refine gx_iload_n (pc := 109) dX10_rests_109 rfl ?_
                    refine gx_icmp_ge (pc := 110) 219 dX10_rests_110 (by decide) (fun c6 => ?_) (fun c6 => ?_)
                    · refine gx_iload_n (pc := 219) dX10_rests_219 rfl ?_
                      refine gx_iconst (pc := 220) (v := (-1)) dX10_rests_220 (by decide) ?_
                      refine gx_icmp_ne (pc := 221) 229 dX10_rests_221 (by decide) (fun c7 => ?_) (fun c7 => ?_)
                      · refine gx_iconst (pc := 229) (v := (-1)) dX10_rests_229 (by decide) ?_
                        exact m_ret (pc := 230) rfl dX10_rests_230 (fin τ t _ hτ (by rw [← hr, spRr, if_neg c7]))
                      · refine gx_iload (pc := 224) dX10_rests_224 rfl ?_
                        refine gx_goto (pc := 226) 230 dX10_rests_226 (by decide) ?_
                        exact m_ret (pc := 230) rfl dX10_rests_230 (fin τ t _ hτ (by rw [← hr, spRr, if_pos c7]))
                    · exact absurd (nI_le (by omega) (by omega)) c6
                  | succ m ih =>
                    intro c n hc hnc hr τ t x6 x7 x8 hτ
                    have K213 : ∀ n' τ t (x6 x7 x8 : Option Value), n' ≤ c + 1 → spRr (spOk w σ.2.2.1 P S gu g) what m (c + 1) n' = spRr (spOk w σ.2.2.1 P S gu g) what al 0 0 → wS (mSA (mI (mI σ 0 0) 68 (nI g)) (setJ (setJ σ.2.2.1 66 gu) 67 t)) τ → gxV G mX10_rests d 0 0 213 [some (.ref b), some (.int (nI q)), some (.int what), some (.int (nI al)), some (.int (nI n')), some (.int (nI c)), x6, x7, x8] [] (mput h b τ) (mQi h b (fun r σ' => ((¬ (∃ q2, q2 < 2 ^ P ∧ nI q = nI q2 ∧ -1 ≤ what ∧ 2 ≤ (spGu (σ.2.2.1 66) (nI q2) 6).1 ∧ (spGu (σ.2.2.1 66) (nI q2) 6).1 ≤ 3) ∧ r = -1) ∨ ∃ q2, q2 < 2 ^ P ∧ nI q = nI q2 ∧ -1 ≤ what ∧ 2 ≤ (spGu (σ.2.2.1 66) (nI q2) 6).1 ∧ (spGu (σ.2.2.1 66) (nI q2) 6).1 ≤ 3 ∧ r = spRr (spOk w σ.2.2.1 P S (spGu (σ.2.2.1 66) (nI q2) 6).2.1 (spGu (σ.2.2.1 66) (nI q2) 6).1) what (spGu (σ.2.2.1 66) (nI q2) 6).2.2 0 0) ∧ ∃ v, sE (mI (mI σ 0 0) 68 v) σ')) := by
                      intro n' τ t x6 x7 x8 hn' hr' hτ'
                      refine gx_iincc (pc := 213) (c := 1) dX10_rests_213 rfl (by decide) (by decide) rfl ?_
                      refine gx_goto (pc := 216) 107 dX10_rests_216 (by decide) ?_
                      rw [nI_1]
                      exact ih (c + 1) n' (by omega) hn' hr' τ t x6 x7 x8 hτ'
                    refine gx_iload (pc := 107) dX10_rests_107 rfl ?_
                    refine gx_iload_n (pc := 109) dX10_rests_109 rfl ?_
                    refine gx_icmp_ge (pc := 110) 219 dX10_rests_110 (by decide) (fun c6 => ?_) (fun c6 => ?_)
                    · exact absurd c6 (nI_ge (by omega) (by omega))
                    · have hx68 : τ.1 68 = nI g := by rw [hτ.x]; exact mI_eq (mI σ 0 0) 68 (nI g)
                      refine gx_iload (pc := 113) dX10_rests_113 rfl ?_
                      refine gx_istore (pc := 115) dX10_rests_115 (by decide) rfl ?_
                      refine gx_iconst (pc := 117) (v := 1) dX10_rests_117 (by decide) ?_
                      refine gx_istore (pc := 118) dX10_rests_118 (by decide) rfl ?_
                      refine gx_aload_n (pc := 120) dX10_rests_120 rfl ?_
                      refine m_getI (pc := 121) rfl fX10_531 rfl (by decide) dX10_rests_121 ?_
                      rw [hx68]
                      refine gx_iconst (pc := 124) (v := 1) dX10_rests_124 (by decide) ?_
                      refine gx_isub (pc := 125) dX10_rests_125 ?_
                      refine gx_istore (pc := 126) dX10_rests_126 (by decide) rfl ?_
                      rw [show nI g - 1 = nI (g - 1) from pk_sub (b := 1) (by omega)]
                      have hSH : ∀ (τ : mS) (f : Nat → Int32), wS (mSA (mI (mI σ 0 0) 68 (nI g)) (setJ (setJ σ.2.2.1 66 gu) 67 f)) τ → (∀ j, j ≠ 66 → j ≠ 67 → (j < 31 ∨ 40 < j) → τ.2.2.1 j = σ.2.2.1 j) ∧ τ.2.2.1 66 = gu ∧ τ.2.2.1 67 = f ∧ mT τ.2.2.1 P S E w ∧ τ.1 68 = nI g := by
                        intro τ f hf
                        refine ⟨fun j h6 h7 hj => ?_, ?_, ?_, ?_, ?_⟩
                        · rw [hf.A hj, mSA_A, setJ_ne h7, setJ_ne h6]
                        · rw [hf.A (by omega), mSA_A, setJ_ne (by decide), setJ_j]
                        · rw [hf.A (by omega), mSA_A, setJ_j]
                        · exact hf.T (by rw [mSA_A]; exact (hT.J (by omega) _).J (by omega) _)
                        · rw [hf.x]; exact mI_eq (mI σ 0 0) 68 (nI g)
                      have L3 : ∀ m3 k, m3 + k = g → ∀ τ (x8 : Int32), (m3 = 0 → x8 = -1) → (∀ z, m3 = z + 1 → x8 = nI z) → wS (mSA (mI (mI σ 0 0) 68 (nI g)) (setJ (setJ σ.2.2.1 66 gu) 67 (spChf t g c k))) τ → gxV G mX10_rests d 0 0 128 [some (.ref b), some (.int (nI q)), some (.int what), some (.int (nI al)), some (.int (nI n)), some (.int (nI c)), some (.int (nI (c / 11 ^ k))), some (.int (zi (spIs σ.2.2.1 S gu g c k))), some (.int x8)] [] (mput h b τ) (mQi h b (fun r σ' => ((¬ (∃ q2, q2 < 2 ^ P ∧ nI q = nI q2 ∧ -1 ≤ what ∧ 2 ≤ (spGu (σ.2.2.1 66) (nI q2) 6).1 ∧ (spGu (σ.2.2.1 66) (nI q2) 6).1 ≤ 3) ∧ r = -1) ∨ ∃ q2, q2 < 2 ^ P ∧ nI q = nI q2 ∧ -1 ≤ what ∧ 2 ≤ (spGu (σ.2.2.1 66) (nI q2) 6).1 ∧ (spGu (σ.2.2.1 66) (nI q2) 6).1 ≤ 3 ∧ r = spRr (spOk w σ.2.2.1 P S (spGu (σ.2.2.1 66) (nI q2) 6).2.1 (spGu (σ.2.2.1 66) (nI q2) 6).1) what (spGu (σ.2.2.1 66) (nI q2) 6).2.2 0 0) ∧ ∃ v, sE (mI (mI σ 0 0) 68 v) σ')) := by
                        intro m3
                        induction m3 with
                        | zero =>
                          intro k hk τ x8 hx0 _ hτ3
                          have hkg : k = g := by omega
                          subst hkg
                          have hx8 := hx0 rfl
                          subst hx8
                          obtain ⟨q1, q66, q67, hT3, hx3⟩ := hSH τ _ hτ3
                          refine gx_iload (pc := 128) dX10_rests_128 rfl ?_
                          refine gx_if_lt (pc := 130) 186 dX10_rests_130 (by decide) (fun c7 => ?_) (fun c7 => ?_)
                          · refine gx_iload (pc := 186) dX10_rests_186 rfl ?_
                            refine gx_if_eq (pc := 188) 213 dX10_rests_188 (by decide) (fun c8 => ?_) (fun c8 => ?_)
                            · have hf : spIs σ.2.2.1 S gu k c k = false := by
                                cases e : spIs σ.2.2.1 S gu k c k with
                                | false => rfl
                                | true => rw [e] at c8; exact absurd c8 (by decide)
                              refine K213 n τ _ _ _ _ (by omega) ?_ hτ3
                              rw [← hr, spRr, if_neg (by rw [spOk, hf, Bool.false_and]; decide)]
                            · have ht : spIs σ.2.2.1 S gu k c k = true := by
                                cases e : spIs σ.2.2.1 S gu k c k with
                                | true => rfl
                                | false => rw [e] at c8; exact absurd rfl c8
                              have hch : chOk (τ.2.2.1 67) S k := by
                                rw [q67]
                                intro i hi
                                refine ⟨spDig k c i, ?_, ?_⟩
                                · have := spIs_may k ht (k - 1 - i) (by omega)
                                  rw [show k - 1 - (k - 1 - i) = i by omega] at this
                                  exact spMay_le this
                                · simp only [spChf]
                                  rw [if_pos (by omega)]
                              refine gx_aload_n (pc := 191) dX10_rests_191 rfl ?_
                              refine kX10_540 (pc := 192) rfl (c_isRest (d := d - 1) hb (by omega) hT3 k hg3 hx3 hch) (by omega) (Nat.le_of_ble_eq_true rfl) dX10_rests_192 (fun r1 σ4 e4 => ?_)
                              obtain ⟨rfl, t4, h4⟩ := e4
                              have h5 := (hτ3.S67 t4).tr h4
                              have hre : spRest w τ.2.2.1 P S (τ.2.2.1 66) (τ.2.2.1 67) k k = spRest w σ.2.2.1 P S gu (spChf (fun _ => 0) k c k) k k := by
                                rw [spRest_congr (q1 13 (by decide) (by decide) (by omega)) (q1 17 (by decide) (by decide) (by omega)) (q1 18 (by decide) (by decide) (by omega)) (q1 19 (by decide) (by decide) (by omega)) (q1 50 (by decide) (by decide) (by omega)), q66, q67]
                                refine spRest_ch (fun i hi => ?_) k (Nat.le_refl _)
                                simp only [spChf]
                                rw [if_pos (by omega), if_pos (by omega)]
                              rw [hre]
                              refine gx_if_ne (pc := 195) 201 dX10_rests_195 (by decide) (fun c9 => ?_) (fun c9 => ?_)
                              · have hok : spOk w σ.2.2.1 P S gu k c = true := by
                                  rw [spOk, ht, Bool.true_and]
                                  cases e : spRest w σ.2.2.1 P S gu (spChf (fun _ => 0) k c k) k k with
                                  | true => rfl
                                  | false => rw [e] at c9; exact absurd rfl c9
                                rw [spRr, if_pos hok] at hr
                                refine gx_iload (pc := 201) dX10_rests_201 rfl ?_
                                refine gx_iload_n (pc := 203) dX10_rests_203 rfl ?_
                                refine gx_icmp_ne (pc := 204) 210 dX10_rests_204 (by decide) (fun c10 => ?_) (fun c10 => ?_)
                                · rw [if_neg c10] at hr
                                  refine gx_iincc (pc := 210) (c := 1) dX10_rests_210 rfl (by decide) (by decide) rfl ?_
                                  rw [nI_1]
                                  exact K213 (n + 1) _ _ _ _ _ (by omega) hr h5
                                · rw [if_pos c10] at hr
                                  refine gx_iload (pc := 207) dX10_rests_207 rfl ?_
                                  exact m_ret (pc := 209) rfl dX10_rests_209 (fin _ _ _ h5 hr)
                              · have hok : spOk w σ.2.2.1 P S gu k c = false := by
                                  rw [spOk, ht, Bool.true_and]
                                  cases e : spRest w σ.2.2.1 P S gu (spChf (fun _ => 0) k c k) k k with
                                  | false => rfl
                                  | true => rw [e] at c9; exact absurd c9 (by decide)
                                rw [spRr, if_neg (by rw [hok]; decide)] at hr
                                refine gx_goto (pc := 198) 213 dX10_rests_198 (by decide) ?_
                                exact K213 n _ _ _ _ _ (by omega) hr h5
                          · exact absurd (by decide) c7
                        | succ m3 ih3 =>
                          intro k hk τ x8 _ hx1 hτ3
                          have hx8 := hx1 m3 rfl
                          subst hx8
                          have hgk : g - 1 - k = m3 := by omega
                          obtain ⟨q1, q66, q67, hT3, hx3⟩ := hSH τ _ hτ3
                          have hcl : c / 11 ^ k < 1332 := Nat.lt_of_le_of_lt (Nat.div_le_self _ _) (by omega)
                          have hdig : c / 11 ^ k % 11 = spDig g c m3 := by
                            rw [spDig, show g - 1 - m3 = k by omega]
                          have hdl : spDig g c m3 ≤ 10 := by
                            rw [← hdig]
                            exact Nat.le_of_lt_succ (Nat.mod_lt _ (by decide))
                          have h4 := hτ3.J67 m3 (nI (spDig g c m3))
                          have hst := spChf_step (ch := t) (c := c) (show k < g by omega)
                          rw [hgk] at hst
                          rw [hst] at h4
                          obtain ⟨p1, p66, p67, pT, px⟩ := hSH _ _ h4
                          have K171 : gxV G mX10_rests d 0 0 171 [some (.ref b), some (.int (nI q)), some (.int what), some (.int (nI al)), some (.int (nI n)), some (.int (nI c)), some (.int (nI (c / 11 ^ k))), some (.int (zi (spIs σ.2.2.1 S gu g c k))), some (.int (nI m3))] [.int (zi (spIs σ.2.2.1 S gu g c (k + 1)))] (mput h b (mA τ 67 m3 (nI (spDig g c m3)))) (mQi h b (fun r σ' => ((¬ (∃ q2, q2 < 2 ^ P ∧ nI q = nI q2 ∧ -1 ≤ what ∧ 2 ≤ (spGu (σ.2.2.1 66) (nI q2) 6).1 ∧ (spGu (σ.2.2.1 66) (nI q2) 6).1 ≤ 3) ∧ r = -1) ∨ ∃ q2, q2 < 2 ^ P ∧ nI q = nI q2 ∧ -1 ≤ what ∧ 2 ≤ (spGu (σ.2.2.1 66) (nI q2) 6).1 ∧ (spGu (σ.2.2.1 66) (nI q2) 6).1 ≤ 3 ∧ r = spRr (spOk w σ.2.2.1 P S (spGu (σ.2.2.1 66) (nI q2) 6).2.1 (spGu (σ.2.2.1 66) (nI q2) 6).1) what (spGu (σ.2.2.1 66) (nI q2) 6).2.2 0 0) ∧ ∃ v, sE (mI (mI σ 0 0) 68 v) σ')) := by
                            refine gx_istore (pc := 171) dX10_rests_171 (by decide) rfl ?_
                            refine gx_iload (pc := 173) dX10_rests_173 rfl ?_
                            refine gx_bipush (pc := 175) (v := 11) dX10_rests_175 (by decide) ?_
                            refine gx_idiv (pc := 177) dX10_rests_177 (by decide) ?_
                            rw [(d11 _ hcl).1, Nat.div_div_eq_div_mul, ← Nat.pow_succ]
                            refine gx_istore (pc := 178) dX10_rests_178 (by decide) rfl ?_
                            refine gx_iincc (pc := 180) (c := (-1)) dX10_rests_180 rfl (by decide) (by decide) rfl ?_
                            refine gx_goto (pc := 183) 128 dX10_rests_183 (by decide) ?_
                            refine ih3 (k + 1) (by omega) _ _ (fun e => ?_) (fun z e => ?_) h4
                            · rw [e]; decide
                            · rw [e]; exact nI_m1 z
                          refine gx_iload (pc := 128) dX10_rests_128 rfl ?_
                          refine gx_if_lt (pc := 130) 186 dX10_rests_130 (by decide) (fun c7 => ?_) (fun c7 => ?_)
                          · exact absurd c7 (nI_pos (by omega))
                          · refine gx_aload_n (pc := 133) dX10_rests_133 rfl ?_
                            refine m_getA (pc := 134) rfl fX10_172 rfl (by decide) dX10_rests_134 ?_
                            refine gx_iload (pc := 137) dX10_rests_137 rfl ?_
                            refine gx_iload (pc := 139) dX10_rests_139 rfl ?_
                            refine gx_bipush (pc := 141) (v := 11) dX10_rests_141 (by decide) ?_
                            refine gx_irem (pc := 143) dX10_rests_143 (by decide) ?_
                            rw [(d11 _ hcl).2, hdig]
                            refine m_iast (pc := 144) hb 67 (m3) 3 rfl (by decide) rfl (by first | rfl | simp only [gx_lit, nI_add, pk_mul]) (by omega) (by decide) dX10_rests_144 ?_
                            refine gx_iload (pc := 145) dX10_rests_145 rfl ?_
                            refine gx_if_eq (pc := 147) 170 dX10_rests_147 (by decide) (fun c8 => ?_) (fun c8 => ?_)
                            · have hf : spIs σ.2.2.1 S gu g c (k + 1) = false := by
                                rw [spIs]
                                cases e : spIs σ.2.2.1 S gu g c k with
                                | false => rfl
                                | true => rw [e] at c8; exact absurd c8 (by decide)
                              rw [hf] at K171
                              refine gx_iconst (pc := 170) (v := 0) dX10_rests_170 (by decide) ?_
                              exact K171
                            · have ht : spIs σ.2.2.1 S gu g c k = true := by
                                cases e : spIs σ.2.2.1 S gu g c k with
                                | true => rfl
                                | false => rw [e] at c8; exact absurd rfl c8
                              refine gx_aload_n (pc := 150) dX10_rests_150 rfl ?_
                              refine gx_iload (pc := 151) dX10_rests_151 rfl ?_
                              refine gx_aload_n (pc := 153) dX10_rests_153 rfl ?_
                              refine m_getA (pc := 154) rfl fX10_172 rfl (by decide) dX10_rests_154 ?_
                              refine gx_iload (pc := 157) dX10_rests_157 rfl ?_
                              refine m_iald (pc := 159) 67 (m3) 3 rfl (by decide) rfl (by first | rfl | simp only [gx_lit, nI_add, pk_mul]) (by omega) (by decide) dX10_rests_159 ?_
                              rw [p67, show spChf t g c (k + 1) m3 = nI (spDig g c m3) by rw [← hst]; simp [upd]]
                              refine kX10_537 (pc := 160) rfl (c_may (d := d - 1) pT m3 (spDig g c m3) (by omega) hdl) (by omega) (Nat.le_of_ble_eq_true rfl) dX10_rests_160 (fun r1 σ4 e4 => ?_)
                              obtain ⟨rfl, hσ⟩ := e4
                              subst σ4
                              have hmay : spMay (mA τ 67 m3 (nI (spDig g c m3))).2.2.1 S ((mA τ 67 m3 (nI (spDig g c m3))).2.2.1 66 m3) (spDig g c m3) = spIs σ.2.2.1 S gu g c (k + 1) := by
                                rw [spIs, ht, Bool.true_and, hgk, p66, spMay, spMay, p1 50 (by decide) (by decide) (by omega)]
                              rw [hmay]
                              refine gx_if_eq (pc := 163) 170 dX10_rests_163 (by decide) (fun c9 => ?_) (fun c9 => ?_)
                              · have hf : spIs σ.2.2.1 S gu g c (k + 1) = false := by
                                  cases e : spIs σ.2.2.1 S gu g c (k + 1) with
                                  | false => rfl
                                  | true => rw [e] at c9; exact absurd c9 (by decide)
                                rw [hf] at K171
                                refine gx_iconst (pc := 170) (v := 0) dX10_rests_170 (by decide) ?_
                                exact K171
                              · have hf : spIs σ.2.2.1 S gu g c (k + 1) = true := by
                                  cases e : spIs σ.2.2.1 S gu g c (k + 1) with
                                  | true => rfl
                                  | false => rw [e] at c9; exact absurd rfl c9
                                rw [hf] at K171
                                refine gx_iconst (pc := 166) (v := 1) dX10_rests_166 (by decide) ?_
                                refine gx_goto (pc := 167) 171 dX10_rests_167 (by decide) ?_
                                exact K171
                      have h0 : spChf t g c 0 = t := by
                        funext i
                        simp only [spChf]
                        rw [if_neg (by omega)]
                      have := L3 g 0 rfl τ (nI (g - 1)) (fun e => by omega) (fun z e => by rw [e]; rfl) (by rw [h0]; exact hτ)
                      rw [Nat.pow_zero, Nat.div_one] at this
                      exact this
                refine L2 al 0 0 (by omega) (by omega) rfl _ (setJ σ.2.2.1 66 gu 67) none none none ?_
                rw [setJ_self]
                exact wS.rf
              · exact absurd (by decide) c5
            | succ m ih =>
              intro p hp
              have h3 := hle (p + 1) (by omega)
              refine gx_iload (pc := 50) dX10_rests_50 rfl ?_
              refine gx_bipush (pc := 52) (v := 6) dX10_rests_52 (by decide) ?_
              refine gx_icmp_ge (pc := 54) 101 dX10_rests_54 (by decide) (fun c5 => ?_) (fun c5 => ?_)
              · exact absurd c5 (nI_ge (a := p) (b := 6) (by omega) (by omega))
              · refine gx_iload_n (pc := 57) dX10_rests_57 rfl ?_
                refine gx_iload (pc := 58) dX10_rests_58 rfl ?_
                refine gx_ishr (pc := 60) dX10_rests_60 ?_
                refine gx_iconst (pc := 61) (v := 1) dX10_rests_61 (by decide) ?_
                refine gx_iand (pc := 62) dX10_rests_62 ?_
                refine gx_if_ne (pc := 63) 69 dX10_rests_63 (by decide) (fun c6 => ?_) (fun c6 => ?_)
                · have hs1 : spGu (σ.2.2.1 66) (nI q) (p + 1) = ((spGu (σ.2.2.1 66) (nI q) p).1 + 1, upd (spGu (σ.2.2.1 66) (nI q) p).2.1 (spGu (σ.2.2.1 66) (nI q) p).1 (nI p), (spGu (σ.2.2.1 66) (nI q) p).2.2 * 11) := by rw [spGu, if_neg c6]
                  have h2 : (spGu (σ.2.2.1 66) (nI q) p).1 < 3 := by rw [hs1] at h3; exact h3
                  have key := ih (p + 1) (by omega)
                  rw [hs1] at key
                  generalize spGu (σ.2.2.1 66) (nI q) p = u at *
                  obtain ⟨g, gu, al⟩ := u
                  dsimp only at key h2
                  refine gx_aload_n (pc := 69) dX10_rests_69 rfl ?_
                  refine m_getA (pc := 70) rfl fX10_169 rfl (by decide) dX10_rests_70 ?_
                  refine gx_aload_n (pc := 73) dX10_rests_73 rfl ?_
                  refine m_getI (pc := 74) rfl fX10_531 rfl (by decide) dX10_rests_74 ?_
                  rw [show (mSA (mI (mI σ 0 0) 68 (nI g)) (setJ σ.2.2.1 66 gu)).1 68 = nI g from mI_eq (mI σ 0 0) 68 (nI g)]
                  refine gx_iload (pc := 77) dX10_rests_77 rfl ?_
                  refine m_iast (pc := 79) hb 66 (g) 3 rfl (by decide) rfl (by first | rfl | simp only [gx_lit, nI_add, pk_mul]) (by omega) (by decide) dX10_rests_79 ?_
                  refine gx_aload_n (pc := 80) dX10_rests_80 rfl ?_
                  refine gx_dup (pc := 81) dX10_rests_81 rfl ?_
                  refine m_getI (pc := 82) rfl fX10_531 rfl (by decide) dX10_rests_82 ?_
                  rw [show ∀ v, (mA (mSA (mI (mI σ 0 0) 68 (nI g)) (setJ σ.2.2.1 66 gu)) 66 g v).1 68 = nI g from fun v => mI_eq (mI σ 0 0) 68 (nI g)]
                  refine gx_iconst (pc := 85) (v := 1) dX10_rests_85 (by decide) ?_
                  refine gx_iadd (pc := 86) dX10_rests_86 ?_
                  refine m_putI (pc := 87) rfl hb fX10_531 rfl (by decide) tX10_68 dX10_rests_87 ?_
                  refine gx_iload_n (pc := 90) dX10_rests_90 rfl ?_
                  refine gx_bipush (pc := 91) (v := 11) dX10_rests_91 (by decide) ?_
                  refine gx_imul (pc := 93) dX10_rests_93 ?_
                  refine gx_istore_n (pc := 94) dX10_rests_94 (by decide) rfl ?_
                  refine gx_iincc (pc := 95) (c := 1) dX10_rests_95 rfl (by decide) (by decide) rfl ?_
                  refine gx_goto (pc := 98) 50 dX10_rests_98 (by decide) ?_
                  rw [nI_1, nI_1, show nI al * 11 = nI (al * 11) from pk_mul al 11]
                  have e1 : ∀ v : Int32, mI (mA (mSA (mI (mI σ 0 0) 68 (nI g)) (setJ σ.2.2.1 66 gu)) 66 g v) 68 (nI (g + 1)) = mSA (mI (mI σ 0 0) 68 (nI (g + 1))) (setJ σ.2.2.1 66 (upd gu g v)) := by
                    intro v
                    have e2 : upA (setJ σ.2.2.1 66 gu) 66 g v = setJ σ.2.2.1 66 (upd gu g v) := by rw [upA_setJ, setJ_j, setJ_setJ]
                    show mI (mSA (mI (mI σ 0 0) 68 (nI g)) (upA (setJ σ.2.2.1 66 gu) 66 g v)) 68 (nI (g + 1)) = _
                    rw [e2]
                    simp only [mI, mSA]
                    congr 1
                    funext z
                    by_cases hz : z = 68 <;> simp [upd, hz]
                  rw [e1]
                  exact key
                · have hs0 : spGu (σ.2.2.1 66) (nI q) (p + 1) = spGu (σ.2.2.1 66) (nI q) p := by rw [spGu, if_pos c6]
                  have key := ih (p + 1) (by omega)
                  rw [hs0] at key
                  refine gx_goto (pc := 66) 95 dX10_rests_66 (by decide) ?_
                  refine gx_iincc (pc := 95) (c := 1) dX10_rests_95 rfl (by decide) (by decide) rfl ?_
                  refine gx_goto (pc := 98) 50 dX10_rests_98 (by decide) ?_
                  rw [nI_1]
                  exact key
          have L0 := L1 6 0 (by omega)
          have e0 : mSA (mI (mI σ 0 0) 68 (nI (spGu (σ.2.2.1 66) (nI q) 0).1)) (setJ σ.2.2.1 66 (spGu (σ.2.2.1 66) (nI q) 0).2.1) = mI (mI σ 0 0) 68 0 := by
            show mSA (mI (mI σ 0 0) 68 (nI 0)) (setJ σ.2.2.1 66 (σ.2.2.1 66)) = _
            rw [setJ_self]; rfl
          rw [e0] at L0
          exact L0
        · refine N (fun ⟨q2, a1, a2, a3, a4, a5⟩ => wi_out c4 ?_)
          rw [inj a1 a2] at a4 a5
          exact ⟨nI_le (a := 2) a4 (by omega), nI_le (b := 3) a5 (by decide)⟩
end MR
