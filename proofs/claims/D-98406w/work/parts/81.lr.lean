/-! ===== COMPONENT R: settle ===== -/
set_option maxRecDepth 100000
def gIn (nt : Nat → Int32) (rec : Nat → Int32) (q : Nat) : Nat → Nat → Int32 → Int32
  | 0, _, v => v
  | m + 1, sub, v => if sub = 0 then v else gIn nt rec q m ((sub - 1) &&& q) (if spSm nt (nI sub) 6 = 0 then spMax v (1 + rec (q &&& (63 - sub))) else v)
def gC (nt : Nat → Int32) : Nat → Nat → Int32
  | 0, _ => 0
  | n + 1, q => gIn nt (gC nt n) q q q 0
theorem sub_lt : ∀ q, q < 64 → ∀ s, s < 64 → s ≠ 0 → s &&& q = s → q &&& (63 - s) < q := by decide +kernel
theorem sub_nx : ∀ q, q < 64 → ∀ s, s < 64 → s ≠ 0 → ((s - 1) &&& q) &&& q = (s - 1) &&& q ∧ ((s - 1) &&& q) < s := by decide +kernel
theorem sub_bt0 : ∀ p, p < 6 → ∀ q, q < 64 → ∀ s, s < 64 → s &&& q = s → hs (nI q) (nI p) = (hs (nI s) (nI p) || hs (nI (q &&& (63 - s))) (nI p)) := by decide +kernel
theorem sub_bt1 : ∀ p, p < 6 → ∀ q, q < 64 → ∀ s, s < 64 → s &&& q = s → (hs (nI s) (nI p) && hs (nI (q &&& (63 - s))) (nI p)) = false := by decide +kernel
theorem sub_bt (p : Nat) (hp : p < 6) (q : Nat) (hq : q < 64) (s : Nat) (hs1 : s < 64) (h : s &&& q = s) : ((nI q >>> (nI p &&& 31)) &&& 1 = 1 ↔ ((nI s >>> (nI p &&& 31)) &&& 1 = 1 ∨ (nI (q &&& (63 - s)) >>> (nI p &&& 31)) &&& 1 = 1)) ∧ ¬ ((nI s >>> (nI p &&& 31)) &&& 1 = 1 ∧ (nI (q &&& (63 - s)) >>> (nI p &&& 31)) &&& 1 = 1) := by
  have b0 := sub_bt0 p hp q hq s hs1 h
  have b1 := sub_bt1 p hp q hq s hs1 h
  simp only [hs] at b0 b1
  refine ⟨?_, fun z => ?_⟩
  · have := congrArg (fun z => z = true) b0
    simp only [decide_eq_true_eq, Bool.or_eq_true] at this
    exact this ▸ Iff.rfl
  · rw [decide_eq_true z.1, decide_eq_true z.2] at b1; cases b1
theorem spSm_add (nt : Nat → Int32) {q s : Nat} (hq : q < 64) (hs : s < 64) (h : s &&& q = s) : ∀ p, p ≤ 6 → spSm nt (nI q) p = spSm nt (nI s) p + spSm nt (nI (q &&& (63 - s))) p
  | 0, _ => rfl
  | p + 1, hp => by
    rw [spSm, spSm, spSm, spSm_add nt hq hs h p (by omega)]
    obtain ⟨b1, b2⟩ := sub_bt p (by omega) q hq s hs h
    by_cases c1 : (nI s >>> (nI p &&& 31)) &&& 1 = 1
    · have c2 : ¬ (nI (q &&& (63 - s)) >>> (nI p &&& 31)) &&& 1 = 1 := fun z => b2 ⟨c1, z⟩
      rw [if_pos (b1.mpr (Or.inl c1)), if_pos c1, if_neg c2]; grind
    · by_cases c2 : (nI (q &&& (63 - s)) >>> (nI p &&& 31)) &&& 1 = 1
      · rw [if_pos (b1.mpr (Or.inr c2)), if_neg c1, if_pos c2]; grind
      · rw [if_neg (fun z => by rcases b1.mp z with y | y; exact c1 y; exact c2 y), if_neg c1, if_neg c2]; grind
theorem gIn_congr {nt : Nat → Int32} {r1 r2 : Nat → Int32} {q : Nat} (hq : q < 64) (h : ∀ s, s < 64 → s ≠ 0 → s &&& q = s → spSm nt (nI s) 6 = 0 → r1 (q &&& (63 - s)) = r2 (q &&& (63 - s))) : ∀ m sub v, sub < 64 → sub &&& q = sub → gIn nt r1 q m sub v = gIn nt r2 q m sub v
  | 0, _, _, _, _ => rfl
  | m + 1, sub, v, h1, h2 => by
    rw [gIn, gIn]
    by_cases c : sub = 0
    · rw [if_pos c, if_pos c]
    · rw [if_neg c, if_neg c]
      obtain ⟨n1, n2⟩ := sub_nx q hq sub h1 c
      by_cases z : spSm nt (nI sub) 6 = 0
      · rw [if_pos z, if_pos z, h sub h1 c h2 z]
        exact gIn_congr hq h m _ _ (by omega) n1
      · rw [if_neg z, if_neg z]
        exact gIn_congr hq h m _ _ (by omega) n1
theorem gC_fuel (nt : Nat → Int32) : ∀ n q, q < 64 → q < n → gC nt n q = gC nt (q + 1) q := by
  intro n
  induction n with
  | zero => intro q _ h; omega
  | succ n ih =>
    intro q hq hn
    rw [gC, gC]
    refine gIn_congr hq (fun s h1 h2 h3 _ => ?_) q q 0 hq (Nat.and_self q)
    have hl := sub_lt q hq s h1 h2 h3
    rw [ih _ (by omega) (by omega)]
    by_cases e : q = n
    · subst e; exact (ih _ (by omega) hl).symm
    · have : gC nt q (q &&& (63 - s)) = gC nt n (q &&& (63 - s)) := by
        rw [ih _ (by omega) (by omega)]
        clear ih
        revert hl
        generalize q &&& (63 - s) = r
        intro hl
        have key : ∀ k r, r < 64 → r < k → gC nt k r = gC nt (r + 1) r := by
          intro k
          induction k using Nat.strongRecOn with
          | ind k IH =>
            intro r hr hk
            obtain ⟨j, rfl⟩ : ∃ j, k = j + 1 := ⟨k - 1, by omega⟩
            rw [gC, gC]
            refine gIn_congr hr (fun s h1 h2 h3 _ => ?_) r r 0 hr (Nat.and_self r)
            have hl2 := sub_lt r hr s h1 h2 h3
            by_cases e2 : j = r
            · rw [e2]
            · rw [IH j (by omega) _ (by omega) (by omega), IH r (by omega) _ (by omega) hl2]
        exact key q r (by omega) hl
      rw [this, ih _ (by omega) (by omega)]
/-- the model's inner loop writes at q alone -/
theorem spIn_ne (nt : Nat → Int32) (q : Nat) : ∀ m sub f k, k ≠ q → spIn nt q m sub f k = f k
  | 0, _, _, _, _ => rfl
  | m + 1, sub, f, k, hk => by
    rw [spIn]
    split
    · rfl
    · rw [spIn_ne nt q m _ _ k hk]
      split
      · simp [upd, hk]
      · rfl
theorem spIn_q (nt : Nat → Int32) {q : Nat} (hq : q < 64) : ∀ m sub f, sub < 64 → sub &&& q = sub → spIn nt q m sub f q = gIn nt f q m sub (f q)
  | 0, _, _, _, _ => rfl
  | m + 1, sub, f, h1, h2 => by
    rw [spIn, gIn]
    by_cases c : sub = 0
    · rw [if_pos c, if_pos c]
    · rw [if_neg c, if_neg c]
      obtain ⟨n1, n2⟩ := sub_nx q hq sub h1 c
      rw [spIn_q nt hq m _ _ (by omega) n1]
      split
      · have e : upd f q (spMax (f q) (1 + f (q &&& (63 - sub)))) q = spMax (f q) (1 + f (q &&& (63 - sub))) := by simp [upd]
        rw [e]
        refine gIn_congr hq (fun s s1 s2 s3 _ => ?_) m _ _ (by omega) n1
        have := sub_lt q hq s s1 s2 s3
        simp only [upd]; rw [if_neg (by omega)]
      · rfl
theorem spGr_at (nt f0 : Nat → Int32) : ∀ m q, spGr nt f0 (q + 1 + m) q = spGr nt f0 (q + 1) q
  | 0, _ => rfl
  | m + 1, q => by
    rw [show q + 1 + (m + 1) = (q + 1 + m) + 1 by omega, spGr, spIn_ne _ _ _ _ _ _ (by omega)]
    simp only [upd]; rw [if_neg (by omega)]
    exact spGr_at nt f0 m q
/-- for people whose nets come to nothing in all, both count alike -/
theorem spGr_gC (nt f0 : Nat → Int32) : ∀ q, q < 64 → spSm nt (nI q) 6 = 0 → spGr nt f0 (q + 1) q = gC nt (q + 1) q := by
  intro q
  induction q using Nat.strongRecOn with
  | ind q IH =>
    intro hq hz
    rw [spGr, spIn_q nt hq q q _ hq (Nat.and_self q)]
    have e0 : upd (spGr nt f0 q) q (if q = 0 then 0 else -100) q = (if q = 0 then 0 else -100) := by simp [upd]
    rw [e0, gC]
    have hc : ∀ s, s < 64 → s ≠ 0 → s &&& q = s → spSm nt (nI s) 6 = 0 → upd (spGr nt f0 q) q (if q = 0 then 0 else -100) (q &&& (63 - s)) = gC nt q (q &&& (63 - s)) := by
      intro s h1 h2 h3 h4
      have hl := sub_lt q hq s h1 h2 h3
      have hz2 : spSm nt (nI (q &&& (63 - s))) 6 = 0 := by
        have := spSm_add nt hq h1 h3 6 (by omega)
        rw [hz, h4] at this
        rw [Int32.zero_add] at this
        exact this.symm
      simp only [upd]; rw [if_neg (by omega)]
      have g1 := spGr_at nt f0 (q - (q &&& (63 - s)) - 1) (q &&& (63 - s))
      rw [show (q &&& (63 - s)) + 1 + (q - (q &&& (63 - s)) - 1) = q by omega] at g1
      rw [g1, IH _ hl (by omega) hz2, gC_fuel nt q _ (by omega) hl]
    rw [gIn_congr hq hc q q _ hq (Nat.and_self q)]
    by_cases q0 : q = 0
    · subst q0; rfl
    · rw [if_neg q0]
      obtain ⟨j, hj⟩ : ∃ j, q = j + 1 := ⟨q - 1, by omega⟩
      have h63 : q &&& (63 - q) = 0 := by
        have : ∀ q, q < 64 → q &&& (63 - q) = 0 := by decide +kernel
        exact this q hq
      have st : ∀ v, gIn nt (gC nt q) q q q v = gIn nt (gC nt q) q j ((q - 1) &&& q) (spMax v (1 + gC nt q 0)) := by
        intro v
        have : gIn nt (gC nt q) q (j + 1) q v = gIn nt (gC nt q) q j ((q - 1) &&& q) (spMax v (1 + gC nt q 0)) := by
          rw [gIn, if_neg q0, if_pos hz, h63]
        rw [← hj] at this
        exact this
      rw [st, st]
      have g0 : gC nt q 0 = 0 := by rw [hj]; rfl
      rw [g0]; rfl
theorem spSm_P (nt : Nat → Int32) {P q : Nat} (hP : P ≤ 6) (hq : q < 2 ^ P) : spSm nt (nI q) 6 = spSm nt (nI q) P := by
  have key : ∀ P, P ≤ 6 → ∀ q, q < 2 ^ P → ∀ p, p < 6 → P ≤ p → ¬ (nI q >>> (nI p &&& 31)) &&& 1 = 1 := by decide +kernel
  have st : ∀ m, P + m ≤ 6 → spSm nt (nI q) (P + m) = spSm nt (nI q) P := by
    intro m
    induction m with
    | zero => intro _; rfl
    | succ m ih =>
      intro hm
      rw [show P + (m + 1) = (P + m) + 1 by omega, spSm, ih (by omega), if_neg (key P hP q hq (P + m) (by omega) (by omega)), Int32.add_zero]
  have := st (6 - P) (by omega)
  rwa [show P + (6 - P) = 6 by omega] at this
