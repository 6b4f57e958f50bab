/-! ===== COMPONENT AC: who can pay together, plain ===== -/
set_option maxRecDepth 100000
theorem bits_n1 (s i : Nat) (hi : i < 32) : (nI s ^^^ -1).toBitVec.toNat.testBit i = !s.testBit i := by
  rw [BitVec.testBit_toNat, Int32.toBitVec_xor, BitVec.getLsbD_xor]
  have h1 : (-1 : Int32).toBitVec.getLsbD i = true := by
    have : ∀ i, i < 32 → (-1 : Int32).toBitVec.getLsbD i = true := by decide +kernel
    exact this i hi
  have h2 : (nI s).toBitVec.getLsbD i = s.testBit i := by
    show (BitVec.ofNat 32 s).getLsbD i = _
    rw [BitVec.getLsbD_ofNat]
    simp [hi]
  rw [h1, h2]
  cases s.testBit i <;> rfl
theorem lt_bit {a i : Nat} (ha : a < 2 ^ 32) (hi : ¬ i < 32) : a.testBit i = false :=
  Nat.testBit_lt_two_pow (Nat.lt_of_lt_of_le ha (Nat.pow_le_pow_right (by decide) (by omega)))
theorem dif_bit {a : Nat} (s i : Nat) (ha : a < 2 ^ 32) : (dif a s).testBit i = (a.testBit i && !s.testBit i) := by
  rw [dif, Nat.testBit_and]
  by_cases hi : i < 32
  · rw [bits_n1 s i hi]
  · rw [lt_bit ha hi]; rfl
/-- s is a part of L -/
def prt (s L : Nat) : Prop := ∀ i, s.testBit i = true → L.testBit i = true
theorem prt_and {s L : Nat} : s &&& L = s ↔ prt s L := by
  constructor
  · intro h i hi
    rw [← h, Nat.testBit_and, Bool.and_eq_true] at hi
    exact hi.2
  · intro h
    apply Nat.eq_of_testBit_eq
    intro i
    rw [Nat.testBit_and]
    cases e : s.testBit i with
    | false => rfl
    | true => rw [h i e]; rfl
theorem prt_le {s L : Nat} (h : prt s L) : s ≤ L := by
  rw [← prt_and] at h
  rw [← h]
  exact Nat.and_le_right
theorem prt_dif {s a u : Nat} (ha : a < 2 ^ 32) : prt s (dif a u) ↔ prt s a ∧ ∀ i, s.testBit i = true → u.testBit i = false := by
  constructor
  · intro h
    refine ⟨fun i hi => ?_, fun i hi => ?_⟩
    · have := h i hi
      rw [dif_bit u i ha, Bool.and_eq_true] at this
      exact this.1
    · have := h i hi
      rw [dif_bit u i ha, Bool.and_eq_true] at this
      cases e : u.testBit i with
      | false => rfl
      | true => rw [e] at this; cases this.2
  · rintro ⟨h1, h2⟩ i hi
    rw [dif_bit u i ha, h1 i hi, h2 i hi]; rfl
theorem dif_dif {a u s : Nat} (ha : a < 2 ^ 32) : dif (dif a u) s = dif a (u ||| s) := by
  apply Nat.eq_of_testBit_eq
  intro i
  have := dif_le a u
  rw [dif_bit s i (by omega), dif_bit u i ha, dif_bit _ i ha, Nat.testBit_or]
  cases a.testBit i <;> cases u.testBit i <;> cases s.testBit i <;> rfl
theorem dif_z {s m : Nat} (hs : s < 2 ^ 32) : dif s m = 0 ↔ prt s m := by
  constructor
  · intro h i hi
    have := dif_bit m i hs
    rw [h, Nat.zero_testBit, hi] at this
    cases e : m.testBit i with
    | true => rfl
    | false => rw [e] at this; cases this
  · intro h
    apply Nat.eq_of_testBit_eq
    intro i
    rw [dif_bit m i hs, Nat.zero_testBit]
    cases e : s.testBit i with
    | false => rfl
    | true => rw [h i e]; rfl
theorem dif_n0 {a : Nat} (ha : a < 2 ^ 32) : dif a 0 = a := by
  apply Nat.eq_of_testBit_eq
  intro i
  rw [dif_bit 0 i ha, Nat.zero_testBit]
  cases a.testBit i <;> rfl
/-- the next part below is the next one in the row of parts -/
theorem sm_le : ∀ n L sub s, L < 2 ^ n → sub &&& L = sub → s &&& L = s → s < sub → s ≤ (sub - 1) &&& L
  | 0, L, sub, s, hL, h1, h2, h3 => by
    have : L = 0 := by omega
    subst this
    rw [Nat.and_zero] at h1
    omega
  | n + 1, L, sub, s, hL, h1, h2, h3 => by
    have dv : ∀ a b : Nat, (a &&& b) / 2 = a / 2 &&& b / 2 := fun a b => by
      apply Nat.eq_of_testBit_eq
      intro i
      rw [Nat.testBit_div_two, Nat.testBit_and, Nat.testBit_and, Nat.testBit_div_two, Nat.testBit_div_two]
    have md : ∀ a b : Nat, (a &&& b) % 2 = 1 ↔ a % 2 = 1 ∧ b % 2 = 1 := fun a b => by
      have t : ∀ a : Nat, a % 2 = 1 ↔ a.testBit 0 = true := fun a => by rw [Nat.testBit_zero, decide_eq_true_eq]
      rw [t, t, t, Nat.testBit_and, Bool.and_eq_true]
    have hs2 : sub / 2 &&& L / 2 = sub / 2 := by rw [← dv, h1]
    have hc2 : s / 2 &&& L / 2 = s / 2 := by rw [← dv, h2]
    have hp : 2 ^ (n + 1) = 2 * 2 ^ n := by rw [Nat.pow_succ]; omega
    have ih := sm_le n (L / 2) (sub / 2) (s / 2) (by omega) hs2 hc2
    have q1 := dv (sub - 1) L
    have q2 := md (sub - 1) L
    have sL : sub % 2 = 1 → L % 2 = 1 := fun e => by
      have := md sub L
      rw [h1] at this
      exact (this.mp e).2
    have cL : s % 2 = 1 → L % 2 = 1 := fun e => by
      have := md s L
      rw [h2] at this
      exact (this.mp e).2
    by_cases e : sub % 2 = 1
    · have e1 : (sub - 1) / 2 = sub / 2 := by omega
      rw [e1, hs2] at q1
      omega
    · have e1 : (sub - 1) / 2 = sub / 2 - 1 := by omega
      rw [e1] at q1
      have i2 := ih (by omega)
      by_cases e2 : s % 2 = 1
      · have := q2.mpr ⟨by omega, cL e2⟩
        omega
      · omega
theorem spTs_iff {en tg : Nat → Bool} {set : Nat} (hset : set < 1024) : ∀ m sub, sub ≤ m → sub &&& set = sub → (spTs en tg set m sub = true ↔ ∃ s, s ≠ 0 ∧ s &&& set = s ∧ s ≤ sub ∧ en s = true ∧ tg (dif set s) = true)
  | 0, sub, h1, h2 => by
    have : sub = 0 := by omega
    subst this
    rw [spTs]
    constructor
    · intro h; cases h
    · rintro ⟨s, s0, _, s2, _⟩; omega
  | m + 1, sub, h1, h2 => by
    rw [spTs]
    by_cases h0 : sub = 0
    · rw [if_pos h0]
      constructor
      · intro h; cases h
      · rintro ⟨s, s0, _, s2, _⟩; omega
    · rw [if_neg h0]
      have hle : (sub - 1) &&& set ≤ sub - 1 := Nat.and_le_left
      have hnx : ((sub - 1) &&& set) &&& set = (sub - 1) &&& set := by rw [Nat.and_assoc, Nat.and_self]
      have ih := spTs_iff (en := en) (tg := tg) hset m ((sub - 1) &&& set) (by omega) hnx
      have up : spTs en tg set m ((sub - 1) &&& set) = true → ∃ s, s ≠ 0 ∧ s &&& set = s ∧ s ≤ sub ∧ en s = true ∧ tg (dif set s) = true := fun h => by
        obtain ⟨s, a, b, c, d, e⟩ := ih.mp h
        exact ⟨s, a, b, by omega, d, e⟩
      have dn : (en sub = false ∨ tg (dif set sub) = false) → (∃ s, s ≠ 0 ∧ s &&& set = s ∧ s ≤ sub ∧ en s = true ∧ tg (dif set s) = true) → spTs en tg set m ((sub - 1) &&& set) = true := by
        rintro hn ⟨s, a, b, c, d, e⟩
        have : s ≠ sub := fun z => by subst z; rcases hn with y | y; rw [y] at d; cases d; rw [y] at e; cases e
        exact ih.mpr ⟨s, a, b, sm_le 10 set sub s hset h2 b (by omega), d, e⟩
      by_cases c1 : en sub = false
      · rw [if_pos c1]; exact ⟨up, dn (Or.inl c1)⟩
      · rw [if_neg c1]
        by_cases c2 : tg (dif set sub) = false
        · rw [if_pos c2]; exact ⟨up, dn (Or.inr c2)⟩
        · rw [if_neg c2]
          exact ⟨fun _ => ⟨sub, h0, h2, Nat.le_refl _, by simpa using c1, by simpa using c2⟩, fun _ => rfl⟩
/-- the people of q from p on -/
def frm (q p : Nat) : Nat := q / 2 ^ p * 2 ^ p
theorem frm_y : ∀ q, q < 64 → ∀ p, p < 6 → q / 2 ^ p % 2 = 1 → 0 < frm q p ∧ low (frm q p) = p ∧ dif (frm q p) (2 ^ p) = frm q (p + 1) := by decide +kernel
theorem frm_n : ∀ q, q < 64 → ∀ p, p < 6 → q / 2 ^ p % 2 = 0 → frm q (p + 1) = frm q p := by decide +kernel
theorem frm_lt : ∀ q, q < 64 → ∀ p, p < 7 → frm q p < 64 := by decide +kernel
theorem frm_end : ∀ P, P < 7 → ∀ q, q < 2 ^ P → frm q P = 0 := by decide +kernel
theorem frm_hs : ∀ q, q < 64 → ∀ p, p < 6 → hs (nI q) (nI p) = decide (q / 2 ^ p % 2 = 1) := by decide +kernel
theorem tg_step {cp : Nat → Nat → Bool} {q p set : Nat} (hq : q < 64) (hp : p < 6) (hb : q / 2 ^ p % 2 = 1) (hset : set < 1024) : spTG cp (frm q p) (frm q p) set = true ↔ ∃ s, s ≠ 0 ∧ s &&& set = s ∧ cp p s = true ∧ spTG cp (frm q (p + 1)) (frm q (p + 1)) (dif set s) = true := by
  obtain ⟨f1, f2, f3⟩ := frm_y q hq p hp hb
  have fl := frm_lt q hq p (by omega)
  have fl2 := frm_lt q hq (p + 1) (by omega)
  obtain ⟨n, hn⟩ : ∃ n, frm q p = n + 1 := ⟨frm q p - 1, by omega⟩
  have hlt := (low_ok (frm q p) fl f1).2.2.2
  rw [f2, f3] at hlt
  rw [hn, spTG, ← hn, if_neg (by omega), f2, f3, spTG_fuel cp n _ fl2 (by omega)]
  rw [spTs_iff hset set set (Nat.le_refl _) (Nat.and_self _)]
  constructor
  · rintro ⟨s, a, b, c, d, e⟩; exact ⟨s, a, b, d, e⟩
  · rintro ⟨s, a, b, d, e⟩
    refine ⟨s, a, b, ?_, d, e⟩
    rw [← b]; exact Nat.and_le_right
/-- one more pays: the sets used then -/
def nxt (N : Nat → Bool) (ok : Nat → Bool) (may u : Nat) : Prop := ∃ v s, v < 1024 ∧ N v = true ∧ s ≠ 0 ∧ s &&& dif may v = s ∧ ok s = true ∧ u = v ||| s
theorem nxt_step {cp : Nat → Nat → Bool} {q p S may : Nat} {N N' : Nat → Bool} {ok : Nat → Bool} (hq : q < 64) (hp : p < 6) (hS : S ≤ 10) (hb : q / 2 ^ p % 2 = 1) (hmay : prt may (2 ^ S - 1)) (hN : ∀ u, N u = true → u < 2 ^ S) (hcp : ∀ s, s < 1024 → s ≠ 0 → (cp p s = true ↔ prt s may ∧ ok s = true)) (hN' : ∀ u, N' u = true ↔ nxt N ok may u) :
    ((∃ u, N' u = true ∧ spTG cp (frm q (p + 1)) (frm q (p + 1)) (dif (2 ^ S - 1) u) = true) ↔ ∃ u, N u = true ∧ spTG cp (frm q p) (frm q p) (dif (2 ^ S - 1) u) = true) := by
  have h10 := pow_S hS
  have hml := prt_le hmay
  constructor
  · rintro ⟨u, h1, h2⟩
    obtain ⟨v, s, hv, nv, s0, sm, so, rfl⟩ := (hN' u).mp h1
    have hdl := dif_le (2 ^ S - 1) v
    refine ⟨v, nv, (tg_step hq hp hb (by omega)).mpr ⟨s, s0, ?_, ?_, ?_⟩⟩
    · rw [prt_and] at sm ⊢
      rw [prt_dif (by omega)] at sm ⊢
      exact ⟨fun i hi => hmay i (sm.1 i hi), sm.2⟩
    · rw [prt_and, prt_dif (by omega)] at sm
      have := prt_le sm.1
      exact (hcp s (by omega) s0).mpr ⟨sm.1, so⟩
    · rw [dif_dif (by omega)]; exact h2
  · rintro ⟨v, nv, h2⟩
    have hdl := dif_le (2 ^ S - 1) v
    obtain ⟨s, s0, sm, sc, st⟩ := (tg_step hq hp hb (by omega)).mp h2
    have hv := hN v nv
    rw [prt_and, prt_dif (by omega)] at sm
    have sl := prt_le sm.1
    have hc := (hcp s (by omega) s0).mp sc
    refine ⟨v ||| s, (hN' _).mpr ⟨v, s, by omega, nv, s0, ?_, hc.2, rfl⟩, ?_⟩
    · rw [prt_and, prt_dif (by omega)]
      exact ⟨hc.1, sm.2⟩
    · rw [dif_dif (by omega)] at st; exact st
theorem nxt_lt {N : Nat → Bool} {ok : Nat → Bool} {may u S : Nat} (hS : S ≤ 10) (hmay : prt may (2 ^ S - 1)) (hN : ∀ u, N u = true → u < 2 ^ S) (h : nxt N ok may u) : u < 2 ^ S := by
  obtain ⟨v, s, hv, nv, s0, sm, so, rfl⟩ := h
  have h10 := pow_S hS
  have hml := prt_le hmay
  rw [prt_and, prt_dif (by omega)] at sm
  have h1 := hN v nv
  have h2 : s < 2 ^ S := by
    have := prt_le sm.1
    omega
  exact Nat.or_lt_two_pow h1 h2
