/-! ===== COMPONENT AS: nights, plain ===== -/
set_option maxRecDepth 100000
theorem nI_dv {a k : Nat} (ha : a < 2 ^ 31) (hk : k < 2 ^ 31) : nI a / nI k = nI (a / k) := by
  apply Int32.toInt_inj.mp
  have h1 := Nat.div_le_self a k
  rw [Int32.toInt_div, nI_toInt ha, nI_toInt hk, nI_toInt (by omega), ← Int.ofNat_tdiv]
  generalize a / k = q at *
  apply Int.bmod_eq_of_le <;> omega
theorem lN_toI {n : Nat} (h : n < 2 ^ 63) : (lN n).toInt = (n : Int) := lg_ofNat_toInt h
theorem lN_dv {a k : Nat} (ha : a < 2 ^ 63) (hk : k < 2 ^ 63) : lN a / lN k = lN (a / k) := by
  apply Int64.toInt_inj.mp
  have h1 := Nat.div_le_self a k
  rw [Int64.toInt_div, lN_toI ha, lN_toI hk, lN_toI (by omega), ← Int.ofNat_tdiv]
  generalize a / k = q at *
  apply Int.bmod_eq_of_le <;> omega
theorem nI_mul (a b : Nat) : nI a * nI b = nI (a * b) := (Int32.ofNat_mul a b).symm
theorem nI_sub {a b : Nat} (h : b ≤ a) : nI a - nI b = nI (a - b) := by
  have : nI a = nI (a - b) + nI b := by rw [nI_add]; congr 1; omega
  rw [this]; exact Int32.add_sub_cancel _ _
/-- sums -/
def sN (f : Nat → Nat) : Nat → Nat
  | 0 => 0
  | n + 1 => sN f n + f n
theorem sN_cg {f g : Nat → Nat} : ∀ n, (∀ i, i < n → f i = g i) → sN f n = sN g n
  | 0, _ => rfl
  | n + 1, h => by rw [sN, sN, sN_cg n (fun i hi => h i (by omega)), h n (by omega)]
theorem sN_le {f g : Nat → Nat} : ∀ n, (∀ i, i < n → f i ≤ g i) → sN f n ≤ sN g n
  | 0, _ => Nat.le_refl _
  | n + 1, h => by
    rw [sN, sN]
    exact Nat.add_le_add (sN_le n (fun i hi => h i (by omega))) (h n (by omega))
theorem sN_mo {f : Nat → Nat} {m : Nat} : ∀ n, m ≤ n → sN f m ≤ sN f n
  | 0, h => by rw [show m = 0 by omega]; exact Nat.le_refl _
  | n + 1, h => by
    by_cases e : m = n + 1
    · rw [e]; exact Nat.le_refl _
    · rw [sN]; have := sN_mo (f := f) (m := m) n (by omega); omega
theorem sN_ge {f : Nat → Nat} {i : Nat} : ∀ n, i < n → f i ≤ sN f n
  | 0, h => by omega
  | n + 1, h => by
    rw [sN]
    by_cases e : i = n
    · rw [e]; omega
    · have := sN_ge (f := f) (i := i) n (by omega); omega
theorem sN_app (f : Nat → Nat) (m : Nat) : ∀ n, sN f (m + n) = sN f m + sN (fun i => f (m + i)) n
  | 0 => by simp [sN]
  | n + 1 => by rw [← Nat.add_assoc, sN, sN_app f m n, sN]; omega
theorem sN_pl (f g : Nat → Nat) : ∀ n, sN (fun i => f i + g i) n = sN f n + sN g n
  | 0 => rfl
  | n + 1 => by rw [sN, sN, sN, sN_pl f g n]; omega
theorem sN_0 : ∀ n, sN (fun _ => 0) n = 0
  | 0 => rfl
  | n + 1 => by rw [sN, sN_0 n]
theorem sN_sw (F : Nat → Nat → Nat) (m : Nat) : ∀ n, sN (fun t => sN (fun s => F s t) n) m = sN (fun s => sN (fun t => F s t) m) n
  | 0 => by simp only [sN]; exact sN_0 m
  | n + 1 => by
    simp only [sN]
    rw [sN_pl, sN_sw F m n]
theorem sN_dv (a : Nat) (g : Nat → Nat) (M : Nat) : ∀ n, sN (fun t => a * g t / M) n * M ≤ a * sN g n
  | 0 => by simp [sN]
  | n + 1 => by
    rw [sN, sN, Nat.add_mul, Nat.mul_add]
    exact Nat.add_le_add (sN_dv a g M n) (Nat.div_mul_le_self _ _)
/-- how likely: by who knows, who shall know -/
def gN (h : Nat → Nat) (set : Nat) : Nat → Nat → Nat
  | 0, _ => 1000000
  | p + 1, t => if set.testBit p then (if t.testBit p then gN h set p t else 0) else (if t.testBit p then gN h set p t * h p / 1000000 else gN h set p t * (1000000 - h p) / 1000000)
theorem gN_hi (h : Nat → Nat) (set : Nat) {n : Nat} (t : Nat) : ∀ p, p ≤ n → gN h set p (2 ^ n + t) = gN h set p t
  | 0, _ => rfl
  | p + 1, hp => by
    rw [gN, gN, gN_hi h set t p (by omega), Nat.testBit_two_pow_add_gt (by omega)]
theorem gN_le {h : Nat → Nat} (hh : ∀ q, h q ≤ 1000000) (set t : Nat) : ∀ p, gN h set p t ≤ 1000000
  | 0 => Nat.le_refl _
  | p + 1 => by
    have ih := gN_le hh set t p
    have hp := hh p
    rw [gN]
    split
    · split <;> omega
    · split
      · exact Nat.le_trans (Nat.div_le_div_right (Nat.mul_le_mul ih hp)) (by decide)
      · exact Nat.le_trans (Nat.div_le_div_right (Nat.mul_le_mul ih (Nat.sub_le 1000000 (h p)))) (by decide)
theorem gN_sum {h : Nat → Nat} (hh : ∀ q, h q ≤ 1000000) (set : Nat) : ∀ p, sN (gN h set p) (2 ^ p) ≤ 1000000
  | 0 => by simp [sN, gN]
  | p + 1 => by
    have ih := gN_sum hh set p
    have e : 2 ^ (p + 1) = 2 ^ p + 2 ^ p := by rw [Nat.pow_succ]; omega
    rw [e, sN_app, ← sN_pl]
    refine Nat.le_trans (sN_le _ (fun t ht => ?_)) ih
    have b1 : t.testBit p = false := Nat.testBit_lt_two_pow ht
    have b2 : (2 ^ p + t).testBit p = true := by rw [Nat.testBit_two_pow_add_eq, b1]; rfl
    rw [gN, gN, b1, b2, gN_hi h set t p (Nat.le_refl _)]
    have hp := hh p
    by_cases z : set.testBit p = true
    · rw [if_pos z, if_pos z]; simp
    · rw [if_neg z, if_neg z]
      simp only [Bool.false_eq_true, if_false, if_true]
      have a3 : gN h set p t * (1000000 - h p) + gN h set p t * h p = gN h set p t * 1000000 := by
        rw [← Nat.mul_add, Nat.sub_add_cancel hp]
      generalize gN h set p t * (1000000 - h p) = X at *
      generalize gN h set p t * h p = Y at *
      generalize gN h set p t = g at *
      clear ih hh e b1 b2
      omega
theorem gN_no {h : Nat → Nat} {set t i : Nat} (h1 : set.testBit i = true) (h2 : t.testBit i = false) : ∀ p, i < p → gN h set p t = 0
  | 0, hp => by omega
  | p + 1, hp => by
    rw [gN]
    by_cases e : i = p
    · subst e; rw [if_pos h1, if_neg (by rw [h2]; decide)]
    · rw [gN_no h1 h2 p (by omega)]; simp
/-- that one doesn't hear -/
def ntN (A : Nat → Nat → Int32) (E set p : Nat) : Nat → Nat
  | 0 => 1000000
  | f + 1 => if set.testBit f = true ∧ spSpeaks A f = true ∧ ¬ spEar A (nI f) (nI p) E 0 = -1 then ntN A E set p f * (10 - (spEar A (nI f) (nI p) E 0).toNatClampNeg) / 10 else ntN A E set p f
theorem ntN_le (A : Nat → Nat → Int32) (E set p : Nat) : ∀ f, ntN A E set p f ≤ 1000000
  | 0 => Nat.le_refl _
  | f + 1 => by
    have ih := ntN_le A E set p f
    rw [ntN]
    split
    · exact Nat.le_trans (Nat.div_le_div_right (Nat.mul_le_mul ih (Nat.sub_le 10 _))) (by decide)
    · exact ih
def hN (A : Nat → Nat → Int32) (P E set : Nat) : Nat → Nat := fun q => 1000000 - ntN A E set q P
theorem hN_le (A : Nat → Nat → Int32) (P E set q : Nat) : hN A P E set q ≤ 1000000 := Nat.sub_le _ _
def tN (A : Nat → Nat → Int32) (P E : Nat) (od : Nat → Nat) (t : Nat) : Nat → Nat := fun set => od set * gN (hN A P E set) set P t / 1000000
def nD (A : Nat → Nat → Int32) (P E x : Nat) : Nat → Nat → Nat
  | 0 => fun i => if i = x then 1000000 else 0
  | n + 1 => fun t => if t < 2 ^ P then sN (tN A P E (nD A P E x n) t) (2 ^ P) else 0
theorem tN_sum (A : Nat → Nat → Int32) (P E : Nat) (od : Nat → Nat) (n : Nat) : sN (fun t => sN (tN A P E od t) n) (2 ^ P) ≤ sN od n := by
  unfold tN
  rw [sN_sw (fun s t => od s * gN (hN A P E s) s P t / 1000000)]
  refine sN_le _ (fun s _ => ?_)
  have h1 := sN_dv (od s) (gN (hN A P E s) s P) 1000000 (2 ^ P)
  have h2 := Nat.mul_le_mul_left (od s) (gN_sum (hN_le A P E s) s P)
  omega
theorem nD_sum (A : Nat → Nat → Int32) {P : Nat} (hP : P ≤ 6) (E x : Nat) : ∀ n, sN (nD A P E x n) 64 ≤ 1000000
  | 0 => by
    have : ∀ n, sN (fun i => if i = x then 1000000 else 0) n ≤ if x < n then 1000000 else 0 := by
      intro n
      induction n with
      | zero => simp [sN]
      | succ n ih =>
        rw [sN]
        by_cases e : n = x
        · subst e
          rw [if_neg (Nat.lt_irrefl n)] at ih
          simp; omega
        · rw [if_neg e]
          by_cases z : x < n
          · rw [if_pos z] at ih; rw [if_pos (by omega)]; omega
          · rw [if_neg z] at ih; rw [if_neg (by omega)]; omega
    have := this 64
    rw [nD]
    split at this <;> omega
  | n + 1 => by
    have ih := nD_sum A hP E x n
    have h64 : 2 ^ P ≤ 64 := Nat.le_trans (Nat.pow_le_pow_right (by decide) hP) (by decide)
    have e : 64 = 2 ^ P + (64 - 2 ^ P) := by omega
    rw [e, sN_app]
    have h0 : sN (fun i => nD A P E x (n + 1) (2 ^ P + i)) (64 - 2 ^ P) = 0 := by
      rw [sN_cg (g := fun _ => 0) _ (fun i _ => by rw [nD]; exact if_neg (by omega))]
      exact sN_0 _
    rw [h0, sN_cg (g := fun t => sN (tN A P E (nD A P E x n) t) (2 ^ P)) _ (fun i hi => by rw [nD]; exact if_pos hi)]
    have := tN_sum A P E (nD A P E x n) (2 ^ P)
    have := sN_mo (f := nD A P E x n) (m := 2 ^ P) 64 h64
    omega
theorem nD_le (A : Nat → Nat → Int32) {P : Nat} (hP : P ≤ 6) (E x n : Nat) {i : Nat} (hi : i < 64) : nD A P E x n i ≤ 1000000 := Nat.le_trans (sN_ge 64 hi) (nD_sum A hP E x n)
/-- a sum in the making stays small -/
theorem tN_part (A : Nat → Nat → Int32) {P : Nat} (E : Nat) (od : Nat → Nat) {t m : Nat} (ht : t < 2 ^ P) (hm : m ≤ 2 ^ P) (ho : sN od (2 ^ P) ≤ 1000000) : sN (tN A P E od t) m ≤ 1000000 := by
  have h1 := tN_sum A P E od (2 ^ P)
  have h2 := sN_ge (f := fun t => sN (tN A P E od t) (2 ^ P)) (2 ^ P) ht
  have h3 := sN_mo (f := tN A P E od t) (2 ^ P) hm
  have h4 : sN (tN A P E od t) (2 ^ P) ≤ sN (fun t => sN (tN A P E od t) (2 ^ P)) (2 ^ P) := h2
  omega
/-- ears: each once, of ten -/
def eaOk (A : Nat → Nat → Int32) (E : Nat) : Prop := (∀ e, e < E → ∃ c, c ≤ 10 ∧ A 24 e = nI c) ∧ ∀ e e', e < E → e' < E → e ≠ e' → ¬ (A 22 e = A 22 e' ∧ A 23 e = A 23 e')
theorem spChance_N {A : Nat → Nat → Int32} {E e : Nat} (h : eaOk A E) (he : e < E) : ∃ c, c ≤ 10 ∧ spChance A e = nI c := by
  obtain ⟨c, hc, e1⟩ := h.1 e he
  unfold spChance
  rw [e1]
  have : ∀ c, c < 11 → ∀ b : Bool, ∃ c', c' < 11 ∧ spMin 10 (nI c + zi b) = nI c' := by decide +kernel
  obtain ⟨c', h1, h2⟩ := this c (by omega) (decide (A 13 (A 22 e).toNatClampNeg = 1))
  exact ⟨c', by omega, h2⟩
theorem spHe_no {A : Nat → Nat → Int32} {p f : Nat} {x : Int32} : ∀ m, (∀ e, e < m → ¬ (A 22 e = nI f ∧ A 23 e = nI p)) → spHe A p f x m = x
  | 0, _ => rfl
  | m + 1, h => by
    have ih := spHe_no (x := x) m (fun e he => h e (by omega))
    rw [spHe, ih]
    split
    · rename_i h1
      rw [if_neg (fun h2 => h m (by omega) ⟨h1, h2⟩)]
    · rfl
theorem spHe_at {A : Nat → Nat → Int32} {p f k : Nat} {x : Int32} (hk : A 22 k = nI f ∧ A 23 k = nI p) : ∀ m, k < m → (∀ e, e < m → e ≠ k → ¬ (A 22 e = nI f ∧ A 23 e = nI p)) → spHe A p f x m = x * (10 - spChance A k) / 10
  | 0, h, _ => by omega
  | m + 1, hm, h => by
    rw [spHe]
    by_cases e : m = k
    · subst e
      rw [if_pos hk.1, if_pos hk.2, spHe_no m (fun e he => h e (by omega) (by omega))]
    · rw [spHe_at hk m (by omega) (fun e he => h e (by omega))]
      split
      · rename_i h1
        rw [if_neg (fun h2 => h m (by omega) e ⟨h1, h2⟩)]
      · rfl
theorem spEar_at {A : Nat → Nat → Int32} {p q : Int32} {k : Nat} (hk : A 22 k = p ∧ A 23 k = q) : ∀ m e, e ≤ k → k < e + m → (∀ j, e ≤ j → j < k → ¬ (A 22 j = p ∧ A 23 j = q)) → spEar A p q m e = spChance A k
  | 0, _, h1, h2, _ => by omega
  | m + 1, e, h1, h2, h => by
    rw [spEar]
    by_cases z : e = k
    · subst z; rw [if_pos hk]
    · rw [if_neg (h e (by omega) (by omega))]
      exact spEar_at hk m (e + 1) (by omega) (by omega) (fun j a b => h j (by omega) b)
theorem spHe_N {A : Nat → Nat → Int32} {E p f a : Nat} (hE : eaOk A E) (ha : a ≤ 1000000) : spHe A p f (nI a) E = nI (if ¬ spEar A (nI f) (nI p) E 0 = -1 then a * (10 - (spEar A (nI f) (nI p) E 0).toNatClampNeg) / 10 else a) := by
  rcases Decidable.em (∃ k, k < E ∧ A 22 k = nI f ∧ A 23 k = nI p) with ⟨k, hk, h1⟩ | z
  · have uq : ∀ e, e < E → e ≠ k → ¬ (A 22 e = nI f ∧ A 23 e = nI p) := fun e he ne hh => hE.2 e k he hk ne ⟨by rw [hh.1, h1.1], by rw [hh.2, h1.2]⟩
    obtain ⟨c, hc, ec⟩ := spChance_N hE hk
    have e1 := spEar_at h1 E 0 (by omega) (by omega) (fun j _ hj => uq j (by omega) (by omega))
    rw [spHe_at h1 E hk uq, e1, ec, if_pos (by
      have : ∀ c, c < 11 → ¬ nI c = -1 := by decide +kernel
      exact this c (by omega)), nI_clamp (by omega), show (10 : Int32) = nI 10 from rfl, nI_sub hc, nI_mul, nI_dv (Nat.lt_of_le_of_lt (Nat.mul_le_mul ha (Nat.sub_le 10 c)) (by decide)) (by decide)]
  · have no : ∀ e, e < E → ¬ (A 22 e = nI f ∧ A 23 e = nI p) := fun e he hh => z ⟨e, he, hh⟩
    rw [spHe_no E no, spEar_no E 0 (fun k _ hk => no k (by omega)), if_neg (fun h => h rfl)]
theorem bit64 {s f : Nat} (hs : s < 64) (hf : f < 6) : ((nI s >>> (nI f &&& 31)) &&& 1 = 1) ↔ s.testBit f = true := by
  have : ∀ s, s < 64 → ∀ f, f < 6 → (((nI s >>> (nI f &&& 31)) &&& 1 = 1) ↔ s.testBit f = true) := by decide +kernel
  exact this s hs f hf
theorem bit64z {s f : Nat} (hs : s < 64) (hf : f < 6) : ((nI s >>> (nI f &&& 31)) &&& 1 = 0) ↔ s.testBit f = false := by
  have : ∀ s, s < 64 → ∀ f, f < 6 → (((nI s >>> (nI f &&& 31)) &&& 1 = 0) ↔ s.testBit f = false) := by decide +kernel
  exact this s hs f hf
theorem spHf_N {A : Nat → Nat → Int32} {E set p : Nat} (hE : eaOk A E) (hs : set < 64) : ∀ f, f ≤ 6 → spHf A E (nI set) p f = nI (ntN A E set p f)
  | 0, _ => rfl
  | f + 1, hf => by
    have ih := spHf_N (p := p) hE hs f (by omega)
    rw [spHf, ih, ntN]
    cases b1 : set.testBit f with
    | false => rw [if_pos ((bit64z hs (by omega)).mpr b1)]; simp
    | true =>
      rw [if_neg (fun e => by rw [bit64z hs (by omega), b1] at e; cases e)]
      cases b2 : spSpeaks A f with
      | false => simp
      | true =>
        rw [if_pos rfl, spHe_N hE (ntN_le A E set p f)]
        by_cases z : spEar A (nI f) (nI p) E 0 = -1
        · rw [if_neg (fun h => h z), if_neg (fun h => h.2.2 z)]
        · rw [if_pos z, if_pos ⟨rfl, rfl, z⟩]
theorem spCh_N {hr : Nat → Int32} {h : Nat → Nat} (hh : ∀ q, h q ≤ 1000000) (he : ∀ q, q < 6 → hr q = nI (h q)) {now thn : Nat} (hn : now < 64) (ht : thn < 64) : ∀ p, p ≤ 6 → (∀ i, i < p → now.testBit i = true → thn.testBit i = true) → spCh hr now thn p = lN (gN h now p thn)
  | 0, _, _ => rfl
  | p + 1, hp, hi => by
    have ih := spCh_N hh he hn ht p (by omega) (fun i h1 => hi i (by omega))
    have gl := gN_le hh now thn p
    have hl := hh p
    rw [spCh, gN, ih]
    cases b1 : now.testBit p with
    | true =>
      rw [if_neg (fun e => by rw [bit64z hn (by omega), b1] at e; cases e), if_pos rfl, if_pos (hi p (by omega) b1)]
    | false =>
      rw [if_pos ((bit64z hn (by omega)).mpr b1), he p (by omega)]
      simp only [Bool.false_eq_true, if_false]
      have m1 : ∀ v, v ≤ 1000000 → lN (gN h now p thn) * (nI v).toInt64 / 1000000 = lN (gN h now p thn * v / 1000000) := fun v hv => by
        rw [nI_l (by omega), lN_mul, show (1000000 : Int64) = lN 1000000 from rfl, lN_dv (Nat.lt_of_le_of_lt (Nat.mul_le_mul gl hv) (by decide)) (by decide)]
      cases b2 : thn.testBit p with
      | true => rw [if_pos ((bit64 ht (by omega)).mpr b2)]; simp only [if_true]; exact m1 _ hl
      | false =>
        rw [if_neg (fun e => by rw [bit64 ht (by omega), b2] at e; cases e)]
        simp only [Bool.false_eq_true, if_false]
        rw [show (1000000 : Int32) = nI 1000000 from rfl, nI_sub hl]
        exact m1 _ (Nat.sub_le _ _)
theorem sub64 {a b : Nat} (ha : a < 64) (hb : b < 64) : nI a &&& (nI b ^^^ -1) = 0 ↔ prt a b := by
  rw [dif_eq b (by omega), show (0 : Int32) = nI 0 from rfl, nI_eq (by have := dif_le a b; omega) (by decide), dif_z (by omega)]
theorem lt_bit6 {a i : Nat} (ha : a < 2 ^ i) {j : Nat} (hj : i ≤ j) : a.testBit j = false := Nat.testBit_lt_two_pow (Nat.lt_of_lt_of_le ha (Nat.pow_le_pow_right (by decide) hj))
/-- what one set gives to another, as the model reckons -/
theorem spTn_N {A : Nat → Nat → Int32} {P E : Nat} (hE : eaOk A E) (hP : P ≤ 6) {od g : Nat → Int32} {o : Nat → Nat} {now : Nat} (hn : now < 2 ^ P) (ho : od now = nI (o now)) (hol : o now ≤ 1000000) (a : Nat → Nat) (hg : ∀ t, t < 64 → g t = nI (a t)) : ∀ k, now + k ≤ 2 ^ P → ∀ t, t < 64 → spTn A P E od now g k t = nI (if t < now + k then a t + (if t < 2 ^ P then tN A P E o t now else 0) else a t)
  | 0, _, t, ht => by
    rw [spTn, hg t ht]
    congr 1
    split
    · have : tN A P E o t now = 0 := by
        have h64 : 2 ^ P ≤ 64 := Nat.le_trans (Nat.pow_le_pow_right (by decide) hP) (by decide)
        have np : ¬ prt now t := fun h => by have := prt_le h; omega
        unfold tN
        rcases Decidable.em (∃ i, i < P ∧ now.testBit i = true ∧ t.testBit i = false) with ⟨i, h1, h2, h3⟩ | z
        · rw [gN_no h2 h3 P h1]; simp
        · exact absurd (fun i hi => by
            rcases Nat.lt_or_ge i P with y | y
            · cases e : t.testBit i with
              | true => rfl
              | false => exact absurd ⟨i, y, hi, e⟩ z
            · rw [lt_bit6 hn y] at hi; cases hi) np
      rw [this]; split <;> rfl
    · rfl
  | k + 1, hk, t, ht => by
    have h64 : 2 ^ P ≤ 64 := Nat.le_trans (Nat.pow_le_pow_right (by decide) hP) (by decide)
    have ih := spTn_N hE hP hn ho hol a hg k (by omega)
    have gl := gN_le (hN_le A P E now) now (now + k) P
    rw [spTn]
    by_cases pr : prt now (now + k)
    · rw [if_pos ((sub64 (by omega) (by omega)).mpr pr)]
      simp only [upd]
      by_cases e : t = now + k
      · subst e
        rw [if_pos rfl, ih (now + k) (by omega), if_neg (Nat.lt_irrefl _), if_pos (by omega), if_pos (by omega), spCh_N (hN_le A P E now) (fun q _ => by rw [spHf_N hE (by omega) P hP]; exact nI_sub (ntN_le _ _ _ _ _)) (by omega) (by omega) P hP (fun i _ hi => pr i hi), ho, nI_l (by omega), lN_mul, show (1000000 : Int64) = lN 1000000 from rfl, lN_dv (Nat.lt_of_le_of_lt (Nat.mul_le_mul gl hol) (by decide)) (by decide), lN_i, nI_add, Nat.mul_comm]
        rfl
      · rw [if_neg e, ih t ht]
        congr 1
        by_cases z : t < now + k
        · have y : t < now + (k + 1) := by omega
          rw [if_pos z, if_pos y]
        · have y : ¬ t < now + (k + 1) := by omega
          rw [if_neg z, if_neg y]
    · rw [if_neg (fun h => pr ((sub64 (by omega) (by omega)).mp h)), ih t ht]
      congr 1
      by_cases e : t = now + k
      · subst e
        rw [if_neg (Nat.lt_irrefl _), if_pos (by omega), if_pos (by omega)]
        have : tN A P E o (now + k) now = 0 := by
          unfold tN
          rcases Decidable.em (∃ i, i < P ∧ now.testBit i = true ∧ (now + k).testBit i = false) with ⟨i, h1, h2, h3⟩ | z
          · rw [gN_no h2 h3 P h1]; simp
          · exact absurd (fun i hi => by
              rcases Nat.lt_or_ge i P with y | y
              · cases e : (now + k).testBit i with
                | true => rfl
                | false => exact absurd ⟨i, y, hi, e⟩ z
              · rw [lt_bit6 hn y] at hi; cases hi) pr
        omega
      · by_cases z : t < now + k
        · have y : t < now + (k + 1) := by omega
          rw [if_pos z, if_pos y]
        · have y : ¬ t < now + (k + 1) := by omega
          rw [if_neg z, if_neg y]
theorem spNo_N {A : Nat → Nat → Int32} {P E : Nat} (hE : eaOk A E) (hP : P ≤ 6) {od : Nat → Int32} {o : Nat → Nat} (ho : ∀ s, s < 2 ^ P → od s = nI (o s)) (hol : ∀ s, s < 2 ^ P → o s ≤ 1000000) : ∀ n, n ≤ 2 ^ P → ∀ t, t < 64 → spNo A P E od (fun _ => 0) n t = nI (if t < 2 ^ P then sN (tN A P E o t) n else 0)
  | 0, _, t, _ => by rw [spNo]; simp only [sN]; split <;> rfl
  | n + 1, hn, t, ht => by
    have ih := spNo_N hE hP ho hol n (by omega)
    have h64 : 2 ^ P ≤ 64 := Nat.le_trans (Nat.pow_le_pow_right (by decide) hP) (by decide)
    have hl := hol n (by omega)
    rw [spNo]
    by_cases z : od n = 0
    · rw [if_pos z, ih t ht]
      have e0 : o n = 0 := (nI_eq (b := 0) (by omega) (by decide)).mp (by rw [← ho n (by omega)]; exact z)
      congr 1
      split
      · rw [sN]; unfold tN; rw [e0]; simp
      · rfl
    · rw [if_neg z, spTn_N hE hP (by omega) (ho n (by omega)) hl (fun t => if t < 2 ^ P then sN (tN A P E o t) n else 0) ih (2 ^ P - n) (by omega) t ht]
      congr 1
      rw [show n + (2 ^ P - n) = 2 ^ P by omega]
      split
      · rfl
      · rfl
/-- the model's nights -/
theorem spNn_N {A : Nat → Nat → Int32} {P E x : Nat} (hE : eaOk A E) (hP : P ≤ 6) : ∀ n i, i < 64 → spNn A P E x n i = nI (nD A P E x n i)
  | 0, i, _ => by rw [spNn, nD]; dsimp only; split <;> rfl
  | n + 1, i, hi => by
    have h64 : 2 ^ P ≤ 64 := Nat.le_trans (Nat.pow_le_pow_right (by decide) hP) (by decide)
    rw [spNn, spNo_N hE hP (fun s hs => spNn_N hE hP n s (by omega)) (fun s hs => nD_le A hP E x n (by omega)) (2 ^ P) (Nat.le_refl _) i hi, nD]
