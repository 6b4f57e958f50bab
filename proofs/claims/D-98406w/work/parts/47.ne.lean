/-! ===== MODEL NE: tokens at hand, what is needed ===== -/
set_option maxRecDepth 100000
def tkK (t : Nat → Int32) (z : Nat) : Nat → tkV
  | 0 => tkN t z 0
  | i + 1 => tkN t z (tkK t z i).1
theorem tkK_le (t : Nat → Int32) (z : Nat) : ∀ i, (tkK t z i).2.1 ≤ (tkK t z i).1 ∧ (tkK t z i).1 ≤ z
  | 0 => by have := tkN_le (t := t) (z := z) (p := 0) (by omega); rw [tkK]; omega
  | i + 1 => by have := tkN_le (t := t) (z := z) (p := (tkK t z i).1) (tkK_le t z i).2; rw [tkK]; omega
theorem tkAt_3 {t : Nat → Int32} {z p : Nat} (hp : p ≤ z) (h : (tkAt t z p).2.2.1 = 3) : (tkAt t z p).2.1 < z := by
  unfold tkAt at h ⊢
  split at h
  · exact absurd (show (0 : Int32) = 3 from h) (by decide)
  · split at h
    · dsimp only at h
      split at h <;> exact absurd h (by decide)
    · split at h
      · dsimp only at h
        split at h <;> exact absurd h (by decide)
      · rename_i h1 h2 h3
        rw [if_neg h1, if_neg h2, if_neg h3]
        dsimp only
        omega
theorem tkN_3 {t : Nat → Int32} {z p : Nat} (hp : p ≤ z) (h : (tkN t z p).2.2.1 = 3) : (tkN t z p).2.1 < z :=
  tkAt_3 (by have := tkSk_le t (z - p) p; omega) h
theorem tkK_3 {t : Nat → Int32} {z : Nat} : ∀ {i}, (tkK t z i).2.2.1 = 3 → (tkK t z i).2.1 < z
  | 0, h => tkN_3 (by omega) h
  | i + 1, h => tkN_3 (tkK_le t z i).2 h
/-- the token i is at hand -/
def tS (t : Nat → Int32) (z i : Nat) (σ : mS) : Prop := σ.1 3 = nI z ∧ z ≤ 1000 ∧ σ.2.2.1 2 = t ∧ σ.1 4 = nI (tkK t z i).1 ∧ σ.1 5 = nI (tkK t z i).2.1 ∧ σ.1 6 = (tkK t z i).2.2.1 ∧ σ.2.1.1 = (tkK t z i).2.2.2.1 ∧ σ.1 8 = (tkK t z i).2.2.2.2
theorem tS.z {t : Nat → Int32} {z i : Nat} {σ : mS} (h : tS t z i σ) : σ.1 3 = nI z := h.1
theorem tS.le {t : Nat → Int32} {z i : Nat} {σ : mS} (h : tS t z i σ) : z ≤ 1000 := h.2.1
theorem tS.t {t : Nat → Int32} {z i : Nat} {σ : mS} (h : tS t z i σ) : σ.2.2.1 2 = t := h.2.2.1
theorem tS.i4 {t : Nat → Int32} {z i : Nat} {σ : mS} (h : tS t z i σ) : σ.1 4 = nI (tkK t z i).1 := h.2.2.2.1
theorem tS.i5 {t : Nat → Int32} {z i : Nat} {σ : mS} (h : tS t z i σ) : σ.1 5 = nI (tkK t z i).2.1 := h.2.2.2.2.1
theorem tS.i6 {t : Nat → Int32} {z i : Nat} {σ : mS} (h : tS t z i σ) : σ.1 6 = (tkK t z i).2.2.1 := h.2.2.2.2.2.1
theorem tS.w {t : Nat → Int32} {z i : Nat} {σ : mS} (h : tS t z i σ) : σ.2.1.1 = (tkK t z i).2.2.2.1 := h.2.2.2.2.2.2.1
theorem tS.i8 {t : Nat → Int32} {z i : Nat} {σ : mS} (h : tS t z i σ) : σ.1 8 = (tkK t z i).2.2.2.2 := h.2.2.2.2.2.2.2
/-- ints that the reader changes -/
def rky (k : Nat) : Bool := k == 4 || k == 5 || k == 6 || k == 8 || k == 9 || k == 28 || k == 41
def tky (k : Nat) : Bool := k == 3 || k == 4 || k == 5 || k == 6 || k == 8
theorem tS.I {t : Nat → Int32} {z i : Nat} {σ : mS} (h : tS t z i σ) {k : Nat} (hk : tky k = false) (v : Int32) : tS t z i (mI σ k v) := by
  simp only [tky, Bool.or_eq_false_iff, beq_eq_false_iff_ne, ne_eq] at hk
  obtain ⟨⟨⟨⟨h3, h4⟩, h5⟩, h6⟩, h8⟩ := hk
  refine ⟨?_, h.2.1, h.2.2.1, ?_, ?_, ?_, h.2.2.2.2.2.2.1, ?_⟩
  · rw [mI_ne (fun e => h3 e.symm)]; exact h.z
  · rw [mI_ne (fun e => h4 e.symm)]; exact h.i4
  · rw [mI_ne (fun e => h5 e.symm)]; exact h.i5
  · rw [mI_ne (fun e => h6 e.symm)]; exact h.i6
  · rw [mI_ne (fun e => h8 e.symm)]; exact h.i8
theorem tS.mA {t : Nat → Int32} {z i : Nat} {σ : mS} (h : tS t z i σ) {j : Nat} (hj : j ≠ 2) (k : Nat) (v : Int32) : tS t z i (mA σ j k v) :=
  ⟨h.1, h.2.1, by rw [mA_nj _ (fun e => hj e.symm)]; exact h.2.2.1, h.2.2.2.1, h.2.2.2.2.1, h.2.2.2.2.2.1, h.2.2.2.2.2.2.1, h.2.2.2.2.2.2.2⟩
theorem tS.mB {t : Nat → Int32} {z i : Nat} {σ : mS} (h : tS t z i σ) (j k : Nat) (v : Int64) : tS t z i (mB σ j k v) := h
theorem tS.nx {t : Nat → Int32} {z i : Nat} {σ : mS} (h : tS t z i σ) : tS t z (i + 1) (tkP σ (tkK t z (i + 1))) :=
  ⟨by rw [tkPne σ _ (by decide) (by decide) (by decide) (by decide)]; exact h.1, h.2.1, h.2.2.1, tkP4 _ _, tkP5 _ _, tkP6 _ _, tkPw _ _, tkP8 _ _⟩
/-- alike but for what the reader changes among the ints -/
def rE (σ σ' : mS) : Prop := (∀ k, rky k = false → σ'.1 k = σ.1 k) ∧ σ'.2.1.2 = σ.2.1.2
theorem rE.rf (σ : mS) : rE σ σ := ⟨fun _ _ => rfl, rfl⟩
theorem rE.tr {a b c : mS} (h : rE a b) (k : rE b c) : rE a c := ⟨fun q hq => (k.1 q hq).trans (h.1 q hq), k.2.trans h.2⟩
theorem rE.I (σ : mS) {k : Nat} (hk : rky k = true) (v : Int32) : rE σ (mI σ k v) := ⟨fun q hq => mI_ne (fun e => by rw [e, hk] at hq; cases hq), rfl⟩
theorem rE.tk (σ : mS) (q : tkV) : rE σ (tkP σ q) := by
  refine ⟨fun k hk => ?_, rfl⟩
  simp only [rky, Bool.or_eq_false_iff, beq_eq_false_iff_ne, ne_eq] at hk
  exact tkPne σ q hk.1.1.1.1.1.1 hk.1.1.1.1.1.2 hk.1.1.1.1.2 hk.1.1.1.2
def rK (σ σ' : mS) : Prop := rE σ σ' ∧ σ'.1 28 = σ.1 28 ∧ σ'.2.2 = σ.2.2
theorem rK.rf (σ : mS) : rK σ σ := ⟨rE.rf σ, rfl, rfl⟩
theorem rK.tr {a b c : mS} (h : rK a b) (k : rK b c) : rK a c := ⟨h.1.tr k.1, k.2.1.trans h.2.1, k.2.2.trans h.2.2⟩
theorem rK.tk (σ : mS) (q : tkV) : rK σ (tkP σ q) := ⟨rE.tk σ q, tkPne σ q (by decide) (by decide) (by decide) (by decide), rfl⟩
theorem rK.I (σ : mS) {k : Nat} (hk : rky k = true) (h28 : k ≠ 28) (v : Int32) : rK σ (mI σ k v) := ⟨rE.I σ hk v, mI_ne (fun e => h28 e.symm), rfl⟩
theorem rK.A {σ σ' : mS} (h : rK σ σ') : σ'.2.2.1 = σ.2.2.1 := by rw [h.2.2]
theorem rK.L {σ σ' : mS} (h : rK σ σ') : σ'.2.2.2 = σ.2.2.2 := by rw [h.2.2]
/-- what comes of a part that may fail -/
def rR {α : Type} (x : Sum Int32 α) (r : Int32) (σ' : mS) (p : α → Prop) : Prop := match x with
  | .inl f => r = 0 ∧ σ'.1 9 = f
  | .inr a => r = 1 ∧ p a
def rB {α β : Type} (x : Sum Int32 α) (f : α → Sum Int32 β) : Sum Int32 β := match x with
  | .inl e => .inl e
  | .inr a => f a
def flt (t : Nat → Int32) (z i : Nat) (k : Int32) : Int32 := k + 16 * nI (tkK t z i).2.1
def tkW (q : tkV) (w : Int64) : Bool := decide (q.2.2.1 = 1) && decide (q.2.2.2.1 = w)
def tkG (t : Nat → Int32) (q : tkV) (s : Int32) : Bool := decide (q.2.2.1 = 3) && decide (t q.2.1 = s)
def kws : List Int64 := [232608281, 355412, 14631, 275358764, 411, 1903978, 419, 79, 3690, 1831769, 12532058, 397641, 11716, 361373, 6888375828, 8740238, 108802051, 82410, 239329775, 407354, 3217595, 10631, 1111, 423]
def tkKp (q : tkV) : Bool := !decide (q.2.2.1 = 1) || decide (q.2.2.2.1 ∈ kws)
def spFact (q : tkV) : Nat := if ¬ q.2.2.1 = 1 then 0 else if q.2.2.2.1 = 70517 then 1 else if q.2.2.2.1 = 4470938551 then 2 else if q.2.2.2.1 = 923 then 3 else if q.2.2.2.1 = 164222 then 4 else 0
def spNm (f : Nat → Int64) (name : Int64) : Nat → Nat → Option Nat
  | 0, _ => none
  | m + 1, k => if f k = name then some k else spNm f name m (k + 1)
def oI (x : Option Nat) : Int32 := match x with
  | none => -1
  | some k => nI k
theorem spNm_lt {f : Nat → Int64} {name : Int64} : ∀ {m k j}, spNm f name m k = some j → k ≤ j ∧ j < k + m
  | 0, _, _, h => by cases h
  | m + 1, k, j, h => by
    rw [spNm] at h
    split at h
    · cases h; omega
    · have := spNm_lt h; omega
section NE
variable {G : gxG} {d : Nat} {h : gxH} {b : Nat} {σ : mS} {t : Nat → Int32} {z i : Nat}
theorem c_next (hb : gxN G ≤ b) (hd : 1 ≤ d) (hS : tS t z i σ) : mMv G mX10_nextToken d [.ref b] h b σ (fun σ' => σ' = tkP σ (tkK t z (i + 1))) := by
  have := c_nextToken (h := h) hb hd hS.z hS.le (tkK t z i).1 (tkK t z i).2.1 (tkK_le t z i).2 hS.i4 hS.i5
  rw [hS.t] at this
  exact this
theorem c_isWord (hS : tS t z i σ) (w : Int64) : mMi G mX10_isWord d [.ref b, .long w] h b σ (fun r σ' => r = zi (tkW (tkK t z i) w) ∧ σ' = σ) := by
  refine gxM_of rfl (Nat.le_of_ble_eq_true rfl) rfl ?_
  refine gx_aload_n (pc := 0) dX10_isWord_0 rfl ?_
  refine m_getI (pc := 1) rfl fX10_200 rfl (by decide) dX10_isWord_1 ?_
  rw [hS.i6]
  refine gx_iconst (pc := 4) (v := 1) dX10_isWord_4 (by decide) ?_
  refine gx_icmp_ne (pc := 5) 21 dX10_isWord_5 (by decide) (fun c1 => ?_) (fun c1 => ?_)
  · refine gx_iconst (pc := 21) (v := 0) dX10_isWord_21 (by decide) ?_
    exact m_retz (pc := 22) rfl (by decide) dX10_isWord_22 (⟨by rw [tkW, decide_eq_false c1]; rfl, rfl⟩)
  · have c1' : (tkK t z i).2.2.1 = 1 := c1
    refine gx_aload_n (pc := 8) dX10_isWord_8 rfl ?_
    refine m_getW (pc := 9) rfl fX10_193 dX10_isWord_9 ?_
    rw [hS.w]
    refine gx_lload_n (pc := 12) dX10_isWord_12 rfl ?_
    refine gx_lcmp (pc := 13) dX10_isWord_13 ?_
    refine gx_if_ne (pc := 14) 21 dX10_isWord_14 (by decide) (fun c2 => ?_) (fun c2 => ?_)
    · have : ¬ (tkK t z i).2.2.2.1 = w := fun e => c2 (lgc0.mpr e)
      refine gx_iconst (pc := 21) (v := 0) dX10_isWord_21 (by decide) ?_
      exact m_retz (pc := 22) rfl (by decide) dX10_isWord_22 (⟨by rw [tkW, decide_eq_false this, Bool.and_false]; rfl, rfl⟩)
    · have : (tkK t z i).2.2.2.1 = w := lgc0.mp c2
      refine gx_iconst (pc := 17) (v := 1) dX10_isWord_17 (by decide) ?_
      refine gx_goto (pc := 18) 22 dX10_isWord_18 (by decide) ?_
      exact m_retz (pc := 22) rfl (by decide) dX10_isWord_22 (⟨by rw [tkW, decide_eq_true this, decide_eq_true c1']; rfl, rfl⟩)
theorem c_isSign (hS : tS t z i σ) (s : Int32) : mMi G mX10_isSign d [.ref b, .int s] h b σ (fun r σ' => r = zi (tkG t (tkK t z i) s) ∧ σ' = σ) := by
  refine gxM_of rfl (Nat.le_of_ble_eq_true rfl) rfl ?_
  refine gx_aload_n (pc := 0) dX10_isSign_0 rfl ?_
  refine m_getI (pc := 1) rfl fX10_200 rfl (by decide) dX10_isSign_1 ?_
  rw [hS.i6]
  refine gx_iconst (pc := 4) (v := 3) dX10_isSign_4 (by decide) ?_
  refine gx_icmp_ne (pc := 5) 25 dX10_isSign_5 (by decide) (fun c1 => ?_) (fun c1 => ?_)
  · refine gx_iconst (pc := 25) (v := 0) dX10_isSign_25 (by decide) ?_
    exact m_retz (pc := 26) rfl (by decide) dX10_isSign_26 (⟨by rw [tkG, decide_eq_false c1]; rfl, rfl⟩)
  · have c1' : (tkK t z i).2.2.1 = 3 := c1
    have hl := tkK_3 c1'
    have hz := hS.le
    refine gx_aload_n (pc := 8) dX10_isSign_8 rfl ?_
    refine m_getA (pc := 9) rfl fX10_7 rfl (by decide) dX10_isSign_9 ?_
    refine gx_aload_n (pc := 12) dX10_isSign_12 rfl ?_
    refine m_getI (pc := 13) rfl fX10_190 rfl (by decide) dX10_isSign_13 ?_
    rw [hS.i5]
    refine m_iald (pc := 16) 2 ((tkK t z i).2.1) 1000 rfl (by decide) rfl rfl (by omega) (by decide) dX10_isSign_16 ?_
    rw [hS.t]
    refine gx_iload_n (pc := 17) dX10_isSign_17 rfl ?_
    refine gx_icmp_ne (pc := 18) 25 dX10_isSign_18 (by decide) (fun c2 => ?_) (fun c2 => ?_)
    · refine gx_iconst (pc := 25) (v := 0) dX10_isSign_25 (by decide) ?_
      exact m_retz (pc := 26) rfl (by decide) dX10_isSign_26 (⟨by rw [tkG, decide_eq_false c2, Bool.and_false]; rfl, rfl⟩)
    · have c2' : t (tkK t z i).2.1 = s := c2
      refine gx_iconst (pc := 21) (v := 1) dX10_isSign_21 (by decide) ?_
      refine gx_goto (pc := 22) 26 dX10_isSign_22 (by decide) ?_
      exact m_retz (pc := 26) rfl (by decide) dX10_isSign_26 (⟨by rw [tkG, decide_eq_true c2', decide_eq_true c1']; rfl, rfl⟩)
theorem c_fails (hb : gxN G ≤ b) (hS : tS t z i σ) (k : Int32) : mMi G mX10_fails d [.ref b, .int k] h b σ (fun r σ' => r = 0 ∧ σ' = mI σ 9 (flt t z i k)) := by
  refine gxM_of rfl (Nat.le_of_ble_eq_true rfl) rfl ?_
  refine gx_aload_n (pc := 0) dX10_fails_0 rfl ?_
  refine gx_iload_n (pc := 1) dX10_fails_1 rfl ?_
  refine gx_bipush (pc := 2) (v := 16) dX10_fails_2 (by decide) ?_
  refine gx_aload_n (pc := 4) dX10_fails_4 rfl ?_
  refine m_getI (pc := 5) rfl fX10_190 rfl (by decide) dX10_fails_5 ?_
  rw [hS.i5]
  refine gx_imul (pc := 8) dX10_fails_8 ?_
  refine gx_iadd (pc := 9) dX10_fails_9 ?_
  refine m_putI (pc := 10) rfl hb fX10_211 rfl (by decide) tX10_9 dX10_fails_10 ?_
  refine gx_iconst (pc := 13) (v := 0) dX10_fails_13 (by decide) ?_
  exact m_retz (pc := 14) rfl (by decide) dX10_fails_14 (⟨rfl, rfl⟩)
theorem c_puts (hb : gxN G ≤ b) (c : Nat) (hc : c < 2000) (hcd : σ.1 28 = nI c) (v : Int32) : mMv G mX10_puts d [.ref b, .int v] h b σ (fun σ' => σ' = mI (mA σ 27 c v) 28 (nI (c + 1))) := by
  refine gxM_of rfl (Nat.le_of_ble_eq_true rfl) rfl ?_
  refine gx_aload_n (pc := 0) dX10_puts_0 rfl ?_
  refine m_getA (pc := 1) rfl fX10_65 rfl (by decide) dX10_puts_1 ?_
  refine gx_aload_n (pc := 4) dX10_puts_4 rfl ?_
  refine m_getI (pc := 5) rfl fX10_214 rfl (by decide) dX10_puts_5 ?_
  rw [hcd]
  refine gx_iload_n (pc := 8) dX10_puts_8 rfl ?_
  refine m_iast (pc := 9) hb 27 (c) 2000 rfl (by decide) rfl (by first | rfl | simp only [gx_lit, nI_add, pk_mul]) (by omega) (by decide) dX10_puts_9 ?_
  refine gx_aload_n (pc := 10) dX10_puts_10 rfl ?_
  refine gx_dup (pc := 11) dX10_puts_11 rfl ?_
  refine m_getI (pc := 12) rfl fX10_214 rfl (by decide) dX10_puts_12 ?_
  rw [show (mA σ 27 c v).1 28 = nI c from hcd]
  refine gx_iconst (pc := 15) (v := 1) dX10_puts_15 (by decide) ?_
  refine gx_iadd (pc := 16) dX10_puts_16 ?_
  refine m_putI (pc := 17) rfl hb fX10_214 rfl (by decide) tX10_28 dX10_puts_17 ?_
  rw [nI_1]
  exact m_retv (pc := 20) rfl dX10_puts_20 (rfl)
theorem c_fact (hS : tS t z i σ) : mMi G mX10_fact d [.ref b] h b σ (fun r σ' => r = nI (spFact (tkK t z i)) ∧ σ' = σ) := by
  refine gxM_of rfl (Nat.le_of_ble_eq_true rfl) rfl ?_
  have F : ∀ v, v = nI (spFact (tkK t z i)) → gxV G mX10_fact d 0 0 71 [some (.ref b)] [.int v] (mput h b σ) (mQi h b (fun r σ' => r = nI (spFact (tkK t z i)) ∧ σ' = σ)) := by
    intro v hv
    exact m_ret (pc := 71) rfl dX10_fact_71 (⟨hv, rfl⟩)
  refine gx_aload_n (pc := 0) dX10_fact_0 rfl ?_
  refine m_getI (pc := 1) rfl fX10_200 rfl (by decide) dX10_fact_1 ?_
  rw [hS.i6]
  refine gx_iconst (pc := 4) (v := 1) dX10_fact_4 (by decide) ?_
  refine gx_icmp_eq (pc := 5) 10 dX10_fact_5 (by decide) (fun c1 => ?_) (fun c1 => ?_)
  · have c1' : (tkK t z i).2.2.1 = 1 := c1
    have c0 : ¬ ¬ (tkK t z i).2.2.1 = 1 := fun hh => hh c1'
    refine gx_aload_n (pc := 10) dX10_fact_10 rfl ?_
    refine m_getW (pc := 11) rfl fX10_193 dX10_fact_11 ?_
    rw [hS.w]
    refine gx_ldc2 (pc := 14) q2199 dX10_fact_14 ?_
    refine gx_lcmp (pc := 17) dX10_fact_17 ?_
    refine gx_if_ne (pc := 18) 25 dX10_fact_18 (by decide) (fun k0 => ?_) (fun k0 => ?_)
    rotate_left
    · exact (by
        have e0 : (tkK t z i).2.2.2.1 = 70517 := lgc0.mp k0
        refine gx_iconst (pc := 21) (v := 1) dX10_fact_21 (by decide) ?_
        refine gx_goto (pc := 22) 71 dX10_fact_22 (by decide) ?_
        exact F _ (by rw [spFact, if_neg c0, if_pos e0]; rfl))
    have n0 : ¬ (tkK t z i).2.2.2.1 = 70517 := fun e => k0 (lgc0.mpr e)
    refine gx_aload_n (pc := 25) dX10_fact_25 rfl ?_
    refine m_getW (pc := 26) rfl fX10_193 dX10_fact_26 ?_
    rw [hS.w]
    refine gx_ldc2 (pc := 29) q2200 dX10_fact_29 ?_
    refine gx_lcmp (pc := 32) dX10_fact_32 ?_
    refine gx_if_ne (pc := 33) 40 dX10_fact_33 (by decide) (fun k1 => ?_) (fun k1 => ?_)
    rotate_left
    · exact (by
        have e1 : (tkK t z i).2.2.2.1 = 4470938551 := lgc0.mp k1
        refine gx_iconst (pc := 36) (v := 2) dX10_fact_36 (by decide) ?_
        refine gx_goto (pc := 37) 71 dX10_fact_37 (by decide) ?_
        exact F _ (by rw [spFact, if_neg c0, if_neg n0, if_pos e1]; rfl))
    have n1 : ¬ (tkK t z i).2.2.2.1 = 4470938551 := fun e => k1 (lgc0.mpr e)
    refine gx_aload_n (pc := 40) dX10_fact_40 rfl ?_
    refine m_getW (pc := 41) rfl fX10_193 dX10_fact_41 ?_
    rw [hS.w]
    refine gx_ldc2 (pc := 44) q2201 dX10_fact_44 ?_
    refine gx_lcmp (pc := 47) dX10_fact_47 ?_
    refine gx_if_ne (pc := 48) 55 dX10_fact_48 (by decide) (fun k2 => ?_) (fun k2 => ?_)
    rotate_left
    · exact (by
        have e2 : (tkK t z i).2.2.2.1 = 923 := lgc0.mp k2
        refine gx_iconst (pc := 51) (v := 3) dX10_fact_51 (by decide) ?_
        refine gx_goto (pc := 52) 71 dX10_fact_52 (by decide) ?_
        exact F _ (by rw [spFact, if_neg c0, if_neg n0, if_neg n1, if_pos e2]; rfl))
    have n2 : ¬ (tkK t z i).2.2.2.1 = 923 := fun e => k2 (lgc0.mpr e)
    refine gx_aload_n (pc := 55) dX10_fact_55 rfl ?_
    refine m_getW (pc := 56) rfl fX10_193 dX10_fact_56 ?_
    rw [hS.w]
    refine gx_ldc2 (pc := 59) q2202 dX10_fact_59 ?_
    refine gx_lcmp (pc := 62) dX10_fact_62 ?_
    refine gx_if_ne (pc := 63) 70 dX10_fact_63 (by decide) (fun k3 => ?_) (fun k3 => ?_)
    rotate_left
    · exact (by
        have e3 : (tkK t z i).2.2.2.1 = 164222 := lgc0.mp k3
        refine gx_iconst (pc := 66) (v := 4) dX10_fact_66 (by decide) ?_
        refine gx_goto (pc := 67) 71 dX10_fact_67 (by decide) ?_
        exact F _ (by rw [spFact, if_neg c0, if_neg n0, if_neg n1, if_neg n2, if_pos e3]; rfl))
    have n3 : ¬ (tkK t z i).2.2.2.1 = 164222 := fun e => k3 (lgc0.mpr e)
    refine gx_iconst (pc := 70) (v := 0) dX10_fact_70 (by decide) ?_
    exact F _ (by rw [spFact, if_neg c0, if_neg n0, if_neg n1, if_neg n2, if_neg n3]; rfl)
  · refine gx_iconst (pc := 8) (v := 0) dX10_fact_8 (by decide) ?_
    exact m_ret (pc := 9) rfl dX10_fact_9 (⟨by rw [spFact, if_pos c1]; rfl, rfl⟩)
theorem c_isKept (hS : tS t z i σ) : mMi G mX10_isKept d [.ref b] h b σ (fun r σ' => r = zi (tkKp (tkK t z i)) ∧ σ' = σ) := by
  refine gxM_of rfl (Nat.le_of_ble_eq_true rfl) rfl ?_
  have F : (tkK t z i).2.2.2.1 ∈ kws → gxV G mX10_isKept d 0 0 274 [some (.ref b)] [] (mput h b σ) (mQi h b (fun r σ' => r = zi (tkKp (tkK t z i)) ∧ σ' = σ)) := by
    intro hv
    refine gx_iconst (pc := 274) (v := 1) dX10_isKept_274 (by decide) ?_
    refine gx_goto (pc := 275) 279 dX10_isKept_275 (by decide) ?_
    exact m_retz (pc := 279) rfl (by decide) dX10_isKept_279 (⟨by rw [tkKp, decide_eq_true hv, Bool.or_true]; rfl, rfl⟩)
  refine gx_aload_n (pc := 0) dX10_isKept_0 rfl ?_
  refine m_getI (pc := 1) rfl fX10_200 rfl (by decide) dX10_isKept_1 ?_
  rw [hS.i6]
  refine gx_iconst (pc := 4) (v := 1) dX10_isKept_4 (by decide) ?_
  refine gx_icmp_eq (pc := 5) 10 dX10_isKept_5 (by decide) (fun c1 => ?_) (fun c1 => ?_)
  · have c1' : (tkK t z i).2.2.1 = 1 := c1
    refine gx_aload_n (pc := 10) dX10_isKept_10 rfl ?_
    refine m_getW (pc := 11) rfl fX10_193 dX10_isKept_11 ?_
    rw [hS.w]
    refine gx_ldc2 (pc := 14) q2085 dX10_isKept_14 ?_
    refine gx_lcmp (pc := 17) dX10_isKept_17 ?_
    refine gx_if_eq (pc := 18) 274 dX10_isKept_18 (by decide) (fun k0 => ?_) (fun k0 => ?_)
    · exact F (by rw [lgc0.mp k0]; decide)
    have n0 : ¬ (tkK t z i).2.2.2.1 = 232608281 := fun e => k0 (lgc0.mpr e)
    refine gx_aload_n (pc := 21) dX10_isKept_21 rfl ?_
    refine m_getW (pc := 22) rfl fX10_193 dX10_isKept_22 ?_
    rw [hS.w]
    refine gx_ldc2 (pc := 25) q2106 dX10_isKept_25 ?_
    refine gx_lcmp (pc := 28) dX10_isKept_28 ?_
    refine gx_if_eq (pc := 29) 274 dX10_isKept_29 (by decide) (fun k1 => ?_) (fun k1 => ?_)
    · exact F (by rw [lgc0.mp k1]; decide)
    have n1 : ¬ (tkK t z i).2.2.2.1 = 355412 := fun e => k1 (lgc0.mpr e)
    refine gx_aload_n (pc := 32) dX10_isKept_32 rfl ?_
    refine m_getW (pc := 33) rfl fX10_193 dX10_isKept_33 ?_
    rw [hS.w]
    refine gx_ldc2 (pc := 36) q2107 dX10_isKept_36 ?_
    refine gx_lcmp (pc := 39) dX10_isKept_39 ?_
    refine gx_if_eq (pc := 40) 274 dX10_isKept_40 (by decide) (fun k2 => ?_) (fun k2 => ?_)
    · exact F (by rw [lgc0.mp k2]; decide)
    have n2 : ¬ (tkK t z i).2.2.2.1 = 14631 := fun e => k2 (lgc0.mpr e)
    refine gx_aload_n (pc := 43) dX10_isKept_43 rfl ?_
    refine m_getW (pc := 44) rfl fX10_193 dX10_isKept_44 ?_
    rw [hS.w]
    refine gx_ldc2 (pc := 47) q2108 dX10_isKept_47 ?_
    refine gx_lcmp (pc := 50) dX10_isKept_50 ?_
    refine gx_if_eq (pc := 51) 274 dX10_isKept_51 (by decide) (fun k3 => ?_) (fun k3 => ?_)
    · exact F (by rw [lgc0.mp k3]; decide)
    have n3 : ¬ (tkK t z i).2.2.2.1 = 275358764 := fun e => k3 (lgc0.mpr e)
    refine gx_aload_n (pc := 54) dX10_isKept_54 rfl ?_
    refine m_getW (pc := 55) rfl fX10_193 dX10_isKept_55 ?_
    rw [hS.w]
    refine gx_ldc2 (pc := 58) q2109 dX10_isKept_58 ?_
    refine gx_lcmp (pc := 61) dX10_isKept_61 ?_
    refine gx_if_eq (pc := 62) 274 dX10_isKept_62 (by decide) (fun k4 => ?_) (fun k4 => ?_)
    · exact F (by rw [lgc0.mp k4]; decide)
    have n4 : ¬ (tkK t z i).2.2.2.1 = 411 := fun e => k4 (lgc0.mpr e)
    refine gx_aload_n (pc := 65) dX10_isKept_65 rfl ?_
    refine m_getW (pc := 66) rfl fX10_193 dX10_isKept_66 ?_
    rw [hS.w]
    refine gx_ldc2 (pc := 69) q2110 dX10_isKept_69 ?_
    refine gx_lcmp (pc := 72) dX10_isKept_72 ?_
    refine gx_if_eq (pc := 73) 274 dX10_isKept_73 (by decide) (fun k5 => ?_) (fun k5 => ?_)
    · exact F (by rw [lgc0.mp k5]; decide)
    have n5 : ¬ (tkK t z i).2.2.2.1 = 1903978 := fun e => k5 (lgc0.mpr e)
    refine gx_aload_n (pc := 76) dX10_isKept_76 rfl ?_
    refine m_getW (pc := 77) rfl fX10_193 dX10_isKept_77 ?_
    rw [hS.w]
    refine gx_ldc2 (pc := 80) q2111 dX10_isKept_80 ?_
    refine gx_lcmp (pc := 83) dX10_isKept_83 ?_
    refine gx_if_eq (pc := 84) 274 dX10_isKept_84 (by decide) (fun k6 => ?_) (fun k6 => ?_)
    · exact F (by rw [lgc0.mp k6]; decide)
    have n6 : ¬ (tkK t z i).2.2.2.1 = 419 := fun e => k6 (lgc0.mpr e)
    refine gx_aload_n (pc := 87) dX10_isKept_87 rfl ?_
    refine m_getW (pc := 88) rfl fX10_193 dX10_isKept_88 ?_
    rw [hS.w]
    refine gx_ldc2 (pc := 91) q2112 dX10_isKept_91 ?_
    refine gx_lcmp (pc := 94) dX10_isKept_94 ?_
    refine gx_if_eq (pc := 95) 274 dX10_isKept_95 (by decide) (fun k7 => ?_) (fun k7 => ?_)
    · exact F (by rw [lgc0.mp k7]; decide)
    have n7 : ¬ (tkK t z i).2.2.2.1 = 79 := fun e => k7 (lgc0.mpr e)
    refine gx_aload_n (pc := 98) dX10_isKept_98 rfl ?_
    refine m_getW (pc := 99) rfl fX10_193 dX10_isKept_99 ?_
    rw [hS.w]
    refine gx_ldc2 (pc := 102) q2113 dX10_isKept_102 ?_
    refine gx_lcmp (pc := 105) dX10_isKept_105 ?_
    refine gx_if_eq (pc := 106) 274 dX10_isKept_106 (by decide) (fun k8 => ?_) (fun k8 => ?_)
    · exact F (by rw [lgc0.mp k8]; decide)
    have n8 : ¬ (tkK t z i).2.2.2.1 = 3690 := fun e => k8 (lgc0.mpr e)
    refine gx_aload_n (pc := 109) dX10_isKept_109 rfl ?_
    refine m_getW (pc := 110) rfl fX10_193 dX10_isKept_110 ?_
    rw [hS.w]
    refine gx_ldc2 (pc := 113) q2114 dX10_isKept_113 ?_
    refine gx_lcmp (pc := 116) dX10_isKept_116 ?_
    refine gx_if_eq (pc := 117) 274 dX10_isKept_117 (by decide) (fun k9 => ?_) (fun k9 => ?_)
    · exact F (by rw [lgc0.mp k9]; decide)
    have n9 : ¬ (tkK t z i).2.2.2.1 = 1831769 := fun e => k9 (lgc0.mpr e)
    refine gx_aload_n (pc := 120) dX10_isKept_120 rfl ?_
    refine m_getW (pc := 121) rfl fX10_193 dX10_isKept_121 ?_
    rw [hS.w]
    refine gx_ldc2 (pc := 124) q2115 dX10_isKept_124 ?_
    refine gx_lcmp (pc := 127) dX10_isKept_127 ?_
    refine gx_if_eq (pc := 128) 274 dX10_isKept_128 (by decide) (fun k10 => ?_) (fun k10 => ?_)
    · exact F (by rw [lgc0.mp k10]; decide)
    have n10 : ¬ (tkK t z i).2.2.2.1 = 12532058 := fun e => k10 (lgc0.mpr e)
    refine gx_aload_n (pc := 131) dX10_isKept_131 rfl ?_
    refine m_getW (pc := 132) rfl fX10_193 dX10_isKept_132 ?_
    rw [hS.w]
    refine gx_ldc2 (pc := 135) q2116 dX10_isKept_135 ?_
    refine gx_lcmp (pc := 138) dX10_isKept_138 ?_
    refine gx_if_eq (pc := 139) 274 dX10_isKept_139 (by decide) (fun k11 => ?_) (fun k11 => ?_)
    · exact F (by rw [lgc0.mp k11]; decide)
    have n11 : ¬ (tkK t z i).2.2.2.1 = 397641 := fun e => k11 (lgc0.mpr e)
    refine gx_aload_n (pc := 142) dX10_isKept_142 rfl ?_
    refine m_getW (pc := 143) rfl fX10_193 dX10_isKept_143 ?_
    rw [hS.w]
    refine gx_ldc2 (pc := 146) q2117 dX10_isKept_146 ?_
    refine gx_lcmp (pc := 149) dX10_isKept_149 ?_
    refine gx_if_eq (pc := 150) 274 dX10_isKept_150 (by decide) (fun k12 => ?_) (fun k12 => ?_)
    · exact F (by rw [lgc0.mp k12]; decide)
    have n12 : ¬ (tkK t z i).2.2.2.1 = 11716 := fun e => k12 (lgc0.mpr e)
    refine gx_aload_n (pc := 153) dX10_isKept_153 rfl ?_
    refine m_getW (pc := 154) rfl fX10_193 dX10_isKept_154 ?_
    rw [hS.w]
    refine gx_ldc2 (pc := 157) q2118 dX10_isKept_157 ?_
    refine gx_lcmp (pc := 160) dX10_isKept_160 ?_
    refine gx_if_eq (pc := 161) 274 dX10_isKept_161 (by decide) (fun k13 => ?_) (fun k13 => ?_)
    · exact F (by rw [lgc0.mp k13]; decide)
    have n13 : ¬ (tkK t z i).2.2.2.1 = 361373 := fun e => k13 (lgc0.mpr e)
    refine gx_aload_n (pc := 164) dX10_isKept_164 rfl ?_
    refine m_getW (pc := 165) rfl fX10_193 dX10_isKept_165 ?_
    rw [hS.w]
    refine gx_ldc2 (pc := 168) q2119 dX10_isKept_168 ?_
    refine gx_lcmp (pc := 171) dX10_isKept_171 ?_
    refine gx_if_eq (pc := 172) 274 dX10_isKept_172 (by decide) (fun k14 => ?_) (fun k14 => ?_)
    · exact F (by rw [lgc0.mp k14]; decide)
    have n14 : ¬ (tkK t z i).2.2.2.1 = 6888375828 := fun e => k14 (lgc0.mpr e)
    refine gx_aload_n (pc := 175) dX10_isKept_175 rfl ?_
    refine m_getW (pc := 176) rfl fX10_193 dX10_isKept_176 ?_
    rw [hS.w]
    refine gx_ldc2 (pc := 179) q2120 dX10_isKept_179 ?_
    refine gx_lcmp (pc := 182) dX10_isKept_182 ?_
    refine gx_if_eq (pc := 183) 274 dX10_isKept_183 (by decide) (fun k15 => ?_) (fun k15 => ?_)
    · exact F (by rw [lgc0.mp k15]; decide)
    have n15 : ¬ (tkK t z i).2.2.2.1 = 8740238 := fun e => k15 (lgc0.mpr e)
    refine gx_aload_n (pc := 186) dX10_isKept_186 rfl ?_
    refine m_getW (pc := 187) rfl fX10_193 dX10_isKept_187 ?_
    rw [hS.w]
    refine gx_ldc2 (pc := 190) q2121 dX10_isKept_190 ?_
    refine gx_lcmp (pc := 193) dX10_isKept_193 ?_
    refine gx_if_eq (pc := 194) 274 dX10_isKept_194 (by decide) (fun k16 => ?_) (fun k16 => ?_)
    · exact F (by rw [lgc0.mp k16]; decide)
    have n16 : ¬ (tkK t z i).2.2.2.1 = 108802051 := fun e => k16 (lgc0.mpr e)
    refine gx_aload_n (pc := 197) dX10_isKept_197 rfl ?_
    refine m_getW (pc := 198) rfl fX10_193 dX10_isKept_198 ?_
    rw [hS.w]
    refine gx_ldc2 (pc := 201) q2122 dX10_isKept_201 ?_
    refine gx_lcmp (pc := 204) dX10_isKept_204 ?_
    refine gx_if_eq (pc := 205) 274 dX10_isKept_205 (by decide) (fun k17 => ?_) (fun k17 => ?_)
    · exact F (by rw [lgc0.mp k17]; decide)
    have n17 : ¬ (tkK t z i).2.2.2.1 = 82410 := fun e => k17 (lgc0.mpr e)
    refine gx_aload_n (pc := 208) dX10_isKept_208 rfl ?_
    refine m_getW (pc := 209) rfl fX10_193 dX10_isKept_209 ?_
    rw [hS.w]
    refine gx_ldc2 (pc := 212) q2123 dX10_isKept_212 ?_
    refine gx_lcmp (pc := 215) dX10_isKept_215 ?_
    refine gx_if_eq (pc := 216) 274 dX10_isKept_216 (by decide) (fun k18 => ?_) (fun k18 => ?_)
    · exact F (by rw [lgc0.mp k18]; decide)
    have n18 : ¬ (tkK t z i).2.2.2.1 = 239329775 := fun e => k18 (lgc0.mpr e)
    refine gx_aload_n (pc := 219) dX10_isKept_219 rfl ?_
    refine m_getW (pc := 220) rfl fX10_193 dX10_isKept_220 ?_
    rw [hS.w]
    refine gx_ldc2 (pc := 223) q2124 dX10_isKept_223 ?_
    refine gx_lcmp (pc := 226) dX10_isKept_226 ?_
    refine gx_if_eq (pc := 227) 274 dX10_isKept_227 (by decide) (fun k19 => ?_) (fun k19 => ?_)
    · exact F (by rw [lgc0.mp k19]; decide)
    have n19 : ¬ (tkK t z i).2.2.2.1 = 407354 := fun e => k19 (lgc0.mpr e)
    refine gx_aload_n (pc := 230) dX10_isKept_230 rfl ?_
    refine m_getW (pc := 231) rfl fX10_193 dX10_isKept_231 ?_
    rw [hS.w]
    refine gx_ldc2 (pc := 234) q2125 dX10_isKept_234 ?_
    refine gx_lcmp (pc := 237) dX10_isKept_237 ?_
    refine gx_if_eq (pc := 238) 274 dX10_isKept_238 (by decide) (fun k20 => ?_) (fun k20 => ?_)
    · exact F (by rw [lgc0.mp k20]; decide)
    have n20 : ¬ (tkK t z i).2.2.2.1 = 3217595 := fun e => k20 (lgc0.mpr e)
    refine gx_aload_n (pc := 241) dX10_isKept_241 rfl ?_
    refine m_getW (pc := 242) rfl fX10_193 dX10_isKept_242 ?_
    rw [hS.w]
    refine gx_ldc2 (pc := 245) q2126 dX10_isKept_245 ?_
    refine gx_lcmp (pc := 248) dX10_isKept_248 ?_
    refine gx_if_eq (pc := 249) 274 dX10_isKept_249 (by decide) (fun k21 => ?_) (fun k21 => ?_)
    · exact F (by rw [lgc0.mp k21]; decide)
    have n21 : ¬ (tkK t z i).2.2.2.1 = 10631 := fun e => k21 (lgc0.mpr e)
    refine gx_aload_n (pc := 252) dX10_isKept_252 rfl ?_
    refine m_getW (pc := 253) rfl fX10_193 dX10_isKept_253 ?_
    rw [hS.w]
    refine gx_ldc2 (pc := 256) q2127 dX10_isKept_256 ?_
    refine gx_lcmp (pc := 259) dX10_isKept_259 ?_
    refine gx_if_eq (pc := 260) 274 dX10_isKept_260 (by decide) (fun k22 => ?_) (fun k22 => ?_)
    · exact F (by rw [lgc0.mp k22]; decide)
    have n22 : ¬ (tkK t z i).2.2.2.1 = 1111 := fun e => k22 (lgc0.mpr e)
    refine gx_aload_n (pc := 263) dX10_isKept_263 rfl ?_
    refine m_getW (pc := 264) rfl fX10_193 dX10_isKept_264 ?_
    rw [hS.w]
    refine gx_ldc2 (pc := 267) q2128 dX10_isKept_267 ?_
    refine gx_lcmp (pc := 270) dX10_isKept_270 ?_
    refine gx_if_ne (pc := 271) 278 dX10_isKept_271 (by decide) (fun k23 => ?_) (fun k23 => ?_)
    rotate_left
    · exact (by
        exact F (by rw [lgc0.mp k23]; decide))
    have n23 : ¬ (tkK t z i).2.2.2.1 = 423 := fun e => k23 (lgc0.mpr e)
    refine gx_iconst (pc := 278) (v := 0) dX10_isKept_278 (by decide) ?_
    exact m_retz (pc := 279) rfl (by decide) dX10_isKept_279 (⟨by rw [tkKp, decide_eq_true c1', decide_eq_false (by simp only [kws, List.mem_cons, List.not_mem_nil, or_false, not_or]; exact ⟨n0, n1, n2, n3, n4, n5, n6, n7, n8, n9, n10, n11, n12, n13, n14, n15, n16, n17, n18, n19, n20, n21, n22, n23⟩)]; rfl, rfl⟩)
  · refine gx_iconst (pc := 8) (v := 1) dX10_isKept_8 (by decide) ?_
    exact m_retz (pc := 9) rfl (by decide) dX10_isKept_9 (⟨by rw [tkKp, decide_eq_false c1]; rfl, rfl⟩)
theorem c_named (j n_j from_ many : Nat) (hj_j : mknd j = 5) (ho_j : mOk j) (hn_j : mlen j = n_j) (hb_j : n_j < 2 ^ 31) (hm : from_ + many ≤ n_j) (name : Int64) : mMi G mX10_named d [.ref (b + moff j), .int (nI from_), .int (nI many), .long name] h b σ (fun r σ' => r = oI (spNm (fun k => σ.2.2.2 j (from_ + k)) name many 0) ∧ σ' = σ) := by
  refine gxM_of rfl (Nat.le_of_ble_eq_true rfl) rfl ?_
  have L : ∀ m k, m + k = many → spNm (fun k => σ.2.2.2 j (from_ + k)) name m k = spNm (fun k => σ.2.2.2 j (from_ + k)) name many 0 → gxV G mX10_named d 0 0 3 [some (.ref (b + moff j)), some (.int (nI from_)), some (.int (nI many)), some (.long name), none, some (.int (nI (from_ + k)))] [] (mput h b σ) (mQi h b (fun r σ' => r = oI (spNm (fun k => σ.2.2.2 j (from_ + k)) name many 0) ∧ σ' = σ)) := by
    intro m
    induction m with
    | zero =>
      intro k hk hs
      have : k = many := by omega
      subst this
      refine gx_iload (pc := 3) dX10_named_3 rfl ?_
      refine gx_iload_n (pc := 5) dX10_named_5 rfl ?_
      refine gx_iload_n (pc := 6) dX10_named_6 rfl ?_
      refine gx_iadd (pc := 7) dX10_named_7 ?_
      rw [nI_add]
      refine gx_icmp_ge (pc := 8) 31 dX10_named_8 (by decide) (fun c1 => ?_) (fun c1 => ?_)
      · refine gx_iconst (pc := 31) (v := (-1)) dX10_named_31 (by decide) ?_
        exact m_ret (pc := 32) rfl dX10_named_32 (⟨by rw [← hs]; rfl, rfl⟩)
      · exact absurd (nI_le (Nat.le_refl _) (by omega)) c1
    | succ m ih =>
      intro k hk hs
      rw [spNm] at hs
      refine gx_iload (pc := 3) dX10_named_3 rfl ?_
      refine gx_iload_n (pc := 5) dX10_named_5 rfl ?_
      refine gx_iload_n (pc := 6) dX10_named_6 rfl ?_
      refine gx_iadd (pc := 7) dX10_named_7 ?_
      rw [nI_add]
      refine gx_icmp_ge (pc := 8) 31 dX10_named_8 (by decide) (fun c1 => ?_) (fun c1 => ?_)
      · exact absurd c1 (nI_ge (by omega) (by omega))
      · refine gx_aload_n (pc := 11) dX10_named_11 rfl ?_
        refine gx_iload (pc := 12) dX10_named_12 rfl ?_
        refine m_lald (pc := 14) j ((from_+k)) n_j hj_j ho_j hn_j (by first | rfl | simp only [gx_lit, nI_add, pk_mul]) (by omega) hb_j dX10_named_14 ?_
        refine gx_lload_n (pc := 15) dX10_named_15 rfl ?_
        refine gx_lcmp (pc := 16) dX10_named_16 ?_
        refine gx_if_ne (pc := 17) 25 dX10_named_17 (by decide) (fun c2 => ?_) (fun c2 => ?_)
        · have c3 : ¬ σ.2.2.2 j (from_ + k) = name := fun e => c2 (lgc0.mpr e)
          refine gx_iincc (pc := 25) (c := 1) dX10_named_25 rfl (by decide) (by decide) rfl ?_
          refine gx_goto (pc := 28) 3 dX10_named_28 (by decide) ?_
          rw [nI_1]
          rw [if_neg c3] at hs
          exact ih (k + 1) (by omega) hs
        · have c3 : σ.2.2.2 j (from_ + k) = name := lgc0.mp c2
          rw [if_pos c3] at hs
          refine gx_iload (pc := 20) dX10_named_20 rfl ?_
          refine gx_iload_n (pc := 22) dX10_named_22 rfl ?_
          refine gx_isub (pc := 23) dX10_named_23 ?_
          rw [pk_sub (show from_ ≤ from_ + k by omega), show from_ + k - from_ = k by omega]
          exact m_ret (pc := 24) rfl dX10_named_24 (⟨by rw [← hs]; rfl, rfl⟩)
  refine gx_iload_n (pc := 0) dX10_named_0 rfl ?_
  refine gx_istore (pc := 1) dX10_named_1 (by decide) rfl ?_
  have k0 := L many 0 (by omega) rfl
  exact k0
/-- the people named: part 0 as it is, part 1 as it is read -/
def spPn (L : Nat → Nat → Int64) (r : Nat) (P : Nat) (name : Int64) : Option Nat := spNm (fun k => L 11 (6 * r + k)) name P 0
def spSn (L : Nat → Nat → Int64) (r : Nat) (S : Nat) (name : Int64) : Option Nat := spNm (fun k => L 12 (10 * r + k)) name S 0
theorem c_personNamed (hd : 1 ≤ d) (hS : tS t z i σ) (r P : Nat) (hr : r ≤ 1) (hP : σ.2.2.1 10 (4 * r) = nI P) (hP6 : P ≤ 6) : mMi G mX10_personNamed d [.ref b, .int (nI r)] h b σ (fun v σ' => v = oI (spPn σ.2.2.2 r P (tkK t z i).2.2.2.1) ∧ σ' = σ) := by
  refine gxM_of rfl (Nat.le_of_ble_eq_true rfl) rfl ?_
  refine gx_aload_n (pc := 0) dX10_personNamed_0 rfl ?_
  refine m_getA (pc := 1) rfl fX10_16 rfl (by decide) dX10_personNamed_1 ?_
  refine gx_bipush (pc := 4) (v := 6) dX10_personNamed_4 (by decide) ?_
  refine gx_iload_n (pc := 6) dX10_personNamed_6 rfl ?_
  refine gx_imul (pc := 7) dX10_personNamed_7 ?_
  refine gx_aload_n (pc := 8) dX10_personNamed_8 rfl ?_
  refine m_getA (pc := 9) rfl fX10_13 rfl (by decide) dX10_personNamed_9 ?_
  refine gx_iconst (pc := 12) (v := 4) dX10_personNamed_12 (by decide) ?_
  refine gx_iload_n (pc := 13) dX10_personNamed_13 rfl ?_
  refine gx_imul (pc := 14) dX10_personNamed_14 ?_
  refine gx_iconst (pc := 15) (v := 0) dX10_personNamed_15 (by decide) ?_
  refine gx_iadd (pc := 16) dX10_personNamed_16 ?_
  refine m_iald (pc := 17) 10 (((4 * r) + 0)) 8 rfl (by decide) rfl (by first | rfl | simp only [gx_lit, nI_add, pk_mul]) (by omega) (by decide) dX10_personNamed_17 ?_
  rw [show 4 * r + 0 = 4 * r from rfl, hP]
  refine gx_aload_n (pc := 18) dX10_personNamed_18 rfl ?_
  refine m_getW (pc := 19) rfl fX10_193 dX10_personNamed_19 ?_
  rw [hS.w, show (6 : Int32) * nI r = nI (6 * r) from pk_mul 6 r]
  refine kX10_304 (pc := 22) rfl (c_named (d := d - 1) 11 12 (6 * r) P rfl (by decide) rfl (by decide) (by omega) _) (by omega) (Nat.le_of_ble_eq_true rfl) dX10_personNamed_22 (fun r1 σ1 e1 => ?_)
  obtain ⟨rfl, hσ⟩ := e1
  subst σ1
  exact m_ret (pc := 25) rfl dX10_personNamed_25 (⟨rfl, rfl⟩)
theorem c_secretNamed (hd : 1 ≤ d) (hS : tS t z i σ) (r P : Nat) (hr : r ≤ 1) (hP : σ.2.2.1 10 (4 * r + 1) = nI P) (hP6 : P ≤ 10) : mMi G mX10_secretNamed d [.ref b, .int (nI r)] h b σ (fun v σ' => v = oI (spSn σ.2.2.2 r P (tkK t z i).2.2.2.1) ∧ σ' = σ) := by
  refine gxM_of rfl (Nat.le_of_ble_eq_true rfl) rfl ?_
  refine gx_aload_n (pc := 0) dX10_secretNamed_0 rfl ?_
  refine m_getA (pc := 1) rfl fX10_20 rfl (by decide) dX10_secretNamed_1 ?_
  refine gx_bipush (pc := 4) (v := 10) dX10_secretNamed_4 (by decide) ?_
  refine gx_iload_n (pc := 6) dX10_secretNamed_6 rfl ?_
  refine gx_imul (pc := 7) dX10_secretNamed_7 ?_
  refine gx_aload_n (pc := 8) dX10_secretNamed_8 rfl ?_
  refine m_getA (pc := 9) rfl fX10_13 rfl (by decide) dX10_secretNamed_9 ?_
  refine gx_iconst (pc := 12) (v := 4) dX10_secretNamed_12 (by decide) ?_
  refine gx_iload_n (pc := 13) dX10_secretNamed_13 rfl ?_
  refine gx_imul (pc := 14) dX10_secretNamed_14 ?_
  refine gx_iconst (pc := 15) (v := 1) dX10_secretNamed_15 (by decide) ?_
  refine gx_iadd (pc := 16) dX10_secretNamed_16 ?_
  refine m_iald (pc := 17) 10 (((4 * r) + 1)) 8 rfl (by decide) rfl (by first | rfl | simp only [gx_lit, nI_add, pk_mul]) (by omega) (by decide) dX10_secretNamed_17 ?_
  rw [hP]
  refine gx_aload_n (pc := 18) dX10_secretNamed_18 rfl ?_
  refine m_getW (pc := 19) rfl fX10_193 dX10_secretNamed_19 ?_
  rw [hS.w, show (10 : Int32) * nI r = nI (10 * r) from pk_mul 10 r]
  refine kX10_304 (pc := 22) rfl (c_named (d := d - 1) 12 20 (10 * r) P rfl (by decide) rfl (by decide) (by omega) _) (by omega) (Nat.le_of_ble_eq_true rfl) dX10_secretNamed_22 (fun r1 σ1 e1 => ?_)
  obtain ⟨rfl, hσ⟩ := e1
  subst σ1
  exact m_ret (pc := 25) rfl dX10_secretNamed_25 (⟨rfl, rfl⟩)
end NE
