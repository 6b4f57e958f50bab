/-! ===== MODEL NK: what a draft keeps ===== -/
set_option maxRecDepth 100000
theorem rB_inv {α β : Type} {x : Sum Int32 α} {f : α → Sum Int32 β} {b : β} (h : rB x f = .inr b) : ∃ a, x = .inr a ∧ f a = .inr b := by
  cases x with
  | inl e => cases h
  | inr a => exact ⟨a, rfl, h⟩
theorem dA_at (x : dS) (j k : Nat) (v : Int32) (j' k' : Nat) : (dA x j k v).1 j' k' = if j' = j ∧ k' = k then v else x.1 j' k' := by
  by_cases hj : j' = j <;> by_cases hk : k' = k <;> simp [dA, upA, upd, hj, hk]
theorem dL_1 (x : dS) (j k : Nat) (v : Int64) : (dL x j k v).1 = x.1 := rfl
theorem dA_2 (x : dS) (j k : Nat) (v : Int32) : (dA x j k v).2 = x.2 := rfl
theorem spNum_i {t : Nat → Int32} {z i : Nat} {lo hi : Int32} {a : Nat × Int32} (h : spNum t z lo hi i = .inr a) : a.1 = i + 1 ∧ lo ≤ a.2 ∧ a.2 ≤ hi := by
  unfold spNum at h
  split at h
  · cases h
  · split at h
    · cases h
    · rename_i h1 h2
      cases h
      exact ⟨rfl, Decidable.not_not.mp h2⟩
theorem spWord_i {t : Nat → Int32} {z i : Nat} {w : Int64} {j : Nat} (h : spWord t z w i = .inr j) : j = i + 1 := by
  unfold spWord at h; split at h <;> cases h; rfl
theorem spClo_i {t : Nat → Int32} {z i : Nat} {j : Nat} (h : spClo t z i = .inr j) : j = i + 1 := by
  unfold spClo at h; split at h <;> cases h; rfl
theorem spBoth_i {t : Nat → Int32} {z i : Nat} {w : Int64} {lo hi : Int32} {a : Nat × Int32} (h : spBoth t z w lo hi i = .inr a) : a.1 = i + 2 ∧ lo ≤ a.2 ∧ a.2 ≤ hi := by
  unfold spBoth at h
  obtain ⟨j, h1, h2⟩ := rB_inv h
  have := spWord_i h1
  have h3 := spNum_i h2
  exact ⟨by omega, h3.2⟩
theorem spNd_k {t : Nat → Int32} {z i : Nat} {x : Option Nat} {k : Nat} (h : spNd t z i x = .inr k) : x = some k := by
  unfold spNd at h
  split at h
  · cases h
  · split at h
    · cases h
    · cases h; rfl
theorem spNm_lt0 {f : Nat → Int64} {name : Int64} {m j : Nat} (h : spNm f name m 0 = some j) : j < m := by
  have := spNm_lt h; omega
theorem or6 : ∀ k, k < 6 → ∀ y, y < 64 → nI y ||| (1 <<< (nI k &&& 31)) = nI (y ||| 2 ^ k) ∧ y ||| 2 ^ k < 64 := by decide +kernel
theorem spSome_i {t : Nat → Int32} {z : Nat} {nm : Int64 → Option Nat} : ∀ {m set i a}, spSome t z nm m set i = .inr a → i ≤ a.1
  | 0, _, _, _, h => by cases h
  | m + 1, set, i, a, h => by
    rw [spSome] at h
    split at h
    · cases h; exact Nat.le_refl _
    · obtain ⟨k, h1, h2⟩ := rB_inv h
      split at h2
      · cases h2
      · have := spSome_i h2; omega
theorem spSome_64 {t : Nat → Int32} {z : Nat} {nm : Int64 → Option Nat} (hn : ∀ w k, nm w = some k → k < 6) : ∀ {m y i a}, y < 64 → spSome t z nm m (nI y) i = .inr a → ∃ y', y' < 64 ∧ a.2 = nI y'
  | 0, _, _, _, _, h => by cases h
  | m + 1, y, i, a, hy, h => by
    rw [spSome] at h
    split at h
    · cases h; exact ⟨y, hy, rfl⟩
    · obtain ⟨k, h1, h2⟩ := rB_inv h
      split at h2
      · cases h2
      · have hk := hn _ _ (spNd_k h1)
        have ho := or6 k hk y hy
        rw [ho.1] at h2
        exact spSome_64 hn ho.2 h2
theorem spOn_i {t : Nat → Int32} {z : Nat} {L : Nat → Nat → Int64} {S i : Nat} {c : Nat × Int32} (h : spOn t z L S i = .inr c) : i ≤ c.1 ∧ (c.2 = -1 ∨ ∃ o, o < S ∧ c.2 = nI o) := by
  unfold spOn at h
  split at h
  · obtain ⟨k, h1, h2⟩ := rB_inv h
    cases h2
    exact ⟨by show i ≤ i + 1 + 1; omega, Or.inr ⟨k, spNm_lt0 (spNd_k h1), rfl⟩⟩
  · cases h
    exact ⟨Nat.le_refl _, Or.inl rfl⟩
/-- no more than there are places -/
theorem pig : ∀ (N : Nat) (f : Nat → Nat) (E : Nat), (∀ k, k < E → f k < N) → (∀ k j, k < E → j < E → f k = f j → k = j) → E ≤ N
  | 0, f, E, h, _ => by
    rcases Nat.eq_zero_or_pos E with e | e
    · omega
    · exact absurd (h 0 e) (by omega)
  | N + 1, f, E, h, hi => by
    cases E with
    | zero => omega
    | succ E =>
      have := pig N (fun k => if f k = N then f E else f k) E (fun k hk => by
        split
        · rename_i e
          have h1 := h E (by omega)
          have h2 : f E ≠ N := fun e2 => by have := hi k E (by omega) (by omega) (e.trans e2.symm); omega
          omega
        · have := h k (by omega); omega) (fun k j hk hj e => by
        split at e
        · rename_i e1
          split at e
          · rename_i e2
            exact hi k j (by omega) (by omega) (e1.trans e2.symm)
          · have := hi E j (by omega) (by omega) e; omega
        · split at e
          · have := hi k E (by omega) (by omega) e; omega
          · exact hi k j (by omega) (by omega) e)
      omega
/-- a draft of a town in the second parts of the arrays -/
def dI (x : dS) (P S E : Nat) : Prop :=
  x.1 10 4 = nI P ∧ P ≤ 6 ∧ x.1 10 5 = nI S ∧ S ≤ 10 ∧ x.1 10 6 = nI E ∧ E ≤ 30 ∧ (∀ k, k < S → ∃ p, p < P ∧ x.1 17 (10 + k) = nI p) ∧ (∀ k, k < S → x.1 19 (10 + k) = -1 ∨ ∃ o, o < k ∧ x.1 19 (10 + k) = nI o) ∧
  (∀ e, e < E → ∃ p q, p < P ∧ q < P ∧ p ≠ q ∧ x.1 22 (30 + e) = nI p ∧ x.1 23 (30 + e) = nI q) ∧ (∀ e f, e < E → f < E → x.1 22 (30 + e) = x.1 22 (30 + f) → x.1 23 (30 + e) = x.1 23 (30 + f) → e = f) ∧
  (∀ k, k < S → ∃ y, y < 64 ∧ x.1 20 (10 + k) = nI y)
theorem spHe0_f {A : Nat → Nat → Int32} {a c : Int32} : ∀ {m k}, spHe0 A a c m k = false → ∀ e, k ≤ e → e < k + m → ¬ (A 22 (30 + e) = a ∧ A 23 (30 + e) = c)
  | 0, k, _, e, h1, h2 => by omega
  | m + 1, k, h, e, h1, h2 => by
    rw [spHe0] at h
    split at h
    · cases h
    · rename_i hh
      rcases Nat.eq_or_lt_of_le h1 with q | q
      · rw [← q]; exact hh
      · exact spHe0_f h e (by omega) (by omega)
def cdP (p q : Nat) : Nat := 5 * p + (if q < p then q else q - 1)
theorem cdP_lt {p q : Nat} (hp : p < 6) (hq : q < 6) (h : p ≠ q) : cdP p q < 30 := by unfold cdP; split <;> omega
theorem cdP_inj {p q p' q' : Nat} (hp : p < 6) (hq : q < 6) (h : p ≠ q) (hp' : p' < 6) (hq' : q' < 6) (h' : p' ≠ q') (e : cdP p q = cdP p' q') : p = p' ∧ q = q' := by
  unfold cdP at e
  split at e <;> split at e <;> omega
theorem dI.ear {x : dS} {P S E : Nat} (h : dI x P S E) {a c : Nat} (ha : a < P) (hc : c < P) (hac : a ≠ c) (hf : spHe0 x.1 (nI a) (nI c) E 0 = false) : E < 30 := by
  obtain ⟨_, hP, _, _, _, _, _, _, he, hd, _⟩ := h
  have hn := spHe0_f hf
  have h1 : ∀ e, ∃ v : Nat × Nat, e < E → v.1 < P ∧ v.2 < P ∧ v.1 ≠ v.2 ∧ x.1 22 (30 + e) = nI v.1 ∧ x.1 23 (30 + e) = nI v.2 := by
    intro e
    by_cases q : e < E
    · obtain ⟨p, r, h⟩ := he e q; exact ⟨(p, r), fun _ => h⟩
    · exact ⟨(0, 0), fun h => absurd h q⟩
  have g := Classical.choose_spec (Classical.axiomOfChoice h1)
  generalize Classical.choose (Classical.axiomOfChoice h1) = g0 at g
  have := pig 30 (fun k => if k < E then cdP (g0 k).1 (g0 k).2 else cdP a c) (E + 1) (fun k hk => by
    split
    · rename_i q
      have := g k q
      exact cdP_lt (by omega) (by omega) this.2.2.1
    · exact cdP_lt (by omega) (by omega) hac) (fun k j hk hj e => by
    split at e
    · rename_i q
      have gk := g k q
      split at e
      · rename_i q2
        have gj := g j q2
        have := cdP_inj (by omega) (by omega) gk.2.2.1 (by omega) (by omega) gj.2.2.1 e
        exact hd k j q q2 (by rw [gk.2.2.2.1, gj.2.2.2.1, this.1]) (by rw [gk.2.2.2.2, gj.2.2.2.2, this.2])
      · have := cdP_inj (by omega) (by omega) gk.2.2.1 (by omega) (by omega) hac e
        exact absurd ⟨by rw [gk.2.2.2.1, this.1], by rw [gk.2.2.2.2, this.2]⟩ (hn k (by omega) (by omega))
    · split at e
      · rename_i q2
        have gj := g j q2
        have := cdP_inj (by omega) (by omega) hac (by omega) (by omega) gj.2.2.1 e
        exact absurd ⟨by rw [gj.2.2.2.1, this.1], by rw [gj.2.2.2.2, this.2]⟩ (hn j (by omega) (by omega))
      · omega)
  omega
theorem spRP_dI {t : Nat → Int32} {z P S E : Nat} {x : dS} {i : Nat} {a : Nat × dS} (hs : spRP t z P S x i = .inr a) (h : dI x P S E) : i + 1 ≤ a.1 ∧ dI a.2 (P + 1) S E := by
  unfold spRP at hs
  split at hs
  · cases hs
  rename_i hP
  obtain ⟨u, h1, hs⟩ := rB_inv hs
  split at hs
  · cases hs
  obtain ⟨a1, h2, hs⟩ := rB_inv hs
  obtain ⟨c1, h3, hs⟩ := rB_inv hs
  obtain ⟨e1, h4, hs⟩ := rB_inv hs
  have i2 := (spBoth_i h2).1
  have i3 := (spBoth_i h3).1
  have i4 := spClo_i h4
  cases hs
  refine ⟨by show i + 1 ≤ e1; omega, ?_⟩
  obtain ⟨b1, b2, b3, b4, b5, b6, b7, b8, b9, b10, b11⟩ := h
  simp only [dI, dA_at, dL_1]
  refine ⟨by simp, by omega, ?_, b4, ?_, b6, fun k hk => ?_, fun k hk => ?_, fun e he => ?_, fun e f he hf => ?_, fun k hk => ?_⟩
  · simpa using b3
  · simpa using b5
  · obtain ⟨p, hp, hv⟩ := b7 k hk; exact ⟨p, by omega, by simpa using hv⟩
  · simpa using b8 k hk
  · obtain ⟨p, q, hp, hq, hv⟩ := b9 e he; exact ⟨p, q, by omega, by omega, by simpa using hv⟩
  · have := b10 e f he hf; simpa using this
  · simpa using b11 k hk
theorem spRS_dI {t : Nat → Int32} {z P S E : Nat} {x : dS} {i : Nat} {a : Nat × dS} (hs : spRS t z P S x i = .inr a) (h : dI x P S E) : i + 1 ≤ a.1 ∧ dI a.2 P (S + 1) E := by
  unfold spRS at hs
  split at hs
  · cases hs
  rename_i hS
  obtain ⟨u, h1, hs⟩ := rB_inv hs
  split at hs
  · cases hs
  obtain ⟨j, h2, hs⟩ := rB_inv hs
  obtain ⟨o, h3, hs⟩ := rB_inv hs
  obtain ⟨a1, h4, hs⟩ := rB_inv hs
  obtain ⟨c, h5, hs⟩ := rB_inv hs
  obtain ⟨u1, h6, hs⟩ := rB_inv hs
  obtain ⟨w, h7, hs⟩ := rB_inv hs
  obtain ⟨e1, h8, hs⟩ := rB_inv hs
  obtain ⟨b1, b2, b3, b4, b5, b6, b7, b8, b9, b10, b11⟩ := h
  have i2 := spWord_i h2
  have i3 := spNm_lt0 (spNd_k h3)
  have i4 := (spBoth_i h4).1
  have i5 := spOn_i h5
  have i6 := spWord_i h6
  have i7 := spSome_i h7
  obtain ⟨y, hy, hwy⟩ := spSome_64 (fun w k hk => by have := spNm_lt0 hk; omega) (y := 0) (by omega) h7
  have i8 := spClo_i h8
  cases hs
  refine ⟨by show i + 1 ≤ e1; omega, ?_⟩
  simp only [dI, dA_at, dL_1]
  refine ⟨by simpa using b1, b2, by simp, by omega, by simpa using b5, b6, fun k hk => ?_, fun k hk => ?_, fun e he => ?_, fun e f he hf => ?_, fun k hk => ?_⟩
  · rcases Nat.lt_or_ge k S with q | q
    · obtain ⟨p, hp, hv⟩ := b7 k q
      exact ⟨p, hp, by simp; rw [if_neg (by omega)]; exact hv⟩
    · exact ⟨o, i3, by simp; intro hh; omega⟩
  · rcases Nat.lt_or_ge k S with q | q
    · have := b8 k q
      simp; rw [if_neg (by omega)]; exact this
    · have : k = S := by omega
      subst this
      simp; exact i5.2
  · simpa using b9 e he
  · have := b10 e f he hf; simpa using this
  · rcases Nat.lt_or_ge k S with q | q
    · obtain ⟨p, hp, hv⟩ := b11 k q
      exact ⟨p, hp, by simp; rw [if_neg (by omega)]; exact hv⟩
    · have : k = S := by omega
      subst this
      exact ⟨y, hy, by simp; exact hwy⟩
theorem spRE_dI {t : Nat → Int32} {z P S E : Nat} {x : dS} {i : Nat} {a : Nat × dS} (hs : spRE t z P E x i = .inr a) (h : dI x P S E) : i + 1 ≤ a.1 ∧ dI a.2 P S (E + 1) := by
  unfold spRE at hs
  obtain ⟨p, h1, hs⟩ := rB_inv hs
  obtain ⟨q, h2, hs⟩ := rB_inv hs
  split at hs
  · cases hs
  rename_i hpq
  split at hs
  · cases hs
  rename_i hno
  obtain ⟨e1, h3, hs⟩ := rB_inv hs
  obtain ⟨f1, h4, hs⟩ := rB_inv hs
  have hp := spNm_lt0 (spNd_k h1)
  have hq := spNm_lt0 (spNd_k h2)
  have i3 := (spNum_i h3).1
  have i4 := spClo_i h4
  have hno : spHe0 x.1 (nI p) (nI q) E 0 = false := by
    cases e : spHe0 x.1 (nI p) (nI q) E 0 with
    | false => rfl
    | true => exact absurd e hno
  have hE := h.ear hp hq hpq hno
  have hf := spHe0_f hno
  cases hs
  refine ⟨by show i + 1 ≤ f1; omega, ?_⟩
  obtain ⟨b1, b2, b3, b4, b5, b6, b7, b8, b9, b10, b11⟩ := h
  simp only [dI, dA_at]
  refine ⟨by simpa using b1, b2, by simpa using b3, b4, by simp, by omega, fun k hk => ?_, fun k hk => ?_, fun e he => ?_, fun e f he hf' => ?_, fun k hk => ?_⟩
  · simpa using b7 k hk
  · simpa using b8 k hk
  · rcases Nat.lt_or_ge e E with r | r
    · obtain ⟨p', q', c1, c2, c3, c4, c5⟩ := b9 e r
      refine ⟨p', q', c1, c2, c3, ?_, ?_⟩
      · simp; rw [if_neg (by omega)]; exact c4
      · simp; rw [if_neg (by omega)]; exact c5
    · have : e = E := by omega
      subst this
      exact ⟨p, q, hp, hq, hpq, by simp, by simp⟩
  · simp
    rcases Nat.lt_or_ge e E with r | r
    · rcases Nat.lt_or_ge f E with r2 | r2
      · rw [if_neg (by omega), if_neg (by omega), if_neg (by omega), if_neg (by omega)]
        exact b10 e f r r2
      · have : f = E := by omega
        subst this
        rw [if_neg (by omega), if_pos rfl, if_neg (by omega), if_pos rfl]
        intro g1 g2
        exact absurd ⟨g1, g2⟩ (hf e (by omega) (by omega))
    · have : e = E := by omega
      subst this
      rcases Nat.lt_or_ge f e with r2 | r2
      · rw [if_pos rfl, if_neg (by omega), if_pos rfl, if_neg (by omega)]
        intro g1 g2
        exact absurd ⟨g1.symm, g2.symm⟩ (hf f (by omega) (by omega))
      · intro _ _; omega
  · simpa using b11 k hk
theorem spRC_dI {t : Nat → Int32} {z P S E : Nat} {x : dS} {i : Nat} {a : Nat × dS} (hs : spRC t z S x i = .inr a) (h : dI x P S E) : i + 1 ≤ a.1 ∧ dI a.2 P S E := by
  unfold spRC at hs
  obtain ⟨p, h1, hs⟩ := rB_inv hs
  obtain ⟨q, h2, hs⟩ := rB_inv hs
  split at hs
  · cases hs
  obtain ⟨f1, h4, hs⟩ := rB_inv hs
  have i4 := spClo_i h4
  cases hs
  refine ⟨by show i + 1 ≤ f1; omega, ?_⟩
  obtain ⟨b1, b2, b3, b4, b5, b6, b7, b8, b9, b10, b11⟩ := h
  simp only [dI, dA_at]
  refine ⟨by simpa using b1, b2, by simpa using b3, b4, by simpa using b5, b6, fun k hk => ?_, fun k hk => ?_, fun e he => ?_, fun e f he hf' => ?_, fun k hk => ?_⟩
  · simpa using b7 k hk
  · simpa using b8 k hk
  · simpa using b9 e he
  · have := b10 e f he hf'; simpa using this
  · simpa using b11 k hk
theorem spRW_dI {t : Nat → Int32} {z P S E : Nat} {x : dS} {i : Nat} {a : Nat × dS} (hs : spRW t z x i = .inr a) (h : dI x P S E) : i + 1 ≤ a.1 ∧ dI a.2 P S E := by
  unfold spRW at hs
  split at hs
  · cases hs
  obtain ⟨y, h1, hs⟩ := rB_inv hs
  have i1 := (auRun_i h1).1
  cases hs
  refine ⟨i1, ?_⟩
  have e : ∀ j, j = 10 ∨ j = 17 ∨ j = 19 ∨ j = 20 ∨ j = 22 ∨ j = 23 → (dA (rdX (dA x 25 1 1000) y) 26 1 (nI y.2.2.2.2.2.1)).1 j = x.1 j := by
    intro j hj
    simp only [dA, upA, rdX]
    rw [if_neg (by omega), if_neg (by omega), if_neg (by omega), if_neg (by omega), if_neg (by omega)]
  unfold dI at *
  rw [e 10 (by omega), e 17 (by omega), e 19 (by omega), e 20 (by omega), e 22 (by omega), e 23 (by omega)]
  exact h
