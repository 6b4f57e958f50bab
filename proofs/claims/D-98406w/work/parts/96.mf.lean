/-! ===== COMPONENT AF: plots, plain ===== -/
set_option maxRecDepth 100000
/-- what is found at the end of some tellings: the gap, how many, which -/
abbrev plI : Type := Int32 × Nat × (Nat → Int32)
def plM (b : Option plI) (i : plI) : Option plI := match b with
  | none => some i
  | some c => if c.1 < i.1 ∨ (i.1 = c.1 ∧ i.2.1 < c.2.1) then some i else some c
def plC (b : Option plI) (i : plI) : Option plI := match b with
  | none => some i
  | some c => if c.1 < i.1 then some i else some c
def plJ (a b : Option plI) : Option plI := match b with
  | none => a
  | some i => plC a i
theorem plC_fold (l : List plI) : ∀ a, l.foldl plC a = plJ a (l.foldl plC none) := by
  induction l with
  | nil => intro a; rfl
  | cons i l ih =>
    intro a
    show l.foldl plC (plC a i) = plJ a (l.foldl plC (plC none i))
    rw [ih (plC a i), ih (plC none i)]
    generalize l.foldl plC none = z
    cases z with
    | none => rfl
    | some z =>
      cases a with
      | none =>
        show plC (some i) z = plJ none (plC (some i) z)
        have : plC (some i) z = (if i.1 < z.1 then some z else some i) := rfl
        rw [this]
        split <;> rfl
      | some a =>
        simp only [plJ, plC]
        by_cases h1 : a.1 < i.1
        · rw [if_pos h1]
          by_cases h2 : i.1 < z.1
          · simp only [if_pos h2]; rw [if_pos (Int32.lt_trans h1 h2)]
          · simp only [if_neg h2]; rw [if_pos h1]
        · rw [if_neg h1]
          by_cases h2 : i.1 < z.1
          · simp only [if_pos h2]
          · simp only [if_neg h2]
            rw [if_neg h1, if_neg (fun h3 => h2 (Int32.lt_of_le_of_lt (Int32.not_lt.mp h1) h3))]
theorem plC_app (l m : List plI) (a : Option plI) : (l ++ m).foldl plC a = plJ (l.foldl plC a) (m.foldl plC none) := by
  rw [List.foldl_append, plC_fold]
theorem plC_mem (l : List plI) : ∀ a i, l.foldl plC a = some i → a = some i ∨ i ∈ l := by
  induction l with
  | nil => intro a i h; exact Or.inl h
  | cons j l ih =>
    intro a i h
    rcases ih (plC a j) i h with e | e
    · cases a with
      | none => simp only [plC] at e; cases e; exact Or.inr (List.mem_cons_self)
      | some a =>
        simp only [plC] at e
        split at e
        · cases e; exact Or.inr (List.mem_cons_self)
        · exact Or.inl e
    · exact Or.inr (List.mem_cons_of_mem _ e)
theorem plJ_key (X Y : Option plI) (i : plI) (hX : ∀ c, X = some c → c.2.1 ≤ i.2.1) (hY : ∀ c, Y = some c → i.2.1 < c.2.1) : plJ (plC X i) Y = plM (plJ X Y) i := by
  cases Y with
  | none =>
    cases X with
    | none => rfl
    | some c =>
      have := hX c rfl
      simp only [plJ, plC, plM]
      by_cases h1 : c.1 < i.1
      · rw [if_pos h1, if_pos (Or.inl h1)]
      · rw [if_neg h1, if_neg (fun h => by rcases h with h | h; exact h1 h; omega)]
  | some y =>
    have hy := hY y rfl
    cases X with
    | none =>
      simp only [plJ, plC, plM]
      by_cases h1 : i.1 < y.1
      · rw [if_pos h1, if_neg (fun h => by rcases h with h | h; exact Int32.lt_irrefl (Int32.lt_trans h h1); rw [h.1] at h1; exact Int32.lt_irrefl h1)]
      · rw [if_neg h1]
        rw [if_pos]
        rcases Int32.lt_or_eq_of_le (Int32.not_lt.mp h1) with h | h
        · exact Or.inl h
        · exact Or.inr ⟨h.symm, hy⟩
    | some c =>
      have hc := hX c rfl
      show plC (plC (some c) i) y = plM (plC (some c) y) i
      by_cases h1 : c.1 < y.1
      · rw [show plC (some c) y = some y from if_pos h1]
        by_cases h2 : i.1 < y.1
        · rw [show plM (some y) i = some y from if_neg (fun h => by rcases h with h | h; exact Int32.lt_irrefl (Int32.lt_trans h h2); rw [h.1] at h2; exact Int32.lt_irrefl h2)]
          by_cases h3 : c.1 < i.1
          · rw [show plC (some c) i = some i from if_pos h3]; exact if_pos h2
          · rw [show plC (some c) i = some c from if_neg h3]; exact if_pos h1
        · have hle := Int32.not_lt.mp h2
          rw [show plC (some c) i = some i from if_pos (Int32.lt_of_lt_of_le h1 hle), show plC (some i) y = some i from if_neg h2]
          refine (if_pos ?_).symm
          rcases Int32.lt_or_eq_of_le hle with h | h
          · exact Or.inl h
          · exact Or.inr ⟨h.symm, hy⟩
      · rw [show plC (some c) y = some c from if_neg h1]
        by_cases h3 : c.1 < i.1
        · rw [show plC (some c) i = some i from if_pos h3, show plM (some c) i = some i from if_pos (Or.inl h3)]
          exact if_neg (fun h => h1 (Int32.lt_trans h3 h))
        · rw [show plC (some c) i = some c from if_neg h3, show plM (some c) i = some c from if_neg (fun h => by rcases h with h | h; exact h3 h; omega)]
          exact if_neg h1
/-- those of n tellings -/
def plF (n : Nat) (l : List plI) : List plI := l.filter (fun i => decide (i.2.1 = n))
theorem plF_mem {n : Nat} {l : List plI} {i : plI} (h : i ∈ plF n l) : i.2.1 = n := by
  have := (List.mem_filter.mp h).2
  exact of_decide_eq_true this
theorem plF_sn (n : Nat) (l : List plI) (i : plI) : plF n (l ++ [i]) = plF n l ++ (if i.2.1 = n then [i] else []) := by
  simp only [plF, List.filter_append, List.filter_cons, List.filter_nil]
  by_cases h : i.2.1 = n <;> simp [h]
/-- by length then in order, taking only what is more: the same as in order, taking what is more, or as much in fewer -/
theorem pl_same (l : List plI) : (∀ i ∈ l, i.2.1 ≤ 2) → l.foldl plM none = (plF 0 l ++ plF 1 l ++ plF 2 l).foldl plC none := by
  have key : ∀ (r : List plI), (∀ i ∈ r.reverse, i.2.1 ≤ 2) → r.reverse.foldl plM none = (plF 0 r.reverse ++ plF 1 r.reverse ++ plF 2 r.reverse).foldl plC none := by
    intro r
    induction r with
    | nil => intro _; rfl
    | cons i r ih =>
      intro h
      rw [List.reverse_cons] at *
      have ih := ih (fun j hj => h j (List.mem_append_left _ hj))
      have hi := h i (List.mem_append_right _ (List.mem_singleton.mpr rfl))
      generalize r.reverse = l at *
      have mem : ∀ (m : List plI) c, m.foldl plC none = some c → c ∈ m := fun m c hc => by
        rcases plC_mem m none c hc with e | e
        · cases e
        · exact e
      rw [List.foldl_append, List.foldl_cons, List.foldl_nil, ih, plF_sn, plF_sn, plF_sn]
      have c3 : i.2.1 = 0 ∨ i.2.1 = 1 ∨ i.2.1 = 2 := by omega
      rcases c3 with e | e | e
      · rw [if_pos e, if_neg (by omega), if_neg (by omega), List.append_nil, List.append_nil]
        have e1 : (plF 0 l ++ plF 1 l ++ plF 2 l).foldl plC none = plJ ((plF 0 l).foldl plC none) ((plF 1 l ++ plF 2 l).foldl plC none) := by rw [List.append_assoc, plC_app]
        have e2 : (plF 0 l ++ [i] ++ plF 1 l ++ plF 2 l).foldl plC none = plJ (plC ((plF 0 l).foldl plC none) i) ((plF 1 l ++ plF 2 l).foldl plC none) := by
          rw [List.append_assoc, plC_app, List.foldl_append]; rfl
        rw [e1, e2]
        refine (plJ_key _ _ i (fun c hc => ?_) (fun c hc => ?_)).symm
        · have := plF_mem (mem _ c hc); omega
        · rcases List.mem_append.mp (mem _ c hc) with z | z <;> have := plF_mem z <;> omega
      · rw [if_neg (by omega), if_pos e, if_neg (by omega), List.append_nil, List.append_nil]
        have e1 : (plF 0 l ++ plF 1 l ++ plF 2 l).foldl plC none = plJ ((plF 0 l ++ plF 1 l).foldl plC none) ((plF 2 l).foldl plC none) := by rw [plC_app]
        have e2 : (plF 0 l ++ (plF 1 l ++ [i]) ++ plF 2 l).foldl plC none = plJ (plC ((plF 0 l ++ plF 1 l).foldl plC none) i) ((plF 2 l).foldl plC none) := by
          rw [plC_app, ← List.append_assoc]
          congr 1
          rw [List.foldl_append]; rfl
        rw [e1, e2]
        refine (plJ_key _ _ i (fun c hc => ?_) (fun c hc => ?_)).symm
        · rcases List.mem_append.mp (mem _ c hc) with z | z <;> have := plF_mem z <;> omega
        · have := plF_mem (mem _ c hc); omega
      · rw [if_neg (by omega), if_neg (by omega), if_pos e, List.append_nil, List.append_nil]
        have e2 : (plF 0 l ++ plF 1 l ++ (plF 2 l ++ [i])).foldl plC none = plC ((plF 0 l ++ plF 1 l ++ plF 2 l).foldl plC none) i := by
          rw [← List.append_assoc, List.foldl_append]; rfl
        rw [e2]
        have := plJ_key ((plF 0 l ++ plF 1 l ++ plF 2 l).foldl plC none) none i (fun c hc => ?_) (fun c hc => by cases hc)
        · exact this.symm
        · rcases List.mem_append.mp (mem _ c hc) with z | z
          · rcases List.mem_append.mp z with z | z <;> have := plF_mem z <;> omega
          · have := plF_mem z; omega
  intro h
  have := key l.reverse
  rw [List.reverse_reverse] at this
  exact this h
/-- whom one can tell what, in order -/
def plV (A : Nat → Nat → Int32) (P S p : Nat) : List (Nat × Nat) := (List.range P).flatMap fun to => ((List.range S).filter fun k => decide (to ≠ p) && spCan A p to k).map fun k => (to, k)
/-- the first n of a row -/
def nrm (n : Nat) (t : Nat → Int32) : Nat → Int32 := fun i => if i < n then t i else -1
theorem nrm_lt {n j : Nat} {t : Nat → Int32} (h : j < n) : nrm n t j = t j := if_pos h
theorem nrm_cg {n : Nat} {t t' : Nat → Int32} (h : ∀ i, i < n → t i = t' i) : nrm n t = nrm n t' := by
  funext i
  simp only [nrm]
  split
  · rename_i hi; exact h i hi
  · rfl
/-- what is met in order, and by length -/
def plD (w : Option gxEv) (P S p q : Nat) : Nat → (Nat → Nat → Int32) → Nat → (Nat → Int32) → List plI
  | 0, A, n, t => [(spGap w A P S p q, n, nrm n t)]
  | m + 1, A, n, t => (spGap w A P S p q, n, nrm n t) :: (plV A P S p).flatMap fun v => plD w P S p q m (setS A (spTell A p v.1 v.2)) (n + 1) (upd t n (nI (10 * v.1 + v.2)))
def plL (w : Option gxEv) (P S p q : Nat) : Nat → (Nat → Nat → Int32) → Nat → (Nat → Int32) → List plI
  | 0, A, n, t => [(spGap w A P S p q, n, nrm n t)]
  | m + 1, A, n, t => (plV A P S p).flatMap fun v => plL w P S p q m (setS A (spTell A p v.1 v.2)) (n + 1) (upd t n (nI (10 * v.1 + v.2)))
theorem plD_n (w : Option gxEv) (P S p q : Nat) : ∀ m A n t i, i ∈ plD w P S p q m A n t → n ≤ i.2.1 ∧ i.2.1 ≤ n + m
  | 0, A, n, t, i, h => by
    rw [plD, List.mem_singleton] at h
    subst h
    exact ⟨Nat.le_refl _, Nat.le_refl _⟩
  | m + 1, A, n, t, i, h => by
    rw [plD, List.mem_cons] at h
    rcases h with h | h
    · subst h; exact ⟨Nat.le_refl _, Nat.le_add_right _ _⟩
    · obtain ⟨v, _, hv⟩ := List.mem_flatMap.mp h
      have := plD_n w P S p q m _ _ _ i hv
      omega
theorem plF_D (w : Option gxEv) (P S p q : Nat) : ∀ j m A n t, j ≤ m → plF (n + j) (plD w P S p q m A n t) = plL w P S p q j A n t
  | 0, 0, A, n, t, _ => by simp [plF, plD, plL]
  | 0, m + 1, A, n, t, _ => by
    rw [plD, plL, plF, List.filter_cons, if_pos (by simp)]
    congr 1
    rw [List.filter_eq_nil_iff]
    intro i hi
    obtain ⟨v, _, hv⟩ := List.mem_flatMap.mp hi
    have := plD_n w P S p q m _ _ _ i hv
    simp only [decide_eq_true_eq]
    omega
  | j + 1, 0, A, n, t, h => by omega
  | j + 1, m + 1, A, n, t, h => by
    rw [plD, plL, plF, List.filter_cons, if_neg (by simp), List.filter_flatMap]
    congr 1
    funext v
    rw [← plF_D w P S p q j m _ _ _ (by omega), plF, show n + (j + 1) = n + 1 + j by omega]
theorem plF_D0 {w : Option gxEv} {P S p q : Nat} {m : Nat} {A : Nat → Nat → Int32} {t : Nat → Int32} {j : Nat} (h : m < j) : plF j (plD w P S p q m A 0 t) = [] := by
  rw [plF, List.filter_eq_nil_iff]
  intro i hi
  have := plD_n w P S p q m _ _ _ i hi
  simp only [decide_eq_true_eq]
  omega
theorem plL_cg (w : Option gxEv) (P S p q : Nat) : ∀ j A n (t t' : Nat → Int32), (∀ i, i < n → t i = t' i) → plL w P S p q j A n t = plL w P S p q j A n t'
  | 0, A, n, t, t', h => by rw [plL, plL, nrm_cg h]
  | j + 1, A, n, t, t', h => by
    rw [plL, plL]
    congr 1
    funext v
    refine plL_cg w P S p q j _ _ _ _ (fun i hi => ?_)
    simp only [upd]
    split
    · rfl
    · exact h i (by omega)
/-- the state of the search says what was found -/
def plR (b : Option plI) (x : Int32 × Int32 × (Nat → Int32)) : Prop := match b with
  | none => x.2.1 < 0
  | some i => x.1 = i.1 ∧ x.2.1 = nI i.2.1 ∧ i.2.1 ≤ 2 ∧ ∀ j, j < 2 → x.2.2 j = if j < i.2.1 then i.2.2 j else -1
theorem plR_0 {b : Option plI} {gap : Int32} {n : Nat} {x : plT} {t : Nat → Int32} (hn : n ≤ 2) (h : plR b x.1) (ht : ∀ j, j < n → x.2 j = t j) : plR (plM b (gap, n, t)) (spPl0 gap n x).1 := by
  have new : plR (some (gap, n, t)) (gap, nI n, upd (upd x.1.2.2 0 (if 0 < n then x.2 0 else -1)) 1 (if 1 < n then x.2 1 else -1)) := by
    refine ⟨rfl, rfl, hn, fun j hj => ?_⟩
    have : j = 0 ∨ j = 1 := by omega
    rcases this with e | e <;> subst e
    · show (if 0 < n then x.2 0 else -1) = _
      by_cases z : 0 < n
      · rw [if_pos z, if_pos z]; exact ht 0 z
      · rw [if_neg z, if_neg z]
    · show (if 1 < n then x.2 1 else -1) = _
      by_cases z : 1 < n
      · rw [if_pos z, if_pos z]; exact ht 1 z
      · rw [if_neg z, if_neg z]
  unfold spPl0
  cases b with
  | none =>
    have h0 : x.1.2.1 < 0 := h
    rw [if_pos (Or.inl h0)]
    exact new
  | some c =>
    obtain ⟨h1, h2, h3, h4⟩ := h
    have e1 : ¬ x.1.2.1 < 0 := by rw [h2]; exact nI_pos (by omega)
    have e2 : nI n < x.1.2.1 ↔ n < c.2.1 := by rw [h2]; exact nI_ltI (by omega) (by omega)
    simp only [plM]
    by_cases z : c.1 < gap ∨ (gap = c.1 ∧ n < c.2.1)
    · rw [if_pos z, if_pos]
      · exact new
      · rcases z with z | z
        · exact Or.inr (Or.inl (by rw [h1]; exact z))
        · exact Or.inr (Or.inr ⟨by rw [h1]; exact z.1, e2.mpr z.2⟩)
    · rw [if_neg z, if_neg]
      · exact ⟨h1, h2, h3, h4⟩
      · rintro (y | y | y)
        · exact e1 y
        · exact z (Or.inl (by rw [h1] at y; exact y))
        · exact z (Or.inr ⟨by rw [h1] at y; exact y.1, e2.mp y.2⟩)
theorem spPl0_t {gap : Int32} {n : Nat} {x : plT} : (spPl0 gap n x).2 = x.2 := by
  unfold spPl0; split <;> rfl
/-- the model's search, by what it meets -/
theorem spPl_D (w : Option gxEv) {P S p q : Nat} : ∀ m A n x b t, n + m ≤ 2 → plR b x.1 → (∀ j, j < n → x.2 j = t j) → plR ((plD w P S p q m A n t).foldl plM b) (spPl w P S p q m A n x).1 ∧ ∀ j, j < n → (spPl w P S p q m A n x).2 j = t j
  | 0, A, n, x, b, t, hn, hb, ht => by
    rw [spPl]
    refine ⟨plR_0 (by omega) hb (fun j hj => by rw [nrm_lt hj]; exact ht j hj), fun j hj => ?_⟩
    rw [spPl0_t]; exact ht j hj
  | m + 1, A, n, x, b, t, hn, hb, ht => by
    rw [spPl, plD, List.foldl_cons]
    have h0 := plR_0 (gap := spGap w A P S p q) (n := n) (t := nrm n t) (by omega) hb (fun j hj => by rw [nrm_lt hj]; exact ht j hj)
    have t0 : ∀ j, j < n → (spPl0 (spGap w A P S p q) n x).2 j = t j := fun j hj => by rw [spPl0_t]; exact ht j hj
    generalize spPl0 (spGap w A P S p q) n x = y0 at *
    generalize plM b (spGap w A P S p q, n, nrm n t) = b0 at *
    have hq : ∀ to b1 y, plR b1 y.1 → (∀ j, j < n → y.2 j = t j) → ∀ k, plR (((((List.range k).filter fun k => decide (to ≠ p) && spCan A p to k).map fun k => (to, k)).flatMap fun v => plD w P S p q m (setS A (spTell A p v.1 v.2)) (n + 1) (upd t n (nI (10 * v.1 + v.2)))).foldl plM b1) (spLq A p n (fun A' y => spPl w P S p q m A' (n + 1) y) to y k).1 ∧ ∀ j, j < n → (spLq A p n (fun A' y => spPl w P S p q m A' (n + 1) y) to y k).2 j = t j := by
      intro to b1 y h1 h2 k
      induction k with
      | zero => exact ⟨h1, h2⟩
      | succ k ih =>
        rw [List.range_succ, List.filter_append, List.map_append, List.flatMap_append, List.foldl_append, spLq]
        generalize (((((List.range k).filter fun k => decide (to ≠ p) && spCan A p to k).map fun k => (to, k)).flatMap fun v => plD w P S p q m (setS A (spTell A p v.1 v.2)) (n + 1) (upd t n (nI (10 * v.1 + v.2)))).foldl plM b1) = b2 at *
        generalize spLq A p n (fun A' y => spPl w P S p q m A' (n + 1) y) to y k = y2 at *
        by_cases e : to = p
        · rw [if_pos e, List.filter_cons, if_neg (by simp [e])]
          exact ih
        · rw [if_neg e]
          by_cases c : spCan A p to k = true
          · rw [if_pos c, List.filter_cons, if_pos (by simp [e, c])]
            have r := spPl_D w (P := P) (S := S) (p := p) (q := q) m (setS A (spTell A p to k)) (n + 1) (y2.1, upd y2.2 n (nI (10 * to + k))) b2 (upd t n (nI (10 * to + k))) (by omega) ih.1 (fun j hj => by
              simp only [upd]
              split
              · rfl
              · exact ih.2 j (by omega))
            refine ⟨?_, fun j hj => ?_⟩
            · simpa using r.1
            · rw [r.2 j (by omega)]
              simp only [upd]
              rw [if_neg (by omega)]
          · rw [if_neg c, List.filter_cons, if_neg (by simp [e, c])]
            exact ih
    have hw : ∀ to, plR ((((List.range to).flatMap fun to => ((List.range S).filter fun k => decide (to ≠ p) && spCan A p to k).map fun k => (to, k)).flatMap fun v => plD w P S p q m (setS A (spTell A p v.1 v.2)) (n + 1) (upd t n (nI (10 * v.1 + v.2)))).foldl plM b0) (spLw A p n S (fun A' y => spPl w P S p q m A' (n + 1) y) y0 to).1 ∧ ∀ j, j < n → (spLw A p n S (fun A' y => spPl w P S p q m A' (n + 1) y) y0 to).2 j = t j := by
      intro to
      induction to with
      | zero => exact ⟨h0, t0⟩
      | succ to ih =>
        rw [List.range_succ, List.flatMap_append, List.flatMap_append, List.foldl_append, spLw]
        have := hq to _ _ ih.1 ih.2 S
        simpa using this
    exact hw P
/-- what is found by all rows of at most lim tellings, and the component's order -/
theorem spPl_L (w : Option gxEv) {P S p q lim : Nat} (hl : lim ≤ 2) (A : Nat → Nat → Int32) (x : plT) (t : Nat → Int32) (hx : x.1.2.1 < 0) : plR (((if 0 ≤ lim then plL w P S p q 0 A 0 t else []) ++ (if 1 ≤ lim then plL w P S p q 1 A 0 t else []) ++ (if 2 ≤ lim then plL w P S p q 2 A 0 t else [])).foldl plC none) (spPl w P S p q lim A 0 x).1 := by
  have h := (spPl_D w (P := P) (S := S) (p := p) (q := q) lim A 0 x none t (by omega) hx (fun j hj => by omega)).1
  rw [pl_same _ (fun i hi => by have := plD_n w P S p q lim A 0 t i hi; omega)] at h
  have e : ∀ j, plF j (plD w P S p q lim A 0 t) = if j ≤ lim then plL w P S p q j A 0 t else [] := by
    intro j
    split
    · rename_i hj
      have := plF_D w P S p q j lim A 0 t hj
      rw [Nat.zero_add] at this
      exact this
    · exact plF_D0 (by omega)
  rw [e 0, e 1, e 2] at h
  exact h
