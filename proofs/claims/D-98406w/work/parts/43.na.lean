/-! ===== MODEL NA: plots ===== -/
set_option maxRecDepth 100000
abbrev plT : Type := (Int32 × Int32 × (Nat → Int32)) × (Nat → Int32)
def spPl0 (gap : Int32) (n : Nat) (x : plT) : plT :=
  if x.1.2.1 < 0 ∨ x.1.1 < gap ∨ (gap = x.1.1 ∧ nI n < x.1.2.1) then ((gap, nI n, upd (upd x.1.2.2 0 (if 0 < n then x.2 0 else -1)) 1 (if 1 < n then x.2 1 else -1)), x.2) else x
def spLq (A : Nat → Nat → Int32) (p n : Nat) (rec : (Nat → Nat → Int32) → plT → plT) (to : Nat) (y : plT) : Nat → plT
  | 0 => y
  | k + 1 => if to = p then spLq A p n rec to y k else (if spCan A p to k then rec (setS A (spTell A p to k)) ((spLq A p n rec to y k).1, upd (spLq A p n rec to y k).2 n (nI (10 * to + k))) else spLq A p n rec to y k)
def spLw (A : Nat → Nat → Int32) (p n S : Nat) (rec : (Nat → Nat → Int32) → plT → plT) (y : plT) : Nat → plT
  | 0 => y
  | to + 1 => spLq A p n rec to (spLw A p n S rec y to) S
def spGap (w : Option gxEv) (A : Nat → Nat → Int32) (P S p q : Nat) : Int32 := spWs w A P (spKnown A (nI p) S) S - spWs w A P (spKnown A (nI q) S) S
def spPl (w : Option gxEv) (P S p q : Nat) : Nat → (Nat → Nat → Int32) → Nat → plT → plT
  | 0, A, n, x => spPl0 (spGap w A P S p q) n x
  | m + 1, A, n, x => spLw A p n S (fun A' y => spPl w P S p q m A' (n + 1) y) (spPl0 (spGap w A P S p q) n x) P
def plS (σ : mS) (x : plT) (ρ : mS) : Prop := sE (mI (mI σ 60 x.1.1) 61 x.1.2.1) ρ ∧ ρ.2.2.1 58 = x.2 ∧ ρ.2.2.1 59 = x.1.2.2
def plX (σ : mS) : plT := ((σ.1 60, σ.1 61, σ.2.2.1 59), σ.2.2.1 58)
theorem plS.rf (σ : mS) : plS σ (plX σ) σ := by
  refine ⟨⟨?_, rfl, rfl, fun _ _ => rfl⟩, rfl, rfl⟩
  funext z
  by_cases h0 : z = 60 <;> by_cases h1 : z = 61 <;> simp [mI, upd, plX, h0, h1]
theorem plS.x60 {σ ρ : mS} {x : plT} (h : plS σ x ρ) : ρ.1 60 = x.1.1 := by rw [h.1.1]; simp [mI, upd]
theorem plS.x61 {σ ρ : mS} {x : plT} (h : plS σ x ρ) : ρ.1 61 = x.1.2.1 := by rw [h.1.1]; simp [mI, upd]
theorem plS.X {σ ρ : mS} {x : plT} (h : plS σ x ρ) : plX ρ = x := by
  rw [plX, h.x60, h.x61, h.2.1, h.2.2]
theorem plS.A {σ ρ : mS} {x : plT} (h : plS σ x ρ) {j : Nat} (hj : scr j = false) : ρ.2.2.1 j = σ.2.2.1 j := h.1.2.2.2 j hj
theorem plS.T {σ ρ : mS} {x : plT} {P S E : Nat} {w : Option gxEv} (h : plS σ x ρ) (hT : mT σ.2.2.1 P S E w) : mT ρ.2.2.1 P S E w := h.1.T (σ := mI (mI σ 60 x.1.1) 61 x.1.2.1) hT
theorem plS.wS {σ ρ ρ' : mS} {x : plT} (h : plS σ x ρ) (h2 : wS ρ ρ') : plS σ x ρ' := ⟨h.1.tr h2.sE, by rw [h2.A (by omega)]; exact h.2.1, by rw [h2.A (by omega)]; exact h.2.2⟩
/-- after a deeper part that began at ρ with another row, the row put back -/
theorem plS.tr {σ ρ : mS} {x y : plT} (h : plS σ x ρ) {ρ' : mS} (h2 : plS ρ y ρ') : plS σ y ρ' := by
  refine ⟨⟨?_, h2.1.2.1.trans h.1.2.1, h2.1.2.2.1.trans h.1.2.2.1, fun j hj => (h2.A hj).trans (h.A hj)⟩, h2.2.1, h2.2.2⟩
  rw [h2.1.1]
  show upd (upd ρ.1 60 y.1.1) 61 y.1.2.1 = upd (upd σ.1 60 y.1.1) 61 y.1.2.1
  rw [h.1.1]
  funext z
  by_cases h0 : z = 60 <;> by_cases h1 : z = 61 <;> simp [mI, upd, h0, h1]
