/-! ===== MODEL Z: plots (under way) ===== -/
set_option maxRecDepth 100000
theorem m1_bit : ∀ i, i < 32 → ((-1 : Int32).toBitVec).getLsbD i = true := by decide +kernel
theorem sh_bit : ∀ q, q < 6 → ∀ i, i < 32 → ((1 : Int32) <<< (nI q &&& 31)).toBitVec.getLsbD i = decide (i = q) := by decide +kernel
theorem one_bit : ((1 : Int32).toBitVec).getLsbD 0 = true := by decide +kernel
theorem bit_clr (x : Int32) {q : Nat} (hq : q < 6) (h : (x >>> (nI q &&& 31)) &&& 1 = 0) : x &&& ((1 : Int32) <<< (nI q &&& 31)) = 0 := by
  have h' := congrArg (fun z => z.toBitVec.getLsbD 0) h
  simp only [Int32.toBitVec_and, BitVec.getLsbD_and, one_bit, Bool.and_true] at h'
  have e : (x >>> (nI q &&& 31)).toBitVec.getLsbD 0 = x.toBitVec.getLsbD q := by
    rw [Int32.toBitVec_shiftRight]
    show (x.toBitVec.sshiftRight ((nI q &&& 31).toBitVec.smod 32).toNat).getLsbD 0 = _
    rw [sh_lt q (by omega), BitVec.getLsbD_sshiftRight]
    simp
    intro; omega
  rw [e] at h'
  have hq0 : x.toBitVec.getLsbD q = false := h'
  apply Int32.toBitVec_inj.mp
  rw [Int32.toBitVec_and]
  apply BitVec.eq_of_getLsbD_eq
  intro i hi
  rw [BitVec.getLsbD_and, sh_bit q hq i hi]
  by_cases hiq : i = q
  · rw [hiq, hq0]; simp
  · rw [decide_eq_false hiq, Bool.and_false]; simp
theorem bit_back (x m : Int32) (h : x &&& m = 0) : (x ||| m) &&& (m ^^^ -1) = x := by
  apply Int32.toBitVec_inj.mp
  have h' : x.toBitVec &&& m.toBitVec = 0#32 := by
    have := congrArg Int32.toBitVec h
    rwa [Int32.toBitVec_and] at this
  rw [Int32.toBitVec_and, Int32.toBitVec_or, Int32.toBitVec_xor]
  apply BitVec.eq_of_getLsbD_eq
  intro i hi
  have hb := congrArg (fun z => z.getLsbD i) h'
  simp only [BitVec.getLsbD_and, BitVec.getLsbD_zero] at hb
  rw [BitVec.getLsbD_and, BitVec.getLsbD_or, BitVec.getLsbD_xor]
  rw [m1_bit i hi]
  revert hb
  cases x.toBitVec.getLsbD i <;> cases m.toBitVec.getLsbD i <;> simp
theorem tell_back {A : Nat → Nat → Int32} {p q k : Nat} (hp : p < 6) (hq : q < 6) (hk : k < 10) (hpq : p ≠ q) (h : (A 50 k >>> (nI q &&& 31)) &&& 1 = 0) : upd (upd (upd (upd (spTell A p q k) 76 (A 50 76)) (10 + 10 * p + k) (A 50 (10 + 10 * p + k))) (10 + 10 * q + k) (A 50 (10 + 10 * q + k))) k (spTell A p q k k &&& ((1 <<< (nI q &&& 31)) ^^^ -1)) = A 50 := by
  have hk0 : spTell A p q k k = A 50 k ||| (1 <<< (nI q &&& 31)) := by
    simp only [spTell]
    split <;> simp only [upd] <;> (repeat rw [if_neg (by omega)]) <;> rw [if_pos True.intro]
  rw [hk0, bit_back _ _ (bit_clr _ hq h)]
  funext z
  by_cases z0 : z = k
  · simp [upd, z0]
  · by_cases z1 : z = 10 + 10 * q + k
    · simp only [upd]; rw [if_neg z0, if_pos z1, z1]
    · by_cases z2 : z = 10 + 10 * p + k
      · simp only [upd]; rw [if_neg z0, if_neg z1, if_pos z2, z2]
      · by_cases z3 : z = 76
        · simp only [upd]; rw [if_neg z0, if_neg z1, if_neg z2, if_pos z3, z3]
        · simp only [upd]; rw [if_neg z0, if_neg z1, if_neg z2, if_neg z3]
          simp only [spTell]
          split <;> simp only [upd]
          · rw [if_neg z3, if_neg z1, if_neg z2, if_neg z0]
          · rw [if_neg z1, if_neg z2, if_neg z0]
