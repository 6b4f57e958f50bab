/-! ===== COMPONENT A: lists, small static methods ===== -/
set_option maxRecDepth 100000
/-- a list at a: n elements -/
def gxLs (h : gxH) (a n : Nat) (f : Nat → Nat) : Prop := ∃ (mc : Int32) (e c : Nat) (g : Nat → Option Nat), h.1 a = some (.inr (32, [.int mc, .ref e, .int (nI n)])) ∧ h.1 e = some (gxq 3 c g) ∧ n ≤ c ∧ c < 2 ^ 31 ∧ ∀ k, k < n → g k = some (f k)
section LA
variable {G : gxG} {d : Nat} {h : gxH}
theorem c_size {a n : Nat} {f : Nat → Nat} (hl : gxLs h a n f) : gxM G mJ2_size d 0 0 [.ref a] h (gxQi (fun r h' => r = nI n ∧ h' = h)) := by
  obtain ⟨mc, e, c, g, ha, he, hn, hc, hg⟩ := hl
  refine gxM_ofF (by decide +kernel) (Nat.le_of_ble_eq_true rfl) rfl ?_
  refine gx_aload_n (pc := 0) dJ2_size_0 rfl ?_
  refine gx_get (pc := 1) fJ2_48 ha rfl dJ2_size_1 ?_
  exact gx_ireturn (pc := 4) rfl dJ2_size_4 (⟨_, rfl, ⟨rfl, rfl⟩⟩)
theorem c_elementData {a n : Nat} {f : Nat → Nat} (hl : gxLs h a n f) (k : Nat) (hk : k < n) : gxM G mJ2_elementData d 0 0 [.ref a, .int (nI k)] h (gxQr (fun r h' => r = f k ∧ h' = h)) := by
  obtain ⟨mc, e, c, g, ha, he, hn, hc, hg⟩ := hl
  refine gxM_ofF (by decide +kernel) (Nat.le_of_ble_eq_true rfl) rfl ?_
  refine gx_aload_n (pc := 0) dJ2_elementData_0 rfl ?_
  refine gx_get (pc := 1) fJ2_9 ha rfl dJ2_elementData_1 ?_
  refine gx_iload_n (pc := 4) dJ2_elementData_4 rfl ?_
  refine gx_aald (pc := 5) (k) he (fun _ => rfl) (by first | rfl | simp only [gx_lit, nI_add, pk_mul]) (by omega) (hc) dJ2_elementData_5 ?_
  rw [hg k hk]
  exact gx_areturn (pc := 6) rfl (Or.inl ⟨_, rfl⟩) (Or.inr ⟨_, rfl⟩) dJ2_elementData_6 (⟨_, rfl, ⟨rfl, rfl⟩⟩)
theorem c_checkIndex4 {k n : Nat} (hk : k < n) (hn : n < 2 ^ 31) : gxM G mJ4_checkIndex d 0 0 [.int (nI k), .int (nI n), .null] h (gxQi (fun r h' => h' = h)) := by
  refine gxM_ofF (by decide +kernel) (Nat.le_of_ble_eq_true rfl) rfl ?_
  refine gx_iload_n (pc := 0) dJ4_checkIndex_0 rfl ?_
  refine gx_if_lt (pc := 1) 9 dJ4_checkIndex_1 (by decide) (fun c1 => ?_) (fun c1 => ?_)
  · exact absurd c1 (nI_pos (by omega))
  · refine gx_iload_n (pc := 4) dJ4_checkIndex_4 rfl ?_
    refine gx_iload_n (pc := 5) dJ4_checkIndex_5 rfl ?_
    refine gx_icmp_lt (pc := 6) 16 dJ4_checkIndex_6 (by decide) (fun c2 => ?_) (fun c2 => ?_)
    · refine gx_iload_n (pc := 16) dJ4_checkIndex_16 rfl ?_
      exact gx_ireturn (pc := 17) rfl dJ4_checkIndex_17 (⟨_, rfl, rfl⟩)
    · exact absurd (nI_lt hk hn) c2
theorem c_checkIndex {k n : Nat} (hd : 1 ≤ d) (hk : k < n) (hn : n < 2 ^ 31) : gxM G mJ3_checkIndex d 0 0 [.int (nI k), .int (nI n)] h (gxQi (fun r h' => h' = h)) := by
  refine gxM_ofF (by decide +kernel) (Nat.le_of_ble_eq_true rfl) rfl ?_
  refine gx_iload_n (pc := 0) dJ3_checkIndex_0 rfl ?_
  refine gx_iload_n (pc := 1) dJ3_checkIndex_1 rfl ?_
  refine gx_null (pc := 2) dJ3_checkIndex_2 ?_
  refine kJ3_105 (kc := 0) (ks := 0) (mc := 0) (ms := 0) (pc := 3) rfl (c_checkIndex4 (d := d - 1) hk hn) (by omega) (Nat.le_of_ble_eq_true rfl) dJ3_checkIndex_3 (fun r h1 e1 => ?_)
  subst e1
  exact gx_ireturn (pc := 6) rfl dJ3_checkIndex_6 (⟨_, rfl, rfl⟩)
theorem c_get {a n : Nat} {f : Nat → Nat} (hd : 2 ≤ d) (hl : gxLs h a n f) (k : Nat) (hk : k < n) : gxM G mJ2_get d 0 0 [.ref a, .int (nI k)] h (gxQr (fun r h' => r = f k ∧ h' = h)) := by
  have hl0 := hl
  obtain ⟨mc, e, c, g, ha, he, hn, hc, hg⟩ := hl
  refine gxM_ofF (by decide +kernel) (Nat.le_of_ble_eq_true rfl) rfl ?_
  refine gx_iload_n (pc := 0) dJ2_get_0 rfl ?_
  refine gx_aload_n (pc := 1) dJ2_get_1 rfl ?_
  refine gx_get (pc := 2) fJ2_48 ha rfl dJ2_get_2 ?_
  refine kJ2_118 (kc := 0) (ks := 0) (mc := 0) (ms := 0) (pc := 5) rfl (c_checkIndex (d := d - 1) (by omega) hk (by omega)) (by omega) (Nat.le_of_ble_eq_true rfl) dJ2_get_5 (fun r1 h1 e1 => ?_)
  subst e1
  refine gx_pop (pc := 8) dJ2_get_8 rfl ?_
  refine gx_aload_n (pc := 9) dJ2_get_9 rfl ?_
  refine gx_iload_n (pc := 10) dJ2_get_10 rfl ?_
  refine kJ2_123 (kc := 0) (ks := 0) (mc := 0) (ms := 0) (pc := 11) rfl (c_elementData (d := d - 1) hl0 k hk) (gxRc.of rfl ha) (by omega) (Nat.le_of_ble_eq_true rfl) dJ2_get_11 (fun r2 h2 e2 => ?_)
  obtain ⟨rfl, e3⟩ := e2
  subst e3
  exact gx_areturn (pc := 14) rfl (Or.inl ⟨_, rfl⟩) (Or.inr ⟨_, rfl⟩) dJ2_get_14 (⟨_, rfl, ⟨rfl, rfl⟩⟩)
theorem c_isEmpty {a n : Nat} {f : Nat → Nat} (hl : gxLs h a n f) : gxM G mJ2_isEmpty d 0 0 [.ref a] h (gxQi (fun r h' => r = zi (decide (n = 0)) ∧ h' = h)) := by
  obtain ⟨mc, e, c, g, ha, he, hn, hc, hg⟩ := hl
  refine gxM_ofF (by decide +kernel) (Nat.le_of_ble_eq_true rfl) rfl ?_
  refine gx_aload_n (pc := 0) dJ2_isEmpty_0 rfl ?_
  refine gx_get (pc := 1) fJ2_48 ha rfl dJ2_isEmpty_1 ?_
  refine gx_if_ne (pc := 4) 11 dJ2_isEmpty_4 (by decide) (fun c1 => ?_) (fun c1 => ?_)
  · have : ¬ n = 0 := fun e => c1 (by rw [e]; rfl)
    refine gx_iconst (pc := 11) (v := 0) dJ2_isEmpty_11 (by decide) ?_
    exact gx_zreturn (pc := 12) rfl (by decide) dJ2_isEmpty_12 (⟨_, rfl, ⟨by rw [decide_eq_false this]; rfl, rfl⟩⟩)
  · have : n = 0 := (nI_eq (b := 0) (by omega) (by decide)).mp c1
    refine gx_iconst (pc := 7) (v := 1) dJ2_isEmpty_7 (by decide) ?_
    refine gx_goto (pc := 8) 12 dJ2_isEmpty_8 (by decide) ?_
    exact gx_zreturn (pc := 12) rfl (by decide) dJ2_isEmpty_12 (⟨_, rfl, ⟨by rw [decide_eq_true this]; rfl, rfl⟩⟩)
theorem c_has (x k : Int32) : gxM G mX1_has d 0 0 [.int x, .int k] h (gxQi (fun r h' => r = zi (hs x k) ∧ h' = h)) := by
  refine gxM_of rfl (Nat.le_of_ble_eq_true rfl) rfl ?_
  refine gx_iload_n (pc := 0) dX1_has_0 rfl ?_
  refine gx_iload_n (pc := 1) dX1_has_1 rfl ?_
  refine gx_ishr (pc := 2) dX1_has_2 ?_
  refine gx_iconst (pc := 3) (v := 1) dX1_has_3 (by decide) ?_
  refine gx_iand (pc := 4) dX1_has_4 ?_
  refine gx_iconst (pc := 5) (v := 1) dX1_has_5 (by decide) ?_
  refine gx_icmp_ne (pc := 6) 13 dX1_has_6 (by decide) (fun c1 => ?_) (fun c1 => ?_)
  · refine gx_iconst (pc := 13) (v := 0) dX1_has_13 (by decide) ?_
    exact gx_zreturn (pc := 14) rfl (by decide) dX1_has_14 (⟨_, rfl, ⟨by rw [hs, decide_eq_false c1]; rfl, rfl⟩⟩)
  · refine gx_iconst (pc := 9) (v := 1) dX1_has_9 (by decide) ?_
    refine gx_goto (pc := 10) 14 dX1_has_10 (by decide) ?_
    exact gx_zreturn (pc := 14) rfl (by decide) dX1_has_14 (⟨_, rfl, ⟨by rw [hs, decide_eq_true (show (x >>> (k &&& 31)) &&& 1 = 1 from c1)]; rfl, rfl⟩⟩)
theorem c_Xwithin (v lo hi : Int32) : gxM G mX1_within d 0 0 [.int v, .int lo, .int hi] h (gxQi (fun r h' => r = zi (decide (lo ≤ v) && decide (v ≤ hi)) ∧ h' = h)) := by
  refine gxM_of rfl (Nat.le_of_ble_eq_true rfl) rfl ?_
  refine gx_iload_n (pc := 0) dX1_within_0 rfl ?_
  refine gx_iload_n (pc := 1) dX1_within_1 rfl ?_
  refine gx_icmp_lt (pc := 2) 14 dX1_within_2 (by decide) (fun c1 => ?_) (fun c1 => ?_)
  · refine gx_iconst (pc := 14) (v := 0) dX1_within_14 (by decide) ?_
    exact gx_zreturn (pc := 15) rfl (by decide) dX1_within_15 (⟨_, rfl, ⟨by rw [decide_eq_false (Int32.not_le.mpr c1)]; rfl, rfl⟩⟩)
  · refine gx_iload_n (pc := 5) dX1_within_5 rfl ?_
    refine gx_iload_n (pc := 6) dX1_within_6 rfl ?_
    refine gx_icmp_gt (pc := 7) 14 dX1_within_7 (by decide) (fun c2 => ?_) (fun c2 => ?_)
    · refine gx_iconst (pc := 14) (v := 0) dX1_within_14 (by decide) ?_
      exact gx_zreturn (pc := 15) rfl (by decide) dX1_within_15 (⟨_, rfl, ⟨by rw [decide_eq_false (Int32.not_le.mpr c2), Bool.and_false]; rfl, rfl⟩⟩)
    · refine gx_iconst (pc := 10) (v := 1) dX1_within_10 (by decide) ?_
      refine gx_goto (pc := 11) 15 dX1_within_11 (by decide) ?_
      exact gx_zreturn (pc := 15) rfl (by decide) dX1_within_15 (⟨_, rfl, ⟨by rw [decide_eq_true (Int32.not_lt.mp c1), decide_eq_true (Int32.not_lt.mp c2)]; rfl, rfl⟩⟩)
theorem c_Jmax (x y : Int32) : gxM G mJ7_max d 0 0 [.int x, .int y] h (gxQi (fun r h' => r = (if x < y then y else x) ∧ h' = h)) := by
  refine gxM_ofF (by decide +kernel) (Nat.le_of_ble_eq_true rfl) rfl ?_
  refine gx_iload_n (pc := 0) dJ7_max_0 rfl ?_
  refine gx_iload_n (pc := 1) dJ7_max_1 rfl ?_
  refine gx_icmp_lt (pc := 2) 9 dJ7_max_2 (by decide) (fun c1 => ?_) (fun c1 => ?_)
  · refine gx_iload_n (pc := 9) dJ7_max_9 rfl ?_
    exact gx_ireturn (pc := 10) rfl dJ7_max_10 (⟨_, rfl, ⟨by rw [if_pos c1], rfl⟩⟩)
  · refine gx_iload_n (pc := 5) dJ7_max_5 rfl ?_
    refine gx_goto (pc := 6) 10 dJ7_max_6 (by decide) ?_
    exact gx_ireturn (pc := 10) rfl dJ7_max_10 (⟨_, rfl, ⟨by rw [if_neg c1], rfl⟩⟩)
theorem c_Jmin (x y : Int32) : gxM G mJ7_min d 0 0 [.int x, .int y] h (gxQi (fun r h' => r = (if y < x then y else x) ∧ h' = h)) := by
  refine gxM_ofF (by decide +kernel) (Nat.le_of_ble_eq_true rfl) rfl ?_
  refine gx_iload_n (pc := 0) dJ7_min_0 rfl ?_
  refine gx_iload_n (pc := 1) dJ7_min_1 rfl ?_
  refine gx_icmp_gt (pc := 2) 9 dJ7_min_2 (by decide) (fun c1 => ?_) (fun c1 => ?_)
  · refine gx_iload_n (pc := 9) dJ7_min_9 rfl ?_
    exact gx_ireturn (pc := 10) rfl dJ7_min_10 (⟨_, rfl, ⟨by rw [if_pos c1], rfl⟩⟩)
  · refine gx_iload_n (pc := 5) dJ7_min_5 rfl ?_
    refine gx_goto (pc := 6) 10 dJ7_min_6 (by decide) ?_
    exact gx_ireturn (pc := 10) rfl dJ7_min_10 (⟨_, rfl, ⟨by rw [if_neg c1], rfl⟩⟩)
end LA
