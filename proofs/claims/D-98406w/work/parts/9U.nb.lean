/-! ===== COMPONENT BB: people ===== -/
set_option maxRecDepth 100000
section MBB0
variable {G : gxG} {d : Nat} {h : gxH}
theorem c_pi0 (hd : 1 ≤ d) {a : Nat} (na : gxN G ≤ a) (ha : h.1 a = some (.inr (11, [.int 0, .int 0]))) (u v : Int32) : gxM G mX12_init d 0 0 [.ref a, .int u, .int v] h (gxQv (fun h' => h'.2 = h.2 ∧ h'.1 a = some (.inr (11, [.int u, .int v])) ∧ ∀ q, q ≠ a → h'.1 q = h.1 q)) := by
  refine gxM_of rfl (Nat.le_of_ble_eq_true rfl) rfl ?_
  refine gx_aload_n (pc := 0) dX12_init_0 rfl ?_
  refine gx_objInit (pc := 1) q966 q192 q193 (Nat.le_of_ble_eq_true rfl) (by omega) dX12_init_1 ?_
  refine gx_aload_n (pc := 4) dX12_init_4 rfl ?_
  refine gx_iload_n (pc := 5) dX12_init_5 rfl ?_
  refine gx_putF (pc := 6) fX12_7_X12 rfl (by intro C T N e; cases e; rfl) ha na (by first | exact Nat.le_of_ble_eq_true rfl | simp) tX12_0 rfl rfl dX12_init_6 ?_
  have e1 : (gxup h a (.inr (11, [.int u, .int 0]))).1 a = some (.inr (11, [.int u, .int 0])) := gxup_self _ _ _
  have f1 : ∀ q, q ≠ a → (gxup h a (.inr (11, [.int u, .int 0]))).1 q = h.1 q := fun q hq => gxup_ne hq
  have s1 : (gxup h a (.inr (11, [.int u, .int 0]))).2 = h.2 := rfl
  change gxV _ _ _ _ _ _ _ _ (gxup h a (.inr (11, [.int u, .int 0]))) _
  generalize gxup h a (.inr (11, [.int u, .int 0])) = h1 at *
  have ha := e1
  refine gx_aload_n (pc := 9) dX12_init_9 rfl ?_
  refine gx_iload_n (pc := 10) dX12_init_10 rfl ?_
  refine gx_putF (pc := 11) fX12_13_X12 rfl (by intro C T N e; cases e; rfl) ha na (by first | exact Nat.le_of_ble_eq_true rfl | simp) tX12_1 rfl rfl dX12_init_11 ?_
  exact gx_return (pc := 14) rfl dX12_init_14 (⟨rfl, ⟨s1, gxup_self _ _ _, fun q hq => by rw [gxup_ne hq]; exact f1 q hq⟩⟩)
theorem c_pi1 (hd : 1 ≤ d) {a : Nat} (na : gxN G ≤ a) (ha : h.1 a = some (.inr (12, [.int 0, .int 0]))) (u v : Int32) : gxM G mX12_init d 0 0 [.ref a, .int u, .int v] h (gxQv (fun h' => h'.2 = h.2 ∧ h'.1 a = some (.inr (12, [.int u, .int v])) ∧ ∀ q, q ≠ a → h'.1 q = h.1 q)) := by
  refine gxM_of rfl (Nat.le_of_ble_eq_true rfl) rfl ?_
  refine gx_aload_n (pc := 0) dX12_init_0 rfl ?_
  refine gx_objInit (pc := 1) q966 q192 q193 (Nat.le_of_ble_eq_true rfl) (by omega) dX12_init_1 ?_
  refine gx_aload_n (pc := 4) dX12_init_4 rfl ?_
  refine gx_iload_n (pc := 5) dX12_init_5 rfl ?_
  refine gx_putF (pc := 6) fX12_7_X13 rfl (by intro C T N e; cases e; rfl) ha na (by first | exact Nat.le_of_ble_eq_true rfl | simp) tX13_0 rfl rfl dX12_init_6 ?_
  have e1 : (gxup h a (.inr (12, [.int u, .int 0]))).1 a = some (.inr (12, [.int u, .int 0])) := gxup_self _ _ _
  have f1 : ∀ q, q ≠ a → (gxup h a (.inr (12, [.int u, .int 0]))).1 q = h.1 q := fun q hq => gxup_ne hq
  have s1 : (gxup h a (.inr (12, [.int u, .int 0]))).2 = h.2 := rfl
  change gxV _ _ _ _ _ _ _ _ (gxup h a (.inr (12, [.int u, .int 0]))) _
  generalize gxup h a (.inr (12, [.int u, .int 0])) = h1 at *
  have ha := e1
  refine gx_aload_n (pc := 9) dX12_init_9 rfl ?_
  refine gx_iload_n (pc := 10) dX12_init_10 rfl ?_
  refine gx_putF (pc := 11) fX12_13_X13 rfl (by intro C T N e; cases e; rfl) ha na (by first | exact Nat.le_of_ble_eq_true rfl | simp) tX13_1 rfl rfl dX12_init_11 ?_
  exact gx_return (pc := 14) rfl dX12_init_14 (⟨rfl, ⟨s1, gxup_self _ _ _, fun q hq => by rw [gxup_ne hq]; exact f1 q hq⟩⟩)
theorem c_pi2 (hd : 1 ≤ d) {a : Nat} (na : gxN G ≤ a) (ha : h.1 a = some (.inr (13, [.int 0, .int 0]))) (u v : Int32) : gxM G mX12_init d 0 0 [.ref a, .int u, .int v] h (gxQv (fun h' => h'.2 = h.2 ∧ h'.1 a = some (.inr (13, [.int u, .int v])) ∧ ∀ q, q ≠ a → h'.1 q = h.1 q)) := by
  refine gxM_of rfl (Nat.le_of_ble_eq_true rfl) rfl ?_
  refine gx_aload_n (pc := 0) dX12_init_0 rfl ?_
  refine gx_objInit (pc := 1) q966 q192 q193 (Nat.le_of_ble_eq_true rfl) (by omega) dX12_init_1 ?_
  refine gx_aload_n (pc := 4) dX12_init_4 rfl ?_
  refine gx_iload_n (pc := 5) dX12_init_5 rfl ?_
  refine gx_putF (pc := 6) fX12_7_X14 rfl (by intro C T N e; cases e; rfl) ha na (by first | exact Nat.le_of_ble_eq_true rfl | simp) tX14_0 rfl rfl dX12_init_6 ?_
  have e1 : (gxup h a (.inr (13, [.int u, .int 0]))).1 a = some (.inr (13, [.int u, .int 0])) := gxup_self _ _ _
  have f1 : ∀ q, q ≠ a → (gxup h a (.inr (13, [.int u, .int 0]))).1 q = h.1 q := fun q hq => gxup_ne hq
  have s1 : (gxup h a (.inr (13, [.int u, .int 0]))).2 = h.2 := rfl
  change gxV _ _ _ _ _ _ _ _ (gxup h a (.inr (13, [.int u, .int 0]))) _
  generalize gxup h a (.inr (13, [.int u, .int 0])) = h1 at *
  have ha := e1
  refine gx_aload_n (pc := 9) dX12_init_9 rfl ?_
  refine gx_iload_n (pc := 10) dX12_init_10 rfl ?_
  refine gx_putF (pc := 11) fX12_13_X14 rfl (by intro C T N e; cases e; rfl) ha na (by first | exact Nat.le_of_ble_eq_true rfl | simp) tX14_1 rfl rfl dX12_init_11 ?_
  exact gx_return (pc := 14) rfl dX12_init_14 (⟨rfl, ⟨s1, gxup_self _ _ _, fun q hq => by rw [gxup_ne hq]; exact f1 q hq⟩⟩)
theorem c_pi3 (hd : 1 ≤ d) {a : Nat} (na : gxN G ≤ a) (ha : h.1 a = some (.inr (14, [.int 0, .int 0]))) (u v : Int32) : gxM G mX12_init d 0 0 [.ref a, .int u, .int v] h (gxQv (fun h' => h'.2 = h.2 ∧ h'.1 a = some (.inr (14, [.int u, .int v])) ∧ ∀ q, q ≠ a → h'.1 q = h.1 q)) := by
  refine gxM_of rfl (Nat.le_of_ble_eq_true rfl) rfl ?_
  refine gx_aload_n (pc := 0) dX12_init_0 rfl ?_
  refine gx_objInit (pc := 1) q966 q192 q193 (Nat.le_of_ble_eq_true rfl) (by omega) dX12_init_1 ?_
  refine gx_aload_n (pc := 4) dX12_init_4 rfl ?_
  refine gx_iload_n (pc := 5) dX12_init_5 rfl ?_
  refine gx_putF (pc := 6) fX12_7_X15 rfl (by intro C T N e; cases e; rfl) ha na (by first | exact Nat.le_of_ble_eq_true rfl | simp) tX15_0 rfl rfl dX12_init_6 ?_
  have e1 : (gxup h a (.inr (14, [.int u, .int 0]))).1 a = some (.inr (14, [.int u, .int 0])) := gxup_self _ _ _
  have f1 : ∀ q, q ≠ a → (gxup h a (.inr (14, [.int u, .int 0]))).1 q = h.1 q := fun q hq => gxup_ne hq
  have s1 : (gxup h a (.inr (14, [.int u, .int 0]))).2 = h.2 := rfl
  change gxV _ _ _ _ _ _ _ _ (gxup h a (.inr (14, [.int u, .int 0]))) _
  generalize gxup h a (.inr (14, [.int u, .int 0])) = h1 at *
  have ha := e1
  refine gx_aload_n (pc := 9) dX12_init_9 rfl ?_
  refine gx_iload_n (pc := 10) dX12_init_10 rfl ?_
  refine gx_putF (pc := 11) fX12_13_X15 rfl (by intro C T N e; cases e; rfl) ha na (by first | exact Nat.le_of_ble_eq_true rfl | simp) tX15_1 rfl rfl dX12_init_11 ?_
  exact gx_return (pc := 14) rfl dX12_init_14 (⟨rfl, ⟨s1, gxup_self _ _ _, fun q hq => by rw [gxup_ne hq]; exact f1 q hq⟩⟩)
theorem c_pj1 (hd : 3 ≤ d) {a : Nat} (na : gxN G ≤ a) (ha : h.1 a = some (.inr (12, [.int 0, .int 0]))) (u v : Int32) : gxM G mX13_init d 0 0 [.ref a, .int u, .int v] h (gxQv (fun h' => h'.2 = h.2 ∧ h'.1 a = some (.inr (12, [.int u, .int v])) ∧ ∀ q, q ≠ a → h'.1 q = h.1 q)) := by
  refine gxM_of rfl (Nat.le_of_ble_eq_true rfl) rfl ?_
  refine gx_aload_n (pc := 0) dX13_init_0 rfl ?_
  refine gx_iload_n (pc := 1) dX13_init_1 rfl ?_
  refine gx_iload_n (pc := 2) dX13_init_2 rfl ?_
  refine kX13_1 (kc := 0) (ks := 0) (mc := 0) (ms := 0) (pc := 3) rfl (c_pi1 (d := d - 1) (by omega) na ha u v) (by omega) (Nat.le_of_ble_eq_true rfl) dX13_init_3 (fun h1 e1 => ?_)
  exact gx_return (pc := 6) rfl dX13_init_6 (⟨rfl, e1⟩)
theorem c_pj2 (hd : 3 ≤ d) {a : Nat} (na : gxN G ≤ a) (ha : h.1 a = some (.inr (13, [.int 0, .int 0]))) (u v : Int32) : gxM G mX14_init d 0 0 [.ref a, .int u, .int v] h (gxQv (fun h' => h'.2 = h.2 ∧ h'.1 a = some (.inr (13, [.int u, .int v])) ∧ ∀ q, q ≠ a → h'.1 q = h.1 q)) := by
  refine gxM_of rfl (Nat.le_of_ble_eq_true rfl) rfl ?_
  refine gx_aload_n (pc := 0) dX14_init_0 rfl ?_
  refine gx_iload_n (pc := 1) dX14_init_1 rfl ?_
  refine gx_iload_n (pc := 2) dX14_init_2 rfl ?_
  refine kX14_1 (kc := 0) (ks := 0) (mc := 0) (ms := 0) (pc := 3) rfl (c_pi2 (d := d - 1) (by omega) na ha u v) (by omega) (Nat.le_of_ble_eq_true rfl) dX14_init_3 (fun h1 e1 => ?_)
  exact gx_return (pc := 6) rfl dX14_init_6 (⟨rfl, e1⟩)
theorem c_pk3 (hd : 3 ≤ d) {a : Nat} (na : gxN G ≤ a) (ha : h.1 a = some (.inr (14, [.int 0, .int 0]))) (u v : Int32) : gxM G mX14_init d 0 0 [.ref a, .int u, .int v] h (gxQv (fun h' => h'.2 = h.2 ∧ h'.1 a = some (.inr (14, [.int u, .int v])) ∧ ∀ q, q ≠ a → h'.1 q = h.1 q)) := by
  refine gxM_of rfl (Nat.le_of_ble_eq_true rfl) rfl ?_
  refine gx_aload_n (pc := 0) dX14_init_0 rfl ?_
  refine gx_iload_n (pc := 1) dX14_init_1 rfl ?_
  refine gx_iload_n (pc := 2) dX14_init_2 rfl ?_
  refine kX14_1 (kc := 0) (ks := 0) (mc := 0) (ms := 0) (pc := 3) rfl (c_pi3 (d := d - 1) (by omega) na ha u v) (by omega) (Nat.le_of_ble_eq_true rfl) dX14_init_3 (fun h1 e1 => ?_)
  exact gx_return (pc := 6) rfl dX14_init_6 (⟨rfl, e1⟩)
theorem c_pj3 (hd : 4 ≤ d) {a : Nat} (na : gxN G ≤ a) (ha : h.1 a = some (.inr (14, [.int 0, .int 0]))) (u v : Int32) : gxM G mX15_init d 0 0 [.ref a, .int u, .int v] h (gxQv (fun h' => h'.2 = h.2 ∧ h'.1 a = some (.inr (14, [.int u, .int v])) ∧ ∀ q, q ≠ a → h'.1 q = h.1 q)) := by
  refine gxM_of rfl (Nat.le_of_ble_eq_true rfl) rfl ?_
  refine gx_aload_n (pc := 0) dX15_init_0 rfl ?_
  refine gx_iload_n (pc := 1) dX15_init_1 rfl ?_
  refine gx_iload_n (pc := 2) dX15_init_2 rfl ?_
  refine kX15_1 (kc := 0) (ks := 0) (mc := 0) (ms := 0) (pc := 3) rfl (c_pk3 (d := d - 1) (by omega) na ha u v) (by omega) (Nat.le_of_ble_eq_true rfl) dX15_init_3 (fun h1 e1 => ?_)
  exact gx_return (pc := 6) rfl dX15_init_6 (⟨rfl, e1⟩)
theorem c_made (hd : 6 ≤ d) (nz : gxN G ≤ h.2) (k : Nat) (hk : k < 4) (u v : Int32) : gxM G mX1_made d 1 2 [.int (nI k), .int u, .int v] h (gxQr (fun a h' => a = h.2 ∧ h'.2 = h.2 + 1 ∧ h'.1 h.2 = some (.inr (11 + k, [.int u, .int v])) ∧ ∀ q, q ≠ h.2 → h'.1 q = h.1 q)) := by
  refine gxM_of rfl (Nat.le_of_ble_eq_true rfl) rfl ?_
  refine gx_iload_n (pc := 0) dX1_made_0 rfl ?_
  have hc : k = 0 ∨ k = 1 ∨ k = 2 ∨ k = 3 := by omega
  rcases hc with e | e | e | e <;> subst e
  · refine gx_tableOut (pc := 1) 58 dX1_made_1 (Or.inl (by decide)) rfl ?_
    refine nX1_13 (kc := 0) (ks := 0) (pc := 58) rfl dX1_made_58 ?_
    have ha : (gxadd h (.inr (11, [.int 0, .int 0]))).1 h.2 = some (.inr (11, [.int 0, .int 0])) := gxadd_self _ _
    have f1 : ∀ q, q ≠ h.2 → (gxadd h (.inr (11, [.int 0, .int 0]))).1 q = h.1 q := fun q hq => gxadd_ne hq
    have s1 : (gxadd h (.inr (11, [.int 0, .int 0]))).2 = h.2 + 1 := rfl
    generalize gxadd h (.inr (11, [.int 0, .int 0])) = h1 at *
    refine gx_dup (pc := 61) dX1_made_61 rfl ?_
    refine gx_iload_n (pc := 62) dX1_made_62 rfl ?_
    refine gx_iload_n (pc := 63) dX1_made_63 rfl ?_
    refine kX1_15 (kc := 0) (ks := 0) (mc := 0) (ms := 0) (pc := 64) rfl (c_pi0 (d := d - 1) (by omega) nz ha u v) (by omega) (Nat.le_of_ble_eq_true rfl) dX1_made_64 (fun h2 e2 => ?_)
    obtain ⟨s2, e2, f2⟩ := e2
    exact gx_areturn (pc := 67) rfl (Or.inl ⟨_, rfl⟩) (Or.inr ⟨_, rfl⟩) dX1_made_67 (⟨_, rfl, ⟨rfl, by omega, e2, fun q hq => by rw [f2 q hq, f1 q hq]⟩⟩)
  · refine gx_tableIn (pc := 1) 28 dX1_made_1 (by decide) (by decide) rfl rfl ?_
    refine nX1_1 (kc := 0) (ks := 0) (pc := 28) rfl dX1_made_28 ?_
    have ha : (gxadd h (.inr (12, [.int 0, .int 0]))).1 h.2 = some (.inr (12, [.int 0, .int 0])) := gxadd_self _ _
    have f1 : ∀ q, q ≠ h.2 → (gxadd h (.inr (12, [.int 0, .int 0]))).1 q = h.1 q := fun q hq => gxadd_ne hq
    have s1 : (gxadd h (.inr (12, [.int 0, .int 0]))).2 = h.2 + 1 := rfl
    generalize gxadd h (.inr (12, [.int 0, .int 0])) = h1 at *
    refine gx_dup (pc := 31) dX1_made_31 rfl ?_
    refine gx_iload_n (pc := 32) dX1_made_32 rfl ?_
    refine gx_iload_n (pc := 33) dX1_made_33 rfl ?_
    refine kX1_3 (kc := 0) (ks := 0) (mc := 0) (ms := 0) (pc := 34) rfl (c_pj1 (d := d - 1) (by omega) nz ha u v) (by omega) (Nat.le_of_ble_eq_true rfl) dX1_made_34 (fun h2 e2 => ?_)
    obtain ⟨s2, e2, f2⟩ := e2
    exact gx_areturn (pc := 37) rfl (Or.inl ⟨_, rfl⟩) (Or.inr ⟨_, rfl⟩) dX1_made_37 (⟨_, rfl, ⟨rfl, by omega, e2, fun q hq => by rw [f2 q hq, f1 q hq]⟩⟩)
  · refine gx_tableIn (pc := 1) 38 dX1_made_1 (by decide) (by decide) rfl rfl ?_
    refine nX1_7 (kc := 0) (ks := 0) (pc := 38) rfl dX1_made_38 ?_
    have ha : (gxadd h (.inr (13, [.int 0, .int 0]))).1 h.2 = some (.inr (13, [.int 0, .int 0])) := gxadd_self _ _
    have f1 : ∀ q, q ≠ h.2 → (gxadd h (.inr (13, [.int 0, .int 0]))).1 q = h.1 q := fun q hq => gxadd_ne hq
    have s1 : (gxadd h (.inr (13, [.int 0, .int 0]))).2 = h.2 + 1 := rfl
    generalize gxadd h (.inr (13, [.int 0, .int 0])) = h1 at *
    refine gx_dup (pc := 41) dX1_made_41 rfl ?_
    refine gx_iload_n (pc := 42) dX1_made_42 rfl ?_
    refine gx_iload_n (pc := 43) dX1_made_43 rfl ?_
    refine kX1_9 (kc := 0) (ks := 0) (mc := 0) (ms := 0) (pc := 44) rfl (c_pj2 (d := d - 1) (by omega) nz ha u v) (by omega) (Nat.le_of_ble_eq_true rfl) dX1_made_44 (fun h2 e2 => ?_)
    obtain ⟨s2, e2, f2⟩ := e2
    exact gx_areturn (pc := 47) rfl (Or.inl ⟨_, rfl⟩) (Or.inr ⟨_, rfl⟩) dX1_made_47 (⟨_, rfl, ⟨rfl, by omega, e2, fun q hq => by rw [f2 q hq, f1 q hq]⟩⟩)
  · refine gx_tableIn (pc := 1) 48 dX1_made_1 (by decide) (by decide) rfl rfl ?_
    refine nX1_10 (kc := 0) (ks := 0) (pc := 48) rfl dX1_made_48 ?_
    have ha : (gxadd h (.inr (14, [.int 0, .int 0]))).1 h.2 = some (.inr (14, [.int 0, .int 0])) := gxadd_self _ _
    have f1 : ∀ q, q ≠ h.2 → (gxadd h (.inr (14, [.int 0, .int 0]))).1 q = h.1 q := fun q hq => gxadd_ne hq
    have s1 : (gxadd h (.inr (14, [.int 0, .int 0]))).2 = h.2 + 1 := rfl
    generalize gxadd h (.inr (14, [.int 0, .int 0])) = h1 at *
    refine gx_dup (pc := 51) dX1_made_51 rfl ?_
    refine gx_iload_n (pc := 52) dX1_made_52 rfl ?_
    refine gx_iload_n (pc := 53) dX1_made_53 rfl ?_
    refine kX1_12 (kc := 0) (ks := 0) (mc := 0) (ms := 0) (pc := 54) rfl (c_pj3 (d := d - 1) (by omega) nz ha u v) (by omega) (Nat.le_of_ble_eq_true rfl) dX1_made_54 (fun h2 e2 => ?_)
    obtain ⟨s2, e2, f2⟩ := e2
    exact gx_areturn (pc := 57) rfl (Or.inl ⟨_, rfl⟩) (Or.inr ⟨_, rfl⟩) dX1_made_57 (⟨_, rfl, ⟨rfl, by omega, e2, fun q hq => by rw [f2 q hq, f1 q hq]⟩⟩)
end MBB0
