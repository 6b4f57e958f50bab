/-! ===== COMPONENT AI: lists emptied, taken from, begun without a size ===== -/
set_option maxRecDepth 100000
/-- a list made without a size, nothing in it yet -/
def LE (G : gxG) (h : gxH) (a : Nat) : Prop := ∃ (mc : Int32) (t : Nat), dArr G t ∧ h.1 a = some (.inr (32, [.int mc, .ref t, .int 0]))
section AI
variable {G : gxG} {d : Nat} {h : gxH}
theorem c_Linit2 (hd : 3 ≤ d) {a : Nat} (na : gxN G ≤ a) (ha : h.1 a = some (.inr (32, [.int 0, .null, .int 0]))) : gxM G mJ2_init_2 d 0 0 [.ref a] h (gxQv (fun h' => LE G h' a ∧ h'.2 = h.2 ∧ ∀ q, q ≠ a → h'.1 q = h.1 q)) := by
  refine gxM_K (fun hK => ?_)
  obtain ⟨t, hZ, hT⟩ := nw_dc hK
  refine gxM_ofF (by decide +kernel) (Nat.le_of_ble_eq_true rfl) rfl ?_
  refine gx_aload_n (pc := 0) dJ2_init_2_0 rfl ?_
  refine kJ2_1 (kc := 0) (ks := 0) (mc := 0) (ms := 0) (pc := 1) rfl (c_J1 (d := d - 1) (by omega) na ha) (by omega) (Nat.le_of_ble_eq_true rfl) dJ2_init_2_1 (fun h1 e1 => ?_)
  subst h1
  refine gx_aload_n (pc := 4) dJ2_init_2_4 rfl ?_
  refine gx_gets (pc := 5) hZ q436 dJ2_init_2_5 ?_
  refine gx_put (pc := 8) fJ2_9 ha na (by first | exact Nat.le_of_ble_eq_true rfl | simp) tJ2_1 rfl rfl dJ2_init_2_8 ?_
  exact gx_return (pc := 11) rfl dJ2_init_2_11 (⟨rfl, ⟨⟨0, t, ⟨hZ, hT⟩, gxup_self _ _ _⟩, rfl, fun q hq => gxup_ne hq⟩⟩)
theorem c_grow20 (hd : 1 ≤ d) {a : Nat} (na : gxN G ≤ a) (haz : a < h.2) (hL : LE G h a) : gxM G mJ2_grow_2 d 1 10 [.ref a, .int (nI 1)] h (gxQr (fun r h' => r = h.2 ∧ LD h' a h.2 10 0 (fun _ => none) ∧ h'.2 = h.2 + 1 ∧ ∀ q, q ≠ a → q ≠ h.2 → h'.1 q = h.1 q)) := by
  obtain ⟨mc, t, ⟨hZ, hT⟩, ha⟩ := hL
  refine gxM_ofF (by decide +kernel) (Nat.le_of_ble_eq_true rfl) rfl ?_
  refine gx_aload_n (pc := 0) dJ2_grow_2_0 rfl ?_
  refine gx_get (pc := 1) fJ2_9 ha rfl dJ2_grow_2_1 ?_
  refine gx_alenO (pc := 4) hT dJ2_grow_2_4 ?_
  refine gx_istore_n (pc := 5) dJ2_grow_2_5 (by decide) rfl ?_
  refine gx_iload_n (pc := 6) dJ2_grow_2_6 rfl ?_
  refine gx_if_gt (pc := 7) 20 dJ2_grow_2_7 (by decide) (fun c1 => ?_) (fun c1 => ?_)
  · exact absurd c1 (by decide)
  · refine gx_aload_n (pc := 10) dJ2_grow_2_10 rfl ?_
    refine gx_get (pc := 11) fJ2_9 ha rfl dJ2_grow_2_11 ?_
    refine gx_gets (pc := 14) hZ q436 dJ2_grow_2_14 ?_
    refine gx_acmp_eq (pc := 17) (rx := some t) (ry := some t) 45 dJ2_grow_2_17 (by decide) (fun _ => ?_) (fun z => absurd rfl z)
    refine gx_aload_n (pc := 45) dJ2_grow_2_45 rfl ?_
    refine gx_bipush (pc := 46) (v := 10) dJ2_grow_2_46 (by decide) ?_
    refine gx_iload_n (pc := 48) dJ2_grow_2_48 rfl ?_
    refine kJ2_79 (kc := 1) (ks := 10) (mc := 0) (ms := 0) (pc := 49) rfl (c_Jmax (d := d - 1) 10 (nI 1)) (by omega) (Nat.le_of_ble_eq_true rfl) dJ2_grow_2_49 (fun r1 h1 e1 => ?_)
    obtain ⟨rfl, e1⟩ := e1
    subst h1
    rw [if_neg (by decide)]
    refine gx_r0 ?_
    refine nJ2_7 (kc := 0) (ks := 0) (pc := 52) 10 rfl rfl (by decide) dJ2_grow_2_52 ?_
    have ha1 : (gxadd h (gxq 3 10 (fun _ => none))).1 a = some (.inr (32, [.int mc, .ref t, .int 0])) := by rw [gxadd_ne (by omega)]; exact ha
    have ha := ha1
    refine gx_dup_x1 (pc := 55) dJ2_grow_2_55 rfl rfl ?_
    refine gx_put (pc := 56) fJ2_9 ha na (by first | exact Nat.le_of_ble_eq_true rfl | simp) tJ2_1 rfl rfl dJ2_grow_2_56 ?_
    obtain ⟨b1, b2, b3, b4⟩ := gx_step (h := h) (a := a) (z := h.2) (x := gxq 3 10 (fun _ => none)) (e := .inr (32, [.int mc, .ref h.2, .int 0])) rfl (by omega)
    exact gx_areturn (pc := 59) rfl (Or.inr ⟨_, rfl⟩) (Or.inr ⟨_, rfl⟩) dJ2_grow_2_59 ⟨_, rfl, rfl, ⟨mc, b1, b2⟩, b4, b3⟩
theorem c_grow0 (hd : 2 ≤ d) {a : Nat} (na : gxN G ≤ a) (haz : a < h.2) (hL : LE G h a) : gxM G mJ2_grow d 1 10 [.ref a] h (gxQr (fun r h' => r = h.2 ∧ LD h' a h.2 10 0 (fun _ => none) ∧ h'.2 = h.2 + 1 ∧ ∀ q, q ≠ a → q ≠ h.2 → h'.1 q = h.1 q)) := by
  have hL0 := hL
  obtain ⟨mc, t, ⟨hZ, hT⟩, ha⟩ := hL
  refine gxM_ofF (by decide +kernel) (Nat.le_of_ble_eq_true rfl) rfl ?_
  refine gx_aload_n (pc := 0) dJ2_grow_0 rfl ?_
  refine gx_aload_n (pc := 1) dJ2_grow_1 rfl ?_
  refine gx_get (pc := 2) fJ2_48 ha rfl dJ2_grow_2 ?_
  refine gx_iconst (pc := 5) (v := 1) dJ2_grow_5 (by decide) ?_
  refine gx_iadd (pc := 6) dJ2_grow_6 ?_
  rw [show (0 : Int32) + 1 = nI 1 from rfl]
  refine gx_r0 ?_
  refine kJ2_69 (kc := 0) (ks := 0) (mc := 1) (ms := 10) (pc := 7) rfl (c_grow20 (d := d - 1) (by omega) na haz hL0) (gxRc.of rfl ha) (by omega) (Nat.le_of_ble_eq_true rfl) dJ2_grow_7 (fun r1 h1 e1 => ?_)
  exact gx_areturn (pc := 10) rfl (Or.inr ⟨_, rfl⟩) (Or.inr ⟨_, rfl⟩) dJ2_grow_10 ⟨_, rfl, e1⟩
/-- the first element -/
theorem c_add20 (hd : 3 ≤ d) {a v t : Nat} (na : gxN G ≤ a) (haz : a < h.2) (hvz : v < h.2) (hL : LE G h a) (hT : gTa G (.object "java/lang/Object") t 0 (fun _ => .null)) (hv : elO G h v) (hva : v ≠ a) : gxM G mJ2_add_2 d 1 10 [.ref a, .ref v, .ref t, .int 0] h (gxQv (fun h' => LD h' a h.2 10 1 (va_up (fun _ => none) 0 (some v)) ∧ h'.2 = h.2 + 1 ∧ ∀ q, q ≠ a → q ≠ h.2 → h'.1 q = h.1 q)) := by
  have hL0 := hL
  obtain ⟨mc, t', hT', ha⟩ := hL
  refine gxM_ofF (by decide +kernel) (Nat.le_of_ble_eq_true rfl) rfl ?_
  refine gx_iload_n (pc := 0) dJ2_add_2_0 rfl ?_
  refine gx_aload_n (pc := 1) dJ2_add_2_1 rfl ?_
  refine gx_alenO (pc := 2) hT dJ2_add_2_2 ?_
  refine gx_icmp_ne (pc := 3) 11 dJ2_add_2_3 (by decide) (fun c1 => ?_) (fun c1 => ?_)
  · exact absurd rfl c1
  · refine gx_aload_n (pc := 6) dJ2_add_2_6 rfl ?_
    refine gx_r0 ?_
    refine kJ2_129 (kc := 0) (ks := 0) (mc := 1) (ms := 10) (pc := 7) rfl (c_grow0 (d := d - 1) (by omega) na haz hL0) (gxRc.of rfl ha) (by omega) (Nat.le_of_ble_eq_true rfl) dJ2_add_2_7 (fun r1 h1 e1 => ?_)
    obtain ⟨rfl, ⟨mc2, b0, b1⟩, b2, b3⟩ := e1
    have hv1 : elO G h1 v := by
      rcases hv with ⟨ci, r, vs, z1, z2, z3⟩ | ⟨x, z1⟩ | z1
      · exact Or.inl ⟨ci, r, vs, by rw [b3 v hva (by omega)]; exact z1, z2, z3⟩
      · exact Or.inr (Or.inl ⟨x, by rw [b3 v hva (by omega)]; exact z1⟩)
      · exact Or.inr (Or.inr z1)
    refine gx_astore_n (pc := 10) dJ2_add_2_10 (by decide) rfl ?_
    refine gx_aload_n (pc := 11) dJ2_add_2_11 rfl ?_
    refine gx_iload_n (pc := 12) dJ2_add_2_12 rfl ?_
    refine gx_aload_n (pc := 13) dJ2_add_2_13 rfl ?_
    refine gx_aastE (pc := 14) (kd := 3) 0 b1 (Nat.le_trans na (Nat.le_of_lt haz)) (fun _ => rfl) hv1 rfl (by decide) (by decide) dJ2_add_2_14 ?_
    have ha1 : (gxup h1 h.2 (gxq 3 10 (va_up (fun _ => none) 0 (some v)))).1 a = some (.inr (32, [.int mc2, .ref h.2, .int (nI 0)])) := by rw [gxup_ne (by omega)]; exact b0
    have ha := ha1
    refine gx_aload_n (pc := 15) dJ2_add_2_15 rfl ?_
    refine gx_iload_n (pc := 16) dJ2_add_2_16 rfl ?_
    refine gx_iconst (pc := 17) (v := 1) dJ2_add_2_17 (by decide) ?_
    refine gx_iadd (pc := 18) dJ2_add_2_18 ?_
    refine gx_put (pc := 19) fJ2_48 ha na (by first | exact Nat.le_of_ble_eq_true rfl | simp) tJ2_2 rfl rfl dJ2_add_2_19 ?_
    exact gx_return (pc := 22) rfl dJ2_add_2_22 (⟨rfl, ⟨⟨mc2, gxup_self _ _ _, by rw [gxup_ne (by omega)]; exact gxup_self _ _ _⟩, b2, fun q h1 h2 => by rw [gxup_ne h1, gxup_ne h2]; exact b3 q h1 h2⟩⟩)
theorem c_Ladd0 (hd : 4 ≤ d) {a v : Nat} (na : gxN G ≤ a) (haz : a < h.2) (hvz : v < h.2) (hL : LE G h a) (hv : elO G h v) (hva : v ≠ a) : gxM G mJ2_add d 1 10 [.ref a, .ref v] h (gxQi (fun _ h' => LD h' a h.2 10 1 (va_up (fun _ => none) 0 (some v)) ∧ h'.2 = h.2 + 1 ∧ ∀ q, q ≠ a → q ≠ h.2 → h'.1 q = h.1 q)) := by
  obtain ⟨mc, t, hT, ha⟩ := hL
  refine gxM_ofF (by decide +kernel) (Nat.le_of_ble_eq_true rfl) rfl ?_
  refine gx_aload_n (pc := 0) dJ2_add_0 rfl ?_
  refine gx_dup (pc := 1) dJ2_add_1 rfl ?_
  refine gx_getMC (pc := 2) rfl ha dJ2_add_2 ?_
  refine gx_iconst (pc := 5) (v := 1) dJ2_add_5 (by decide) ?_
  refine gx_iadd (pc := 6) dJ2_add_6 ?_
  refine gx_putMC (pc := 7) rfl ha na dJ2_add_7 ?_
  have q0 : (gxup h a (.inr (32, [.int (mc + 1), .ref t, .int 0]))).1 a = some (.inr (32, [.int (mc + 1), .ref t, .int 0])) := gxup_self _ _ _
  have q2 : ∀ q, q ≠ a → (gxup h a (.inr (32, [.int (mc + 1), .ref t, .int 0]))).1 q = h.1 q := fun q hq => gxup_ne hq
  have q3 : (gxup h a (.inr (32, [.int (mc + 1), .ref t, .int 0]))).2 = h.2 := rfl
  have q4 : elO G (gxup h a (.inr (32, [.int (mc + 1), .ref t, .int 0]))) v := hv.mod hva
  generalize gxup h a (.inr (32, [.int (mc + 1), .ref t, .int 0])) = h1 at *
  have ha := q0
  refine gx_aload_n (pc := 10) dJ2_add_10 rfl ?_
  refine gx_aload_n (pc := 11) dJ2_add_11 rfl ?_
  refine gx_aload_n (pc := 12) dJ2_add_12 rfl ?_
  refine gx_get (pc := 13) fJ2_9 ha rfl dJ2_add_13 ?_
  refine gx_aload_n (pc := 16) dJ2_add_16 rfl ?_
  refine gx_get (pc := 17) fJ2_48 ha rfl dJ2_add_17 ?_
  refine gx_r0 ?_
  refine kJ2_131 (kc := 0) (ks := 0) (mc := 1) (ms := 10) (pc := 20) rfl (c_add20 (d := d - 1) (by omega) na (by omega) (by omega) ⟨mc + 1, t, hT, q0⟩ hT.2 q4 hva) (gxRc.of rfl ha) (by omega) (Nat.le_of_ble_eq_true rfl) dJ2_add_20 (fun h2 e2 => ?_)
  obtain ⟨b1, b2, b3⟩ := e2
  rw [q3] at b1 b2 b3
  refine gx_iconst (pc := 23) (v := 1) dJ2_add_23 (by decide) ?_
  exact gx_zreturn (pc := 24) rfl (by decide) dJ2_add_24 (⟨_, rfl, ⟨b1, b2, fun q z1 z2 => by rw [b3 q z1 z2, q2 q z1]⟩⟩)
/-- cleared -/
theorem c_Lclear0 {a : Nat} (na : gxN G ≤ a) (hL : LE G h a) : gxM G mJ2_clear d 0 0 [.ref a] h (gxQv (fun h' => LE G h' a ∧ h'.2 = h.2 ∧ ∀ q, q ≠ a → h'.1 q = h.1 q)) := by
  obtain ⟨mc, t, hT, ha⟩ := hL
  refine gxM_ofF (by decide +kernel) (Nat.le_of_ble_eq_true rfl) rfl ?_
  refine gx_aload_n (pc := 0) dJ2_clear_0 rfl ?_
  refine gx_dup (pc := 1) dJ2_clear_1 rfl ?_
  refine gx_getMC (pc := 2) rfl ha dJ2_clear_2 ?_
  refine gx_iconst (pc := 5) (v := 1) dJ2_clear_5 (by decide) ?_
  refine gx_iadd (pc := 6) dJ2_clear_6 ?_
  refine gx_putMC (pc := 7) rfl ha na dJ2_clear_7 ?_
  have q0 : (gxup h a (.inr (32, [.int (mc + 1), .ref t, .int 0]))).1 a = some (.inr (32, [.int (mc + 1), .ref t, .int 0])) := gxup_self _ _ _
  have q2 : ∀ q, q ≠ a → (gxup h a (.inr (32, [.int (mc + 1), .ref t, .int 0]))).1 q = h.1 q := fun q hq => gxup_ne hq
  have q3 : (gxup h a (.inr (32, [.int (mc + 1), .ref t, .int 0]))).2 = h.2 := rfl
  generalize gxup h a (.inr (32, [.int (mc + 1), .ref t, .int 0])) = h1 at *
  have ha := q0
  refine gx_aload_n (pc := 10) dJ2_clear_10 rfl ?_
  refine gx_get (pc := 11) fJ2_9 ha rfl dJ2_clear_11 ?_
  refine gx_astore_n (pc := 14) dJ2_clear_14 (by decide) rfl ?_
  refine gx_aload_n (pc := 15) dJ2_clear_15 rfl ?_
  refine gx_get (pc := 16) fJ2_48 ha rfl dJ2_clear_16 ?_
  refine gx_istore_n (pc := 19) dJ2_clear_19 (by decide) rfl ?_
  refine gx_aload_n (pc := 20) dJ2_clear_20 rfl ?_
  refine gx_iconst (pc := 21) (v := 0) dJ2_clear_21 (by decide) ?_
  refine gx_dup_x1 (pc := 22) dJ2_clear_22 rfl rfl ?_
  refine gx_put (pc := 23) fJ2_48 ha na (by first | exact Nat.le_of_ble_eq_true rfl | simp) tJ2_2 rfl rfl dJ2_clear_23 ?_
  refine gx_istore_n (pc := 26) dJ2_clear_26 (by decide) rfl ?_
  refine gx_iload_n (pc := 27) dJ2_clear_27 rfl ?_
  refine gx_iload_n (pc := 28) dJ2_clear_28 rfl ?_
  refine gx_icmp_ge (pc := 29) 42 dJ2_clear_29 (by decide) (fun c1 => ?_) (fun c1 => ?_)
  · exact gx_return (pc := 42) rfl dJ2_clear_42 (⟨rfl, ⟨⟨mc + 1, t, hT, gxup_self _ _ _⟩, q3, fun q hq => by rw [gxup_ne hq]; exact q2 q hq⟩⟩)
  · exact absurd (by decide) c1
theorem c_Lclear {a e c n : Nat} {g : Nat → Option Nat} (na : gxN G ≤ a) (ne : gxN G ≤ e) (hae : a ≠ e) (hn : n ≤ c) (hc : c < 2 ^ 31) (hL : LD h a e c n g) : gxM G mJ2_clear d 0 0 [.ref a] h (gxQv (fun h' => h'.2 = h.2 ∧ (∀ q, q ≠ a → q ≠ e → h'.1 q = h.1 q) ∧ ∃ g', LD h' a e c 0 g' ∧ (∀ k, k < n → g' k = none) ∧ ∀ k, n ≤ k → g' k = g k)) := by
  obtain ⟨mc, ha, he⟩ := hL
  refine gxM_ofF (by decide +kernel) (Nat.le_of_ble_eq_true rfl) rfl ?_
  have Lp : ∀ m k h1 g1, m + k = n → h1.2 = h.2 → (∀ q, q ≠ a → q ≠ e → h1.1 q = h.1 q) → LD h1 a e c 0 g1 → (∀ j, j < k → g1 j = none) → (∀ j, k ≤ j → g1 j = g j) → gxV G mJ2_clear d 0 0 27 [some (.ref a), some (.ref e), some (.int (nI n)), some (.int (nI k))] [] h1 (gxQv (fun h' => h'.2 = h.2 ∧ (∀ q, q ≠ a → q ≠ e → h'.1 q = h.1 q) ∧ ∃ g', LD h' a e c 0 g' ∧ (∀ k, k < n → g' k = none) ∧ ∀ k, n ≤ k → g' k = g k)) := by
    intro m
    induction m with
    | zero =>
      intro k h1 g1 hk z1 z2 L1 z3 z4
      have : n = k := by omega
      subst this
      refine gx_iload_n (pc := 27) dJ2_clear_27 rfl ?_
      refine gx_iload_n (pc := 28) dJ2_clear_28 rfl ?_
      refine gx_icmp_ge (pc := 29) 42 dJ2_clear_29 (by decide) (fun c1 => ?_) (fun c1 => ?_)
      · exact gx_return (pc := 42) rfl dJ2_clear_42 (⟨rfl, ⟨z1, z2, g1, L1, z3, z4⟩⟩)
      · exact absurd (nI_le (Nat.le_refl _) (by omega)) c1
    | succ m ih =>
      intro k h1 g1 hk z1 z2 L1 z3 z4
      obtain ⟨mc1, ha, he⟩ := L1
      refine gx_iload_n (pc := 27) dJ2_clear_27 rfl ?_
      refine gx_iload_n (pc := 28) dJ2_clear_28 rfl ?_
      refine gx_icmp_ge (pc := 29) 42 dJ2_clear_29 (by decide) (fun c1 => ?_) (fun c1 => ?_)
      · exact absurd c1 (nI_ge (by omega) (by omega))
      · refine gx_aload_n (pc := 32) dJ2_clear_32 rfl ?_
        refine gx_iload_n (pc := 33) dJ2_clear_33 rfl ?_
        refine gx_null (pc := 34) dJ2_clear_34 ?_
        refine gx_aastN (pc := 35) (k) he ne (fun _ => rfl) (by first | rfl | simp only [gx_lit, nI_add, pk_mul]) (by omega) (hc) dJ2_clear_35 ?_
        refine gx_iincc (pc := 36) (c := 1) dJ2_clear_36 rfl (by decide) (by decide) rfl ?_
        refine gx_goto (pc := 39) 27 dJ2_clear_39 (by decide) ?_
        rw [nI_1]
        refine ih (k + 1) _ (va_up g1 k none) (by omega) z1 (fun q y1 y2 => by rw [gxup_ne y2]; exact z2 q y1 y2) ⟨mc1, by rw [gxup_ne hae]; exact ha, gxup_self _ _ _⟩ (fun j hj => ?_) (fun j hj => ?_)
        · simp only [va_up]
          split
          · rfl
          · exact z3 j (by omega)
        · simp only [va_up]
          rw [if_neg (by omega)]
          exact z4 j (by omega)
  refine gx_aload_n (pc := 0) dJ2_clear_0 rfl ?_
  refine gx_dup (pc := 1) dJ2_clear_1 rfl ?_
  refine gx_getMC (pc := 2) rfl ha dJ2_clear_2 ?_
  refine gx_iconst (pc := 5) (v := 1) dJ2_clear_5 (by decide) ?_
  refine gx_iadd (pc := 6) dJ2_clear_6 ?_
  refine gx_putMC (pc := 7) rfl ha na dJ2_clear_7 ?_
  have q0 : (gxup h a (.inr (32, [.int (mc + 1), .ref e, .int (nI n)]))).1 a = some (.inr (32, [.int (mc + 1), .ref e, .int (nI n)])) := gxup_self _ _ _
  have q2 : ∀ q, q ≠ a → (gxup h a (.inr (32, [.int (mc + 1), .ref e, .int (nI n)]))).1 q = h.1 q := fun q hq => gxup_ne hq
  have q3 : (gxup h a (.inr (32, [.int (mc + 1), .ref e, .int (nI n)]))).2 = h.2 := rfl
  generalize gxup h a (.inr (32, [.int (mc + 1), .ref e, .int (nI n)])) = h1 at *
  have ha := q0
  refine gx_aload_n (pc := 10) dJ2_clear_10 rfl ?_
  refine gx_get (pc := 11) fJ2_9 ha rfl dJ2_clear_11 ?_
  refine gx_astore_n (pc := 14) dJ2_clear_14 (by decide) rfl ?_
  refine gx_aload_n (pc := 15) dJ2_clear_15 rfl ?_
  refine gx_get (pc := 16) fJ2_48 ha rfl dJ2_clear_16 ?_
  refine gx_istore_n (pc := 19) dJ2_clear_19 (by decide) rfl ?_
  refine gx_aload_n (pc := 20) dJ2_clear_20 rfl ?_
  refine gx_iconst (pc := 21) (v := 0) dJ2_clear_21 (by decide) ?_
  refine gx_dup_x1 (pc := 22) dJ2_clear_22 rfl rfl ?_
  refine gx_put (pc := 23) fJ2_48 ha na (by first | exact Nat.le_of_ble_eq_true rfl | simp) tJ2_2 rfl rfl dJ2_clear_23 ?_
  refine gx_istore_n (pc := 26) dJ2_clear_26 (by decide) rfl ?_
  refine Lp n 0 _ g (by omega) q3 (fun q y1 y2 => by rw [gxup_ne y1]; exact q2 q y1) ⟨mc + 1, gxup_self _ _ _, by rw [gxup_ne (Ne.symm hae), q2 e (Ne.symm hae)]; exact he⟩ (fun j hj => by omega) (fun _ _ => rfl)
/-- what is left when one is taken out -/
def rmv (g : Nat → Option Nat) (k n : Nat) : Nat → Option Nat := fun j => if j < k then g j else if j + 1 < n then g (j + 1) else if j + 1 = n then none else g j
theorem c_fastRemove (hd : 1 ≤ d) {a e c n k : Nat} {g : Nat → Option Nat} (na : gxN G ≤ a) (ne : gxN G ≤ e) (hae : a ≠ e) (hk : k < n) (hn : n ≤ c) (hc : c < 2 ^ 31) (hL : LD h a e c n g) (hel : ∀ i, i < n → ∀ y, g i = some y → y ≠ a ∧ elO G h y) : gxM G mJ2_fastRemove d 0 0 [.ref a, .ref e, .int (nI k)] h (gxQv (fun h' => h'.2 = h.2 ∧ (∀ q, q ≠ a → q ≠ e → h'.1 q = h.1 q) ∧ LD h' a e c (n - 1) (rmv g k n))) := by
  obtain ⟨mc, ha, he⟩ := hL
  refine gxM_ofF (by decide +kernel) (Nat.le_of_ble_eq_true rfl) rfl ?_
  have K34 : ∀ h1 g1 mc1, h1.2 = h.2 → (∀ q, q ≠ a → q ≠ e → h1.1 q = h.1 q) → h1.1 a = some (.inr (32, [.int mc1, .ref e, .int (nI n)])) → h1.1 e = some (gxq 3 c g1) → va_up g1 (n - 1) none = rmv g k n → gxV G mJ2_fastRemove d 0 0 34 [some (.ref a), some (.ref e), some (.int (nI k)), some (.int (nI (n - 1)))] [] h1 (gxQv (fun h' => h'.2 = h.2 ∧ (∀ q, q ≠ a → q ≠ e → h'.1 q = h.1 q) ∧ LD h' a e c (n - 1) (rmv g k n))) := by
    intro h1 g1 mc1 z1 z2 ha he z3
    refine gx_aload_n (pc := 34) dJ2_fastRemove_34 rfl ?_
    refine gx_aload_n (pc := 35) dJ2_fastRemove_35 rfl ?_
    refine gx_iload_n (pc := 36) dJ2_fastRemove_36 rfl ?_
    refine gx_dup_x1 (pc := 37) dJ2_fastRemove_37 rfl rfl ?_
    refine gx_put (pc := 38) fJ2_48 ha na (by first | exact Nat.le_of_ble_eq_true rfl | simp) tJ2_2 rfl rfl dJ2_fastRemove_38 ?_
    have he2 : (gxup h1 a (.inr (32, [.int mc1, .ref e, .int (nI (n - 1))]))).1 e = some (gxq 3 c g1) := by rw [gxup_ne (Ne.symm hae)]; exact he
    have z4 : (gxup h1 a (.inr (32, [.int mc1, .ref e, .int (nI (n - 1))]))).1 a = some (.inr (32, [.int mc1, .ref e, .int (nI (n - 1))])) := gxup_self _ _ _
    have z5 : ∀ q, q ≠ a → q ≠ e → (gxup h1 a (.inr (32, [.int mc1, .ref e, .int (nI (n - 1))]))).1 q = h.1 q := fun q y1 y2 => by rw [gxup_ne y1]; exact z2 q y1 y2
    have z6 : (gxup h1 a (.inr (32, [.int mc1, .ref e, .int (nI (n - 1))]))).2 = h.2 := z1
    change gxV _ _ _ _ _ _ _ _ (gxup h1 a (.inr (32, [.int mc1, .ref e, .int (nI (n - 1))]))) _
    generalize gxup h1 a (.inr (32, [.int mc1, .ref e, .int (nI (n - 1))])) = h2 at *
    have he := he2
    refine gx_null (pc := 41) dJ2_fastRemove_41 ?_
    refine gx_aastN (pc := 42) ((n-1)) he ne (fun _ => rfl) (by first | rfl | simp only [gx_lit, nI_add, pk_mul]) (by omega) (hc) dJ2_fastRemove_42 ?_
    exact gx_return (pc := 43) rfl dJ2_fastRemove_43 (⟨rfl, ⟨z6, fun q y1 y2 => by rw [gxup_ne y2]; exact z5 q y1 y2, mc1, by rw [gxup_ne hae]; exact z4, by rw [← z3]; exact gxup_self _ _ _⟩⟩)
  refine gx_aload_n (pc := 0) dJ2_fastRemove_0 rfl ?_
  refine gx_dup (pc := 1) dJ2_fastRemove_1 rfl ?_
  refine gx_getMC (pc := 2) rfl ha dJ2_fastRemove_2 ?_
  refine gx_iconst (pc := 5) (v := 1) dJ2_fastRemove_5 (by decide) ?_
  refine gx_iadd (pc := 6) dJ2_fastRemove_6 ?_
  refine gx_putMC (pc := 7) rfl ha na dJ2_fastRemove_7 ?_
  have q0 : (gxup h a (.inr (32, [.int (mc + 1), .ref e, .int (nI n)]))).1 a = some (.inr (32, [.int (mc + 1), .ref e, .int (nI n)])) := gxup_self _ _ _
  have q1 : (gxup h a (.inr (32, [.int (mc + 1), .ref e, .int (nI n)]))).1 e = some (gxq 3 c g) := by rw [gxup_ne (Ne.symm hae)]; exact he
  have q2 : ∀ q, q ≠ a → (gxup h a (.inr (32, [.int (mc + 1), .ref e, .int (nI n)]))).1 q = h.1 q := fun q hq => gxup_ne hq
  have q3 : (gxup h a (.inr (32, [.int (mc + 1), .ref e, .int (nI n)]))).2 = h.2 := rfl
  have q5 : ∀ i, i < n → ∀ y, g i = some y → elO G (gxup h a (.inr (32, [.int (mc + 1), .ref e, .int (nI n)]))) y := fun i hi y hy => (hel i hi y hy).2.mod (hel i hi y hy).1
  generalize gxup h a (.inr (32, [.int (mc + 1), .ref e, .int (nI n)])) = h1 at *
  have ha := q0
  have he := q1
  refine gx_aload_n (pc := 10) dJ2_fastRemove_10 rfl ?_
  refine gx_get (pc := 11) fJ2_48 ha rfl dJ2_fastRemove_11 ?_
  refine gx_iconst (pc := 14) (v := 1) dJ2_fastRemove_14 (by decide) ?_
  refine gx_isub (pc := 15) dJ2_fastRemove_15 ?_
  rw [show nI n - 1 = nI (n - 1) by have := nI_pred (n - 1); rw [Nat.sub_add_cancel (by omega)] at this; exact this]
  refine gx_dup (pc := 16) dJ2_fastRemove_16 rfl ?_
  refine gx_istore_n (pc := 17) dJ2_fastRemove_17 (by decide) rfl ?_
  refine gx_iload_n (pc := 18) dJ2_fastRemove_18 rfl ?_
  refine gx_icmp_le (pc := 19) 34 dJ2_fastRemove_19 (by decide) (fun c1 => ?_) (fun c1 => ?_)
  · have hkn : n = k + 1 := by
      have := (nI_leI (by omega) (by omega)).mp c1
      omega
    refine K34 h1 g (mc + 1) q3 (fun q y1 _ => q2 q y1) q0 q1 ?_
    subst hkn
    funext j
    simp only [va_up, rmv, Nat.add_sub_cancel]
    by_cases z1 : j = k
    · subst z1; simp
    · by_cases z2 : j < k
      · simp [z1, z2]
      · simp only [z1, z2, if_false]
        rw [if_neg (by omega), if_neg (by omega)]
  · have hkn : k < n - 1 := (nI_ltI (by omega) (by omega)).mp (Int32.not_le.mp c1)
    refine gx_aload_n (pc := 22) dJ2_fastRemove_22 rfl ?_
    refine gx_iload_n (pc := 23) dJ2_fastRemove_23 rfl ?_
    refine gx_iconst (pc := 24) (v := 1) dJ2_fastRemove_24 (by decide) ?_
    refine gx_iadd (pc := 25) dJ2_fastRemove_25 ?_
    refine gx_aload_n (pc := 26) dJ2_fastRemove_26 rfl ?_
    refine gx_iload_n (pc := 27) dJ2_fastRemove_27 rfl ?_
    refine gx_iload_n (pc := 28) dJ2_fastRemove_28 rfl ?_
    refine gx_iload_n (pc := 29) dJ2_fastRemove_29 rfl ?_
    refine gx_isub (pc := 30) dJ2_fastRemove_30 ?_
    rw [nI_1, show nI (n - 1) - nI k = nI (n - 1 - k) from pk_sub (by omega)]
    refine gx_copyE (pc := 31) (kd := 3) (sp := k + 1) (dp := k) (n := n - 1 - k) q1470 q920 q919 q157 (fun _ => rfl) he he ne (by omega) (by omega) hc hc (fun i hi y hy => q5 (k + 1 + i) (by omega) y hy) (by omega) (Nat.le_of_ble_eq_true rfl) dJ2_fastRemove_31 ?_
    refine K34 _ _ (mc + 1) q3 (fun q y1 y2 => by rw [gxup_ne y2]; exact q2 q y1) (by rw [gxup_ne hae]; exact q0) (gxup_self _ _ _) ?_
    funext j
    simp only [va_up, rmv]
    by_cases z1 : j = n - 1
    · rw [if_pos z1, if_neg (by omega), if_neg (by omega), if_pos (by omega)]
    · rw [if_neg z1]
      by_cases z2 : j < k
      · rw [if_pos z2, pk_cpy_out (Or.inl z2)]
      · rw [if_neg z2]
        by_cases z3 : j + 1 < n
        · rw [if_pos z3, pk_cpy_in (by omega) (by omega)]
          congr 1; omega
        · rw [if_neg z3, if_neg (by omega), pk_cpy_out (Or.inr (by omega))]
theorem c_Lremove (hd : 2 ≤ d) {a e c n k v : Nat} {g : Nat → Option Nat} (na : gxN G ≤ a) (ne : gxN G ≤ e) (hae : a ≠ e) (hk : k < n) (hn : n ≤ c) (hc : c < 2 ^ 31) (hL : LD h a e c n g) (hv : g k = some v) (hel : ∀ i, i < n → ∀ y, g i = some y → y ≠ a ∧ elO G h y) : gxM G mJ2_remove d 0 0 [.ref a, .int (nI k)] h (gxQr (fun r h' => r = v ∧ h'.2 = h.2 ∧ (∀ q, q ≠ a → q ≠ e → h'.1 q = h.1 q) ∧ LD h' a e c (n - 1) (rmv g k n))) := by
  have hL0 := hL
  obtain ⟨mc, ha, he⟩ := hL
  refine gxM_ofF (by decide +kernel) (Nat.le_of_ble_eq_true rfl) rfl ?_
  refine gx_iload_n (pc := 0) dJ2_remove_0 rfl ?_
  refine gx_aload_n (pc := 1) dJ2_remove_1 rfl ?_
  refine gx_get (pc := 2) fJ2_48 ha rfl dJ2_remove_2 ?_
  refine kJ2_118 (kc := 0) (ks := 0) (mc := 0) (ms := 0) (pc := 5) rfl (c_checkIndex (d := d - 1) (by omega) hk (by omega)) (by omega) (Nat.le_of_ble_eq_true rfl) dJ2_remove_5 (fun r1 h1 e1 => ?_)
  subst h1
  refine gx_pop (pc := 8) dJ2_remove_8 rfl ?_
  refine gx_aload_n (pc := 9) dJ2_remove_9 rfl ?_
  refine gx_get (pc := 10) fJ2_9 ha rfl dJ2_remove_10 ?_
  refine gx_astore_n (pc := 13) dJ2_remove_13 (by decide) rfl ?_
  refine gx_aload_n (pc := 14) dJ2_remove_14 rfl ?_
  refine gx_iload_n (pc := 15) dJ2_remove_15 rfl ?_
  refine gx_aald (pc := 16) (k) he (fun _ => rfl) (by first | rfl | simp only [gx_lit, nI_add, pk_mul]) (by omega) (hc) dJ2_remove_16 ?_
  rw [hv]
  refine gx_astore_n (pc := 17) dJ2_remove_17 (by decide) rfl ?_
  refine gx_aload_n (pc := 18) dJ2_remove_18 rfl ?_
  refine gx_aload_n (pc := 19) dJ2_remove_19 rfl ?_
  refine gx_iload_n (pc := 20) dJ2_remove_20 rfl ?_
  refine kJ2_144 (kc := 0) (ks := 0) (mc := 0) (ms := 0) (pc := 21) rfl (c_fastRemove (d := d - 1) (by omega) na ne hae hk hn hc hL0 hel) (gxRc.of rfl ha) (by omega) (Nat.le_of_ble_eq_true rfl) dJ2_remove_21 (fun h1 e1 => ?_)
  refine gx_aload_n (pc := 24) dJ2_remove_24 rfl ?_
  exact gx_areturn (pc := 25) rfl (Or.inl ⟨_, rfl⟩) (Or.inr ⟨_, rfl⟩) dJ2_remove_25 (⟨_, rfl, ⟨rfl, e1⟩⟩)
end AI
