/-! ===== COMPONENT BK: nodes of the worth made ===== -/
set_option maxRecDepth 100000
section MBK
variable {G : gxG} {d : Nat} {h : gxH}
theorem c_exi (hd : 1 ≤ d) {a : Nat} : gxM G mX17_init d 0 0 [.ref a] h (gxQv (fun h' => h' = h)) := by
  refine gxM_of rfl (Nat.le_of_ble_eq_true rfl) rfl ?_
  refine gx_aload_n (pc := 0) dX17_init_0 rfl ?_
  refine gx_objInit (pc := 1) q1126 q192 q193 (Nat.le_of_ble_eq_true rfl) (by omega) dX17_init_1 ?_
  exact gx_return (pc := 4) rfl dX17_init_4 (⟨rfl, rfl⟩)
theorem c_facti (hd : 2 ≤ d) {a : Nat} (na : gxN G ≤ a) (ha : h.1 a = some (.inr (16, [.int 0]))) (v : Int32) : gxM G mX18_init d 0 0 [.ref a, .int v] h (gxQv (fun h' => h'.2 = h.2 ∧ h'.1 a = some (.inr (16, [.int v])) ∧ ∀ q, q ≠ a → h'.1 q = h.1 q)) := by
  refine gxM_of rfl (Nat.le_of_ble_eq_true rfl) rfl ?_
  refine gx_aload_n (pc := 0) dX18_init_0 rfl ?_
  refine kX18_1 (kc := 0) (ks := 0) (mc := 0) (ms := 0) (pc := 1) rfl (c_exi (d := d - 1) (by omega)) (by omega) (Nat.le_of_ble_eq_true rfl) dX18_init_1 (fun h1 e1 => ?_)
  subst h1
  refine gx_aload_n (pc := 4) dX18_init_4 rfl ?_
  refine gx_iload_n (pc := 5) dX18_init_5 rfl ?_
  refine gx_putF (pc := 6) fX18_7 rfl (by intro C T N e; cases e; rfl) ha na (by first | exact Nat.le_of_ble_eq_true rfl | simp) tX18_0 rfl rfl dX18_init_6 ?_
  exact gx_return (pc := 9) rfl dX18_init_9 (⟨rfl, ⟨rfl, gxup_self _ _ _, fun q hq => gxup_ne hq⟩⟩)
theorem c_plaini (hd : 2 ≤ d) {a : Nat} (na : gxN G ≤ a) (ha : h.1 a = some (.inr (17, [.int 0]))) (v : Int32) : gxM G mX19_init d 0 0 [.ref a, .int v] h (gxQv (fun h' => h'.2 = h.2 ∧ h'.1 a = some (.inr (17, [.int v])) ∧ ∀ q, q ≠ a → h'.1 q = h.1 q)) := by
  refine gxM_of rfl (Nat.le_of_ble_eq_true rfl) rfl ?_
  refine gx_aload_n (pc := 0) dX19_init_0 rfl ?_
  refine kX19_1 (kc := 0) (ks := 0) (mc := 0) (ms := 0) (pc := 1) rfl (c_exi (d := d - 1) (by omega)) (by omega) (Nat.le_of_ble_eq_true rfl) dX19_init_1 (fun h1 e1 => ?_)
  subst h1
  refine gx_aload_n (pc := 4) dX19_init_4 rfl ?_
  refine gx_iload_n (pc := 5) dX19_init_5 rfl ?_
  refine gx_putF (pc := 6) fX19_7 rfl (by intro C T N e; cases e; rfl) ha na (by first | exact Nat.le_of_ble_eq_true rfl | simp) tX19_0 rfl rfl dX19_init_6 ?_
  exact gx_return (pc := 9) rfl dX19_init_9 (⟨rfl, ⟨rfl, gxup_self _ _ _, fun q hq => gxup_ne hq⟩⟩)
theorem c_noti (hd : 2 ≤ d) {a : Nat} (na : gxN G ≤ a) (ha : h.1 a = some (.inr (18, [.null]))) (e : Nat) : gxM G mX20_init d 0 0 [.ref a, .ref e] h (gxQv (fun h' => h'.2 = h.2 ∧ h'.1 a = some (.inr (18, [.ref e])) ∧ ∀ q, q ≠ a → h'.1 q = h.1 q)) := by
  refine gxM_of rfl (Nat.le_of_ble_eq_true rfl) rfl ?_
  refine gx_aload_n (pc := 0) dX20_init_0 rfl ?_
  refine kX20_1 (kc := 0) (ks := 0) (mc := 0) (ms := 0) (pc := 1) rfl (c_exi (d := d - 1) (by omega)) (by omega) (Nat.le_of_ble_eq_true rfl) dX20_init_1 (fun h1 e1 => ?_)
  subst h1
  refine gx_aload_n (pc := 4) dX20_init_4 rfl ?_
  refine gx_aload_n (pc := 5) dX20_init_5 rfl ?_
  refine gx_putF (pc := 6) fX20_7 rfl (by intro C T N e; cases e; rfl) ha na (by first | exact Nat.le_of_ble_eq_true rfl | simp) tX20_0 rfl rfl dX20_init_6 ?_
  exact gx_return (pc := 9) rfl dX20_init_9 (⟨rfl, ⟨rfl, gxup_self _ _ _, fun q hq => gxup_ne hq⟩⟩)
theorem c_li0 (hd : 1 ≤ d) {a : Nat} (na : gxN G ≤ a) (ha : h.1 a = some (.inr (20, [.null]))) (e : Nat) : gxM G mX22_init d 0 0 [.ref a, .ref e] h (gxQv (fun h' => h'.2 = h.2 ∧ h'.1 a = some (.inr (20, [.ref e])) ∧ ∀ q, q ≠ a → h'.1 q = h.1 q)) := by
  refine gxM_of rfl (Nat.le_of_ble_eq_true rfl) rfl ?_
  refine gx_aload_n (pc := 0) dX22_init_0 rfl ?_
  refine gx_objInit (pc := 1) q1186 q192 q193 (Nat.le_of_ble_eq_true rfl) (by omega) dX22_init_1 ?_
  refine gx_aload_n (pc := 4) dX22_init_4 rfl ?_
  refine gx_aload_n (pc := 5) dX22_init_5 rfl ?_
  refine gx_putF (pc := 6) fX22_7_X23 rfl (by intro C T N e; cases e; rfl) ha na (by first | exact Nat.le_of_ble_eq_true rfl | simp) tX23_0 rfl rfl dX22_init_6 ?_
  exact gx_return (pc := 9) rfl dX22_init_9 (⟨rfl, ⟨rfl, gxup_self _ _ _, fun q hq => gxup_ne hq⟩⟩)
theorem c_lk0 (hd : 3 ≤ d) {a : Nat} (na : gxN G ≤ a) (ha : h.1 a = some (.inr (20, [.null]))) (e : Nat) : gxM G mX23_init d 0 0 [.ref a, .ref e] h (gxQv (fun h' => h'.2 = h.2 ∧ h'.1 a = some (.inr (20, [.ref e])) ∧ ∀ q, q ≠ a → h'.1 q = h.1 q)) := by
  refine gxM_of rfl (Nat.le_of_ble_eq_true rfl) rfl ?_
  refine gx_aload_n (pc := 0) dX23_init_0 rfl ?_
  refine gx_aload_n (pc := 1) dX23_init_1 rfl ?_
  refine kX23_1 (kc := 0) (ks := 0) (mc := 0) (ms := 0) (pc := 2) rfl (c_li0 (d := d - 1) (by omega) na ha e) (by omega) (Nat.le_of_ble_eq_true rfl) dX23_init_2 (fun h1 e1 => ?_)
  exact gx_return (pc := 5) rfl dX23_init_5 (⟨rfl, e1⟩)
theorem c_li1 (hd : 1 ≤ d) {a : Nat} (na : gxN G ≤ a) (ha : h.1 a = some (.inr (21, [.null]))) (e : Nat) : gxM G mX22_init d 0 0 [.ref a, .ref e] h (gxQv (fun h' => h'.2 = h.2 ∧ h'.1 a = some (.inr (21, [.ref e])) ∧ ∀ q, q ≠ a → h'.1 q = h.1 q)) := by
  refine gxM_of rfl (Nat.le_of_ble_eq_true rfl) rfl ?_
  refine gx_aload_n (pc := 0) dX22_init_0 rfl ?_
  refine gx_objInit (pc := 1) q1186 q192 q193 (Nat.le_of_ble_eq_true rfl) (by omega) dX22_init_1 ?_
  refine gx_aload_n (pc := 4) dX22_init_4 rfl ?_
  refine gx_aload_n (pc := 5) dX22_init_5 rfl ?_
  refine gx_putF (pc := 6) fX22_7_X24 rfl (by intro C T N e; cases e; rfl) ha na (by first | exact Nat.le_of_ble_eq_true rfl | simp) tX24_0 rfl rfl dX22_init_6 ?_
  exact gx_return (pc := 9) rfl dX22_init_9 (⟨rfl, ⟨rfl, gxup_self _ _ _, fun q hq => gxup_ne hq⟩⟩)
theorem c_lk1 (hd : 3 ≤ d) {a : Nat} (na : gxN G ≤ a) (ha : h.1 a = some (.inr (21, [.null]))) (e : Nat) : gxM G mX24_init d 0 0 [.ref a, .ref e] h (gxQv (fun h' => h'.2 = h.2 ∧ h'.1 a = some (.inr (21, [.ref e])) ∧ ∀ q, q ≠ a → h'.1 q = h.1 q)) := by
  refine gxM_of rfl (Nat.le_of_ble_eq_true rfl) rfl ?_
  refine gx_aload_n (pc := 0) dX24_init_0 rfl ?_
  refine gx_aload_n (pc := 1) dX24_init_1 rfl ?_
  refine kX24_1 (kc := 0) (ks := 0) (mc := 0) (ms := 0) (pc := 2) rfl (c_li1 (d := d - 1) (by omega) na ha e) (by omega) (Nat.le_of_ble_eq_true rfl) dX24_init_2 (fun h1 e1 => ?_)
  exact gx_return (pc := 5) rfl dX24_init_5 (⟨rfl, e1⟩)
theorem c_li2 (hd : 1 ≤ d) {a : Nat} (na : gxN G ≤ a) (ha : h.1 a = some (.inr (22, [.null]))) (e : Nat) : gxM G mX22_init d 0 0 [.ref a, .ref e] h (gxQv (fun h' => h'.2 = h.2 ∧ h'.1 a = some (.inr (22, [.ref e])) ∧ ∀ q, q ≠ a → h'.1 q = h.1 q)) := by
  refine gxM_of rfl (Nat.le_of_ble_eq_true rfl) rfl ?_
  refine gx_aload_n (pc := 0) dX22_init_0 rfl ?_
  refine gx_objInit (pc := 1) q1186 q192 q193 (Nat.le_of_ble_eq_true rfl) (by omega) dX22_init_1 ?_
  refine gx_aload_n (pc := 4) dX22_init_4 rfl ?_
  refine gx_aload_n (pc := 5) dX22_init_5 rfl ?_
  refine gx_putF (pc := 6) fX22_7_X25 rfl (by intro C T N e; cases e; rfl) ha na (by first | exact Nat.le_of_ble_eq_true rfl | simp) tX25_0 rfl rfl dX22_init_6 ?_
  exact gx_return (pc := 9) rfl dX22_init_9 (⟨rfl, ⟨rfl, gxup_self _ _ _, fun q hq => gxup_ne hq⟩⟩)
theorem c_lk2 (hd : 3 ≤ d) {a : Nat} (na : gxN G ≤ a) (ha : h.1 a = some (.inr (22, [.null]))) (e : Nat) : gxM G mX25_init d 0 0 [.ref a, .ref e] h (gxQv (fun h' => h'.2 = h.2 ∧ h'.1 a = some (.inr (22, [.ref e])) ∧ ∀ q, q ≠ a → h'.1 q = h.1 q)) := by
  refine gxM_of rfl (Nat.le_of_ble_eq_true rfl) rfl ?_
  refine gx_aload_n (pc := 0) dX25_init_0 rfl ?_
  refine gx_aload_n (pc := 1) dX25_init_1 rfl ?_
  refine kX25_1 (kc := 0) (ks := 0) (mc := 0) (ms := 0) (pc := 2) rfl (c_li2 (d := d - 1) (by omega) na ha e) (by omega) (Nat.le_of_ble_eq_true rfl) dX25_init_2 (fun h1 e1 => ?_)
  exact gx_return (pc := 5) rfl dX25_init_5 (⟨rfl, e1⟩)
theorem c_li3 (hd : 1 ≤ d) {a : Nat} (na : gxN G ≤ a) (ha : h.1 a = some (.inr (23, [.null]))) (e : Nat) : gxM G mX22_init d 0 0 [.ref a, .ref e] h (gxQv (fun h' => h'.2 = h.2 ∧ h'.1 a = some (.inr (23, [.ref e])) ∧ ∀ q, q ≠ a → h'.1 q = h.1 q)) := by
  refine gxM_of rfl (Nat.le_of_ble_eq_true rfl) rfl ?_
  refine gx_aload_n (pc := 0) dX22_init_0 rfl ?_
  refine gx_objInit (pc := 1) q1186 q192 q193 (Nat.le_of_ble_eq_true rfl) (by omega) dX22_init_1 ?_
  refine gx_aload_n (pc := 4) dX22_init_4 rfl ?_
  refine gx_aload_n (pc := 5) dX22_init_5 rfl ?_
  refine gx_putF (pc := 6) fX22_7_X26 rfl (by intro C T N e; cases e; rfl) ha na (by first | exact Nat.le_of_ble_eq_true rfl | simp) tX26_0 rfl rfl dX22_init_6 ?_
  exact gx_return (pc := 9) rfl dX22_init_9 (⟨rfl, ⟨rfl, gxup_self _ _ _, fun q hq => gxup_ne hq⟩⟩)
theorem c_lk3 (hd : 3 ≤ d) {a : Nat} (na : gxN G ≤ a) (ha : h.1 a = some (.inr (23, [.null]))) (e : Nat) : gxM G mX26_init d 0 0 [.ref a, .ref e] h (gxQv (fun h' => h'.2 = h.2 ∧ h'.1 a = some (.inr (23, [.ref e])) ∧ ∀ q, q ≠ a → h'.1 q = h.1 q)) := by
  refine gxM_of rfl (Nat.le_of_ble_eq_true rfl) rfl ?_
  refine gx_aload_n (pc := 0) dX26_init_0 rfl ?_
  refine gx_aload_n (pc := 1) dX26_init_1 rfl ?_
  refine kX26_1 (kc := 0) (ks := 0) (mc := 0) (ms := 0) (pc := 2) rfl (c_li3 (d := d - 1) (by omega) na ha e) (by omega) (Nat.le_of_ble_eq_true rfl) dX26_init_2 (fun h1 e1 => ?_)
  exact gx_return (pc := 5) rfl dX26_init_5 (⟨rfl, e1⟩)
theorem c_li4 (hd : 1 ≤ d) {a : Nat} (na : gxN G ≤ a) (ha : h.1 a = some (.inr (24, [.null]))) (e : Nat) : gxM G mX22_init d 0 0 [.ref a, .ref e] h (gxQv (fun h' => h'.2 = h.2 ∧ h'.1 a = some (.inr (24, [.ref e])) ∧ ∀ q, q ≠ a → h'.1 q = h.1 q)) := by
  refine gxM_of rfl (Nat.le_of_ble_eq_true rfl) rfl ?_
  refine gx_aload_n (pc := 0) dX22_init_0 rfl ?_
  refine gx_objInit (pc := 1) q1186 q192 q193 (Nat.le_of_ble_eq_true rfl) (by omega) dX22_init_1 ?_
  refine gx_aload_n (pc := 4) dX22_init_4 rfl ?_
  refine gx_aload_n (pc := 5) dX22_init_5 rfl ?_
  refine gx_putF (pc := 6) fX22_7_X27 rfl (by intro C T N e; cases e; rfl) ha na (by first | exact Nat.le_of_ble_eq_true rfl | simp) tX27_0 rfl rfl dX22_init_6 ?_
  exact gx_return (pc := 9) rfl dX22_init_9 (⟨rfl, ⟨rfl, gxup_self _ _ _, fun q hq => gxup_ne hq⟩⟩)
theorem c_lk4 (hd : 3 ≤ d) {a : Nat} (na : gxN G ≤ a) (ha : h.1 a = some (.inr (24, [.null]))) (e : Nat) : gxM G mX27_init d 0 0 [.ref a, .ref e] h (gxQv (fun h' => h'.2 = h.2 ∧ h'.1 a = some (.inr (24, [.ref e])) ∧ ∀ q, q ≠ a → h'.1 q = h.1 q)) := by
  refine gxM_of rfl (Nat.le_of_ble_eq_true rfl) rfl ?_
  refine gx_aload_n (pc := 0) dX27_init_0 rfl ?_
  refine gx_aload_n (pc := 1) dX27_init_1 rfl ?_
  refine kX27_1 (kc := 0) (ks := 0) (mc := 0) (ms := 0) (pc := 2) rfl (c_li4 (d := d - 1) (by omega) na ha e) (by omega) (Nat.le_of_ble_eq_true rfl) dX27_init_2 (fun h1 e1 => ?_)
  exact gx_return (pc := 5) rfl dX27_init_5 (⟨rfl, e1⟩)
theorem c_li5 (hd : 1 ≤ d) {a : Nat} (na : gxN G ≤ a) (ha : h.1 a = some (.inr (25, [.null]))) (e : Nat) : gxM G mX22_init d 0 0 [.ref a, .ref e] h (gxQv (fun h' => h'.2 = h.2 ∧ h'.1 a = some (.inr (25, [.ref e])) ∧ ∀ q, q ≠ a → h'.1 q = h.1 q)) := by
  refine gxM_of rfl (Nat.le_of_ble_eq_true rfl) rfl ?_
  refine gx_aload_n (pc := 0) dX22_init_0 rfl ?_
  refine gx_objInit (pc := 1) q1186 q192 q193 (Nat.le_of_ble_eq_true rfl) (by omega) dX22_init_1 ?_
  refine gx_aload_n (pc := 4) dX22_init_4 rfl ?_
  refine gx_aload_n (pc := 5) dX22_init_5 rfl ?_
  refine gx_putF (pc := 6) fX22_7_X28 rfl (by intro C T N e; cases e; rfl) ha na (by first | exact Nat.le_of_ble_eq_true rfl | simp) tX28_0 rfl rfl dX22_init_6 ?_
  exact gx_return (pc := 9) rfl dX22_init_9 (⟨rfl, ⟨rfl, gxup_self _ _ _, fun q hq => gxup_ne hq⟩⟩)
theorem c_lk5 (hd : 3 ≤ d) {a : Nat} (na : gxN G ≤ a) (ha : h.1 a = some (.inr (25, [.null]))) (e : Nat) : gxM G mX28_init d 0 0 [.ref a, .ref e] h (gxQv (fun h' => h'.2 = h.2 ∧ h'.1 a = some (.inr (25, [.ref e])) ∧ ∀ q, q ≠ a → h'.1 q = h.1 q)) := by
  refine gxM_of rfl (Nat.le_of_ble_eq_true rfl) rfl ?_
  refine gx_aload_n (pc := 0) dX28_init_0 rfl ?_
  refine gx_aload_n (pc := 1) dX28_init_1 rfl ?_
  refine kX28_1 (kc := 0) (ks := 0) (mc := 0) (ms := 0) (pc := 2) rfl (c_li5 (d := d - 1) (by omega) na ha e) (by omega) (Nat.le_of_ble_eq_true rfl) dX28_init_2 (fun h1 e1 => ?_)
  exact gx_return (pc := 5) rfl dX28_init_5 (⟨rfl, e1⟩)
theorem c_li6 (hd : 1 ≤ d) {a : Nat} (na : gxN G ≤ a) (ha : h.1 a = some (.inr (26, [.null]))) (e : Nat) : gxM G mX22_init d 0 0 [.ref a, .ref e] h (gxQv (fun h' => h'.2 = h.2 ∧ h'.1 a = some (.inr (26, [.ref e])) ∧ ∀ q, q ≠ a → h'.1 q = h.1 q)) := by
  refine gxM_of rfl (Nat.le_of_ble_eq_true rfl) rfl ?_
  refine gx_aload_n (pc := 0) dX22_init_0 rfl ?_
  refine gx_objInit (pc := 1) q1186 q192 q193 (Nat.le_of_ble_eq_true rfl) (by omega) dX22_init_1 ?_
  refine gx_aload_n (pc := 4) dX22_init_4 rfl ?_
  refine gx_aload_n (pc := 5) dX22_init_5 rfl ?_
  refine gx_putF (pc := 6) fX22_7_X29 rfl (by intro C T N e; cases e; rfl) ha na (by first | exact Nat.le_of_ble_eq_true rfl | simp) tX29_0 rfl rfl dX22_init_6 ?_
  exact gx_return (pc := 9) rfl dX22_init_9 (⟨rfl, ⟨rfl, gxup_self _ _ _, fun q hq => gxup_ne hq⟩⟩)
theorem c_lk6 (hd : 3 ≤ d) {a : Nat} (na : gxN G ≤ a) (ha : h.1 a = some (.inr (26, [.null]))) (e : Nat) : gxM G mX29_init d 0 0 [.ref a, .ref e] h (gxQv (fun h' => h'.2 = h.2 ∧ h'.1 a = some (.inr (26, [.ref e])) ∧ ∀ q, q ≠ a → h'.1 q = h.1 q)) := by
  refine gxM_of rfl (Nat.le_of_ble_eq_true rfl) rfl ?_
  refine gx_aload_n (pc := 0) dX29_init_0 rfl ?_
  refine gx_aload_n (pc := 1) dX29_init_1 rfl ?_
  refine kX29_1 (kc := 0) (ks := 0) (mc := 0) (ms := 0) (pc := 2) rfl (c_li6 (d := d - 1) (by omega) na ha e) (by omega) (Nat.le_of_ble_eq_true rfl) dX29_init_2 (fun h1 e1 => ?_)
  exact gx_return (pc := 5) rfl dX29_init_5 (⟨rfl, e1⟩)
theorem c_chaini (hd : 5 ≤ d) {a : Nat} (na : gxN G ≤ a) (haz : a < h.2) (ha : h.1 a = some (.inr (19, [.null, .null]))) (e : Nat) : gxM G mX21_init d 2 4 [.ref a, .ref e] h (gxQv (fun h' => h'.2 = h.2 + 2 ∧ h'.1 a = some (.inr (19, [.ref e, .ref h.2])) ∧ LV G h' h.2 (h.2 + 1) 1 0 (fun _ => 0) ∧ ∀ q, q ≠ a → q < h.2 → h'.1 q = h.1 q)) := by
  refine gxM_of rfl (Nat.le_of_ble_eq_true rfl) rfl ?_
  refine gx_aload_n (pc := 0) dX21_init_0 rfl ?_
  refine kX21_1 (kc := 2) (ks := 4) (mc := 0) (ms := 0) (pc := 1) rfl (c_exi (d := d - 1) (by omega)) (by omega) (Nat.le_of_ble_eq_true rfl) dX21_init_1 (fun h1 e1 => ?_)
  subst h1
  refine gx_aload_n (pc := 4) dX21_init_4 rfl ?_
  refine nX21_7 (kc := 1) (ks := 1) (pc := 5) rfl dX21_init_5 ?_
  have hnl : (gxadd h (.inr (32, [.int 0, .null, .int 0]))).1 h.2 = some (.inr (32, [.int 0, .null, .int 0])) := gxadd_self _ _
  have f1 : ∀ q, q ≠ h.2 → (gxadd h (.inr (32, [.int 0, .null, .int 0]))).1 q = h.1 q := fun q hq => gxadd_ne hq
  have s1 : (gxadd h (.inr (32, [.int 0, .null, .int 0]))).2 = h.2 + 1 := rfl
  generalize gxadd h (.inr (32, [.int 0, .null, .int 0])) = h1 at *
  refine gx_dup (pc := 8) dX21_init_8 rfl ?_
  refine gx_iconst (pc := 9) (v := 1) dX21_init_9 (by decide) ?_
  refine gx_r0 ?_
  refine kX21_9 (kc := 0) (ks := 0) (mc := 1) (ms := 1) (pc := 10) rfl (c_LVnew (d := d - 1) (by omega) (by omega) (by omega) (by omega) 1 (by decide) (by decide) hnl) (by omega) (Nat.le_of_ble_eq_true rfl) dX21_init_10 (fun h2 e2 => ?_)
  obtain ⟨l2, s2, f2⟩ := e2
  rw [s1] at l2 s2 f2
  have ha2 : h2.1 a = some (.inr (19, [.null, .null])) := by rw [f2 a (by omega) (by omega), f1 a (by omega)]; exact ha
  clear ha
  have ha := ha2
  refine gx_putF (pc := 13) fX21_12 rfl (by intro C T N e; cases e; rfl) ha na (by first | exact Nat.le_of_ble_eq_true rfl | simp) tX21_1 rfl rfl dX21_init_13 ?_
  change gxV _ _ _ _ _ _ _ _ (gxup h2 a (.inr (19, [.null, .ref h.2]))) _
  have e3 : (gxup h2 a (.inr (19, [.null, .ref h.2]))).1 a = some (.inr (19, [.null, .ref h.2])) := gxup_self _ _ _
  have f3 : ∀ q, q ≠ a → (gxup h2 a (.inr (19, [.null, .ref h.2]))).1 q = h2.1 q := fun q hq => gxup_ne hq
  have s3 : (gxup h2 a (.inr (19, [.null, .ref h.2]))).2 = h2.2 := rfl
  generalize gxup h2 a (.inr (19, [.null, .ref h.2])) = h3 at *
  clear ha
  have ha := e3
  refine gx_aload_n (pc := 16) dX21_init_16 rfl ?_
  refine gx_aload_n (pc := 17) dX21_init_17 rfl ?_
  refine gx_putF (pc := 18) fX21_18 rfl (by intro C T N e; cases e; rfl) ha na (by first | exact Nat.le_of_ble_eq_true rfl | simp) tX21_0 rfl rfl dX21_init_18 ?_
  refine gx_return (pc := 21) rfl dX21_init_21 ⟨rfl, by show h3.2 = _; omega, gxup_self _ _ _, l2.fr (by show h2.2 ≤ h3.2; omega) (by rw [gxup_ne (by omega), f3 _ (by omega)]) (by rw [gxup_ne (by omega), f3 _ (by omega)]), fun q q1 q2 => by rw [gxup_ne q1, f3 q q1, f2 q (by omega) (by omega), f1 q (by omega)]⟩
end MBK
/-! the worth read, plain -/
abbrev rdR : Type := Nat × gxEv × List Int32
section RD
variable (t : Nat → Int32) (z : Nat)
def lpT (P : Nat → Sum Int32 rdR) : Nat → rdR → Sum Int32 rdR
  | 0, _ => .inl 0
  | m + 1, a => if tkG t (tkK t z a.1) 42 = true then rB (P (a.1 + 1)) (fun b => lpT P m (b.1, fun x y u v => lkE 20 (a.2.1 x y u v) (b.2.1 x y u v), a.2.2 ++ 22 :: b.2.2)) else .inr a
def prT (P : Nat → Sum Int32 rdR) (i : Nat) : Sum Int32 rdR := rB (P i) (fun a => lpT t z P (z + 1) a)
def lpS (P : Nat → Sum Int32 rdR) : Nat → rdR → Sum Int32 rdR
  | 0, _ => .inl 0
  | m + 1, a => if tkG t (tkK t z a.1) 43 = true then rB (P (a.1 + 1)) (fun b => lpS P m (b.1, fun x y u v => lkE 21 (a.2.1 x y u v) (b.2.1 x y u v), a.2.2 ++ 20 :: b.2.2))
      else if tkG t (tkK t z a.1) 45 = true then rB (P (a.1 + 1)) (fun b => lpS P m (b.1, fun x y u v => lkE 22 (a.2.1 x y u v) (b.2.1 x y u v), a.2.2 ++ 21 :: b.2.2)) else .inr a
def prS (P : Nat → Sum Int32 rdR) (i : Nat) : Sum Int32 rdR := rB (prT t z P i) (fun a => lpS t z (prT t z P) (z + 1) a)
def prE (P : Nat → Sum Int32 rdR) (i : Nat) : Sum Int32 rdR := rB (prS t z P i) (fun a =>
  if tkG t (tkK t z a.1) 60 = true then rB (prS t z P (a.1 + 1)) (fun b => .inr (b.1, fun x y u v => lkE 23 (a.2.1 x y u v) (b.2.1 x y u v), a.2.2 ++ 24 :: b.2.2))
  else if tkG t (tkK t z a.1) 61 = true then rB (prS t z P (a.1 + 1)) (fun b => .inr (b.1, fun x y u v => lkE 24 (a.2.1 x y u v) (b.2.1 x y u v), a.2.2 ++ 25 :: b.2.2)) else .inr a)
def lpA (P : Nat → Sum Int32 rdR) : Nat → rdR → Sum Int32 rdR
  | 0, _ => .inl 0
  | m + 1, a => if tkW (tkK t z a.1) 1111 = true then rB (P (a.1 + 1)) (fun b => lpA P m (b.1, fun x y u v => lkE 25 (a.2.1 x y u v) (b.2.1 x y u v), a.2.2 ++ 26 :: b.2.2))
      else if tkW (tkK t z a.1) 423 = true then rB (P (a.1 + 1)) (fun b => lpA P m (b.1, fun x y u v => lkE 26 (a.2.1 x y u v) (b.2.1 x y u v), a.2.2 ++ 27 :: b.2.2)) else .inr a
def prA (P : Nat → Sum Int32 rdR) (i : Nat) : Sum Int32 rdR := rB (prE t z P i) (fun a => lpA t z (prE t z P) (z + 1) a)
/-- a part, k more may be opened -/
def prP : Nat → Nat → Sum Int32 rdR
  | k, i => if spFact (tkK t z i) = 0 ∧ tkW (tkK t z i) 10631 = false ∧ tkG t (tkK t z i) 40 = false ∧ ¬ (tkK t z i).2.2.1 = 2 then .inl (flt t z i 1) else match k with
    | 0 => .inl (flt t z i 5)
    | k + 1 => if ¬ spFact (tkK t z i) = 0 then .inr (i + 1, (fun a b c d => if spFact (tkK t z i) - 1 = 0 then a else if spFact (tkK t z i) - 1 = 1 then b else if spFact (tkK t z i) - 1 = 2 then c else d), [nI (spFact (tkK t z i))])
      else if (tkK t z i).2.2.1 = 2 then .inr (i + 1, (fun _ _ _ _ => (tkK t z i).2.2.2.2), [100 + (tkK t z i).2.2.2.2])
      else if tkW (tkK t z i) 10631 = true then rB (prP k (i + 1)) (fun a => .inr (a.1, (fun x y u v => if a.2.1 x y u v = 0 then 1 else 0), 30 :: a.2.2))
      else rB (prA t z (prP k) (i + 1)) (fun a => if tkG t (tkK t z a.1) 41 = true then .inr (a.1 + 1, a.2.1, 28 :: (a.2.2 ++ [29])) else .inl (flt t z a.1 1))
end RD
