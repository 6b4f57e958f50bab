/-! ===== COMPONENT V: lists filled ===== -/
set_option maxRecDepth 100000
theorem half (c : Nat) (hc : c < 2 ^ 30) : nI c >>> ((1 : Int32) &&& 31) = nI (c / 2) := by
  have k := pk_shrN (n := c) (by omega) ((1 : Int32) &&& 31) 1 (by decide)
  rw [Nat.pow_one] at k
  exact k
def grw (c : Nat) : Nat := c + (if 1 < c / 2 then c / 2 else 1)
theorem grw_le (c : Nat) (h : 1 ≤ c) : c + 1 ≤ grw c ∧ grw c ≤ 2 * c := by unfold grw; split <;> omega
theorem gx_more {G : gxG} {Y : gxY} {d a b a' b' pc : Nat} {ls : List (Option Value)} {st : List Value} {h : gxH} {Q : Outcome → gxH → Prop} (ha : a ≤ a') (hb : b ≤ b') (x : gxV G Y d a b pc ls st h Q) : gxV G Y d a' b' pc ls st h Q := gx_room ha hb x
theorem sameF {s : State} {A : Array Value} {ref owner name desc : String} {x : Nat × Class × Nat × Field} (h : (Cond.sameField ref owner name desc).before A s = true) (ho : s.fieldFound? owner name desc = some x) : s.fieldFound? ref name desc = some x := by
  cases hr : s.fieldFound? ref name desc with
  | none => simp [Cond.before, Cond.holds, Cond.value, hr] at h
  | some y =>
    obtain ⟨c, k, i, f⟩ := y
    have := Cond.sameField_spec hr h
    rw [this] at ho
    exact ho
section SF
variable {G : gxG} {Y : gxY} {d kc ks pc : Nat} {ls : List (Option Value)} {st : List Value} {h : gxH} {Q : Outcome → gxH → Prop}
/-- modCount, by the list's own name -/
theorem gx_getMC {a : Nat} {mc : Int32} {v w : Value} (hY : Y.1.cls = "java/util/ArrayList") (hh : h.1 a = some (.inr (32, [.int mc, v, w]))) (hd : decode Y.2.1 pc = .ok (.getfield 63, 3)) (kk : gxV G Y d kc ks (pc + 3) ls (.int mc :: st) h Q) : gxV G Y d kc ks pc ls (.ref a :: st) h Q := by
  intro p e R s m args below meth c H locs cells slots la A
  obtain ⟨C, T, N, ty, hc, hin, hk, hl, -, -, -⟩ := fJ1_7
  cases hc
  have hts := gx_hts A args
  have hK := gx_vK A
  obtain ⟨r, h1, cell, q1, q2, q3, q4⟩ := A.2.2.1.2.2.1 a _ hh
  have hr : r = (RJ2, TJ2, 3) := Option.some.inj (h1.symm.trans rfl)
  subst hr
  obtain ⟨hS, hfc, kC, hkC, hkind⟩ := hK.1 32 _ rfl
  obtain ⟨cf, kf, fi, f, hi, hsl⟩ := hS 0 hk
  have hi2 := sameF (hts _ q348) hi
  have hown : s.vm.findClass "java/util/ArrayList" = some m.cls := by rw [← hY]; exact A.2.1.2.2.2.2.2.1
  refine W.getf A.2.1.1 A.2.1.2.1 hown (hts _ q347) hi2 (u_facts hfc hkC (u_lays hts hin hk) hi).1 q1 (by rw [q3]; exact fun h => by cases h) (v := .int mc) ?_ rfl rfl hd (kk p e R s m args below meth c H locs cells slots la A)
  rw [hsl, q4 0 hk]
  rfl
theorem gx_putMC {a : Nat} {mc mc' : Int32} {v w : Value} (hY : Y.1.cls = "java/util/ArrayList") (hh : h.1 a = some (.inr (32, [.int mc, v, w]))) (hN : gxN G ≤ a) (hd : decode Y.2.1 pc = .ok (.putfield 63, 3)) (kk : gxV G Y d kc ks (pc + 3) ls st (gxup h a (.inr (32, [.int mc', v, w]))) Q) : gxV G Y d kc ks pc ls (.int mc' :: .ref a :: st) h Q := by
  intro p e R s m args below meth c H locs cells slots la A
  obtain ⟨C, T, N, ty0, hc, hin, hk, hlk, hfin, hty0, hnm⟩ := fJ1_7
  cases hc
  have hts := gx_hts A args
  have hK := gx_vK A
  have hap := va_apart (own := "java/util/AbstractList") hts hin ty0 hty0 hnm hK (show gxCl[32]? = some (RJ2, TJ2, 3) from rfl)
  obtain ⟨r, h1, cell, q1, q2, q3, q4⟩ := A.2.2.1.2.2.1 a _ hh
  have hr : r = (RJ2, TJ2, 3) := Option.some.inj (h1.symm.trans rfl)
  subst hr
  obtain ⟨hS, hfc, kC, hkC, hkind⟩ := hK.1 32 _ rfl
  obtain ⟨cf, kf, fi, f, hi, hsl⟩ := hS 0 hk
  have hi2 := sameF (hts _ q348) hi
  have hown : s.vm.findClass "java/util/ArrayList" = some m.cls := by rw [← hY]; exact A.2.1.2.2.2.2.2.1
  have hlay := hts _ (hin _ (u_in_lay hk))
  unfold u_lay at hlay
  rw [if_neg (by rw [hfin]; decide)] at hlay
  have hst := (u_facts hfc hkC (u_lays hts hin hk) hi).1
  have h6 := u_store (v := .int mc') hfc hkC hkind hlay hi (tJ2_0 _ _ _ rfl) rfl rfl
  refine W.putK A.2.1.1 A.2.1.2.1 (f := f) ⟨hown, hts _ q347, ⟨_, _, _, hi2⟩, hst⟩ (by rw [q2]; exact h6) q1 q3 (by rw [hsl]; exact k2_hasslot (q4 0 hk)) rfl rfl hd fun H' e1 e2 e3 => ?_
  rw [hsl] at e1
  refine kk p e R s m args below meth c H' _ cells slots la ⟨A.1, A.2.1, A.2.2.1.up hN ?_ e2 e3 (fun _ _ c' hc' => by rw [e1] at hc'; cases hc'; exact A.2.2.1.2.2.2.2 a cell hN q1), gx_app A.2.2.2.1 hN, A.2.2.2.2⟩
  exact ⟨_, rfl, t_OB.to (V := updV (vp_V [.int mc, v, w]) 0 (.int mc')) ⟨_, e1, q2, q3, t_set q4 hap hk (.int mc')⟩ (fun j _ => vp_updV_set (fs := [.int mc, v, w]) (Nat.le_of_ble_eq_true rfl) (.int mc') j)⟩
end SF
section LV
variable {G : gxG} {d : Nat} {h : gxH}
theorem c_grow2 (hd : 4 ≤ d) {a e c n : Nat} {g : Nat → Option Nat} (na : gxN G ≤ a) (haz : a < h.2) (hez : e < h.2) (hL : LD h a e c n g) (hc1 : 1 ≤ c) (hc2 : c ≤ 2000) (hel : ∀ i, i < c → ∀ y, g i = some y → y < h.2 ∧ elO G h y) : gxM G mJ2_grow_2 d 1 (grw c) [.ref a, .int (nI (c + 1))] h (gxQr (fun r h' => r = h.2 ∧ LD h' a h.2 (grw c) n (va_cpy g (fun _ => none) 0 0 c) ∧ h'.2 = h.2 + 1 ∧ ∀ q, q ≠ a → q ≠ h.2 → h'.1 q = h.1 q)) := by
  obtain ⟨mc, ha, he⟩ := hL
  have hg := grw_le c hc1
  refine gxM_ofF (by decide +kernel) (Nat.le_of_ble_eq_true rfl) rfl ?_
  refine gx_aload_n (pc := 0) dJ2_grow_2_0 rfl ?_
  refine gx_get (pc := 1) fJ2_9 ha rfl dJ2_grow_2_1 ?_
  refine gx_alen (pc := 4) he (fun _ => rfl) rfl dJ2_grow_2_4 ?_
  refine gx_istore_n (pc := 5) dJ2_grow_2_5 (by decide) rfl ?_
  refine gx_iload_n (pc := 6) dJ2_grow_2_6 rfl ?_
  refine gx_if_gt (pc := 7) 20 dJ2_grow_2_7 (by decide) (fun c1 => ?_) (fun c1 => ?_)
  · refine gx_iload_n (pc := 20) dJ2_grow_2_20 rfl ?_
    refine gx_iload_n (pc := 21) dJ2_grow_2_21 rfl ?_
    refine gx_iload_n (pc := 22) dJ2_grow_2_22 rfl ?_
    refine gx_isub (pc := 23) dJ2_grow_2_23 ?_
    rw [show nI (c + 1) - nI c = nI 1 by rw [pk_sub (by omega)]; congr 1; omega]
    refine gx_iload_n (pc := 24) dJ2_grow_2_24 rfl ?_
    refine gx_iconst (pc := 25) (v := 1) dJ2_grow_2_25 (by decide) ?_
    refine gx_ishr (pc := 26) dJ2_grow_2_26 ?_
    rw [half c (by omega)]
    refine kJ2_73 (kc := 1) (ks := grw c) (mc := 0) (ms := 0) (pc := 27) rfl (c_newLength (d := d - 1) (by omega) c hc1 hc2) (by omega) (Nat.le_of_ble_eq_true rfl) dJ2_grow_2_27 (fun r1 h1 e1 => ?_)
    obtain ⟨rfl, e1⟩ := e1
    subst h1
    rw [show c + (if 1 < c / 2 then c / 2 else 1) = grw c from rfl]
    refine gx_istore_n (pc := 30) dJ2_grow_2_30 (by decide) rfl ?_
    refine gx_aload_n (pc := 31) dJ2_grow_2_31 rfl ?_
    refine gx_aload_n (pc := 32) dJ2_grow_2_32 rfl ?_
    refine gx_get (pc := 33) fJ2_9 ha rfl dJ2_grow_2_33 ?_
    refine gx_iload_n (pc := 36) dJ2_grow_2_36 rfl ?_
    refine gx_r0 ?_
    refine kJ2_66 (kc := 0) (ks := 0) (mc := 1) (ms := grw c) (pc := 37) rfl (c_copyOf (d := d - 1) (by omega) (Nat.le_trans na (Nat.le_of_lt haz)) hez he (by omega) (by omega) hel) (by omega) (Nat.le_of_ble_eq_true rfl) dJ2_grow_2_37 (fun r1 h1 e1 => ?_)
    obtain ⟨rfl, b1, b2, b3⟩ := e1
    have ha0 : h1.1 a = some (.inr (32, [.int mc, .ref e, .int (nI n)])) := by rw [b3 a (by omega)]; exact ha
    have ha := ha0
    refine gx_dup_x1 (pc := 40) dJ2_grow_2_40 rfl rfl ?_
    refine gx_put (pc := 41) fJ2_9 ha na (by first | exact Nat.le_of_ble_eq_true rfl | simp) tJ2_1 rfl rfl dJ2_grow_2_41 ?_
    exact gx_areturn (pc := 44) rfl (Or.inr ⟨_, rfl⟩) (Or.inr ⟨_, rfl⟩) dJ2_grow_2_44 ⟨_, rfl, rfl, ⟨mc, gxup_self _ _ _, by rw [gxup_ne (by omega)]; exact b1⟩, b2, fun q h1 h2 => by rw [gxup_ne h1]; exact b3 q h2⟩
  · exact absurd (nI_lt (a := 0) (b := c) (by omega) (by omega)) c1
theorem c_grow (hd : 5 ≤ d) {a e c : Nat} {g : Nat → Option Nat} (na : gxN G ≤ a) (haz : a < h.2) (hez : e < h.2) (hL : LD h a e c c g) (hc1 : 1 ≤ c) (hc2 : c ≤ 2000) (hel : ∀ i, i < c → ∀ y, g i = some y → y < h.2 ∧ elO G h y) : gxM G mJ2_grow d 1 (grw c) [.ref a] h (gxQr (fun r h' => r = h.2 ∧ LD h' a h.2 (grw c) c (va_cpy g (fun _ => none) 0 0 c) ∧ h'.2 = h.2 + 1 ∧ ∀ q, q ≠ a → q ≠ h.2 → h'.1 q = h.1 q)) := by
  have hL0 := hL
  obtain ⟨mc, ha, he⟩ := hL
  refine gxM_ofF (by decide +kernel) (Nat.le_of_ble_eq_true rfl) rfl ?_
  refine gx_aload_n (pc := 0) dJ2_grow_0 rfl ?_
  refine gx_aload_n (pc := 1) dJ2_grow_1 rfl ?_
  refine gx_get (pc := 2) fJ2_48 ha rfl dJ2_grow_2 ?_
  refine gx_iconst (pc := 5) (v := 1) dJ2_grow_5 (by decide) ?_
  refine gx_iadd (pc := 6) dJ2_grow_6 ?_
  rw [nI_1]
  refine gx_r0 ?_
  refine kJ2_69 (kc := 0) (ks := 0) (mc := 1) (ms := grw c) (pc := 7) rfl (c_grow2 (d := d - 1) (by omega) na haz hez hL0 hc1 hc2 hel) (gxRc.of rfl ha) (by omega) (Nat.le_of_ble_eq_true rfl) dJ2_grow_7 (fun r1 h1 e1 => ?_)
  exact gx_areturn (pc := 10) rfl (Or.inr ⟨_, rfl⟩) (Or.inr ⟨_, rfl⟩) dJ2_grow_10 ⟨_, rfl, e1⟩
/-- what comes of an element added -/
def addQ (h h' : gxH) (a e c n v : Nat) (g : Nat → Option Nat) : Prop := ∃ e' c' g', LD h' a e' c' (n + 1) g' ∧ (∀ k, k < n → g' k = g k) ∧ g' n = some v ∧ n + 1 ≤ c' ∧ c' ≤ 2 * c ∧ ((e' = e ∧ h'.2 = h.2 ∧ c' = c) ∨ (e' = h.2 ∧ h'.2 = h.2 + 1 ∧ n = c)) ∧ (∀ q, q ≠ a → q ≠ e → q < h.2 → h'.1 q = h.1 q) ∧ ∀ k, n < k → k < c' → (g' k = none ∨ (k < c ∧ g' k = g k))
theorem c_add2 (hd : 6 ≤ d) {a e c n v : Nat} {g : Nat → Option Nat} (na : gxN G ≤ a) (nE : gxN G ≤ e) (hae : a ≠ e) (haz : a < h.2) (hez : e < h.2) (hvz : v < h.2) (hL : LD h a e c n g) (hn : n ≤ c) (hc1 : 1 ≤ c) (hc2 : c ≤ 2000) (hv : elO G h v) (hva : v ≠ a) (hve : v ≠ e) (hel : ∀ i, i < c → ∀ y, g i = some y → y < h.2 ∧ elO G h y) : gxM G mJ2_add_2 d 1 (grw c) [.ref a, .ref v, .ref e, .int (nI n)] h (gxQv (fun h' => addQ h h' a e c n v g)) := by
  have hL0 := hL
  obtain ⟨mc, ha, he⟩ := hL
  have hg := grw_le c hc1
  refine gxM_ofF (by decide +kernel) (Nat.le_of_ble_eq_true rfl) rfl ?_
  refine gx_iload_n (pc := 0) dJ2_add_2_0 rfl ?_
  refine gx_aload_n (pc := 1) dJ2_add_2_1 rfl ?_
  refine gx_alen (pc := 2) he (fun _ => rfl) rfl dJ2_add_2_2 ?_
  refine gx_icmp_ne (pc := 3) 11 dJ2_add_2_3 (by decide) (fun c1 => ?_) (fun c1 => ?_)
  · have hlt : n < c := by
      rcases Nat.lt_or_ge n c with z | z
      · exact z
      · exact absurd (by rw [show n = c by omega]) c1
    refine gx_more (a := 0) (b := 0) (by omega) (by omega) ?_
    refine gx_aload_n (pc := 11) dJ2_add_2_11 rfl ?_
    refine gx_iload_n (pc := 12) dJ2_add_2_12 rfl ?_
    refine gx_aload_n (pc := 13) dJ2_add_2_13 rfl ?_
    refine gx_aastE (pc := 14) (kd := 3) n he nE (fun _ => rfl) hv rfl hlt (by omega) dJ2_add_2_14 ?_
    have ha1 : (gxup h e (gxq 3 c (va_up g n (some v)))).1 a = some (.inr (32, [.int mc, .ref e, .int (nI n)])) := by rw [gxup_ne hae]; exact ha
    have ha := ha1
    refine gx_aload_n (pc := 15) dJ2_add_2_15 rfl ?_
    refine gx_iload_n (pc := 16) dJ2_add_2_16 rfl ?_
    refine gx_iconst (pc := 17) (v := 1) dJ2_add_2_17 (by decide) ?_
    refine gx_iadd (pc := 18) dJ2_add_2_18 ?_
    rw [nI_1]
    refine gx_put (pc := 19) fJ2_48 ha na (by first | exact Nat.le_of_ble_eq_true rfl | simp) tJ2_2 rfl rfl dJ2_add_2_19 ?_
    exact gx_return (pc := 22) rfl dJ2_add_2_22 (⟨rfl, ⟨e, c, va_up g n (some v), ⟨mc, gxup_self _ _ _, by rw [gxup_ne (Ne.symm hae)]; exact gxup_self _ _ _⟩, fun k hk => by simp only [va_up]; rw [if_neg (by omega)], by simp [va_up], by omega, by omega, Or.inl ⟨rfl, rfl, rfl⟩, fun q h1 h2 _ => by rw [gxup_ne h1, gxup_ne h2], fun k hk hk2 => Or.inr ⟨hk2, by simp only [va_up]; rw [if_neg (by omega)]⟩⟩⟩)
  · have hnc : n = c := (nI_eq (by omega) (by omega)).mp c1
    subst hnc
    refine gx_aload_n (pc := 6) dJ2_add_2_6 rfl ?_
    refine gx_r0 ?_
    refine kJ2_129 (kc := 0) (ks := 0) (mc := 1) (ms := grw n) (pc := 7) rfl (c_grow (d := d - 1) (by omega) na haz hez hL0 hc1 hc2 hel) (gxRc.of rfl ha) (by omega) (Nat.le_of_ble_eq_true rfl) dJ2_add_2_7 (fun r1 h1 e1 => ?_)
    obtain ⟨rfl, ⟨mc2, b0, b1⟩, b2, b3⟩ := e1
    have hv1 : elO G h1 v := by
      rcases hv with ⟨ci, r, vs, z1, z2, z3⟩ | ⟨x, z1⟩ | z1
      · exact Or.inl ⟨ci, r, vs, by rw [b3 v hva (by omega)]; exact z1, z2, z3⟩
      · exact Or.inr (Or.inl ⟨x, by rw [b3 v hva (by omega)]; exact z1⟩)
      · exact Or.inr (Or.inr z1)
    refine gx_astore_n (pc := 10) dJ2_add_2_10 (by decide) rfl ?_
    refine gx_aload_n (pc := 11) dJ2_add_2_11 rfl ?_
    refine gx_iload_n (pc := 12) dJ2_add_2_12 rfl ?_
    refine gx_aload_n (pc := 13) dJ2_add_2_13 rfl ?_
    refine gx_aastE (pc := 14) (kd := 3) n b1 (Nat.le_trans na (Nat.le_of_lt haz)) (fun _ => rfl) hv1 rfl (by omega) (by omega) dJ2_add_2_14 ?_
    generalize hg2 : va_up (va_cpy g (fun _ => none) 0 0 n) n (some v) = g2
    have ha1 : (gxup h1 h.2 (gxq 3 (grw n) g2)).1 a = some (.inr (32, [.int mc2, .ref h.2, .int (nI n)])) := by rw [gxup_ne (by omega)]; exact b0
    have ha := ha1
    refine gx_aload_n (pc := 15) dJ2_add_2_15 rfl ?_
    refine gx_iload_n (pc := 16) dJ2_add_2_16 rfl ?_
    refine gx_iconst (pc := 17) (v := 1) dJ2_add_2_17 (by decide) ?_
    refine gx_iadd (pc := 18) dJ2_add_2_18 ?_
    rw [nI_1]
    refine gx_put (pc := 19) fJ2_48 ha na (by first | exact Nat.le_of_ble_eq_true rfl | simp) tJ2_2 rfl rfl dJ2_add_2_19 ?_
    exact gx_return (pc := 22) rfl dJ2_add_2_22 (⟨rfl, ⟨h.2, grw n, g2, ⟨mc2, gxup_self _ _ _, by rw [gxup_ne (by omega)]; exact gxup_self _ _ _⟩, fun k hk => by rw [← hg2]; simp only [va_up]; rw [if_neg (by omega)]; exact cpy_all _ _ _ hk, by rw [← hg2]; simp [va_up], by omega, by omega, Or.inr ⟨rfl, b2, rfl⟩, fun q h1 h2 h3 => by rw [gxup_ne h1, gxup_ne (by omega)]; exact b3 q h1 (by omega), fun k hk hk2 => Or.inl (by rw [← hg2]; simp only [va_up]; rw [if_neg (by omega)]; exact pk_cpy_out (Or.inr (by omega)))⟩⟩)
theorem elO.mod {h : gxH} {a : Nat} {e : gxE} {y : Nat} (hy : elO G h y) (hya : y ≠ a) : elO G (gxup h a e) y := by
  rcases hy with ⟨ci, r, vs, z1, z2, z3⟩ | ⟨x, z1⟩ | z1
  · exact Or.inl ⟨ci, r, vs, by rw [gxup_ne hya]; exact z1, z2, z3⟩
  · exact Or.inr (Or.inl ⟨x, by rw [gxup_ne hya]; exact z1⟩)
  · exact Or.inr (Or.inr z1)
theorem c_Ladd (hd : 7 ≤ d) {a e c n v : Nat} {g : Nat → Option Nat} (na : gxN G ≤ a) (nE : gxN G ≤ e) (hae : a ≠ e) (haz : a < h.2) (hez : e < h.2) (hvz : v < h.2) (hL : LD h a e c n g) (hn : n ≤ c) (hc1 : 1 ≤ c) (hc2 : c ≤ 2000) (hv : elO G h v) (hva : v ≠ a) (hve : v ≠ e) (hel : ∀ i, i < c → ∀ y, g i = some y → y < h.2 ∧ y ≠ a ∧ elO G h y) : gxM G mJ2_add d 1 (grw c) [.ref a, .ref v] h (gxQi (fun _ h' => addQ h h' a e c n v g)) := by
  obtain ⟨mc, ha, he⟩ := hL
  refine gxM_ofF (by decide +kernel) (Nat.le_of_ble_eq_true rfl) rfl ?_
  refine gx_aload_n (pc := 0) dJ2_add_0 rfl ?_
  refine gx_dup (pc := 1) dJ2_add_1 rfl ?_
  refine gx_getMC (pc := 2) rfl ha dJ2_add_2 ?_
  refine gx_iconst (pc := 5) (v := 1) dJ2_add_5 (by decide) ?_
  refine gx_iadd (pc := 6) dJ2_add_6 ?_
  refine gx_putMC (pc := 7) rfl ha na dJ2_add_7 ?_
  have q0 : (gxup h a (.inr (32, [.int (mc + 1), .ref e, .int (nI n)]))).1 a = some (.inr (32, [.int (mc + 1), .ref e, .int (nI n)])) := gxup_self _ _ _
  have q1 : (gxup h a (.inr (32, [.int (mc + 1), .ref e, .int (nI n)]))).1 e = some (gxq 3 c g) := by rw [gxup_ne (Ne.symm hae)]; exact he
  have q2 : ∀ q, q ≠ a → (gxup h a (.inr (32, [.int (mc + 1), .ref e, .int (nI n)]))).1 q = h.1 q := fun q hq => gxup_ne hq
  have q3 : (gxup h a (.inr (32, [.int (mc + 1), .ref e, .int (nI n)]))).2 = h.2 := rfl
  have q4 : elO G (gxup h a (.inr (32, [.int (mc + 1), .ref e, .int (nI n)]))) v := hv.mod hva
  have q5 : ∀ i, i < c → ∀ y, g i = some y → y < h.2 ∧ elO G (gxup h a (.inr (32, [.int (mc + 1), .ref e, .int (nI n)]))) y := fun i hi y hy => ⟨(hel i hi y hy).1, (hel i hi y hy).2.2.mod (hel i hi y hy).2.1⟩
  generalize gxup h a (.inr (32, [.int (mc + 1), .ref e, .int (nI n)])) = h1 at *
  have ha := q0
  refine gx_aload_n (pc := 10) dJ2_add_10 rfl ?_
  refine gx_aload_n (pc := 11) dJ2_add_11 rfl ?_
  refine gx_aload_n (pc := 12) dJ2_add_12 rfl ?_
  refine gx_get (pc := 13) fJ2_9 ha rfl dJ2_add_13 ?_
  refine gx_aload_n (pc := 16) dJ2_add_16 rfl ?_
  refine gx_get (pc := 17) fJ2_48 ha rfl dJ2_add_17 ?_
  refine gx_r0 ?_
  refine kJ2_131 (kc := 0) (ks := 0) (mc := 1) (ms := grw c) (pc := 20) rfl (c_add2 (d := d - 1) (by omega) na nE hae (by omega) (by omega) (by omega) ⟨mc + 1, q0, q1⟩ hn hc1 hc2 q4 hva hve (by rw [q3]; exact q5)) (gxRc.of rfl ha) (by omega) (Nat.le_of_ble_eq_true rfl) dJ2_add_20 (fun h2 e2 => ?_)
  refine gx_iconst (pc := 23) (v := 1) dJ2_add_23 (by decide) ?_
  obtain ⟨e', c', g', b1, b2, b3, b4, b5, b6, b7, b8⟩ := e2
  rw [q3] at b6 b7
  exact gx_zreturn (pc := 24) rfl (by decide) dJ2_add_24 (⟨_, rfl, ⟨e', c', g', b1, b2, b3, b4, b5, b6, fun q z1 z2 z3 => by rw [b7 q z1 z2 z3, q2 q z1], b8⟩⟩)
end LV
