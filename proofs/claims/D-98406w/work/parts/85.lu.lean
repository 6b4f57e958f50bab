/-! ===== COMPONENT U: lists made, filled, emptied ===== -/
set_option maxRecDepth 100000
/-- a list: its array, how many places, how many elements -/
def LD (h : gxH) (a e c n : Nat) (g : Nat → Option Nat) : Prop := ∃ mc : Int32, h.1 a = some (.inr (32, [.int mc, .ref e, .int (nI n)])) ∧ h.1 e = some (gxq 3 c g)
theorem LD.ls {h : gxH} {a e c n : Nat} {g : Nat → Option Nat} (x : LD h a e c n g) (hc : c < 2 ^ 31) (hn : n ≤ c) {f : Nat → Nat} (hg : ∀ k, k < n → g k = some (f k)) : gxLs h a n f := by
  obtain ⟨mc, h1, h2⟩ := x
  exact ⟨mc, e, c, g, h1, h2, hn, hc, hg⟩
theorem gx_r0 {G : gxG} {Y : gxY} {d a b pc : Nat} {ls : List (Option Value)} {st : List Value} {h : gxH} {Q : Outcome → gxH → Prop} (x : gxV G Y d (0 + a) (0 + b) pc ls st h Q) : gxV G Y d a b pc ls st h Q := by
  rwa [Nat.zero_add, Nat.zero_add] at x
section LU
variable {G : gxG} {d : Nat} {h : gxH}
theorem c_J0 (hd : 1 ≤ d) {a : Nat} : gxM G mJ0_init d 0 0 [.ref a] h (gxQv (fun h' => h' = h)) := by
  refine gxM_ofF (by decide +kernel) (Nat.le_of_ble_eq_true rfl) rfl ?_
  refine gx_aload_n (pc := 0) dJ0_init_0 rfl ?_
  refine gx_objInit (pc := 1) q339 q192 q193 (Nat.le_of_ble_eq_true rfl) (by omega) dJ0_init_1 ?_
  exact gx_return (pc := 4) rfl dJ0_init_4 (⟨rfl, rfl⟩)
theorem c_J1 (hd : 2 ≤ d) {a : Nat} (na : gxN G ≤ a) {v w : Value} (ha : h.1 a = some (.inr (32, [.int 0, v, w]))) : gxM G mJ1_init d 0 0 [.ref a] h (gxQv (fun h' => h' = h)) := by
  refine gxM_ofF (by decide +kernel) (Nat.le_of_ble_eq_true rfl) rfl ?_
  refine gx_aload_n (pc := 0) dJ1_init_0 rfl ?_
  refine kJ1_1 (kc := 0) (ks := 0) (mc := 0) (ms := 0) (pc := 1) rfl (c_J0 (d := d - 1) (by omega)) (by omega) (Nat.le_of_ble_eq_true rfl) dJ1_init_1 (fun h1 e1 => ?_)
  subst h1
  refine gx_aload_n (pc := 4) dJ1_init_4 rfl ?_
  refine gx_iconst (pc := 5) (v := 0) dJ1_init_5 (by decide) ?_
  refine gx_put (pc := 6) fJ1_7 ha na (by first | exact Nat.le_of_ble_eq_true rfl | simp) tJ2_0 rfl rfl dJ1_init_6 ?_
  have e : gxup h a (.inr (32, [.int 0, v, w])) = h := by
    refine Prod.ext ?_ rfl
    funext q
    simp only [gxup]
    split
    · rename_i hq; rw [hq, ha]
    · rfl
  exact gx_return (pc := 9) rfl dJ1_init_9 (⟨rfl, e⟩)
theorem c_Linit (hd : 3 ≤ d) {a : Nat} (na : gxN G ≤ a) (haz : a < h.2) (k : Nat) (hk : 0 < k) (hk2 : k ≤ 1000) (ha : h.1 a = some (.inr (32, [.int 0, .null, .int 0]))) : gxM G mJ2_init d 1 k [.ref a, .int (nI k)] h (gxQv (fun h' => LD h' a h.2 k 0 (fun _ => none) ∧ h'.2 = h.2 + 1 ∧ ∀ q, q ≠ a → q ≠ h.2 → h'.1 q = h.1 q)) := by
  refine gxM_ofF (by decide +kernel) (Nat.le_of_ble_eq_true rfl) rfl ?_
  refine gx_aload_n (pc := 0) dJ2_init_0 rfl ?_
  refine kJ2_1 (kc := 1) (ks := k) (mc := 0) (ms := 0) (pc := 1) rfl (c_J1 (d := d - 1) (by omega) na ha) (by omega) (Nat.le_of_ble_eq_true rfl) dJ2_init_1 (fun h1 e1 => ?_)
  subst h1
  refine gx_iload_n (pc := 4) dJ2_init_4 rfl ?_
  refine gx_if_le (pc := 5) 19 dJ2_init_5 (by decide) (fun c1 => ?_) (fun c1 => ?_)
  · exact absurd c1 (nI_ge (a := 0) hk (by omega))
  · refine gx_aload_n (pc := 8) dJ2_init_8 rfl ?_
    refine gx_iload_n (pc := 9) dJ2_init_9 rfl ?_
    refine gx_r0 ?_
    refine nJ2_7 (kc := 0) (ks := 0) (pc := 10) k rfl rfl (by omega) dJ2_init_10 ?_
    have ha1 : (gxadd h (gxq 3 k (fun _ => none))).1 a = some (.inr (32, [.int 0, .null, .int 0])) := by rw [gxadd_ne (by omega)]; exact ha
    have ha := ha1
    refine gx_put (pc := 13) fJ2_9 ha na (by first | exact Nat.le_of_ble_eq_true rfl | simp) tJ2_1 rfl rfl dJ2_init_13 ?_
    refine gx_goto (pc := 16) 60 dJ2_init_16 (by decide) ?_
    obtain ⟨b1, b2, b3, b4⟩ := gx_step (h := h) (a := a) (z := h.2) (x := gxq 3 k (fun _ => none)) (e := .inr (32, [.int 0, .ref h.2, .int 0])) rfl (by omega)
    exact gx_return (pc := 60) rfl dJ2_init_60 (⟨rfl, ⟨⟨0, b1, b2⟩, b4, b3⟩⟩)
theorem c_newLength (hd : 1 ≤ d) (c : Nat) (h1 : 1 ≤ c) (h2 : c ≤ 2000) : gxM G mJ14_newLength d 0 0 [.int (nI c), .int (nI 1), .int (nI (c / 2))] h (gxQi (fun r h' => r = nI (c + (if 1 < c / 2 then c / 2 else 1)) ∧ h' = h)) := by
  refine gxM_ofF (by decide +kernel) (Nat.le_of_ble_eq_true rfl) rfl ?_
  refine gx_iload_n (pc := 0) dJ14_newLength_0 rfl ?_
  refine gx_iload_n (pc := 1) dJ14_newLength_1 rfl ?_
  refine gx_iload_n (pc := 2) dJ14_newLength_2 rfl ?_
  refine kJ14_194 (kc := 0) (ks := 0) (mc := 0) (ms := 0) (pc := 3) rfl (c_Jmax (d := d - 1) _ _) (by omega) (Nat.le_of_ble_eq_true rfl) dJ14_newLength_3 (fun r1 h3 e1 => ?_)
  obtain ⟨rfl, e1⟩ := e1
  subst h3
  have e : nI c + (if nI 1 < nI (c / 2) then nI (c / 2) else nI 1) = nI (c + (if 1 < c / 2 then c / 2 else 1)) := by
    by_cases z : 1 < c / 2
    · rw [if_pos (nI_lt z (by omega)), if_pos z, nI_add]
    · rw [if_neg (nI_nlt (by omega) (by omega)), if_neg z, nI_add]
  refine gx_iadd (pc := 6) dJ14_newLength_6 ?_
  rw [e]
  generalize hm : c + (if 1 < c / 2 then c / 2 else 1) = m
  have hm1 : 1 ≤ m ∧ m ≤ 4001 := by rw [← hm]; split <;> omega
  refine gx_istore_n (pc := 7) dJ14_newLength_7 (by decide) rfl ?_
  refine gx_iconst (pc := 8) (v := 0) dJ14_newLength_8 (by decide) ?_
  refine gx_iload_n (pc := 9) dJ14_newLength_9 rfl ?_
  refine gx_icmp_ge (pc := 10) 21 dJ14_newLength_10 (by decide) (fun c1 => ?_) (fun c1 => ?_)
  · exact absurd c1 (nI_ge (a := 0) (by omega) (by omega))
  · refine gx_iload_n (pc := 13) dJ14_newLength_13 rfl ?_
    refine gx_ldc (pc := 14) q865 dJ14_newLength_14 ?_
    refine gx_icmp_gt (pc := 16) 21 dJ14_newLength_16 (by decide) (fun c2 => ?_) (fun c2 => ?_)
    · exact absurd c2 (show ¬ nI 2147483639 < nI m from nI_nlt (by omega) (by decide))
    · refine gx_iload_n (pc := 19) dJ14_newLength_19 rfl ?_
      exact gx_ireturn (pc := 20) rfl dJ14_newLength_20 (⟨_, rfl, ⟨rfl, rfl⟩⟩)
theorem c_copyOf2 (hd : 1 ≤ d) {e c n mi : Nat} {g : Nat → Option Nat} (hM : va_Mi "[Ljava/lang/Object;" mi G.2.1) (nz : gxN G ≤ h.2) (hez : e < h.2) (he : h.1 e = some (gxq 3 c g)) (hcn : c ≤ n) (hn : n ≤ 5000) (hel : ∀ i, i < c → ∀ y, g i = some y → y < h.2 ∧ elO G h y) : gxM G mJ15_copyOf_2 d 1 n [.ref e, .int (nI n), .ref mi] h (gxQr (fun r h' => r = h.2 ∧ h'.1 h.2 = some (gxq 3 n (va_cpy g (fun _ => none) 0 0 c)) ∧ h'.2 = h.2 + 1 ∧ ∀ q, q ≠ h.2 → h'.1 q = h.1 q)) := by
  refine gxM_ofF (by decide +kernel) (Nat.le_of_ble_eq_true rfl) rfl ?_
  refine gx_aload_n (pc := 0) dJ15_copyOf_2_0 rfl ?_
  refine gx_ldcM (pc := 1) q915 hM dJ15_copyOf_2_1 ?_
  refine gx_acmp_ne (pc := 3) (rx := some mi) (ry := some mi) 13 dJ15_copyOf_2_3 (by decide) (fun z => absurd rfl z) (fun _ => ?_)
  refine gx_iload_n (pc := 6) dJ15_copyOf_2_6 rfl ?_
  refine gx_r0 ?_
  refine nJ15_2 (kc := 0) (ks := 0) (pc := 7) n rfl rfl (by omega) dJ15_copyOf_2_7 ?_
  have he1 : (gxadd h (gxq 3 n (fun _ => none))).1 e = some (gxq 3 c g) := by rw [gxadd_ne (by omega)]; exact he
  have hz1 : (gxadd h (gxq 3 n (fun _ => none))).1 h.2 = some (gxq 3 n (fun _ => none)) := gxadd_self _ _
  have he := he1
  refine gx_goto (pc := 10) 24 dJ15_copyOf_2_10 (by decide) ?_
  refine gx_astore_n (pc := 24) dJ15_copyOf_2_24 (by decide) rfl ?_
  refine gx_aload_n (pc := 25) dJ15_copyOf_2_25 rfl ?_
  refine gx_iconst (pc := 26) (v := 0) dJ15_copyOf_2_26 (by decide) ?_
  refine gx_aload_n (pc := 27) dJ15_copyOf_2_27 rfl ?_
  refine gx_iconst (pc := 28) (v := 0) dJ15_copyOf_2_28 (by decide) ?_
  refine gx_aload_n (pc := 29) dJ15_copyOf_2_29 rfl ?_
  refine gx_alen (pc := 30) he (fun _ => rfl) rfl dJ15_copyOf_2_30 ?_
  refine gx_iload_n (pc := 31) dJ15_copyOf_2_31 rfl ?_
  refine kJ15_304 (kc := 0) (ks := 0) (mc := 0) (ms := 0) (pc := 32) rfl (c_Jmin (d := d - 1) (nI c) (nI n)) (by omega) (Nat.le_of_ble_eq_true rfl) dJ15_copyOf_2_32 (fun r1 h3 e1 => ?_)
  obtain ⟨rfl, e1⟩ := e1
  subst h3
  rw [if_neg (nI_nlt hcn (by omega))]
  refine gx_copyE (pc := 35) (kd := 3) (n := c) (sp := 0) (dp := 0) q918 q920 q919 q157 (fun _ => rfl) he hz1 nz (by omega) (by omega) (by omega) (by omega) (fun i hi y hy => ?_) (by omega) (Nat.le_of_ble_eq_true rfl) dJ15_copyOf_2_35 ?_
  · obtain ⟨y1, y2⟩ := hel i hi y (by rw [← hy, Nat.zero_add])
    rcases y2 with ⟨ci, r, vs, z1, z2, z3⟩ | ⟨x, z1⟩ | z1
    · exact Or.inl ⟨ci, r, vs, by rw [gxadd_ne (by omega)]; exact z1, z2, z3⟩
    · exact Or.inr (Or.inl ⟨x, by rw [gxadd_ne (by omega)]; exact z1⟩)
    · exact Or.inr (Or.inr z1)
  · refine gx_aload_n (pc := 38) dJ15_copyOf_2_38 rfl ?_
    exact gx_areturn (pc := 39) rfl (Or.inr ⟨_, rfl⟩) (Or.inr ⟨_, rfl⟩) dJ15_copyOf_2_39 ⟨_, rfl, rfl, gxup_self _ _ _, rfl, fun q hq => by rw [gxup_ne hq, gxadd_ne hq]⟩
theorem c_copyOf (hd : 2 ≤ d) {e c n : Nat} {g : Nat → Option Nat} (nz : gxN G ≤ h.2) (hez : e < h.2) (he : h.1 e = some (gxq 3 c g)) (hcn : c ≤ n) (hn : n ≤ 5000) (hel : ∀ i, i < c → ∀ y, g i = some y → y < h.2 ∧ elO G h y) : gxM G mJ15_copyOf d 1 n [.ref e, .int (nI n)] h (gxQr (fun r h' => r = h.2 ∧ h'.1 h.2 = some (gxq 3 n (va_cpy g (fun _ => none) 0 0 c)) ∧ h'.2 = h.2 + 1 ∧ ∀ q, q ≠ h.2 → h'.1 q = h.1 q)) := by
  refine gxM_K (fun hK => ?_)
  obtain ⟨mi, hM⟩ := nw_mi hK
  refine gxM_ofF (by decide +kernel) (Nat.le_of_ble_eq_true rfl) rfl ?_
  refine gx_aload_n (pc := 0) dJ15_copyOf_0 rfl ?_
  refine gx_iload_n (pc := 1) dJ15_copyOf_1 rfl ?_
  refine gx_aload_n (pc := 2) dJ15_copyOf_2 rfl ?_
  refine gx_getC (pc := 3) q872 hM he (by omega) (Nat.le_of_ble_eq_true rfl) dJ15_copyOf_3 ?_
  refine gx_r0 ?_
  refine kJ15_300 (kc := 0) (ks := 0) (mc := 1) (ms := n) (pc := 6) rfl (c_copyOf2 (d := d - 1) (by omega) hM nz hez he hcn hn hel) (by omega) (Nat.le_of_ble_eq_true rfl) dJ15_copyOf_6 (fun r1 h3 e1 => ?_)
  exact gx_areturn (pc := 9) rfl (Or.inr ⟨_, rfl⟩) (Or.inr ⟨_, rfl⟩) dJ15_copyOf_9 ⟨_, rfl, e1⟩
end LU
