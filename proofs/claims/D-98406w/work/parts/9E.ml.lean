/-! ===== COMPONENT AL: lists in general; lent; what is seen, who leaked ===== -/
set_option maxRecDepth 100000
/-- a list: its array at e, of c places, n of them taken -/
def LV (G : gxG) (h : gxH) (a e c n : Nat) (f : Nat → Nat) : Prop := gxN G ≤ a ∧ a < h.2 ∧ gxN G ≤ e ∧ a ≠ e ∧ e < h.2 ∧ 1 ≤ c ∧ n ≤ c ∧ c < 2 ^ 31 ∧ ∃ g, LD h a e c n g ∧ (∀ k, k < n → g k = some (f k)) ∧ ∀ k, n ≤ k → k < c → g k = none
theorem LV.ls {G : gxG} {h : gxH} {a e c n : Nat} {f : Nat → Nat} (x : LV G h a e c n f) : gxLs h a n f := by
  obtain ⟨_, _, _, _, _, _, y1, y2, g, y3, y4, _⟩ := x
  exact y3.ls y2 y1 y4
theorem LV.ob {G : gxG} {h : gxH} {a e c n : Nat} {f : Nat → Nat} (x : LV G h a e c n f) : ∃ mc, h.1 a = some (.inr (32, [.int mc, .ref e, .int (nI n)])) := by
  obtain ⟨_, _, _, _, _, _, _, _, g, ⟨mc, y3, _⟩, _⟩ := x
  exact ⟨mc, y3⟩
theorem LV.ar {G : gxG} {h : gxH} {a e c n : Nat} {f : Nat → Nat} (x : LV G h a e c n f) : ∃ g, h.1 e = some (gxq 3 c g) := by
  obtain ⟨_, _, _, _, _, _, _, _, g, ⟨mc, _, y3⟩, _⟩ := x
  exact ⟨g, y3⟩
theorem LV.fr {G : gxG} {h h' : gxH} {a e c n : Nat} {f : Nat → Nat} (x : LV G h a e c n f) (hz : h.2 ≤ h'.2) (ha : h'.1 a = h.1 a) (he : h'.1 e = h.1 e) : LV G h' a e c n f := by
  obtain ⟨y1, y2, y3, y4, y5, y6, y7, y8, g, ⟨mc, y9, y10⟩, y11⟩ := x
  exact ⟨y1, by omega, y3, y4, by omega, y6, y7, y8, g, ⟨mc, by rw [ha]; exact y9, by rw [he]; exact y10⟩, y11⟩
theorem LV.cg {G : gxG} {h : gxH} {a e c n : Nat} {f f' : Nat → Nat} (x : LV G h a e c n f) (hf : ∀ k, k < n → f k = f' k) : LV G h a e c n f' := by
  obtain ⟨y1, y2, y3, y4, y5, y6, y7, y8, g, y9, y10, y11⟩ := x
  exact ⟨y1, y2, y3, y4, y5, y6, y7, y8, g, y9, fun k hk => by rw [y10 k hk, hf k hk], y11⟩
theorem LV.lsR {G : gxG} {h : gxH} {a e c n lo hi : Nat} {f : Nat → Nat} (x : LV G h a e c n f) (ha : inR lo hi a) (he : inR lo hi e) : lsR h lo hi a n f := by
  obtain ⟨y1, y2, y3, y4, y5, y6, y7, y8, g, ⟨mc, y9, y10⟩, y11, y12⟩ := x
  exact ⟨ha, mc, e, c, g, he, y9, y10, y7, y8, y11⟩
section AL
variable {G : gxG} {d : Nat} {h : gxH}
theorem c_LVnew (hd : 3 ≤ d) {a : Nat} (na : gxN G ≤ a) (haz : a < h.2) (nz : gxN G ≤ h.2) (k : Nat) (hk : 0 < k) (hk2 : k ≤ 1000) (ha : h.1 a = some (.inr (32, [.int 0, .null, .int 0]))) : gxM G mJ2_init d 1 k [.ref a, .int (nI k)] h (gxQv (fun h' => LV G h' a h.2 k 0 (fun _ => 0) ∧ h'.2 = h.2 + 1 ∧ ∀ q, q ≠ a → q ≠ h.2 → h'.1 q = h.1 q)) := by
  refine gxM_post ?_ (c_Linit hd na haz k hk hk2 ha)
  rintro o h' ⟨rfl, e1, e2, e3⟩
  exact ⟨rfl, ⟨na, by omega, nz, by omega, by omega, hk, by omega, by omega, _, e1, fun k hk => by omega, fun _ _ _ => rfl⟩, e2, e3⟩
theorem c_LVadd (hd : 7 ≤ d) {a e c n v : Nat} {f : Nat → Nat} (hL : LV G h a e c n f) (hc : c ≤ 2000) (hv : elO G h v) (hvz : v < h.2) (hva : v ≠ a) (hve : v ≠ e) (hel : ∀ k, k < n → f k ≠ a ∧ f k < h.2 ∧ elO G h (f k)) : gxM G mJ2_add d 1 (2 * c) [.ref a, .ref v] h (gxQi (fun _ h' => ∃ e' c', LV G h' a e' c' (n + 1) (fun k => if k < n then f k else v) ∧ ((e' = e ∧ c' = c ∧ h'.2 = h.2) ∨ (e' = h.2 ∧ h'.2 = h.2 + 1 ∧ n = c ∧ c' ≤ 2 * c)) ∧ ∀ q, q < h.2 → q ≠ a → q ≠ e → h'.1 q = h.1 q)) := by
  obtain ⟨y1, y2, y3, y4, y5, y6, y7, y8, g, y9, y10, y11⟩ := hL
  have hg := grw_le c y6
  refine gxM_post (Q := gxQi (fun _ h' => addQ h h' a e c n v g)) ?_ (gxM_room (by omega) (by omega) (c_Ladd (by omega) y1 y3 y4 y2 y5 hvz y9 y7 y6 hc hv hva hve (fun i hi y hy => ?_)))
  · rintro o h' ⟨r0, rfl, e', c', g', b1, b2, b3, b4, b5, b6, b7, b8⟩
    refine ⟨r0, rfl, e', c', ⟨y1, by rcases b6 with z | z <;> omega, by rcases b6 with z | z <;> omega, by rcases b6 with z | z <;> omega, by rcases b6 with z | z <;> omega, by omega, by omega, by omega, g', b1, fun k hk => ?_, fun k hk hk2 => ?_⟩, ?_, fun q h1 h2 h3 => b7 q h2 h3 h1⟩
    · by_cases hkn : k < n
      · rw [b2 k hkn, y10 k hkn]; exact congrArg some (if_pos hkn).symm
      · have : k = n := by omega
        subst this
        rw [b3]; exact congrArg some (if_neg hkn).symm
    · rcases b8 k (by omega) hk2 with z | ⟨z1, z2⟩
      · exact z
      · rw [z2]; exact y11 k (by omega) z1
    · rcases b6 with ⟨z1, z2, z3⟩ | ⟨z1, z2, z3⟩
      · exact Or.inl ⟨z1, z3, z2⟩
      · exact Or.inr ⟨z1, z2, z3, b5⟩
  · by_cases hin : i < n
    · rw [y10 i hin] at hy
      cases hy
      exact ⟨(hel i hin).2.1, (hel i hin).1, (hel i hin).2.2⟩
    · rw [y11 i (by omega) hi] at hy
      cases hy
end AL
/-- what is seen: boxes -/
def SN (G : gxG) (h : gxH) (sl se sc n : Nat) (sv : Nat → Int32) : Prop := sc ≤ 20 ∧ ∃ f, LV G h sl se sc n f ∧ ∀ k, k < n → IB G (f k) (sv k)
section AL2
variable {G : gxG} {d : Nat} {h : gxH} {x r tk tr gl sl bl py pt ng ft mk lo hi ta fa P S E se sc n : Nat} {gg : Int64} {A : Nat → Nat → Int32} {s : Nat → Int32} {w : Option gxEv} {b : Bool} {sv : Nat → Int32}
theorem IB.el {r : Nat} {v : Int32} (hI : IB G r v) : elO G h r := Or.inr (Or.inr ⟨_, hI.1, q2546⟩)
theorem c_SNadd (hd : 7 ≤ d) (nz : gxN G ≤ h.2) (hL : SN G h sl se sc n sv) (hn : n < 10) {r : Nat} {v : Int32} (hI : IB G r v) : gxM G mJ2_add d 1 40 [.ref sl, .ref r] h (gxQi (fun _ h' => ∃ se' sc', SN G h' sl se' sc' (n + 1) (fun k => if k < n then sv k else v) ∧ ((se' = se ∧ sc' = sc ∧ h'.2 = h.2) ∨ (se' = h.2 ∧ h'.2 = h.2 + 1)) ∧ ∀ q, q < h.2 → q ≠ sl → q ≠ se → h'.1 q = h.1 q)) := by
  obtain ⟨hc, f, hf, hs⟩ := hL
  have lr := hI.1.lt
  obtain ⟨z1, z2, z3, _⟩ := id hf
  refine gxM_post ?_ (gxM_room (by omega) (by omega) (c_LVadd hd hf (by omega) hI.el (by omega) (by omega) (by omega) (fun k hk => ⟨by have := (hs k hk).1.lt; omega, by have := (hs k hk).1.lt; omega, (hs k hk).el⟩)))
  rintro o h' ⟨r0, rfl, e', c', b1, b2, b3⟩
  refine ⟨r0, rfl, e', c', ⟨by rcases b2 with z | z <;> omega, _, b1, fun k hk => ?_⟩, ?_, b3⟩
  · by_cases z : k < n
    · simp only [if_pos z]; exact hs k z
    · simp only [if_neg z]; exact hI
  · rcases b2 with z | z
    · exact Or.inl z
    · exact Or.inr ⟨z.1, z.2.1⟩
theorem c_Xsee (hd : 9 ≤ d) (nz : gxN G ≤ h.2) (hO : XF h x r tk tr gl sl bl py pt ng ft gg mk) (hX : TT h lo hi tk ta fa A s P S E w b) (hL : SN G h sl se sc n sv) (hn : n ≤ 10) (k fell : Int32) : gxM G mX1_see d 1 40 [.ref x, .int k, .int fell] h (gxQi (fun v h' => (¬ (inN k S ∧ n ≠ 10) ∧ v = 0 ∧ h' = h) ∨ ((inN k S ∧ n ≠ 10) ∧ v = 1 ∧ ∃ se' sc', SN G h' sl se' sc' (n + 1) (fun j => if j < n then sv j else if fell = 0 then k else k + 10) ∧ ((se' = se ∧ sc' = sc ∧ h'.2 = h.2) ∨ (se' = h.2 ∧ h'.2 = h.2 + 1)) ∧ ∀ q, q < h.2 → q ≠ sl → q ≠ se → h'.1 q = h.1 q))) := by
  have hx := hO
  have hS10 := hX.2.2.2.2.2.1
  have hfz := hL.2.choose_spec.1.ls
  have hsl := hfz
  obtain ⟨_, _, _, _, hsl, _⟩ := hsl
  refine gxM_of rfl (Nat.le_of_ble_eq_true rfl) rfl ?_
  have N : ¬ (inN k S ∧ n ≠ 10) → gxV G mX1_see d 1 40 20 [some (.ref x), some (.int k), some (.int fell)] [] h (gxQi (fun v h' => (¬ (inN k S ∧ n ≠ 10) ∧ v = 0 ∧ h' = h) ∨ ((inN k S ∧ n ≠ 10) ∧ v = 1 ∧ ∃ se' sc', SN G h' sl se' sc' (n + 1) (fun j => if j < n then sv j else if fell = 0 then k else k + 10) ∧ ((se' = se ∧ sc' = sc ∧ h'.2 = h.2) ∨ (se' = h.2 ∧ h'.2 = h.2 + 1)) ∧ ∀ q, q < h.2 → q ≠ sl → q ≠ se → h'.1 q = h.1 q))) := by
    intro hh
    refine gx_iconst (pc := 20) (v := 0) dX1_see_20 (by decide) ?_
    exact gx_zreturn (pc := 21) rfl (by decide) dX1_see_21 (⟨_, rfl, Or.inl ⟨hh, rfl, rfl⟩⟩)
  refine gx_aload_n (pc := 0) dX1_see_0 rfl ?_
  refine gx_iload_n (pc := 1) dX1_see_1 rfl ?_
  refine kX1_186 (kc := 1) (ks := 40) (mc := 0) (ms := 0) (pc := 2) rfl (c_XisSecret (d := d - 1) (by omega) hO.O hX k) (gxRc.of rfl hx) (by omega) (Nat.le_of_ble_eq_true rfl) dX1_see_2 (fun r1 h1 e1 => ?_)
  obtain ⟨e1, e2⟩ := e1
  subst h1
  refine gx_if_eq (pc := 5) 20 dX1_see_5 (by decide) (fun c1 => ?_) (fun c1 => ?_)
  · rcases e1 with ⟨z, rfl⟩ | ⟨z, rfl⟩
    · exact absurd c1 (by decide)
    · exact N (fun hh => z hh.1)
  · rcases e1 with ⟨z1, rfl⟩ | ⟨z, rfl⟩
    · refine gx_aload_n (pc := 8) dX1_see_8 rfl ?_
      refine gx_get (pc := 9) fX1_56 hx rfl dX1_see_9 ?_
      refine kX1_131 (kc := 1) (ks := 40) (mc := 0) (ms := 0) (pc := 12) rfl (c_size (d := d - 1) hfz) (gxRc.of rfl hsl) (by omega) (Nat.le_of_ble_eq_true rfl) dX1_see_12 (fun r1 h1 e1 => ?_)
      obtain ⟨rfl, e1⟩ := e1
      subst h1
      refine gx_bipush (pc := 15) (v := 10) dX1_see_15 (by decide) ?_
      refine gx_icmp_ne (pc := 17) 22 dX1_see_17 (by decide) (fun c2 => ?_) (fun c2 => ?_)
      · have hne : n ≠ 10 := fun e => c2 (by rw [e]; rfl)
        obtain ⟨k', hk', ek⟩ := z1
        have K38 : ∀ j, j < 128 → nI j = (if fell = 0 then k else k + 10) → gxV G mX1_see d 1 40 38 [some (.ref x), some (.int k), some (.int fell)] [.int (nI j), .ref sl] h (gxQi (fun v h' => (¬ (inN k S ∧ n ≠ 10) ∧ v = 0 ∧ h' = h) ∨ ((inN k S ∧ n ≠ 10) ∧ v = 1 ∧ ∃ se' sc', SN G h' sl se' sc' (n + 1) (fun j => if j < n then sv j else if fell = 0 then k else k + 10) ∧ ((se' = se ∧ sc' = sc ∧ h'.2 = h.2) ∨ (se' = h.2 ∧ h'.2 = h.2 + 1)) ∧ ∀ q, q < h.2 → q ≠ sl → q ≠ se → h'.1 q = h.1 q))) := by
          intro j hj hv
          refine kX1_311 (kc := 1) (ks := 40) (mc := 0) (ms := 0) (pc := 38) rfl (c_IvalueOf (d := d - 1) hj) (by omega) (Nat.le_of_ble_eq_true rfl) dX1_see_38 (fun r1 h1 e1 => ?_)
          obtain ⟨hI, e1⟩ := e1
          subst h1
          refine gx_r0 ?_
          refine kX1_236 (kc := 0) (ks := 0) (mc := 1) (ms := 40) (pc := 41) rfl (c_SNadd (d := d - 1) (by omega) nz hL (by omega) hI) (gxRc.of rfl hsl) (by omega) (Nat.le_of_ble_eq_true rfl) dX1_see_41 (fun r2 h2 e2 => ?_)
          obtain ⟨se', sc', b1, b2, b3⟩ := e2
          rw [hv] at b1
          refine gx_pop (pc := 44) dX1_see_44 rfl ?_
          refine gx_iconst (pc := 45) (v := 1) dX1_see_45 (by decide) ?_
          exact gx_zreturn (pc := 46) rfl (by decide) dX1_see_46 (⟨_, rfl, Or.inr ⟨⟨⟨k', hk', ek⟩, hne⟩, rfl, se', sc', b1, b2, b3⟩⟩)
        refine gx_aload_n (pc := 22) dX1_see_22 rfl ?_
        refine gx_get (pc := 23) fX1_56 hx rfl dX1_see_23 ?_
        refine gx_iload_n (pc := 26) dX1_see_26 rfl ?_
        refine gx_if_eq (pc := 27) 37 dX1_see_27 (by decide) (fun c3 => ?_) (fun c3 => ?_)
        · have c3' : fell = 0 := c3
          refine gx_iload_n (pc := 37) dX1_see_37 rfl ?_
          rw [ek]
          have := K38 k' (by omega) (by rw [if_pos c3', ek])
          rw [ek] at this
          exact this
        · have c3' : ¬ fell = 0 := c3
          refine gx_iload_n (pc := 30) dX1_see_30 rfl ?_
          refine gx_bipush (pc := 31) (v := 10) dX1_see_31 (by decide) ?_
          refine gx_iadd (pc := 33) dX1_see_33 ?_
          refine gx_goto (pc := 34) 38 dX1_see_34 (by decide) ?_
          have e10 : nI (k' + 10) = k + 10 := by rw [ek]; exact (nI_add k' 10).symm
          have := K38 (k' + 10) (by omega) (by rw [if_neg c3']; exact e10)
          rw [e10] at this
          exact this
      · exact N (fun hh => hh.2 ((nI_eq (b := 10) (by omega) (by decide)).mp c2))
    · exact absurd rfl c1
/-- what was seen fits, by the row of boxes -/
def asB (s : Nat → Int32) (sv : Nat → Int32) (set : Int32) (k : Nat) : Bool := decide (zi (!decide (s (sv k - sv k / 10 * 10).toNatClampNeg &&& set = 0)) = zi (decide (10 ≤ sv k)))
def spAsB (s sv : Nat → Int32) (set : Int32) : Nat → Bool
  | 0 => true
  | k + 1 => spAsB s sv set k && asB s sv set k
theorem spAsB_f (s sv : Nat → Int32) (set : Int32) : ∀ m k, spAsB s sv set k = false → spAsB s sv set (k + m) = false
  | 0, _, h => h
  | m + 1, k, h => by
    show (spAsB s sv set (k + m) && _) = false
    rw [spAsB_f s sv set m k h]; rfl
theorem c_XisAsSeen (hd : 3 ≤ d) (hO : XF h x r tk tr gl sl bl py pt ng ft gg mk) (hX : TT h lo hi tk ta fa A s P S E w b) (hL : SN G h sl se sc n sv) (hn : n ≤ 10) (hv : ∀ k, k < n → ∃ c, c < 20 ∧ sv k = nI c) (set : Int32) : gxM G mX1_isAsSeen d 0 0 [.ref x, .int set] h (gxQi (fun v h' => v = zi (spAsB s sv set n) ∧ h' = h)) := by
  have hx := hO
  obtain ⟨hsc, f, hf, hs⟩ := hL
  have hfz := hf.ls
  have hsl := hfz
  obtain ⟨_, _, _, _, hsl, _⟩ := hsl
  obtain ⟨kn, aw, rk, fi, ne, htk, hkn, haw, hrk, hfi, hne, ekn, eaw, erk, efi, ene⟩ := id hX.2.1
  refine gxM_of rfl (Nat.le_of_ble_eq_true rfl) rfl ?_
  have L : ∀ m k, m + k = n → spAsB s sv set k = true → gxV G mX1_isAsSeen d 0 0 2 [some (.ref x), some (.int set), some (.int (nI k))] [] h (gxQi (fun v h' => v = zi (spAsB s sv set n) ∧ h' = h)) := by
    intro m
    induction m with
    | zero =>
      intro k hk ht
      have : n = k := by omega
      subst this
      refine gx_iload_n (pc := 2) dX1_isAsSeen_2 rfl ?_
      refine gx_aload_n (pc := 3) dX1_isAsSeen_3 rfl ?_
      refine gx_get (pc := 4) fX1_56 hx rfl dX1_isAsSeen_4 ?_
      refine kX1_131 (kc := 0) (ks := 0) (mc := 0) (ms := 0) (pc := 7) rfl (c_size (d := d - 1) hfz) (gxRc.of rfl hsl) (by omega) (Nat.le_of_ble_eq_true rfl) dX1_isAsSeen_7 (fun r1 h1 e1 => ?_)
      obtain ⟨rfl, e1⟩ := e1
      subst h1
      refine gx_icmp_ge (pc := 10) 83 dX1_isAsSeen_10 (by decide) (fun c1 => ?_) (fun c1 => ?_)
      · refine gx_iconst (pc := 83) (v := 1) dX1_isAsSeen_83 (by decide) ?_
        exact gx_zreturn (pc := 84) rfl (by decide) dX1_isAsSeen_84 (⟨_, rfl, ⟨by rw [ht]; rfl, rfl⟩⟩)
      · exact absurd (nI_le (Nat.le_refl _) (by omega)) c1
    | succ m ih =>
      intro k hk ht
      have hkn' : k < n := by omega
      obtain ⟨c, hc, ec⟩ := hv k hkn'
      have hI := hs k hkn'
      have er : sv k - sv k / 10 * 10 = nI (c % 10) := by rw [ec]; exact pk_rem (d := 10) (by omega) (by decide) (by decide)
      have hcl : (sv k - sv k / 10 * 10).toNatClampNeg = c % 10 := by rw [er]; exact nI_clamp (by omega)
      have hlt10 : c % 10 < 10 := Nat.mod_lt _ (by decide)
      refine gx_iload_n (pc := 2) dX1_isAsSeen_2 rfl ?_
      refine gx_aload_n (pc := 3) dX1_isAsSeen_3 rfl ?_
      refine gx_get (pc := 4) fX1_56 hx rfl dX1_isAsSeen_4 ?_
      refine kX1_131 (kc := 0) (ks := 0) (mc := 0) (ms := 0) (pc := 7) rfl (c_size (d := d - 1) hfz) (gxRc.of rfl hsl) (by omega) (Nat.le_of_ble_eq_true rfl) dX1_isAsSeen_7 (fun r1 h1 e1 => ?_)
      obtain ⟨rfl, e1⟩ := e1
      subst h1
      refine gx_icmp_ge (pc := 10) 83 dX1_isAsSeen_10 (by decide) (fun c1 => ?_) (fun c1 => ?_)
      · exact absurd c1 (nI_ge hkn' (by omega))
      · refine gx_aload_n (pc := 13) dX1_isAsSeen_13 rfl ?_
        refine gx_get (pc := 14) fX1_40 hx rfl dX1_isAsSeen_14 ?_
        refine gx_get (pc := 17) fX1_204 htk rfl dX1_isAsSeen_17 ?_
        refine gx_aload_n (pc := 20) dX1_isAsSeen_20 rfl ?_
        refine gx_get (pc := 21) fX1_56 hx rfl dX1_isAsSeen_21 ?_
        refine gx_iload_n (pc := 24) dX1_isAsSeen_24 rfl ?_
        refine kX1_153 (kc := 0) (ks := 0) (mc := 0) (ms := 0) (pc := 25) rfl (c_get (d := d - 1) (by omega) hfz k hkn') (gxRc.of rfl hsl) (by omega) (Nat.le_of_ble_eq_true rfl) dX1_isAsSeen_25 (fun r1 h1 e1 => ?_)
        obtain ⟨rfl, e1⟩ := e1
        subst h1
        refine gx_castE (pc := 28) hI.1 q1633 dX1_isAsSeen_28 ?_
        refine kX1_317 (kc := 0) (ks := 0) (mc := 0) (ms := 0) (pc := 31) rfl (c_IintValue (d := d - 1) hI) (gxRc.ofO hI.1) (by omega) (Nat.le_of_ble_eq_true rfl) dX1_isAsSeen_31 (fun r1 h1 e1 => ?_)
        obtain ⟨rfl, e1⟩ := e1
        subst h1
        refine gx_bipush (pc := 34) (v := 10) dX1_isAsSeen_34 (by decide) ?_
        refine gx_irem (pc := 36) dX1_isAsSeen_36 (by decide) ?_
        change gxV _ _ _ _ _ _ _ (.int (sv k - sv k / 10 * 10) :: _) _ _
        rw [er]
        refine gx_iald (pc := 37) ((c%10)) hkn (by first | rfl | simp only [gx_lit, nI_add, pk_mul]) (by omega) (by decide) dX1_isAsSeen_37 ?_
        rw [ekn _ hlt10]
        have K48 : ∀ v, v = zi (!decide (s (c % 10) &&& set = 0)) → gxV G mX1_isAsSeen d 0 0 48 [some (.ref x), some (.int set), some (.int (nI k))] [.int v] h (gxQi (fun v h' => v = zi (spAsB s sv set n) ∧ h' = h)) := by
          intro v hvv
          have K72 : ∀ u, u = zi (decide (10 ≤ sv k)) → gxV G mX1_isAsSeen d 0 0 72 [some (.ref x), some (.int set), some (.int (nI k))] [.int u, .int v] h (gxQi (fun v h' => v = zi (spAsB s sv set n) ∧ h' = h)) := by
            intro u hu
            have as : asB s sv set k = decide (v = u) := by
              unfold asB
              rw [hcl, hvv, hu]
            refine gx_icmp_eq (pc := 72) 77 dX1_isAsSeen_72 (by decide) (fun c3 => ?_) (fun c3 => ?_)
            · have c3' : v = u := c3
              refine gx_iincc (pc := 77) (c := 1) dX1_isAsSeen_77 rfl (by decide) (by decide) rfl ?_
              refine gx_goto (pc := 80) 2 dX1_isAsSeen_80 (by decide) ?_
              rw [nI_1]
              exact ih (k + 1) (by omega) (by rw [spAsB, ht, as, decide_eq_true c3']; rfl)
            · have c3' : ¬ v = u := c3
              have : spAsB s sv set (k + 1) = false := by rw [spAsB, as, decide_eq_false c3', Bool.and_false]
              refine gx_iconst (pc := 75) (v := 0) dX1_isAsSeen_75 (by decide) ?_
              exact gx_zreturn (pc := 76) rfl (by decide) dX1_isAsSeen_76 (⟨_, rfl, ⟨by rw [show n = k + 1 + m by omega, spAsB_f s sv set m (k + 1) this]; rfl, rfl⟩⟩)
          refine gx_aload_n (pc := 48) dX1_isAsSeen_48 rfl ?_
          refine gx_get (pc := 49) fX1_56 hx rfl dX1_isAsSeen_49 ?_
          refine gx_iload_n (pc := 52) dX1_isAsSeen_52 rfl ?_
          refine kX1_153 (kc := 0) (ks := 0) (mc := 0) (ms := 0) (pc := 53) rfl (c_get (d := d - 1) (by omega) hfz k hkn') (gxRc.of rfl hsl) (by omega) (Nat.le_of_ble_eq_true rfl) dX1_isAsSeen_53 (fun r1 h1 e1 => ?_)
          obtain ⟨rfl, e1⟩ := e1
          subst h1
          refine gx_castE (pc := 56) hI.1 q1633 dX1_isAsSeen_56 ?_
          refine kX1_317 (kc := 0) (ks := 0) (mc := 0) (ms := 0) (pc := 59) rfl (c_IintValue (d := d - 1) hI) (gxRc.ofO hI.1) (by omega) (Nat.le_of_ble_eq_true rfl) dX1_isAsSeen_59 (fun r1 h1 e1 => ?_)
          obtain ⟨rfl, e1⟩ := e1
          subst h1
          refine gx_bipush (pc := 62) (v := 10) dX1_isAsSeen_62 (by decide) ?_
          refine gx_icmp_lt (pc := 64) 71 dX1_isAsSeen_64 (by decide) (fun c2 => ?_) (fun c2 => ?_)
          · refine gx_iconst (pc := 71) (v := 0) dX1_isAsSeen_71 (by decide) ?_
            exact K72 _ (by rw [decide_eq_false (Int32.not_le.mpr c2)]; rfl)
          · refine gx_iconst (pc := 67) (v := 1) dX1_isAsSeen_67 (by decide) ?_
            refine gx_goto (pc := 68) 72 dX1_isAsSeen_68 (by decide) ?_
            exact K72 _ (by rw [decide_eq_true (Int32.not_lt.mp c2)]; rfl)
        refine gx_iload_n (pc := 38) dX1_isAsSeen_38 rfl ?_
        refine gx_iand (pc := 39) dX1_isAsSeen_39 ?_
        refine gx_if_eq (pc := 40) 47 dX1_isAsSeen_40 (by decide) (fun c4 => ?_) (fun c4 => ?_)
        · refine gx_iconst (pc := 47) (v := 0) dX1_isAsSeen_47 (by decide) ?_
          have c4' : s (c % 10) &&& set = 0 := c4
          exact K48 _ (by rw [decide_eq_true c4']; rfl)
        · have c4' : ¬ s (c % 10) &&& set = 0 := c4
          refine gx_iconst (pc := 43) (v := 1) dX1_isAsSeen_43 (by decide) ?_
          refine gx_goto (pc := 44) 48 dX1_isAsSeen_44 (by decide) ?_
          exact K48 _ (by rw [decide_eq_false c4']; rfl)
  refine gx_iconst (pc := 0) (v := 0) dX1_isAsSeen_0 (by decide) ?_
  refine gx_istore_n (pc := 1) dX1_isAsSeen_1 (by decide) rfl ?_
  exact L n 0 (by omega) rfl
/-- who may have leaked -/
def lkB (s sv : Nat → Int32) (n : Nat) (q : lkT) (set : Int32) : lkT := if spAsB s sv set n = false then q else (q.1 + 1, q.2.1 &&& set, q.2.2.1 ||| set, if q.2.2.2 = -1 ∨ spBits set 10 < spBits q.2.2.2 10 then set else q.2.2.2)
def spLkB (s sv : Nat → Int32) (n : Nat) (a0 : Int32) : Nat → lkT
  | 0 => (0, a0, 0, -1)
  | k + 1 => lkB s sv n (spLkB s sv n a0 k) (nI k)
theorem spLkB_n (s sv : Nat → Int32) (n : Nat) (a0 : Int32) : ∀ k, k ≤ 64 → (spLkB s sv n a0 k).2.2.2 = -1 ∨ ∃ j, j < 64 ∧ (spLkB s sv n a0 k).2.2.2 = nI j
  | 0, _ => Or.inl rfl
  | k + 1, hk => by
    rw [spLkB, lkB]
    split
    · exact spLkB_n s sv n a0 k (by omega)
    · dsimp only
      split
      · exact Or.inr ⟨k, by omega, rfl⟩
      · exact spLkB_n s sv n a0 k (by omega)
theorem c_Xleaks (hd : 5 ≤ d) (hO : XF h x r tk tr gl sl bl py pt ng ft gg mk) (hX : TT h lo hi tk ta fa A s P S E w b) (hL : SN G h sl se sc n sv) (hn : n ≤ 10) (hv : ∀ k, k < n → ∃ c, c < 20 ∧ sv k = nI c) (what : Int32) : gxM G mX1_leaks d 0 0 [.ref x, .int what] h (gxQi (fun v h' => ((¬ (0 ≤ what ∧ what ≤ 3) ∧ v = -1) ∨ ((0 ≤ what ∧ what ≤ 3) ∧ v = spLkr (spLkB s sv n (nI (2 ^ P - 1)) (2 ^ P)) what)) ∧ h' = h)) := by
  have hx := hO
  have hP6 := hX.2.2.2.1
  have h64 : 2 ^ P ≤ 64 := Nat.pow_le_pow_right (by decide) hP6
  have hpos : 0 < 2 ^ P := Nat.pos_of_ne_zero (by simp)
  refine gxM_of rfl (Nat.le_of_ble_eq_true rfl) rfl ?_
  refine gx_iload_n (pc := 0) dX1_leaks_0 rfl ?_
  refine gx_iconst (pc := 1) (v := 0) dX1_leaks_1 (by decide) ?_
  refine gx_iconst (pc := 2) (v := 3) dX1_leaks_2 (by decide) ?_
  refine kX1_140 (kc := 0) (ks := 0) (mc := 0) (ms := 0) (pc := 3) rfl (c_Xwithin (d := d - 1) what 0 3) (by omega) (Nat.le_of_ble_eq_true rfl) dX1_leaks_3 (fun r1 h1 e1 => ?_)
  obtain ⟨rfl, e1⟩ := e1
  subst h1
  refine gx_if_ne (pc := 6) 11 dX1_leaks_6 (by decide) (fun c1 => ?_) (fun c1 => ?_)
  · have z := zi_ne0 c1
    rw [Bool.and_eq_true, decide_eq_true_eq, decide_eq_true_eq] at z
    have K98 : ∀ q v6, q = spLkB s sv n (nI (2 ^ P - 1)) (2 ^ P) → gxV G mX1_leaks d 0 0 98 [some (.ref x), some (.int what), some (.int q.1), some (.int q.2.1), some (.int q.2.2.1), some (.int q.2.2.2), v6] [] h (gxQi (fun v h' => ((¬ (0 ≤ what ∧ what ≤ 3) ∧ v = -1) ∨ ((0 ≤ what ∧ what ≤ 3) ∧ v = spLkr (spLkB s sv n (nI (2 ^ P - 1)) (2 ^ P)) what)) ∧ h' = h)) := by
      intro q v6 hq
      refine gx_iload_n (pc := 98) dX1_leaks_98 rfl ?_
      refine gx_if_ne (pc := 99) 106 dX1_leaks_99 (by decide) (fun c2 => ?_) (fun c2 => ?_)
      · have c2' : ¬ what = 0 := c2
        refine gx_iload_n (pc := 106) dX1_leaks_106 rfl ?_
        refine gx_if_ne (pc := 107) 114 dX1_leaks_107 (by decide) (fun c3 => ?_) (fun c3 => ?_)
        · have c3' : ¬ q.1 = 0 := c3
          refine gx_iload_n (pc := 114) dX1_leaks_114 rfl ?_
          refine gx_iconst (pc := 115) (v := 1) dX1_leaks_115 (by decide) ?_
          refine gx_icmp_ne (pc := 116) 123 dX1_leaks_116 (by decide) (fun c4 => ?_) (fun c4 => ?_)
          · have c4' : ¬ what = 1 := c4
            refine gx_iload_n (pc := 123) dX1_leaks_123 rfl ?_
            refine gx_iconst (pc := 124) (v := 2) dX1_leaks_124 (by decide) ?_
            refine gx_icmp_ne (pc := 125) 133 dX1_leaks_125 (by decide) (fun c5 => ?_) (fun c5 => ?_)
            · have c5' : ¬ what = 2 := c5
              refine gx_iload (pc := 133) dX1_leaks_133 rfl ?_
              exact gx_ireturn (pc := 135) rfl dX1_leaks_135 (⟨_, rfl, ⟨Or.inr ⟨z, by rw [← hq, spLkr, if_neg c2', if_neg c3', if_neg c4', if_neg c5']⟩, rfl⟩⟩)
            · have c5' : what = 2 := c5
              refine gx_iload (pc := 128) dX1_leaks_128 rfl ?_
              refine gx_goto (pc := 130) 135 dX1_leaks_130 (by decide) ?_
              exact gx_ireturn (pc := 135) rfl dX1_leaks_135 (⟨_, rfl, ⟨Or.inr ⟨z, by rw [← hq, spLkr, if_neg c2', if_neg c3', if_neg c4', if_pos c5']⟩, rfl⟩⟩)
          · have c4' : what = 1 := c4
            refine gx_iload_n (pc := 119) dX1_leaks_119 rfl ?_
            refine gx_goto (pc := 120) 135 dX1_leaks_120 (by decide) ?_
            exact gx_ireturn (pc := 135) rfl dX1_leaks_135 (⟨_, rfl, ⟨Or.inr ⟨z, by rw [← hq, spLkr, if_neg c2', if_neg c3', if_pos c4']⟩, rfl⟩⟩)
        · have c3' : q.1 = 0 := c3
          refine gx_iconst (pc := 110) (v := (-1)) dX1_leaks_110 (by decide) ?_
          refine gx_goto (pc := 111) 135 dX1_leaks_111 (by decide) ?_
          exact gx_ireturn (pc := 135) rfl dX1_leaks_135 (⟨_, rfl, ⟨Or.inr ⟨z, by rw [← hq, spLkr, if_neg c2', if_pos c3']⟩, rfl⟩⟩)
      · have c2' : what = 0 := c2
        refine gx_iload_n (pc := 102) dX1_leaks_102 rfl ?_
        refine gx_goto (pc := 103) 135 dX1_leaks_103 (by decide) ?_
        exact gx_ireturn (pc := 135) rfl dX1_leaks_135 (⟨_, rfl, ⟨Or.inr ⟨z, by rw [← hq, spLkr, if_pos c2']⟩, rfl⟩⟩)
    have L : ∀ m k q, m + k = 2 ^ P → q = spLkB s sv n (nI (2 ^ P - 1)) k → gxV G mX1_leaks d 0 0 31 [some (.ref x), some (.int what), some (.int q.1), some (.int q.2.1), some (.int q.2.2.1), some (.int q.2.2.2), some (.int (nI k))] [] h (gxQi (fun v h' => ((¬ (0 ≤ what ∧ what ≤ 3) ∧ v = -1) ∨ ((0 ≤ what ∧ what ≤ 3) ∧ v = spLkr (spLkB s sv n (nI (2 ^ P - 1)) (2 ^ P)) what)) ∧ h' = h)) := by
      intro m
      induction m with
      | zero =>
        intro k q hk hq
        have : k = 2 ^ P := by omega
        refine gx_iload (pc := 31) dX1_leaks_31 rfl ?_
        refine gx_iconst (pc := 33) (v := 1) dX1_leaks_33 (by decide) ?_
        refine gx_aload_n (pc := 34) dX1_leaks_34 rfl ?_
        refine kX1_138 (kc := 0) (ks := 0) (mc := 0) (ms := 0) (pc := 35) rfl (c_people (d := d - 1) (by omega) hO.O hX) (gxRc.of rfl hx) (by omega) (Nat.le_of_ble_eq_true rfl) dX1_leaks_35 (fun r1 h1 e1 => ?_)
        obtain ⟨rfl, e1⟩ := e1
        subst h1
        refine gx_ishl (pc := 38) dX1_leaks_38 ?_
        rw [(shl_P hP6).1]
        refine gx_icmp_ge (pc := 39) 98 dX1_leaks_39 (by decide) (fun c2 => ?_) (fun c2 => ?_)
        · exact K98 q _ (by rw [hq, this])
        · exact absurd (nI_le (by omega) (by omega)) c2
      | succ m ih =>
        intro k q hk hq
        have K92 : ∀ q2 : lkT, q2 = spLkB s sv n (nI (2 ^ P - 1)) (k + 1) → gxV G mX1_leaks d 0 0 92 [some (.ref x), some (.int what), some (.int q2.1), some (.int q2.2.1), some (.int q2.2.2.1), some (.int q2.2.2.2), some (.int (nI k))] [] h (gxQi (fun v h' => ((¬ (0 ≤ what ∧ what ≤ 3) ∧ v = -1) ∨ ((0 ≤ what ∧ what ≤ 3) ∧ v = spLkr (spLkB s sv n (nI (2 ^ P - 1)) (2 ^ P)) what)) ∧ h' = h)) := by
          intro q2 h2
          refine gx_iincc (pc := 92) (c := 1) dX1_leaks_92 rfl (by decide) (by decide) rfl ?_
          refine gx_goto (pc := 95) 31 dX1_leaks_95 (by decide) ?_
          rw [nI_1]
          exact ih (k + 1) q2 (by omega) h2
        have stp : spLkB s sv n (nI (2 ^ P - 1)) (k + 1) = lkB s sv n q (nI k) := by rw [spLkB, hq]
        refine gx_iload (pc := 31) dX1_leaks_31 rfl ?_
        refine gx_iconst (pc := 33) (v := 1) dX1_leaks_33 (by decide) ?_
        refine gx_aload_n (pc := 34) dX1_leaks_34 rfl ?_
        refine kX1_138 (kc := 0) (ks := 0) (mc := 0) (ms := 0) (pc := 35) rfl (c_people (d := d - 1) (by omega) hO.O hX) (gxRc.of rfl hx) (by omega) (Nat.le_of_ble_eq_true rfl) dX1_leaks_35 (fun r1 h1 e1 => ?_)
        obtain ⟨rfl, e1⟩ := e1
        subst h1
        refine gx_ishl (pc := 38) dX1_leaks_38 ?_
        rw [(shl_P hP6).1]
        refine gx_icmp_ge (pc := 39) 98 dX1_leaks_39 (by decide) (fun c2 => ?_) (fun c2 => ?_)
        · exact absurd c2 (nI_ge (by omega) (by omega))
        · refine gx_aload_n (pc := 42) dX1_leaks_42 rfl ?_
          refine gx_iload (pc := 43) dX1_leaks_43 rfl ?_
          refine kX1_320 (kc := 0) (ks := 0) (mc := 0) (ms := 0) (pc := 45) rfl (c_XisAsSeen (d := d - 1) (by omega) hO hX hL hn hv (nI k)) (gxRc.of rfl hx) (by omega) (Nat.le_of_ble_eq_true rfl) dX1_leaks_45 (fun r1 h1 e1 => ?_)
          obtain ⟨rfl, e1⟩ := e1
          subst h1
          refine gx_if_ne (pc := 48) 54 dX1_leaks_48 (by decide) (fun c3 => ?_) (fun c3 => ?_)
          · have z3 := zi_ne0 c3
            have q4 := spLkB_n s sv n (nI (2 ^ P - 1)) k (by omega)
            rw [← hq] at q4
            have ex : lkB s sv n q (nI k) = (q.1 + 1, q.2.1 &&& nI k, q.2.2.1 ||| nI k, if q.2.2.2 = -1 ∨ spBits (nI k) 10 < spBits q.2.2.2 10 then nI k else q.2.2.2) := by
              unfold lkB; rw [if_neg (by rw [z3]; decide)]
            refine gx_iincc (pc := 54) (c := 1) dX1_leaks_54 rfl (by decide) (by decide) rfl ?_
            refine gx_iload_n (pc := 57) dX1_leaks_57 rfl ?_
            refine gx_iload (pc := 58) dX1_leaks_58 rfl ?_
            refine gx_iand (pc := 60) dX1_leaks_60 ?_
            refine gx_istore_n (pc := 61) dX1_leaks_61 (by decide) rfl ?_
            refine gx_iload (pc := 62) dX1_leaks_62 rfl ?_
            refine gx_iload (pc := 64) dX1_leaks_64 rfl ?_
            refine gx_ior (pc := 66) dX1_leaks_66 ?_
            refine gx_istore (pc := 67) dX1_leaks_67 (by decide) rfl ?_
            refine gx_iload (pc := 69) dX1_leaks_69 rfl ?_
            refine gx_iconst (pc := 71) (v := (-1)) dX1_leaks_71 (by decide) ?_
            refine gx_icmp_eq (pc := 72) 88 dX1_leaks_72 (by decide) (fun c4 => ?_) (fun c4 => ?_)
            · have c4' : q.2.2.2 = -1 := c4
              refine gx_iload (pc := 88) dX1_leaks_88 rfl ?_
              refine gx_istore (pc := 90) dX1_leaks_90 (by decide) rfl ?_
              exact K92 (q.1 + 1, q.2.1 &&& nI k, q.2.2.1 ||| nI k, nI k) (by rw [stp, ex, if_pos (Or.inl c4')])
            · have c4' : ¬ q.2.2.2 = -1 := c4
              obtain ⟨j, hj, ej⟩ := q4.resolve_left c4'
              refine gx_iload (pc := 75) dX1_leaks_75 rfl ?_
              refine kX1_293 (kc := 0) (ks := 0) (mc := 0) (ms := 0) (pc := 77) rfl (c_Xbits (d := d - 1) k (by omega)) (by omega) (Nat.le_of_ble_eq_true rfl) dX1_leaks_77 (fun r1 h1 e1 => ?_)
              obtain ⟨rfl, e1⟩ := e1
              subst h1
              rw [show (some (Value.int q.2.2.2) : Option Value) = some (.int (nI j)) by rw [ej]]
              refine gx_iload (pc := 80) dX1_leaks_80 rfl ?_
              refine kX1_293 (kc := 0) (ks := 0) (mc := 0) (ms := 0) (pc := 82) rfl (c_Xbits (d := d - 1) j (by omega)) (by omega) (Nat.le_of_ble_eq_true rfl) dX1_leaks_82 (fun r1 h1 e1 => ?_)
              obtain ⟨rfl, e1⟩ := e1
              subst h1
              refine gx_icmp_ge (pc := 85) 92 dX1_leaks_85 (by decide) (fun c5 => ?_) (fun c5 => ?_)
              · exact K92 (q.1 + 1, q.2.1 &&& nI k, q.2.2.1 ||| nI k, nI j) (by rw [stp, ex, if_neg (by rw [ej]; rintro (z | z); exact c4' (ej.trans z); exact absurd c5 (Int32.not_le.mpr z)), ej])
              · refine gx_iload (pc := 88) dX1_leaks_88 rfl ?_
                refine gx_istore (pc := 90) dX1_leaks_90 (by decide) rfl ?_
                exact K92 (q.1 + 1, q.2.1 &&& nI k, q.2.2.1 ||| nI k, nI k) (by rw [stp, ex, if_pos (Or.inr (by rw [ej]; exact Int32.not_le.mp c5))])
          · have z3 := zi_eq0 c3
            refine gx_goto (pc := 51) 92 dX1_leaks_51 (by decide) ?_
            exact K92 q (by rw [stp, lkB, if_pos z3])
    refine gx_iconst (pc := 11) (v := 0) dX1_leaks_11 (by decide) ?_
    refine gx_istore_n (pc := 12) dX1_leaks_12 (by decide) rfl ?_
    refine gx_iconst (pc := 13) (v := 1) dX1_leaks_13 (by decide) ?_
    refine gx_aload_n (pc := 14) dX1_leaks_14 rfl ?_
    refine kX1_138 (kc := 0) (ks := 0) (mc := 0) (ms := 0) (pc := 15) rfl (c_people (d := d - 1) (by omega) hO.O hX) (gxRc.of rfl hx) (by omega) (Nat.le_of_ble_eq_true rfl) dX1_leaks_15 (fun r1 h1 e1 => ?_)
    obtain ⟨rfl, e1⟩ := e1
    subst h1
    refine gx_ishl (pc := 18) dX1_leaks_18 ?_
    refine gx_iconst (pc := 19) (v := 1) dX1_leaks_19 (by decide) ?_
    rw [(shl_P hP6).1]
    refine gx_isub (pc := 20) dX1_leaks_20 ?_
    refine gx_istore_n (pc := 21) dX1_leaks_21 (by decide) rfl ?_
    refine gx_iconst (pc := 22) (v := 0) dX1_leaks_22 (by decide) ?_
    refine gx_istore (pc := 23) dX1_leaks_23 (by decide) rfl ?_
    refine gx_iconst (pc := 25) (v := (-1)) dX1_leaks_25 (by decide) ?_
    refine gx_istore (pc := 26) dX1_leaks_26 (by decide) rfl ?_
    refine gx_iconst (pc := 28) (v := 0) dX1_leaks_28 (by decide) ?_
    refine gx_istore (pc := 29) dX1_leaks_29 (by decide) rfl ?_
    have : nI (2 ^ P) - 1 = nI (2 ^ P - 1) := by have := nI_pred (2 ^ P - 1); rw [Nat.sub_add_cancel (by omega)] at this; exact this
    rw [this]
    exact L (2 ^ P) 0 (0, nI (2 ^ P - 1), 0, -1) (by omega) rfl
  · have z := zi_eq0 c1
    refine gx_iconst (pc := 9) (v := (-1)) dX1_leaks_9 (by decide) ?_
    exact gx_ireturn (pc := 10) rfl dX1_leaks_10 (⟨_, rfl, ⟨Or.inl ⟨(fun hh => by rw [decide_eq_true hh.1, decide_eq_true hh.2] at z; cases z), rfl⟩, rfl⟩⟩)
end AL2
