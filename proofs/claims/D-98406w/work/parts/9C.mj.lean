/-! ===== COMPONENT AJ: what is kept behind; by hand ===== -/
set_option maxRecDepth 100000
/-- a contract with more room -/
theorem gxM_room {G : gxG} {Y : gxY} {d kc ks kc' ks' : Nat} {av : List Value} {h : gxH} {Q : Outcome → gxH → Prop} (h1 : kc ≤ kc') (h2 : ks ≤ ks') (hM : gxM G Y d kc ks av h Q) : gxM G Y d kc' ks' av h Q := by
  intro hK p e ha hc hk s m args below hf happ hP hT
  have happ' : (headSpec [gxcw Y] (gxRm d kc ks)).appliesLoose Y.1 e.platform s = true := by
    revert happ
    unfold Spec.appliesLoose
    split
    · simp only [Bool.and_eq_true]
      rintro ⟨⟨a, b⟩, c⟩
      refine ⟨⟨a, ?_⟩, c⟩
      unfold State.hasRoom at b ⊢
      dsimp only [headSpec, gxRm] at b ⊢
      simp only [Bool.and_eq_true, decide_eq_true_eq] at b ⊢
      obtain ⟨⟨⟨⟨x1, x2⟩, x3⟩, x4⟩, x5⟩ := b
      exact ⟨⟨⟨⟨x1, x2⟩, decide_eq_true (Nat.le_trans (Nat.add_le_add_left h1 _) (of_decide_eq_true x3))⟩, decide_eq_true (Nat.le_trans (Nat.add_le_add_left h2 _) (of_decide_eq_true x4))⟩, x5⟩
    · intro h; exact h
  obtain ⟨n, o, b1, b2, b3, h', L, b4, b5, b6, b7, b8⟩ := hM hK p e ha hc hk s m args below hf happ' hP hT
  exact ⟨n, o, b1, b2, b3, h', L, b4, b5, b6, b7.mono h1 h2, b8⟩
/-- the talks behind: the list's array (be, of bc places), n talks at bf -/
def BH (G : gxG) (h : gxH) (bl be bc n : Nat) (bf : Nat → Nat) : Prop := gxN G ≤ bl ∧ bl < h.2 ∧ ((n = 0 ∧ bc = 0 ∧ LE G h bl) ∨ (gxN G ≤ be ∧ bl ≠ be ∧ be < h.2 ∧ 1 ≤ bc ∧ bc ≤ 32 ∧ n ≤ bc ∧ ∃ g, LD h bl be bc n g ∧ (∀ k, k < n → g k = some (bf k)) ∧ ∀ k, n ≤ k → k < bc → g k = none))
def bfN (bf : Nat → Nat) (n a : Nat) : Nat → Nat := fun k => if n = 16 then (if k < 15 then bf (k + 1) else a) else (if k < n then bf k else a)
def kpN (n : Nat) : Nat := if n = 16 then 16 else n + 1
theorem TK.ty {h : gxH} {a ta : Nat} {s : Nat → Int32} {b : Bool} (x : TK h a ta s b) {q : Nat} (h1 : a ≤ q) (h2 : q < a + 6) : (∃ vs, h.1 q = some (.inr (2, vs))) ∨ ∃ n f, h.1 q = some (.inl (0, n, .inl f)) := by
  obtain ⟨kn, aw, rk, fi, ne, g0, g1, g2, g3, g4, g5, r⟩ := x
  have : q = a ∨ q = a + 1 ∨ q = a + 2 ∨ q = a + 3 ∨ q = a + 4 ∨ q = a + 5 := by omega
  rcases this with e | e | e | e | e | e <;> subst e
  · exact Or.inl ⟨_, g0⟩
  · exact Or.inr ⟨_, _, g1⟩
  · exact Or.inr ⟨_, _, g2⟩
  · exact Or.inr ⟨_, _, g3⟩
  · exact Or.inr ⟨_, _, g4⟩
  · exact Or.inr ⟨_, _, g5⟩
theorem BH.ne {G : gxG} {h : gxH} {bl be bc n : Nat} {bf : Nat → Nat} (x : BH G h bl be bc n bf) {q : Nat} (hq : (∃ vs, h.1 q = some (.inr (2, vs))) ∨ ∃ n f, h.1 q = some (.inl (0, n, .inl f))) : q ≠ bl ∧ (bc = 0 ∨ q ≠ be) := by
  obtain ⟨z1, z2, z3⟩ := x
  rcases z3 with ⟨y1, y2, mc, t, y3, y4⟩ | ⟨y1, y2, y3, y4, y5, y6, g, ⟨mc, y7, y8⟩, y9⟩
  · refine ⟨fun e => ?_, Or.inl y2⟩
    rw [e, y4] at hq
    rcases hq with ⟨vs, e⟩ | ⟨n, f, e⟩ <;> cases e
  · refine ⟨fun e => ?_, Or.inr (fun e => ?_)⟩
    · rw [e, y7] at hq
      rcases hq with ⟨vs, e⟩ | ⟨n, f, e⟩ <;> cases e
    · rw [e, y8] at hq
      rcases hq with ⟨vs, e⟩ | ⟨n, f, e⟩ <;> simp [gxq] at e
theorem TK.BHf {G : gxG} {h h' : gxH} {bl be bc n a ta : Nat} {bf : Nat → Nat} {s : Nat → Int32} {b : Bool} (x : TK h a ta s b) (hB : BH G h bl be bc n bf) (hf : ∀ q, q < h.2 → q ≠ bl → (bc = 0 ∨ q ≠ be) → h'.1 q = h.1 q) (hlt : a + 6 ≤ h.2) : TK h' a ta s b :=
  x.fr (fun q h1 h2 => hf q (by omega) (hB.ne (x.ty h1 h2)).1 (hB.ne (x.ty h1 h2)).2)
/-- one more talk is kept -/
def KP (G : gxG) (h h' : gxH) (ta bl be bc n : Nat) (bf : Nat → Nat) (s : Nat → Int32) (b : Bool) : Prop := ∃ be' bc', TK h' h.2 ta s b ∧ BH G h' bl be' bc' (kpN n) (bfN bf n h.2) ∧ h.2 + 6 ≤ h'.2 ∧ h'.2 ≤ h.2 + 7 ∧ ((be' = be ∧ bc' = bc) ∨ (be' = h.2 + 6 ∧ h'.2 = h.2 + 7)) ∧ ∀ q, q < h.2 → q ≠ bl → (bc = 0 ∨ q ≠ be) → h'.1 q = h.1 q
section AJ
variable {G : gxG} {d : Nat} {h : gxH} {x r tk tr gl sl bl py pt ng ft mk lo hi ta fa P S E be bc n : Nat} {gg : Int64} {A : Nat → Nat → Int32} {s : Nat → Int32} {w : Option gxEv} {b : Bool} {bf : Nat → Nat}
/-- a talk is laid at the list's end -/
theorem c_BHadd (hd : 7 ≤ d) {h : gxH} {a n : Nat} {bf : Nat → Nat} (hB : BH G h bl be bc n bf) (hn : n < 16) (hbt : ∀ k, k < n → ∃ vs, h.1 (bf k) = some (.inr (2, vs))) (hbz : ∀ k, k < n → bf k < h.2) (ha : ∃ vs, h.1 a = some (.inr (2, vs))) (haz : a < h.2) : gxM G mJ2_add d 1 64 [.ref bl, .ref a] h (gxQi (fun _ h' => ∃ be' bc', BH G h' bl be' bc' (n + 1) (fun k => if k < n then bf k else a) ∧ h.2 ≤ h'.2 ∧ h'.2 ≤ h.2 + 1 ∧ ((be' = be ∧ bc' = bc) ∨ (be' = h.2 ∧ h'.2 = h.2 + 1)) ∧ ∀ q, q < h.2 → q ≠ bl → (bc = 0 ∨ q ≠ be) → h'.1 q = h.1 q)) := by
  have hB0 := hB
  have na := (hB0.ne (Or.inl ha)).1
  obtain ⟨va, hva⟩ := ha
  have el : elO G h a := Or.inl ⟨2, _, va, hva, rfl, q2532⟩
  obtain ⟨z1, z2, z3⟩ := hB
  rcases z3 with ⟨y1, y2, y3⟩ | ⟨y1, y2, y3, y4, y5, y6, g, y7, y8, y9⟩
  · subst y1
    subst y2
    refine gxM_post (Q := gxQi (fun _ h' => LD h' bl h.2 10 1 (va_up (fun _ => none) 0 (some a)) ∧ h'.2 = h.2 + 1 ∧ ∀ q, q ≠ bl → q ≠ h.2 → h'.1 q = h.1 q)) ?_ (gxM_room (by omega) (by omega) (c_Ladd0 (by omega) z1 z2 haz y3 el na))
    rintro o h' ⟨r0, rfl, e1, e2, e3⟩
    refine ⟨r0, rfl, h.2, 10, ⟨z1, by omega, Or.inr ⟨by omega, by omega, by omega, by decide, by decide, by decide, _, e1, fun k hk => ?_, fun k hk hk2 => ?_⟩⟩, by omega, by omega, Or.inr ⟨rfl, e2⟩, fun q h1 h2 _ => e3 q h2 (by omega)⟩
    · have : k = 0 := by omega
      subst this
      simp [va_up]
    · simp only [va_up]; rw [if_neg (by omega)]
  · have hg := grw_le bc y4
    have nb : ∀ k, k < n → bf k ≠ bl := fun k hk => (hB0.ne (Or.inl (hbt k hk))).1
    refine gxM_post (Q := gxQi (fun _ h' => addQ h h' bl be bc n a g)) ?_ (gxM_room (by omega) (by omega) (c_Ladd (by omega) z1 y1 y2 z2 y3 haz y7 y6 y4 (by omega) el na ((hB0.ne (Or.inl ⟨va, hva⟩)).2.resolve_left (by omega)) (fun i hi y hy => ?_)))
    · rintro o h' ⟨r0, rfl, e', c', g', b1, b2, b3, b4, b5, b6, b7, b8⟩
      have c32 : c' ≤ 32 := by rcases b6 with z | z <;> omega
      refine ⟨r0, rfl, e', c', ⟨z1, by rcases b6 with z | z <;> omega, Or.inr ⟨by rcases b6 with z | z <;> omega, by rcases b6 with z | z <;> omega, by rcases b6 with z | z <;> omega, by omega, c32, by omega, g', b1, fun k hk => ?_, fun k hk hk2 => ?_⟩⟩, by rcases b6 with z | z <;> omega, by rcases b6 with z | z <;> omega, ?_, fun q h1 h2 h3 => b7 q h2 (h3.resolve_left (by omega)) h1⟩
      · by_cases hkn : k < n
        · rw [b2 k hkn, y8 k hkn]; exact congrArg some (if_pos hkn).symm
        · have : k = n := by omega
          subst this
          rw [b3]; exact congrArg some (if_neg hkn).symm
      · rcases b8 k (by omega) hk2 with z | ⟨z1, z2⟩
        · exact z
        · rw [z2]; exact y9 k (by omega) z1
      · rcases b6 with ⟨z1, z2, z3⟩ | ⟨z1, z2, z3⟩
        · exact Or.inl ⟨z1, z3⟩
        · exact Or.inr ⟨z1, z2⟩
    · by_cases hin : i < n
      · rw [y8 i hin] at hy
        cases hy
        obtain ⟨vs, hvs⟩ := hbt i hin
        exact ⟨hbz i hin, nb i hin, Or.inl ⟨2, _, vs, hvs, rfl, q2532⟩⟩
      · rw [y9 i (by omega) hi] at hy
        cases hy
theorem c_BHrem (hd : 2 ≤ d) {h : gxH} (hB : BH G h bl be bc n bf) (k : Nat) (hk : k < n) (hbt : ∀ k, k < n → ∃ vs, h.1 (bf k) = some (.inr (2, vs))) : gxM G mJ2_remove d 0 0 [.ref bl, .int (nI k)] h (gxQr (fun r h' => r = bf k ∧ BH G h' bl be bc (n - 1) (fun j => if j < k then bf j else bf (j + 1)) ∧ h'.2 = h.2 ∧ ∀ q, q ≠ bl → (bc = 0 ∨ q ≠ be) → h'.1 q = h.1 q)) := by
  have hB0 := hB
  obtain ⟨z1, z2, z3⟩ := hB
  rcases z3 with ⟨y1, y2, y3⟩ | ⟨y1, y2, y3, y4, y5, y6, g, y7, y8, y9⟩
  · omega
  · refine gxM_post ?_ (c_Lremove (v := bf k) hd z1 y1 y2 hk y6 (by omega) y7 (y8 k hk) (fun i hi y hy => ?_))
    · rintro o h' ⟨r0, rfl, rfl, e1, e2, e3⟩
      refine ⟨_, rfl, rfl, ⟨z1, by omega, Or.inr ⟨y1, y2, by omega, y4, y5, by omega, _, e3, fun j hj => ?_, fun j hj hj2 => ?_⟩⟩, e1, fun q h1 h2 => e2 q h1 (h2.resolve_left (by omega))⟩
      · simp only [rmv]
        by_cases z : j < k
        · rw [if_pos z, if_pos z]; exact y8 j (by omega)
        · rw [if_neg z, if_neg z, if_pos (by omega)]; exact y8 (j + 1) (by omega)
      · simp only [rmv]
        rw [if_neg (by omega), if_neg (by omega)]
        split
        · rfl
        · exact y9 j (by omega) hj2
    · rw [y8 i hi] at hy
      cases hy
      obtain ⟨vs, hvs⟩ := hbt i hi
      exact ⟨(hB0.ne (Or.inl ⟨vs, hvs⟩)).1, Or.inl ⟨2, _, vs, hvs, rfl, q2532⟩⟩
theorem BH.sz {h : gxH} (hB : BH G h bl be bc n bf) : ∃ mc v, h.1 bl = some (.inr (32, [.int mc, v, .int (nI n)])) := by
  obtain ⟨z1, z2, z3⟩ := hB
  rcases z3 with ⟨y1, y2, mc, t, y3, y4⟩ | ⟨y1, y2, y3, y4, y5, y6, g, ⟨mc, y7, _⟩, y8, y9⟩
  · exact ⟨mc, _, by rw [y1]; exact y4⟩
  · exact ⟨mc, _, y7⟩
theorem c_sizeZ {a n : Nat} {mc : Int32} {v : Value} (ha : h.1 a = some (.inr (32, [.int mc, v, .int (nI n)]))) : gxM G mJ2_size d 0 0 [.ref a] h (gxQi (fun r h' => r = nI n ∧ h' = h)) := by
  refine gxM_ofF (by decide +kernel) (Nat.le_of_ble_eq_true rfl) rfl ?_
  refine gx_aload_n (pc := 0) dJ2_size_0 rfl ?_
  refine gx_get (pc := 1) fJ2_48 ha rfl dJ2_size_1 ?_
  exact gx_ireturn (pc := 4) rfl dJ2_size_4 (⟨_, rfl, ⟨rfl, rfl⟩⟩)
theorem c_isEmptyZ {a n : Nat} {mc : Int32} {v : Value} (hn : n < 2 ^ 31) (ha : h.1 a = some (.inr (32, [.int mc, v, .int (nI n)]))) : gxM G mJ2_isEmpty d 0 0 [.ref a] h (gxQi (fun r h' => r = zi (decide (n = 0)) ∧ h' = h)) := by
  refine gxM_ofF (by decide +kernel) (Nat.le_of_ble_eq_true rfl) rfl ?_
  refine gx_aload_n (pc := 0) dJ2_isEmpty_0 rfl ?_
  refine gx_get (pc := 1) fJ2_48 ha rfl dJ2_isEmpty_1 ?_
  refine gx_if_ne (pc := 4) 11 dJ2_isEmpty_4 (by decide) (fun c1 => ?_) (fun c1 => ?_)
  · have : ¬ n = 0 := fun e => c1 (by rw [e]; rfl)
    refine gx_iconst (pc := 11) (v := 0) dJ2_isEmpty_11 (by decide) ?_
    exact gx_zreturn (pc := 12) rfl (by decide) dJ2_isEmpty_12 (⟨_, rfl, ⟨by rw [decide_eq_false this]; rfl, rfl⟩⟩)
  · have : n = 0 := (nI_eq (b := 0) (by omega) (by decide)).mp c1
    refine gx_iconst (pc := 7) (v := 1) dJ2_isEmpty_7 (by decide) ?_
    refine gx_goto (pc := 8) 12 dJ2_isEmpty_8 (by decide) ?_
    exact gx_zreturn (pc := 12) rfl (by decide) dJ2_isEmpty_12 (⟨_, rfl, ⟨by rw [decide_eq_true this]; rfl, rfl⟩⟩)
end AJ
