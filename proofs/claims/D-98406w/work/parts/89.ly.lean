/-! ===== COMPONENT Y: years drawn ===== -/
set_option maxRecDepth 100000
theorem TK.fr {h h' : gxH} {a ta : Nat} {s : Nat → Int32} {b : Bool} (x : TK h a ta s b) (e : ∀ q, a ≤ q → q < a + 6 → h'.1 q = h.1 q) : TK h' a ta s b := by
  obtain ⟨kn, aw, rk, fi, ne, h0, h1, h2, h3, h4, h5, r⟩ := x
  exact ⟨kn, aw, rk, fi, ne, by rw [e _ (by omega) (by omega)]; exact h0, by rw [e _ (by omega) (by omega)]; exact h1, by rw [e _ (by omega) (by omega)]; exact h2, by rw [e _ (by omega) (by omega)]; exact h3, by rw [e _ (by omega) (by omega)]; exact h4, by rw [e _ (by omega) (by omega)]; exact h5, r⟩
/-- alike but for the component's object, a talk and the facts -/
def yE (x a fa : Nat) (h h' : gxH) : Prop := h'.2 = h.2 ∧ (∀ q, q ≠ x → q < a ∨ a + 6 ≤ q → q ≠ fa → h'.1 q = h.1 q) ∧ (fcA h fa → fcA h' fa)
theorem yE.rf (x a fa : Nat) (h : gxH) : yE x a fa h h := ⟨rfl, fun _ _ _ _ => rfl, fun x => x⟩
theorem yE.tr {x a fa : Nat} {u v z : gxH} (h : yE x a fa u v) (k : yE x a fa v z) : yE x a fa u z := ⟨k.1.trans h.1, fun q h0 hq hf => (k.2.1 q h0 hq hf).trans (h.2.1 q h0 hq hf), fun e => k.2.2 (h.2.2 e)⟩
theorem tE.y {x a fa : Nat} {u v : gxH} (h : tE a fa u v) : yE x a fa u v := ⟨h.1, fun q _ hq hf => h.2.1 q hq hf, h.2.2⟩
theorem yE.up {x a fa : Nat} (h : gxH) (e : gxE) (hf : x ≠ fa) : yE x a fa h (gxup h x e) := ⟨rfl, fun q h0 _ _ => gxup_ne h0, fun ⟨f, hh⟩ => ⟨f, by rw [gxup_ne (Ne.symm hf)]; exact hh⟩⟩
theorem spLs_n {w : Option gxEv} {A : Nat → Nat → Int32} {P S p : Nat} : ∀ m, m < 1025 → (spLs w A P S p m).1 = -1 ∨ ∃ j, 0 < j ∧ j ≤ m ∧ (spLs w A P S p m).1 = nI j
  | 0, _ => Or.inl rfl
  | m + 1, hm => by
    have ih : (spLs w A P S p m).1 = -1 ∨ ∃ j, 0 < j ∧ j ≤ m + 1 ∧ (spLs w A P S p m).1 = nI j := by
      rcases spLs_n (w := w) (A := A) (P := P) (S := S) (p := p) m (by omega) with e | ⟨j, h1, h2, e⟩
      · exact Or.inl e
      · exact Or.inr ⟨j, h1, by omega, e⟩
    rw [spLs, lsStep]
    split
    · exact ih
    · split
      · exact ih
      · exact Or.inr ⟨m + 1, by omega, by omega, rfl⟩
theorem spLeast_n {w : Option gxEv} {A : Nat → Nat → Int32} {P S p : Nat} (hS : S ≤ 10) : spLeast w A P S p = -1 ∨ (0 < spLeast w A P S p ∧ spLeast w A P S p ≠ -1) := by
  have := pow_S hS
  rcases spLs_n (w := w) (A := A) (P := P) (S := S) (p := p) (2 ^ S - 1) (by omega) with e | ⟨j, h1, h2, e⟩
  · exact Or.inl e
  · refine Or.inr ⟨?_, ?_⟩
    · rw [spLeast, e]; exact nI_lt (a := 0) (by omega) (by omega)
    · rw [spLeast, e]; intro z
      have := nI_pos (n := j) (by omega)
      rw [z] at this
      exact this (by decide)
theorem bit_add : ∀ p, p < 6 → ∀ n, n < 2 ^ p → nI n ||| ((1 : Int32) <<< (nI p &&& 31)) = nI (n + 2 ^ p) ∧ spBits (nI (n + 2 ^ p)) 10 = spBits (nI n) 10 + 1 := by decide +kernel
theorem spFsum_up (s : Nat → Int32) (p : Nat) (v : Int32) : ∀ j, spFsum (upd s (79 + p) v) j = if p < j then spFsum s j + (v - s (79 + p)) else spFsum s j
  | 0 => by rw [if_neg (by omega)]; rfl
  | j + 1 => by
    rw [spFsum, spFsum, spFsum_up s p v j]
    simp only [upd]
    rcases Nat.lt_trichotomy p j with h | h | h
    · rw [if_pos h, if_neg (by omega), if_pos (by omega)]; ac_rfl
    · subst h
      rw [if_neg (by omega), if_pos rfl, if_pos (by omega), Int32.add_assoc]
      congr 1
      rw [Int32.add_comm, Int32.sub_add_cancel]
    · rw [if_neg (by omega), if_neg (by omega), if_neg (by omega)]
theorem spFsum_ir (s : Nat → Int32) (k : Nat) (v : Int32) : ∀ j, k < 79 ∨ 79 + j ≤ k → spFsum (upd s k v) j = spFsum s j
  | 0, _ => rfl
  | j + 1, h => by
    rw [spFsum, spFsum, spFsum_ir s k v j (by omega)]
    simp only [upd]
    rw [if_neg (by omega)]
theorem fined_n (A : Nat → Nat → Int32) : ∀ p, p ≤ 6 → ∃ n, n < 2 ^ p ∧ spFined A p = nI n ∧ spFsum (spFines A p) 6 = spFsum (A 50) 6 + spBits (nI n) 10
  | 0, _ => ⟨0, by decide, rfl, by rw [spFines, show spBits (nI 0) 10 = 0 by decide, Int32.add_zero]⟩
  | p + 1, hp => by
    obtain ⟨n, hn, e1, e2⟩ := fined_n A p (by omega)
    have hp2 : 2 ^ (p + 1) = 2 ^ p + 2 ^ p := by rw [Nat.pow_succ]; omega
    rw [spFined, spFines]
    split
    · have b := bit_add p (by omega) n hn
      refine ⟨n + 2 ^ p, by omega, by rw [e1, b.1], ?_⟩
      rw [spFsum_up, if_pos (by omega), e2, b.2, Int32.add_comm (spFines A p (79 + p)) 1, Int32.add_sub_cancel, Int32.add_assoc]
    · exact ⟨n, by omega, e1, e2⟩
theorem fined_P (A : Nat → Nat → Int32) (P : Nat) (hP : P ≤ 6) : ∃ n, n < 64 ∧ spFined A P = nI n ∧ spFsum (spPass A P) 6 = spFsum (A 50) 6 + spBits (nI n) 10 := by
  obtain ⟨n, h1, h2, h3⟩ := fined_n A P hP
  have : 2 ^ P ≤ 2 ^ 6 := Nat.pow_le_pow_right (by decide) hP
  refine ⟨n, by omega, h2, ?_⟩
  rw [spPass, spFsum_ir _ _ _ _ (by omega), spFsum_ir _ _ _ _ (by omega), spFsum_ir _ _ _ _ (by omega), h3]
section LY
variable {G : gxG} {d : Nat} {h : gxH} {x r tk tr gl sl bl py pt ng ft mk lo hi ta fa P S E : Nat} {g : Int64} {A : Nat → Nat → Int32} {s : Nat → Int32} {w : Option gxEv} {b : Bool}
theorem c_draw (hn : gxN G ≤ x) (n m : Nat) (hm0 : 0 < m) (hm : m < 2 ^ 31) (hnn : n < 2 ^ 31) (hO : XF h x r tk tr gl sl bl py pt ng ft (lN n) mk) : gxM G mX1_draw d 0 0 [.ref x, .int (nI m)] h (gxQi (fun v h' => v = nI (spDn n / 65536 % m) ∧ XF h' x r tk tr gl sl bl py pt ng ft (lN (spDn n)) mk ∧ h' = gxup h x (.inr (0, [.ref r, .ref tk, .ref tr, .ref gl, .ref sl, .ref bl, .ref py, .ref pt, .ref ng, .ref ft, .long (lN (spDn n)), .ref mk])))) := by
  have hx := hO
  have nx := hn
  unfold XF at hx
  refine gxM_of rfl (Nat.le_of_ble_eq_true rfl) rfl ?_
  refine gx_aload_n (pc := 0) dX1_draw_0 rfl ?_
  refine gx_aload_n (pc := 1) dX1_draw_1 rfl ?_
  refine gx_get (pc := 2) fX1_349 hx rfl dX1_draw_2 ?_
  refine gx_ldc2 (pc := 5) q1729 dX1_draw_5 ?_
  refine gx_lmul (pc := 8) dX1_draw_8 ?_
  refine gx_ldc2 (pc := 9) q1730 dX1_draw_9 ?_
  refine gx_ladd (pc := 12) dX1_draw_12 ?_
  refine gx_ldc2 (pc := 13) q1731 dX1_draw_13 ?_
  refine gx_lrem (pc := 16) dX1_draw_16 (by decide) ?_
  have e1 : lN n * 1103515245 + 12345 - (lN n * 1103515245 + 12345) / 2147483648 * 2147483648 = lN (spDn n) := by
    have e2 : lN n * 1103515245 + 12345 = lN (12345 + 1103515245 * n) := by
      rw [show (1103515245 : Int64) = lN 1103515245 from rfl, show (12345 : Int64) = lN 12345 from rfl, lN_mul, lN_add, Nat.mul_comm, Nat.add_comm]
    rw [e2, show (2147483648 : Int64) = lN 2147483648 from rfl]
    exact pk_lRem (by omega) (by decide) (by decide)
  rw [e1]
  have hl := spDn_lt n
  refine gx_put (pc := 17) fX1_349 hx nx (by first | exact Nat.le_of_ble_eq_true rfl | simp) tX1_10 rfl rfl dX1_draw_17 ?_
  change gxV _ _ _ _ _ _ _ _ (gxup h x (.inr (0, [.ref r, .ref tk, .ref tr, .ref gl, .ref sl, .ref bl, .ref py, .ref pt, .ref ng, .ref ft, .long (lN (spDn n)), .ref mk]))) _
  have hx2 : (gxup h x (.inr (0, [.ref r, .ref tk, .ref tr, .ref gl, .ref sl, .ref bl, .ref py, .ref pt, .ref ng, .ref ft, .long (lN (spDn n)), .ref mk]))).1 x = some (.inr (0, [.ref r, .ref tk, .ref tr, .ref gl, .ref sl, .ref bl, .ref py, .ref pt, .ref ng, .ref ft, .long (lN (spDn n)), .ref mk])) := gxup_self _ _ _
  have hx3 : XF (gxup h x (.inr (0, [.ref r, .ref tk, .ref tr, .ref gl, .ref sl, .ref bl, .ref py, .ref pt, .ref ng, .ref ft, .long (lN (spDn n)), .ref mk]))) x r tk tr gl sl bl py pt ng ft (lN (spDn n)) mk := hx2
  generalize gxup h x (.inr (0, [.ref r, .ref tk, .ref tr, .ref gl, .ref sl, .ref bl, .ref py, .ref pt, .ref ng, .ref ft, .long (lN (spDn n)), .ref mk])) = h2 at *
  clear hx
  have hx := hx2
  refine gx_aload_n (pc := 20) dX1_draw_20 rfl ?_
  refine gx_get (pc := 21) fX1_349 hx rfl dX1_draw_21 ?_
  refine gx_ldc2 (pc := 24) q1732 dX1_draw_24 ?_
  refine gx_ldiv (pc := 27) dX1_draw_27 (by decide) ?_
  refine gx_iload_n (pc := 28) dX1_draw_28 rfl ?_
  refine gx_i2l (pc := 29) dX1_draw_29 ?_
  rw [show lN (spDn n) / 65536 = lN (spDn n / 65536) from pk_lDiv (b := 65536) (by omega) (by decide) (by decide), nI_l hm]
  refine gx_lrem (pc := 30) dX1_draw_30 (fun e => absurd ((pk_lEQ (a := m) (b := 0) (by omega) (by decide)).mp e) (by omega)) ?_
  refine gx_l2i (pc := 31) dX1_draw_31 ?_
  rw [pk_lRem (by omega) hm0 (by omega), lN_i]
  exact gx_ireturn (pc := 32) rfl dX1_draw_32 (⟨_, rfl, ⟨rfl, hx3, rfl⟩⟩)
/-- what holds while years are drawn -/
def YI (x r tk tr gl sl bl py pt ng ft mk lo hi ta fa P S E : Nat) (A : Nat → Nat → Int32) (s : Nat → Int32) (w : Option gxEv) (b : Bool) (h h1 : gxH) (n : Nat) (row : Nat → Int32) : Prop :=
  n < 2 ^ 31 ∧ XF h1 x r tk tr gl sl bl py pt ng ft (lN n) mk ∧ TT h1 lo hi tr ta fa A row P S E w b ∧ TK h1 tk ta s b ∧ yE x tr fa h h1
theorem YI.dr {n : Nat} {row : Nat → Int32} {h1 : gxH} (dx : x < lo) (dt : x < tr) (dk : x < tk) (y : (YI x r tk tr gl sl bl py pt ng ft mk lo hi ta fa P S E A s w b) h h1 n row) : (YI x r tk tr gl sl bl py pt ng ft mk lo hi ta fa P S E A s w b) h (gxup h1 x (.inr (0, [.ref r, .ref tk, .ref tr, .ref gl, .ref sl, .ref bl, .ref py, .ref pt, .ref ng, .ref ft, .long (lN (spDn n)), .ref mk]))) (spDn n) row := by
  obtain ⟨_, y1, y2, y3, y4⟩ := y
  have hf := y2.1.2.1
  have ff : x ≠ fa := by unfold inR at hf; omega
  have E1 : yE x tr fa h1 (gxup h1 x (.inr (0, [.ref r, .ref tk, .ref tr, .ref gl, .ref sl, .ref bl, .ref py, .ref pt, .ref ng, .ref ft, .long (lN (spDn n)), .ref mk]))) := yE.up _ _ ff
  refine ⟨spDn_lt n, gxup_self _ _ _, ⟨y2.1.fr (fun q h1 h2 _ => gxup_ne (by omega)) (E1.2.2 y2.1.2.2.1), y2.2.1.fr (fun q h1 _ => gxup_ne (by omega)), y2.2.2⟩, y3.fr (fun q h1 _ => gxup_ne (by omega)), y4.tr E1⟩
theorem YI.tE {n : Nat} {row row' : Nat → Int32} {h1 h2 : gxH} (dj : tr + 6 ≤ lo ∨ hi ≤ tr) (dx : x < lo) (dt : x < tr) (dkt : tr + 6 ≤ tk ∨ tk + 6 ≤ tr) (dkf : fa < tk ∨ tk + 6 ≤ fa) (y : (YI x r tk tr gl sl bl py pt ng ft mk lo hi ta fa P S E A s w b) h h1 n row) (hK : TK h2 tr ta row' b) (e : tE tr fa h1 h2) : (YI x r tk tr gl sl bl py pt ng ft mk lo hi ta fa P S E A s w b) h h2 n row' := by
  obtain ⟨y0, y1, y2, y3, y4⟩ := y
  exact ⟨y0, y1.o (e.o y2.2.1 y2.1.2.2.1), ⟨y2.1.tE e dj, hK, y2.2.2⟩, y3.fr (fun q h1 h2 => e.2.1 q (by omega) (by omega)), y4.tr e.y⟩
theorem c_Xwhispers (dj : tr + 6 ≤ lo ∨ hi ≤ tr) (dx : x < lo) (dt : x < tr) (dk : x < tk) (dkt : tr + 6 ≤ tk ∨ tk + 6 ≤ tr) (dkf : fa < tk ∨ tk + 6 ≤ fa) (hf : fa < tr ∨ tr + 6 ≤ fa) (hn : gxN G ≤ x) (hd : 6 ≤ d) (h16 : ∀ k, k < S → A 16 k = 0 ∨ A 16 k = 1) {h1 : gxH} {n : Nat} {row : Nat → Int32} (y : (YI x r tk tr gl sl bl py pt ng ft mk lo hi ta fa P S E A s w b) h h1 n row) (k : Nat) (hk : k < E) (c : Int32) : gxM G mX1_whispers d 0 0 [.ref x, .int (nI k)] h1 (gxQi (fun v h' => ∃ q, q = whStep A S (c, n, row) k ∧ (v = 0 ∨ v = 1) ∧ q.1 = (if v = 0 then c else c + 1) ∧ (YI x r tk tr gl sl bl py pt ng ft mk lo hi ta fa P S E A s w b) h h' q.2.1 q.2.2)) := by
  have y0 := y
  obtain ⟨y1, hO, hX, hKt, y4⟩ := y
  have hXk : TT h1 lo hi tk ta fa A s P S E w b := ⟨hX.1, hKt, hX.2.2⟩
  have hM := hX.2.2
  have hP6 := hM.2.1
  have hS10 := hM.2.2.2.1
  have hE30 := hM.2.2.2.2.2.1
  obtain ⟨⟨p, hp, ep⟩, ⟨o, ho, eo⟩, hpo⟩ := hM.2.2.2.2.2.2.2.2.1 k hk
  have hpo' : p ≠ o := fun e => hpo (by rw [ep, eo, e])
  refine gxM_of rfl (Nat.le_of_ble_eq_true rfl) rfl ?_
  have hTX := hX.1
  obtain ⟨i1, i2, hfc, nl, ol, pl, sl', el, fo, wv, pa, sa, ea, i3, ht, hfo, hpl, hsl, hel, hpa, hsa, hea, hwv⟩ := hTX; have hel0 := hel.ls; obtain ⟨_, _, _, _, hel, _⟩ := id hel0; obtain ⟨_, ge, hee, g0, g1, g2⟩ := hea k hk
  have hx := hO
  refine gx_aload_n (pc := 0) dX1_whispers_0 rfl ?_
  refine kX1_119 (kc := 0) (ks := 0) (mc := 0) (ms := 0) (pc := 1) rfl (c_now (d := d - 1) hO.O hXk) (gxRc.of rfl hx) (by omega) (Nat.le_of_ble_eq_true rfl) dX1_whispers_1 (fun r1 h2 e1 => ?_)
  obtain ⟨e0, e1⟩ := e1
  subst h2; subst r1
  refine gx_get (pc := 4) fX1_361 ht rfl dX1_whispers_4 ?_
  refine gx_iload_n (pc := 7) dX1_whispers_7 rfl ?_
  refine kX1_153 (kc := 0) (ks := 0) (mc := 0) (ms := 0) (pc := 8) rfl (c_get (d := d - 1) (by omega) hel0 k hk) (gxRc.of rfl hel) (by omega) (Nat.le_of_ble_eq_true rfl) dX1_whispers_8 (fun r1 h2 e1 => ?_)
  obtain ⟨rfl, e1⟩ := e1
  subst h2
  refine gx_castI (pc := 11) hee q1724 dX1_whispers_11 ?_
  refine gx_astore_n (pc := 14) dX1_whispers_14 (by decide) rfl ?_
  refine gx_aload_n (pc := 15) dX1_whispers_15 rfl ?_
  refine gx_bipush (pc := 16) (v := 10) dX1_whispers_16 (by decide) ?_
  change gxV _ _ _ _ _ _ _ (.int (nI 10) :: _) _ _
  refine kX1_365 (kc := 0) (ks := 0) (mc := 0) (ms := 0) (pc := 18) rfl (c_draw (d := d - 1) hn n 10 (by omega) (by omega) y1 hO) (gxRc.of rfl hx) (by omega) (Nat.le_of_ble_eq_true rfl) dX1_whispers_18 (fun r1 h2 e1 => ?_)
  obtain ⟨rfl, hO2, e1⟩ := e1
  have Y2 := YI.dr dx dt dk y0
  rw [← e1] at Y2
  have hee2 : h2.1 (ea k) = some (.inl (0, 3, .inl ge)) := by
    rw [e1, gxup_ne (by have := (hea k hk).1; unfold inR at this; omega)]; exact hee
  clear hee
  have hee := hee2
  clear e1
  obtain ⟨_, hx, hX2, hKt2, _⟩ := id Y2
  have hXk2 : TT h2 lo hi tk ta fa A s P S E w b := ⟨hX2.1, hKt2, hM⟩
  have ht := hX2.1
  obtain ⟨_, _, _, _, _, _, _, _, _, _, _, _, _, _, ht, _⟩ := ht
  have N39 : ∀ v2 v3, (spChance A k ≤ nI (spDn n / 65536 % 10) ∨ S = 0) → gxV G mX1_whispers d 0 0 39 [some (.ref x), some (.int (nI k)), v2, v3] [] h2 (gxQi (fun v h' => ∃ q, q = whStep A S (c, n, row) k ∧ (v = 0 ∨ v = 1) ∧ q.1 = (if v = 0 then c else c + 1) ∧ (YI x r tk tr gl sl bl py pt ng ft mk lo hi ta fa P S E A s w b) h h' q.2.1 q.2.2)) := by
    intro v2 v3 hh
    refine gx_iconst (pc := 39) (v := 0) dX1_whispers_39 (by decide) ?_
    exact gx_zreturn (pc := 40) rfl (by decide) dX1_whispers_40 (⟨_, rfl, ⟨_, by rw [whStep, if_pos hh], Or.inl rfl, by rw [if_pos rfl], Y2⟩⟩)
  refine gx_aload_n (pc := 21) dX1_whispers_21 rfl ?_
  refine kX1_119 (kc := 0) (ks := 0) (mc := 0) (ms := 0) (pc := 22) rfl (c_now (d := d - 1) hO2.O hXk2) (gxRc.of rfl hx) (by omega) (Nat.le_of_ble_eq_true rfl) dX1_whispers_22 (fun r1 h3 e1 => ?_)
  obtain ⟨e0, e1⟩ := e1
  subst h3; subst r1
  refine gx_iload_n (pc := 25) dX1_whispers_25 rfl ?_
  refine kX1_368 (kc := 0) (ks := 0) (mc := 0) (ms := 0) (pc := 26) rfl (c_chance (d := d - 1) (by omega) hX2.1 hP6 hE30 k hk p hp ep) (gxRc.of rfl ht) (by omega) (Nat.le_of_ble_eq_true rfl) dX1_whispers_26 (fun r1 h3 e1 => ?_)
  obtain ⟨rfl, e1⟩ := e1
  subst h3
  rw [spChc_eq (by omega) ep]
  refine gx_icmp_ge (pc := 29) 39 dX1_whispers_29 (by decide) (fun c1 => ?_) (fun c1 => ?_)
  · exact N39 _ _ (Or.inl c1)
  · refine gx_aload_n (pc := 32) dX1_whispers_32 rfl ?_
    refine kX1_144 (kc := 0) (ks := 0) (mc := 0) (ms := 0) (pc := 33) rfl (c_secrets (d := d - 1) (by omega) hO2.O hXk2) (gxRc.of rfl hx) (by omega) (Nat.le_of_ble_eq_true rfl) dX1_whispers_33 (fun r1 h3 e1 => ?_)
    obtain ⟨rfl, e1⟩ := e1
    subst h3
    refine gx_if_ne (pc := 36) 41 dX1_whispers_36 (by decide) (fun c2 => ?_) (fun c2 => ?_)
    · have s0 : 0 < S := by
        rcases Nat.eq_zero_or_pos S with z | z
        · exact absurd (by rw [z]; rfl) c2
        · exact z
      refine gx_aload_n (pc := 41) dX1_whispers_41 rfl ?_
      refine gx_aload_n (pc := 42) dX1_whispers_42 rfl ?_
      refine kX1_144 (kc := 0) (ks := 0) (mc := 0) (ms := 0) (pc := 43) rfl (c_secrets (d := d - 1) (by omega) hO2.O hXk2) (gxRc.of rfl hx) (by omega) (Nat.le_of_ble_eq_true rfl) dX1_whispers_43 (fun r1 h3 e1 => ?_)
      obtain ⟨rfl, e1⟩ := e1
      subst h3
      refine kX1_365 (kc := 0) (ks := 0) (mc := 0) (ms := 0) (pc := 46) rfl (c_draw (d := d - 1) hn (spDn n) S s0 (by omega) (spDn_lt n) hO2) (gxRc.of rfl hx) (by omega) (Nat.le_of_ble_eq_true rfl) dX1_whispers_46 (fun r1 h3 e1 => ?_)
      obtain ⟨rfl, hO3, e1⟩ := e1
      have Y3 := YI.dr dx dt dk Y2
      rw [← e1] at Y3
      have hee3 : h3.1 (ea k) = some (.inl (0, 3, .inl ge)) := by
        rw [e1, gxup_ne (by have := (hea k hk).1; unfold inR at this; omega)]; exact hee
      clear hee
      have hee := hee3
      clear e1
      have hm : spDn (spDn n) / 65536 % S < S := Nat.mod_lt _ s0
      have hw : whStep A S (c, n, row) k = if spCan (setS A row) p o (spDn (spDn n) / 65536 % S) then (c + 1, spDn (spDn n), spTell (setS A row) p o (spDn (spDn n) / 65536 % S)) else (c, spDn (spDn n), row) := by
        have nn : ¬ (spChance A k ≤ nI (spDn n / 65536 % 10) ∨ S = 0) := by
          rintro (z | z)
          · exact c1 z
          · omega
        unfold whStep
        rw [if_neg nn, ep, eo, nI_clamp (by omega), nI_clamp (by omega)]
      obtain ⟨_, hx, hX3, hKt3, _⟩ := id Y3
      generalize spDn (spDn n) / 65536 % S = z at *
      generalize spDn (spDn n) = nn at *
      obtain ⟨_, _, _, _, _, htr, _⟩ := id hX3.2.1
      refine gx_istore_n (pc := 49) dX1_whispers_49 (by decide) rfl ?_
      refine gx_aload_n (pc := 50) dX1_whispers_50 rfl ?_
      refine gx_get (pc := 51) fX1_44 hx rfl dX1_whispers_51 ?_
      refine gx_aload_n (pc := 54) dX1_whispers_54 rfl ?_
      refine gx_iconst (pc := 55) (v := 0) dX1_whispers_55 (by decide) ?_
      refine gx_iald (pc := 56) (0) hee (by first | rfl | simp only [gx_lit, nI_add, pk_mul]) (by omega) (by decide) dX1_whispers_56 ?_
      refine gx_aload_n (pc := 57) dX1_whispers_57 rfl ?_
      refine gx_iconst (pc := 58) (v := 1) dX1_whispers_58 (by decide) ?_
      refine gx_iald (pc := 59) (1) hee (by first | rfl | simp only [gx_lit, nI_add, pk_mul]) (by omega) (by decide) dX1_whispers_59 ?_
      rw [g0, g1, ep, eo]
      refine gx_iload_n (pc := 60) dX1_whispers_60 rfl ?_
      refine kX1_240 (kc := 0) (ks := 0) (mc := 0) (ms := 0) (pc := 61) rfl (c_mayTell (d := d - 1) (by omega) hX3 p o z hp ho hm) (gxRc.of rfl htr) (by omega) (Nat.le_of_ble_eq_true rfl) dX1_whispers_61 (fun r1 h4 e1 => ?_)
      obtain ⟨rfl, e1⟩ := e1
      subst h4
      refine gx_if_ne (pc := 64) 69 dX1_whispers_64 (by decide) (fun c3 => ?_) (fun c3 => ?_)
      · have z3 := zi_ne0 c3
        rw [Bool.and_eq_true] at z3
        refine gx_aload_n (pc := 69) dX1_whispers_69 rfl ?_
        refine gx_get (pc := 70) fX1_44 hx rfl dX1_whispers_70 ?_
        refine gx_aload_n (pc := 73) dX1_whispers_73 rfl ?_
        refine gx_iconst (pc := 74) (v := 0) dX1_whispers_74 (by decide) ?_
        refine gx_iald (pc := 75) (0) hee (by first | rfl | simp only [gx_lit, nI_add, pk_mul]) (by omega) (by decide) dX1_whispers_75 ?_
        refine gx_aload_n (pc := 76) dX1_whispers_76 rfl ?_
        refine gx_iconst (pc := 77) (v := 1) dX1_whispers_77 (by decide) ?_
        refine gx_iald (pc := 78) (1) hee (by first | rfl | simp only [gx_lit, nI_add, pk_mul]) (by omega) (by decide) dX1_whispers_78 ?_
        rw [g0, g1, ep, eo]
        refine gx_iload_n (pc := 79) dX1_whispers_79 rfl ?_
        refine kX1_246 (kc := 0) (ks := 0) (mc := 0) (ms := 0) (pc := 80) rfl (c_Xtells (d := d - 1) (by omega) (by omega) hf dj hX3 p o z hp ho hm hpo' (h16 z hm)) (gxRc.of rfl htr) (by omega) (Nat.le_of_ble_eq_true rfl) dX1_whispers_80 (fun h4 e1 => ?_)
        refine gx_iconst (pc := 83) (v := 1) dX1_whispers_83 (by decide) ?_
        exact gx_zreturn (pc := 84) rfl (by decide) dX1_whispers_84 (⟨_, rfl, ⟨_, by rw [hw, if_pos z3.2], Or.inr rfl, by rw [if_neg (by decide)], Y3.tE dj dx dt dkt dkf e1.1 e1.2⟩⟩)
      · have z3 := zi_eq0 c3
        rw [show decide (p = o) = false from decide_eq_false hpo', Bool.not_false, Bool.true_and] at z3
        refine gx_iconst (pc := 67) (v := 0) dX1_whispers_67 (by decide) ?_
        exact gx_zreturn (pc := 68) rfl (by decide) dX1_whispers_68 (⟨_, rfl, ⟨_, by rw [hw, if_neg (by rw [z3]; decide)], Or.inl rfl, by rw [if_pos rfl], Y3⟩⟩)
    · have s0 : S = 0 := by
        have c2' : nI S = nI 0 := c2
        exact (nI_eq (by omega) (by omega)).mp c2'
      exact N39 _ _ (Or.inr s0)
end LY
