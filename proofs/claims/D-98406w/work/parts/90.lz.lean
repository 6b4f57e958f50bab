/-! ===== COMPONENT Z: quarter days, years ===== -/
set_option maxRecDepth 100000
section LZ
variable {G : gxG} {d : Nat} {h : gxH} {x r tk tr gl sl bl py pt ng ft mk lo hi ta fa P S E : Nat} {g : Int64} {A : Nat → Nat → Int32} {s : Nat → Int32} {w : Option gxEv} {b : Bool}
theorem c_quarterDay (dj : tr + 6 ≤ lo ∨ hi ≤ tr) (dx : x < lo) (dt : x < tr) (dk : x < tk) (dkt : tr + 6 ≤ tk ∨ tk + 6 ≤ tr) (dkf : fa < tk ∨ tk + 6 ≤ fa) (hf : fa < tr ∨ tr + 6 ≤ fa) (hn : gxN G ≤ x) (hd : 97 ≤ d) (htax : ∀ p, p < P → 0 ≤ A 15 p) {h1 : gxH} {n : Nat} {row : Nat → Int32} (y : (YI x r tk tr gl sl bl py pt ng ft mk lo hi ta fa P S E A s w b) h h1 n row) : gxM G mX1_quarterDay d 0 0 [.ref x] h1 (gxQi (fun v h' => v + spFsum row 6 = spFsum (spPass (setS A (qdRow w A P S row P)) P) 6 ∧ (YI x r tk tr gl sl bl py pt ng ft mk lo hi ta fa P S E A s w b) h h' n (spPass (setS A (qdRow w A P S row P)) P))) := by
  have hM := y.2.2.1.2.2
  have hP6 := hM.2.1
  have hS10 := hM.2.2.2.1
  refine gxM_of rfl (Nat.le_of_ble_eq_true rfl) rfl ?_
  have fs : ∀ p, spFsum (qdRow w A P S row p) 6 = spFsum row 6 := by
    intro p
    induction p with
    | zero => rfl
    | succ p ih =>
      rw [qdRow]
      split
      · rw [spPay, spFsum_ir _ _ _ _ (by omega), spFsum_ir _ _ _ _ (by omega), ih]
      · exact ih
  have L : ∀ m p h1 v2, m + p = P → (YI x r tk tr gl sl bl py pt ng ft mk lo hi ta fa P S E A s w b) h h1 n (qdRow w A P S row p) → gxV G mX1_quarterDay d 0 0 2 [some (.ref x), some (.int (nI p)), v2] [] h1 (gxQi (fun v h' => v + spFsum row 6 = spFsum (spPass (setS A (qdRow w A P S row P)) P) 6 ∧ (YI x r tk tr gl sl bl py pt ng ft mk lo hi ta fa P S E A s w b) h h' n (spPass (setS A (qdRow w A P S row P)) P))) := by
    intro m
    induction m with
    | zero =>
      intro p h1 v2 hp y
      have : p = P := by omega
      subst this
      obtain ⟨_, hO, hX, hKt, _⟩ := id y
      have hXk : TT h1 lo hi tk ta fa A s p S E w b := ⟨hX.1, hKt, hX.2.2⟩
      have hx := hO
      obtain ⟨_, _, _, _, _, htr, _⟩ := id hX.2.1
      refine gx_iload_n (pc := 2) dX1_quarterDay_2 rfl ?_
      refine gx_aload_n (pc := 3) dX1_quarterDay_3 rfl ?_
      refine kX1_138 (kc := 0) (ks := 0) (mc := 0) (ms := 0) (pc := 4) rfl (c_people (d := d - 1) (by omega) hO.O hXk) (gxRc.of rfl hx) (by omega) (Nat.le_of_ble_eq_true rfl) dX1_quarterDay_4 (fun r1 h2 e1 => ?_)
      obtain ⟨rfl, e1⟩ := e1
      subst h2
      refine gx_icmp_ge (pc := 7) 63 dX1_quarterDay_7 (by decide) (fun c1 => ?_) (fun c1 => ?_)
      · refine gx_aload_n (pc := 63) dX1_quarterDay_63 rfl ?_
        refine gx_get (pc := 64) fX1_44 hx rfl dX1_quarterDay_64 ?_
        refine kX1_265 (kc := 0) (ks := 0) (mc := 0) (ms := 0) (pc := 67) rfl (c_Xends (d := d - 1) (by omega) (by omega) hf dj hX) (gxRc.of rfl htr) (by omega) (Nat.le_of_ble_eq_true rfl) dX1_quarterDay_67 (fun r1 h2 e1 => ?_)
        obtain ⟨rfl, e1, e2⟩ := e1
        obtain ⟨z, z1, z2, z3⟩ := fined_P (setS A (qdRow w A p S row p)) p hP6
        rw [z2]
        refine kX1_293 (kc := 0) (ks := 0) (mc := 0) (ms := 0) (pc := 70) rfl (c_Xbits (d := d - 1) z (by omega)) (by omega) (Nat.le_of_ble_eq_true rfl) dX1_quarterDay_70 (fun r1 h3 e3 => ?_)
        obtain ⟨rfl, e3⟩ := e3
        subst h3
        exact gx_ireturn (pc := 73) rfl dX1_quarterDay_73 (⟨_, rfl, ⟨by rw [z3, setS_50, fs, Int32.add_comm], y.tE dj dx dt dkt dkf e1 e2⟩⟩)
      · exact absurd (nI_le (Nat.le_refl _) (by omega)) c1
    | succ m ih =>
      intro p h1 v2 hp y
      obtain ⟨_, hO, hX, hKt, _⟩ := id y
      have hXk : TT h1 lo hi tk ta fa A s P S E w b := ⟨hX.1, hKt, hX.2.2⟩
      have hx := hO
      obtain ⟨_, _, _, _, _, htr, _⟩ := id hX.2.1
      obtain ⟨i1, i2, hfc, nl, ol, pl, sl', el, fo, wv, pa, sa, ea, i3, ht, hfo, hpl, hsl, hel, hpa, hsa, hea, hwv⟩ := id hX.1
      have hpl0 := hpl.ls
      clear hpl
      obtain ⟨_, _, _, _, hpl, _⟩ := id hpl0
      obtain ⟨_, hpe⟩ := hpa p (by omega)
      have K57 : ∀ h2 v3, (YI x r tk tr gl sl bl py pt ng ft mk lo hi ta fa P S E A s w b) h h2 n (qdRow w A P S row (p + 1)) → gxV G mX1_quarterDay d 0 0 57 [some (.ref x), some (.int (nI p)), v3] [] h2 (gxQi (fun v h' => v + spFsum row 6 = spFsum (spPass (setS A (qdRow w A P S row P)) P) 6 ∧ (YI x r tk tr gl sl bl py pt ng ft mk lo hi ta fa P S E A s w b) h h' n (spPass (setS A (qdRow w A P S row P)) P))) := by
        intro h2 v3 y2
        refine gx_iincc (pc := 57) (c := 1) dX1_quarterDay_57 rfl (by decide) (by decide) rfl ?_
        refine gx_goto (pc := 60) 2 dX1_quarterDay_60 (by decide) ?_
        rw [nI_1]
        exact ih (p + 1) h2 v3 (by omega) y2
      have K42 : ∀ v h2, (v = -1 ∧ qdRow w A P S row (p + 1) = qdRow w A P S row p) ∨ (v ≠ -1 ∧ qdRow w A P S row (p + 1) = spPay (qdRow w A P S row p) p v) → (YI x r tk tr gl sl bl py pt ng ft mk lo hi ta fa P S E A s w b) h h2 n (qdRow w A P S row p) → gxV G mX1_quarterDay d 0 0 42 [some (.ref x), some (.int (nI p)), v2] [.int v] h2 (gxQi (fun v h' => v + spFsum row 6 = spFsum (spPass (setS A (qdRow w A P S row P)) P) 6 ∧ (YI x r tk tr gl sl bl py pt ng ft mk lo hi ta fa P S E A s w b) h h' n (spPass (setS A (qdRow w A P S row P)) P))) := by
        intro v h2 hv y2
        obtain ⟨_, hO, hX, hKt, _⟩ := id y2
        have hx := hO
        obtain ⟨_, _, _, _, _, htr, _⟩ := id hX.2.1
        refine gx_istore_n (pc := 42) dX1_quarterDay_42 (by decide) rfl ?_
        refine gx_iload_n (pc := 43) dX1_quarterDay_43 rfl ?_
        refine gx_iconst (pc := 44) (v := (-1)) dX1_quarterDay_44 (by decide) ?_
        refine gx_icmp_eq (pc := 45) 57 dX1_quarterDay_45 (by decide) (fun c3 => ?_) (fun c3 => ?_)
        · have c3' : v = -1 := c3
          rcases hv with ⟨z, z2⟩ | ⟨z, z2⟩
          · exact K57 h2 _ (by rw [z2]; exact y2)
          · exact absurd c3' z
        · have c3' : ¬ v = -1 := c3
          rcases hv with ⟨z, z2⟩ | ⟨z, z2⟩
          · exact absurd z c3'
          · refine gx_aload_n (pc := 48) dX1_quarterDay_48 rfl ?_
            refine gx_get (pc := 49) fX1_44 hx rfl dX1_quarterDay_49 ?_
            refine gx_iload_n (pc := 52) dX1_quarterDay_52 rfl ?_
            refine gx_iload_n (pc := 53) dX1_quarterDay_53 rfl ?_
            refine kX1_256 (kc := 0) (ks := 0) (mc := 0) (ms := 0) (pc := 54) rfl (c_Xpays (d := d - 1) (by omega) hf hX.2.1 p v) (gxRc.of rfl htr) (by omega) (Nat.le_of_ble_eq_true rfl) dX1_quarterDay_54 (fun h3 e1 => ?_)
            exact K57 h3 _ (by rw [z2]; exact y2.tE dj dx dt dkt dkf e1.1 e1.2)
      refine gx_iload_n (pc := 2) dX1_quarterDay_2 rfl ?_
      refine gx_aload_n (pc := 3) dX1_quarterDay_3 rfl ?_
      refine kX1_138 (kc := 0) (ks := 0) (mc := 0) (ms := 0) (pc := 4) rfl (c_people (d := d - 1) (by omega) hO.O hXk) (gxRc.of rfl hx) (by omega) (Nat.le_of_ble_eq_true rfl) dX1_quarterDay_4 (fun r1 h2 e1 => ?_)
      obtain ⟨rfl, e1⟩ := e1
      subst h2
      refine gx_icmp_ge (pc := 7) 63 dX1_quarterDay_7 (by decide) (fun c1 => ?_) (fun c1 => ?_)
      · exact absurd c1 (nI_ge (by omega) (by omega))
      · refine gx_aload_n (pc := 10) dX1_quarterDay_10 rfl ?_
        refine kX1_119 (kc := 0) (ks := 0) (mc := 0) (ms := 0) (pc := 11) rfl (c_now (d := d - 1) hO.O hXk) (gxRc.of rfl hx) (by omega) (Nat.le_of_ble_eq_true rfl) dX1_quarterDay_11 (fun r1 h2 e1 => ?_)
        obtain ⟨e0, e1⟩ := e1
        subst h2; subst r1
        refine gx_get (pc := 14) fX1_128 ht rfl dX1_quarterDay_14 ?_
        refine gx_iload_n (pc := 17) dX1_quarterDay_17 rfl ?_
        refine kX1_153 (kc := 0) (ks := 0) (mc := 0) (ms := 0) (pc := 18) rfl (c_get (d := d - 1) (by omega) hpl0 p (by omega)) (gxRc.of rfl hpl) (by omega) (Nat.le_of_ble_eq_true rfl) dX1_quarterDay_18 (fun r1 h2 e1 => ?_)
        obtain ⟨rfl, e1⟩ := e1
        subst h2
        refine gx_castP (pc := 21) hpe q996 dX1_quarterDay_21 ?_
        refine kFX1_164 (pc := 24) hpe rfl dX1_quarterDay_24 ?_
        have t0 := htax p (by omega)
        refine gx_if_ne (pc := 27) 34 dX1_quarterDay_27 (by decide) (fun c2 => ?_) (fun c2 => ?_)
        · have t1 : 0 < A 15 p := Int32.lt_of_le_of_ne t0 (fun e => c2 e.symm)
          refine gx_aload_n (pc := 34) dX1_quarterDay_34 rfl ?_
          refine gx_get (pc := 35) fX1_44 hx rfl dX1_quarterDay_35 ?_
          refine gx_iload_n (pc := 38) dX1_quarterDay_38 rfl ?_
          refine kX1_287 (kc := 0) (ks := 0) (mc := 0) (ms := 0) (pc := 39) rfl (c_Xleast (d := d - 1) (Nat.le_trans hn (Nat.le_of_lt dx)) (by omega) hX p (by omega)) (gxRc.of rfl htr) (by omega) (Nat.le_of_ble_eq_true rfl) dX1_quarterDay_39 (fun r1 h2 e1 => ?_)
          obtain ⟨rfl, e1⟩ := e1
          have y2 := y.tE dj dx dt dkt dkf (hX.2.1.fE hX.1.2.2.1 e1) e1.t
          refine K42 _ h2 ?_ y2
          rcases spLeast_n (w := w) (A := setS A (qdRow w A P S row p)) (P := P) (S := S) (p := p) hS10 with z | ⟨z, z2⟩
          · refine Or.inl ⟨z, ?_⟩
            rw [qdRow, if_neg]
            rintro ⟨_, z2⟩
            rw [z] at z2
            exact absurd z2 (by decide)
          · refine Or.inr ⟨z2, ?_⟩
            rw [qdRow, if_pos ⟨t1, z⟩]
        · have c2' : A 15 p = 0 := c2
          refine gx_iconst (pc := 30) (v := (-1)) dX1_quarterDay_30 (by decide) ?_
          refine gx_goto (pc := 31) 42 dX1_quarterDay_31 (by decide) ?_
          refine K42 _ h1 (Or.inl ⟨rfl, ?_⟩) y
          rw [qdRow, if_neg]
          rintro ⟨z, _⟩
          rw [c2'] at z
          exact absurd z (by decide)
  refine gx_iconst (pc := 0) (v := 0) dX1_quarterDay_0 (by decide) ?_
  refine gx_istore_n (pc := 1) dX1_quarterDay_1 (by decide) rfl ?_
  exact L P 0 h1 _ (by omega) y
theorem c_Xyears (dj : tr + 6 ≤ lo ∨ hi ≤ tr) (dx : x < lo) (dt : x < tr) (dk : x < tk) (dkt : tr + 6 ≤ tk ∨ tk + 6 ≤ tr) (dkf : fa < tk ∨ tk + 6 ≤ fa) (hf : fa < tr ∨ tr + 6 ≤ fa) (hn : gxN G ≤ x) (hd : 98 ≤ d) (h16 : ∀ k, k < S → A 16 k = 0 ∨ A 16 k = 1) (htax : ∀ p, p < P → 0 ≤ A 15 p) (hO : XF h x r tk tr gl sl bl py pt ng ft g mk) (hX : TT h lo hi tk ta fa A s P S E w b) {tv : Value} {kn aw rk fi ne : Nat → Int32} {m0 p0 y0 l0 q0 : Int32} (hF : TF h tr tv kn aw rk fi ne m0 p0 y0 l0 q0) (hA : A 50 = s) (seed nights what : Int32) : gxM G mX1_years d 0 0 [.ref x, .int seed, .int nights, .int what] h (gxQi (fun v h' => (¬ ((0 ≤ seed ∧ seed ≤ 9999) ∧ (1 ≤ nights ∧ nights ≤ 100) ∧ (0 ≤ what ∧ what ≤ 2)) ∧ v = -1 ∧ h' = h) ∨ (∃ n t, n ≤ 9999 ∧ 1 ≤ t ∧ t ≤ 100 ∧ seed = nI n ∧ nights = nI t ∧ (0 ≤ what ∧ what ≤ 2) ∧ v = spYrr w A P S (spYr w A P S E n t) what ∧ ∃ n' row', (YI x r tk tr gl sl bl py pt ng ft mk lo hi ta fa P S E A s w b) h h' n' row'))) := by
  have hM := hX.2.2
  have hP6 := hM.2.1
  have hS10 := hM.2.2.2.1
  have hE30 := hM.2.2.2.2.2.1
  have hx := hO
  unfold XF at hx
  have htr := hF.1
  refine gxM_of rfl (Nat.le_of_ble_eq_true rfl) rfl ?_
  have N : ¬ ((0 ≤ seed ∧ seed ≤ 9999) ∧ (1 ≤ nights ∧ nights ≤ 100) ∧ (0 ≤ what ∧ what ≤ 2)) → gxV G mX1_years d 0 0 30 [some (.ref x), some (.int seed), some (.int nights), some (.int what), none, none, none, none] [] h (gxQi (fun v h' => (¬ ((0 ≤ seed ∧ seed ≤ 9999) ∧ (1 ≤ nights ∧ nights ≤ 100) ∧ (0 ≤ what ∧ what ≤ 2)) ∧ v = -1 ∧ h' = h) ∨ (∃ n t, n ≤ 9999 ∧ 1 ≤ t ∧ t ≤ 100 ∧ seed = nI n ∧ nights = nI t ∧ (0 ≤ what ∧ what ≤ 2) ∧ v = spYrr w A P S (spYr w A P S E n t) what ∧ ∃ n' row', (YI x r tk tr gl sl bl py pt ng ft mk lo hi ta fa P S E A s w b) h h' n' row'))) := by
    intro hh
    refine gx_iconst (pc := 30) (v := (-1)) dX1_years_30 (by decide) ?_
    exact gx_ireturn (pc := 31) rfl dX1_years_31 (⟨_, rfl, Or.inl ⟨hh, rfl, rfl⟩⟩)
  have main : ∀ n T, n ≤ 9999 → 1 ≤ T → T ≤ 100 → seed = nI n → nights = nI T → (0 ≤ what ∧ what ≤ 2) → gxV G mX1_years d 0 0 32 [some (.ref x), some (.int seed), some (.int nights), some (.int what), none, none, none, none] [] h (gxQi (fun v h' => (¬ ((0 ≤ seed ∧ seed ≤ 9999) ∧ (1 ≤ nights ∧ nights ≤ 100) ∧ (0 ≤ what ∧ what ≤ 2)) ∧ v = -1 ∧ h' = h) ∨ (∃ n t, n ≤ 9999 ∧ 1 ≤ t ∧ t ≤ 100 ∧ seed = nI n ∧ nights = nI t ∧ (0 ≤ what ∧ what ≤ 2) ∧ v = spYrr w A P S (spYr w A P S E n t) what ∧ ∃ n' row', (YI x r tk tr gl sl bl py pt ng ft mk lo hi ta fa P S E A s w b) h h' n' row'))) := by
    intro n T hn1 hT1 hT2 es en hw
    have K150 : ∀ v h1 v4 v5 v6 v7 row n', (YI x r tk tr gl sl bl py pt ng ft mk lo hi ta fa P S E A s w b) h h1 n' row → v = spYrr w A P S (spYr w A P S E n T) what → gxV G mX1_years d 0 0 150 [some (.ref x), some (.int seed), some (.int nights), some (.int what), v4, v5, v6, v7] [.int v] h1 (gxQi (fun v h' => (¬ ((0 ≤ seed ∧ seed ≤ 9999) ∧ (1 ≤ nights ∧ nights ≤ 100) ∧ (0 ≤ what ∧ what ≤ 2)) ∧ v = -1 ∧ h' = h) ∨ (∃ n t, n ≤ 9999 ∧ 1 ≤ t ∧ t ≤ 100 ∧ seed = nI n ∧ nights = nI t ∧ (0 ≤ what ∧ what ≤ 2) ∧ v = spYrr w A P S (spYr w A P S E n t) what ∧ ∃ n' row', (YI x r tk tr gl sl bl py pt ng ft mk lo hi ta fa P S E A s w b) h h' n' row'))) := by
      intro v h1 v4 v5 v6 v7 row n' y1 hv
      exact gx_ireturn (pc := 150) rfl dX1_years_150 (⟨_, rfl, Or.inr ⟨n, T, hn1, hT1, hT2, es, en, hw, hv, n', row, y1⟩⟩)
    have LN : ∀ m t h1 v7, m + t = T → (YI x r tk tr gl sl bl py pt ng ft mk lo hi ta fa P S E A s w b) h h1 (spYr w A P S E n t).2.1 (spYr w A P S E n t).2.2 → gxV G mX1_years d 0 0 59 [some (.ref x), some (.int seed), some (.int nights), some (.int what), some (.int (spYr w A P S E n t).1), some (.int (spFsum (spYr w A P S E n t).2.2 6 - spFsum s 6)), some (.int (nI (t + 1))), v7] [] h1 (gxQi (fun v h' => (¬ ((0 ≤ seed ∧ seed ≤ 9999) ∧ (1 ≤ nights ∧ nights ≤ 100) ∧ (0 ≤ what ∧ what ≤ 2)) ∧ v = -1 ∧ h' = h) ∨ (∃ n t, n ≤ 9999 ∧ 1 ≤ t ∧ t ≤ 100 ∧ seed = nI n ∧ nights = nI t ∧ (0 ≤ what ∧ what ≤ 2) ∧ v = spYrr w A P S (spYr w A P S E n t) what ∧ ∃ n' row', (YI x r tk tr gl sl bl py pt ng ft mk lo hi ta fa P S E A s w b) h h' n' row'))) := by
      intro m
      induction m with
      | zero =>
        intro t h1 v7 ht y
        have : t = T := by omega
        subst this
        obtain ⟨_, hO, hX, hKt, _⟩ := id y
        have hx := hO
        unfold XF at hx
        obtain ⟨_, _, _, _, _, htr, _⟩ := id hX.2.1
        rw [en]
        refine gx_iload (pc := 59) dX1_years_59 rfl ?_
        refine gx_iload_n (pc := 61) dX1_years_61 rfl ?_
        rw [← en]
        refine gx_icmp_gt (pc := 62) 124 dX1_years_62 (by decide) (fun c1 => ?_) (fun c1 => ?_)
        · refine gx_iload_n (pc := 124) dX1_years_124 rfl ?_
          refine gx_if_ne (pc := 125) 133 dX1_years_125 (by decide) (fun c2 => ?_) (fun c2 => ?_)
          · refine gx_iload_n (pc := 133) dX1_years_133 rfl ?_
            refine gx_iconst (pc := 134) (v := 1) dX1_years_134 (by decide) ?_
            refine gx_icmp_ne (pc := 135) 143 dX1_years_135 (by decide) (fun c3 => ?_) (fun c3 => ?_)
            · refine gx_aload_n (pc := 143) dX1_years_143 rfl ?_
              refine gx_get (pc := 144) fX1_44 hx rfl dX1_years_144 ?_
              refine kX1_284 (kc := 0) (ks := 0) (mc := 0) (ms := 0) (pc := 147) rfl (c_Tall (d := d - 1) (Nat.le_trans hn (Nat.le_of_lt dx)) (by omega) hX) (gxRc.of rfl htr) (by omega) (Nat.le_of_ble_eq_true rfl) dX1_years_147 (fun r2 h2 e2 => ?_)
              obtain ⟨rfl, e2⟩ := e2
              exact K150 _ _ _ _ _ _ _ _ (y.tE dj dx dt dkt dkf (hX.2.1.fE hX.1.2.2.1 e2) e2.t) (by unfold spYrr; rw [if_neg c2, if_neg c3, spAll_eq S (by omega)])
            · have c3' : what = 1 := c3
              refine gx_iload (pc := 138) dX1_years_138 rfl ?_
              refine gx_goto (pc := 140) 150 dX1_years_140 (by decide) ?_
              exact K150 _ _ _ _ _ _ _ _ y (by unfold spYrr; rw [if_neg c2, if_pos c3', hA])
          · have c2' : what = 0 := c2
            refine gx_iload (pc := 128) dX1_years_128 rfl ?_
            refine gx_goto (pc := 130) 150 dX1_years_130 (by decide) ?_
            exact K150 _ _ _ _ _ _ _ _ y (by unfold spYrr; rw [if_pos c2'])
        · rw [en] at c1
          exact absurd (nI_lt (Nat.lt_succ_self t) (by omega)) c1
      | succ m ih =>
        intro t h1 v7 ht y
        generalize hq : spYr w A P S E n t = q at *
        have LE : ∀ m k h1, m + k = E → (YI x r tk tr gl sl bl py pt ng ft mk lo hi ta fa P S E A s w b) h h1 (spWh A S q.2.1 q.2.2 k).2.1 (spWh A S q.2.1 q.2.2 k).2.2 → gxV G mX1_years d 0 0 68 [some (.ref x), some (.int seed), some (.int nights), some (.int what), some (.int (q.1 + (spWh A S q.2.1 q.2.2 k).1)), some (.int (spFsum q.2.2 6 - spFsum s 6)), some (.int (nI (t + 1))), some (.int (nI k))] [] h1 (gxQi (fun v h' => (¬ ((0 ≤ seed ∧ seed ≤ 9999) ∧ (1 ≤ nights ∧ nights ≤ 100) ∧ (0 ≤ what ∧ what ≤ 2)) ∧ v = -1 ∧ h' = h) ∨ (∃ n t, n ≤ 9999 ∧ 1 ≤ t ∧ t ≤ 100 ∧ seed = nI n ∧ nights = nI t ∧ (0 ≤ what ∧ what ≤ 2) ∧ v = spYrr w A P S (spYr w A P S E n t) what ∧ ∃ n' row', (YI x r tk tr gl sl bl py pt ng ft mk lo hi ta fa P S E A s w b) h h' n' row'))) := by
          intro m
          induction m with
          | zero =>
            intro k h1 hk y
            have : k = E := by omega
            subst this
            obtain ⟨_, hO, hX, hKt, _⟩ := id y
            have hXk : TT h1 lo hi tk ta fa A s P S k w b := ⟨hX.1, hKt, hX.2.2⟩
            have hx := hO
            unfold XF at hx
            obtain ⟨_, _, _, _, _, htr, _⟩ := id hX.2.1
            obtain ⟨i1, i2, hfc, nl, ol, pl, sl', el, fo, wv, pa, sa, ea, i3, ht, hfo, hpl, hsl, hel, hpa, hsa, hea, hwv⟩ := id hX.1
            have hel0 := hel.ls
            clear hel
            obtain ⟨_, _, _, _, hel, _⟩ := id hel0
            have fsW : spFsum (spWh A S q.2.1 q.2.2 k).2.2 6 = spFsum q.2.2 6 := by
              have : ∀ j, j ≤ k → spFsum (spWh A S q.2.1 q.2.2 j).2.2 6 = spFsum q.2.2 6 := by
                intro j
                induction j with
                | zero => intro _; rfl
                | succ j jh =>
                  intro hj
                  rw [spWh, ← jh (by omega)]
                  generalize spWh A S q.2.1 q.2.2 j = u
                  obtain ⟨⟨p, hp, ep⟩, ⟨o, ho, eo⟩, _⟩ := hM.2.2.2.2.2.2.2.2.1 j (by omega)
                  unfold whStep
                  split
                  · rfl
                  · rename_i hh
                    have s0 : 0 < S := by
                      rcases Nat.eq_zero_or_pos S with z | z
                      · exact absurd (Or.inr z) hh
                      · exact z
                    have hm : spDn (spDn u.2.1) / 65536 % S < S := Nat.mod_lt _ s0
                    generalize spDn (spDn u.2.1) / 65536 % S = z at *
                    rw [ep, eo, nI_clamp (by omega), nI_clamp (by omega)]
                    split
                    · show spFsum (spTell (setS A u.2.2) p o z) 6 = _
                      unfold spTell
                      rw [setS_50]
                      dsimp only
                      split
                      · rw [spFsum_ir _ _ _ _ (by omega), spFsum_ir _ _ _ _ (by omega), spFsum_ir _ _ _ _ (by omega), spFsum_ir _ _ _ _ (by omega)]
                      · rw [spFsum_ir _ _ _ _ (by omega), spFsum_ir _ _ _ _ (by omega), spFsum_ir _ _ _ _ (by omega)]
                    · rfl
              exact this k (Nat.le_refl _)
            have hst : spYr w A P S k n (t + 1) = (q.1 + (spWh A S q.2.1 q.2.2 k).1, (spWh A S q.2.1 q.2.2 k).2.1, if (t + 1) % 10 = 0 then spPass (setS A (qdRow w A P S (spWh A S q.2.1 q.2.2 k).2.2 P)) P else (spWh A S q.2.1 q.2.2 k).2.2) := by rw [spYr, hq]
            have K118 : ∀ h2 v5 v7, v5 = spFsum (spYr w A P S k n (t + 1)).2.2 6 - spFsum s 6 → (YI x r tk tr gl sl bl py pt ng ft mk lo hi ta fa P S k A s w b) h h2 (spYr w A P S k n (t + 1)).2.1 (spYr w A P S k n (t + 1)).2.2 → gxV G mX1_years d 0 0 118 [some (.ref x), some (.int seed), some (.int nights), some (.int what), some (.int (q.1 + (spWh A S q.2.1 q.2.2 k).1)), some (.int v5), some (.int (nI (t + 1))), v7] [] h2 (gxQi (fun v h' => (¬ ((0 ≤ seed ∧ seed ≤ 9999) ∧ (1 ≤ nights ∧ nights ≤ 100) ∧ (0 ≤ what ∧ what ≤ 2)) ∧ v = -1 ∧ h' = h) ∨ (∃ n t, n ≤ 9999 ∧ 1 ≤ t ∧ t ≤ 100 ∧ seed = nI n ∧ nights = nI t ∧ (0 ≤ what ∧ what ≤ 2) ∧ v = spYrr w A P S (spYr w A P S k n t) what ∧ ∃ n' row', (YI x r tk tr gl sl bl py pt ng ft mk lo hi ta fa P S k A s w b) h h' n' row'))) := by
              intro h2 v5 v7 hv y2
              subst hv
              refine gx_iincc (pc := 118) (c := 1) dX1_years_118 rfl (by decide) (by decide) rfl ?_
              refine gx_goto (pc := 121) 59 dX1_years_121 (by decide) ?_
              rw [nI_1]
              have : (spYr w A P S k n (t + 1)).1 = q.1 + (spWh A S q.2.1 q.2.2 k).1 := by rw [hst]
              rw [← this]
              exact ih (t + 1) h2 v7 (by omega) y2
            refine gx_iload (pc := 68) dX1_years_68 rfl ?_
            refine gx_aload_n (pc := 70) dX1_years_70 rfl ?_
            refine kX1_119 (kc := 0) (ks := 0) (mc := 0) (ms := 0) (pc := 71) rfl (c_now (d := d - 1) hO.O hXk) (gxRc.of rfl hx) (by omega) (Nat.le_of_ble_eq_true rfl) dX1_years_71 (fun r1 h2 e1 => ?_)
            obtain ⟨e0, e1⟩ := e1
            subst h2; subst r1
            refine gx_get (pc := 74) fX1_361 ht rfl dX1_years_74 ?_
            refine kX1_131 (kc := 0) (ks := 0) (mc := 0) (ms := 0) (pc := 77) rfl (c_size (d := d - 1) hel0) (gxRc.of rfl hel) (by omega) (Nat.le_of_ble_eq_true rfl) dX1_years_77 (fun r1 h2 e1 => ?_)
            obtain ⟨rfl, e1⟩ := e1
            subst h2
            refine gx_icmp_ge (pc := 80) 101 dX1_years_80 (by decide) (fun c2 => ?_) (fun c2 => ?_)
            · refine gx_iload (pc := 101) dX1_years_101 rfl ?_
              refine gx_bipush (pc := 103) (v := 10) dX1_years_103 (by decide) ?_
              refine gx_irem (pc := 105) dX1_years_105 (by decide) ?_
              rw [show nI (t + 1) - nI (t + 1) / 10 * 10 = nI ((t + 1) % 10) from pk_rem (d := 10) (by omega) (by decide) (by decide)]
              refine gx_if_ne (pc := 106) 118 dX1_years_106 (by decide) (fun c3 => ?_) (fun c3 => ?_)
              · have h10 : ¬ (t + 1) % 10 = 0 := fun e => c3 (by rw [e]; rfl)
                exact K118 _ _ _ (by rw [hst]; dsimp only; rw [if_neg h10, fsW]) (by rw [hst]; dsimp only; rw [if_neg h10]; exact y)
              · have h10 : (t + 1) % 10 = 0 := by
                  have c3' : nI ((t + 1) % 10) = nI 0 := c3
                  exact (nI_eq (by omega) (by omega)).mp c3'
                refine gx_iload (pc := 109) dX1_years_109 rfl ?_
                refine gx_aload_n (pc := 111) dX1_years_111 rfl ?_
                refine kX1_378 (kc := 0) (ks := 0) (mc := 0) (ms := 0) (pc := 112) rfl (c_quarterDay (d := d - 1) dj dx dt dk dkt dkf hf hn (by omega) htax y) (gxRc.of rfl hx) (by omega) (Nat.le_of_ble_eq_true rfl) dX1_years_112 (fun r1 h2 e1 => ?_)
                refine gx_iadd (pc := 115) dX1_years_115 ?_
                refine gx_istore (pc := 116) dX1_years_116 (by decide) rfl ?_
                refine K118 _ _ _ ?_ ?_
                · rw [hst]; dsimp only; rw [if_pos h10, ← e1.1, fsW]
                  generalize spFsum q.2.2 6 = u1
                  generalize spFsum s 6 = u2
                  rw [Int32.sub_eq_add_neg, Int32.sub_eq_add_neg]
                  ac_rfl
                · rw [hst]; dsimp only; rw [if_pos h10]; exact e1.2
            · exact absurd (nI_le (Nat.le_refl _) (by omega)) c2
          | succ m ih2 =>
            intro k h1 hk y
            obtain ⟨_, hO, hX, hKt, _⟩ := id y
            have hXk : TT h1 lo hi tk ta fa A s P S E w b := ⟨hX.1, hKt, hX.2.2⟩
            have hx := hO
            unfold XF at hx
            obtain ⟨i1, i2, hfc, nl, ol, pl, sl', el, fo, wv, pa, sa, ea, i3, ht, hfo, hpl, hsl, hel, hpa, hsa, hea, hwv⟩ := id hX.1
            have hel0 := hel.ls
            clear hel
            obtain ⟨_, _, _, _, hel, _⟩ := id hel0
            refine gx_iload (pc := 68) dX1_years_68 rfl ?_
            refine gx_aload_n (pc := 70) dX1_years_70 rfl ?_
            refine kX1_119 (kc := 0) (ks := 0) (mc := 0) (ms := 0) (pc := 71) rfl (c_now (d := d - 1) hO.O hXk) (gxRc.of rfl hx) (by omega) (Nat.le_of_ble_eq_true rfl) dX1_years_71 (fun r1 h2 e1 => ?_)
            obtain ⟨e0, e1⟩ := e1
            subst h2; subst r1
            refine gx_get (pc := 74) fX1_361 ht rfl dX1_years_74 ?_
            refine kX1_131 (kc := 0) (ks := 0) (mc := 0) (ms := 0) (pc := 77) rfl (c_size (d := d - 1) hel0) (gxRc.of rfl hel) (by omega) (Nat.le_of_ble_eq_true rfl) dX1_years_77 (fun r1 h2 e1 => ?_)
            obtain ⟨rfl, e1⟩ := e1
            subst h2
            refine gx_icmp_ge (pc := 80) 101 dX1_years_80 (by decide) (fun c2 => ?_) (fun c2 => ?_)
            · exact absurd c2 (nI_ge (by omega) (by omega))
            · have K95 : ∀ v h2, v = q.1 + (spWh A S q.2.1 q.2.2 (k + 1)).1 → (YI x r tk tr gl sl bl py pt ng ft mk lo hi ta fa P S E A s w b) h h2 (spWh A S q.2.1 q.2.2 (k + 1)).2.1 (spWh A S q.2.1 q.2.2 (k + 1)).2.2 → gxV G mX1_years d 0 0 95 [some (.ref x), some (.int seed), some (.int nights), some (.int what), some (.int v), some (.int (spFsum q.2.2 6 - spFsum s 6)), some (.int (nI (t + 1))), some (.int (nI k))] [] h2 (gxQi (fun v h' => (¬ ((0 ≤ seed ∧ seed ≤ 9999) ∧ (1 ≤ nights ∧ nights ≤ 100) ∧ (0 ≤ what ∧ what ≤ 2)) ∧ v = -1 ∧ h' = h) ∨ (∃ n t, n ≤ 9999 ∧ 1 ≤ t ∧ t ≤ 100 ∧ seed = nI n ∧ nights = nI t ∧ (0 ≤ what ∧ what ≤ 2) ∧ v = spYrr w A P S (spYr w A P S E n t) what ∧ ∃ n' row', (YI x r tk tr gl sl bl py pt ng ft mk lo hi ta fa P S E A s w b) h h' n' row'))) := by
                intro v h2 hv y2
                subst hv
                refine gx_iincc (pc := 95) (c := 1) dX1_years_95 rfl (by decide) (by decide) rfl ?_
                refine gx_goto (pc := 98) 68 dX1_years_98 (by decide) ?_
                rw [nI_1]
                exact ih2 (k + 1) h2 (by omega) y2
              refine gx_aload_n (pc := 83) dX1_years_83 rfl ?_
              refine gx_iload (pc := 84) dX1_years_84 rfl ?_
              refine kX1_375 (kc := 0) (ks := 0) (mc := 0) (ms := 0) (pc := 86) rfl (c_Xwhispers (d := d - 1) dj dx dt dk dkt dkf hf hn (by omega) h16 y k (by omega) (spWh A S q.2.1 q.2.2 k).1) (gxRc.of rfl hx) (by omega) (Nat.le_of_ble_eq_true rfl) dX1_years_86 (fun r1 h2 e1 => ?_)
              obtain ⟨u, hu, hr, hc, y2⟩ := e1
              have hu2 : u = spWh A S q.2.1 q.2.2 (k + 1) := hu
              rw [hu2] at hc y2
              refine gx_if_eq (pc := 89) 95 dX1_years_89 (by decide) (fun c4 => ?_) (fun c4 => ?_)
              · have c4' : r1 = 0 := c4
                exact K95 _ _ (by rw [hc, if_pos c4']) y2
              · have c4' : ¬ r1 = 0 := c4
                refine gx_iincc (pc := 92) (c := 1) dX1_years_92 rfl (by decide) (by decide) rfl ?_
                exact K95 _ _ (by rw [hc, if_neg c4', Int32.add_assoc]) y2
        rw [en]
        refine gx_iload (pc := 59) dX1_years_59 rfl ?_
        refine gx_iload_n (pc := 61) dX1_years_61 rfl ?_
        rw [← en]
        refine gx_icmp_gt (pc := 62) 124 dX1_years_62 (by decide) (fun c1 => ?_) (fun c1 => ?_)
        · rw [en] at c1
          exact absurd ((nI_ltI (by omega) (by omega)).mp c1) (by omega)
        · refine gx_iconst (pc := 65) (v := 0) dX1_years_65 (by decide) ?_
          refine gx_istore (pc := 66) dX1_years_66 (by decide) rfl ?_
          have e0 : q.1 = q.1 + (spWh A S q.2.1 q.2.2 0).1 := by rw [spWh, Int32.add_zero]
          rw [e0]
          exact LE E 0 h1 (by omega) y
    rw [es]
    refine gx_aload_n (pc := 32) dX1_years_32 rfl ?_
    refine gx_get (pc := 33) fX1_44 hx rfl dX1_years_33 ?_
    refine gx_aload_n (pc := 36) dX1_years_36 rfl ?_
    refine gx_get (pc := 37) fX1_40 hx rfl dX1_years_37 ?_
    refine kX1_371 (kc := 0) (ks := 0) (mc := 0) (ms := 0) (pc := 40) rfl (c_Xcopies (d := d - 1) (by omega) (by omega) dkt hX.2.1 hF) (gxRc.of rfl htr) (by omega) (Nat.le_of_ble_eq_true rfl) dX1_years_40 (fun r1 h1 e1 => ?_)
    obtain ⟨e0, hK1, hK2, e1⟩ := e1
    subst r1
    have E1 : tE tr fa h h1 := e1.tE hf
    have hx1 : h1.1 x = h.1 x := e1.2 x (by omega)
    rw [← hx1] at hx
    have nx := hn
    refine gx_pop (pc := 43) dX1_years_43 rfl ?_
    refine gx_aload_n (pc := 44) dX1_years_44 rfl ?_
    refine gx_iload_n (pc := 45) dX1_years_45 rfl ?_
    refine gx_i2l (pc := 46) dX1_years_46 ?_
    rw [nI_l (by omega)]
    refine gx_put (pc := 47) fX1_349 hx nx (by first | exact Nat.le_of_ble_eq_true rfl | simp) tX1_10 rfl rfl dX1_years_47 ?_
    change gxV _ _ _ _ _ _ _ _ (gxup h1 x (.inr (0, [.ref r, .ref tk, .ref tr, .ref gl, .ref sl, .ref bl, .ref py, .ref pt, .ref ng, .ref ft, .long (lN n), .ref mk]))) _
    have ff : x ≠ fa := by have hf2 := hX.1.2.1; unfold inR at hf2; omega
    have Y2 : (YI x r tk tr gl sl bl py pt ng ft mk lo hi ta fa P S E A s w b) h (gxup h1 x (.inr (0, [.ref r, .ref tk, .ref tr, .ref gl, .ref sl, .ref bl, .ref py, .ref pt, .ref ng, .ref ft, .long (lN n), .ref mk]))) n s := by
      have E2 : yE x tr fa h1 (gxup h1 x (.inr (0, [.ref r, .ref tk, .ref tr, .ref gl, .ref sl, .ref bl, .ref py, .ref pt, .ref ng, .ref ft, .long (lN n), .ref mk]))) := yE.up _ _ ff
      have T1 := hX.1.tE E1 dj
      exact ⟨by omega, gxup_self _ _ _, ⟨T1.fr (fun q h1 h2 _ => gxup_ne (by omega)) (E2.2.2 T1.2.2.1), hK1.fr (fun q h1 _ => gxup_ne (by omega)), hM⟩, hK2.fr (fun q h1 _ => gxup_ne (by omega)), E1.y.tr E2⟩
    generalize gxup h1 x (.inr (0, [.ref r, .ref tk, .ref tr, .ref gl, .ref sl, .ref bl, .ref py, .ref pt, .ref ng, .ref ft, .long (lN n), .ref mk])) = h2 at *
    refine gx_iconst (pc := 50) (v := 0) dX1_years_50 (by decide) ?_
    refine gx_istore (pc := 51) dX1_years_51 (by decide) rfl ?_
    refine gx_iconst (pc := 53) (v := 0) dX1_years_53 (by decide) ?_
    refine gx_istore (pc := 54) dX1_years_54 (by decide) rfl ?_
    refine gx_iconst (pc := 56) (v := 1) dX1_years_56 (by decide) ?_
    refine gx_istore (pc := 57) dX1_years_57 (by decide) rfl ?_
    rw [← es]
    have z0 : (0 : Int32) = spFsum (spYr w A P S E n 0).2.2 6 - spFsum s 6 := by rw [spYr, hA, Int32.sub_self]
    have z1 : some (Value.int 0) = some (.int (spYr w A P S E n 0).1) := rfl
    have Y3 : (YI x r tk tr gl sl bl py pt ng ft mk lo hi ta fa P S E A s w b) h h2 (spYr w A P S E n 0).2.1 (spYr w A P S E n 0).2.2 := by rw [spYr, hA]; exact Y2
    have := LN T 0 h2 none (by omega) Y3
    rw [← z0] at this
    exact this
  refine gx_iload_n (pc := 0) dX1_years_0 rfl ?_
  refine gx_iconst (pc := 1) (v := 0) dX1_years_1 (by decide) ?_
  refine gx_sipush (pc := 2) (v := 9999) dX1_years_2 (by decide) ?_
  refine kX1_140 (kc := 0) (ks := 0) (mc := 0) (ms := 0) (pc := 5) rfl (c_Xwithin (d := d - 1) seed 0 9999) (by omega) (Nat.le_of_ble_eq_true rfl) dX1_years_5 (fun r1 h1 e1 => ?_)
  obtain ⟨rfl, e1⟩ := e1
  subst h1
  refine gx_if_eq (pc := 8) 30 dX1_years_8 (by decide) (fun c1 => ?_) (fun c1 => ?_)
  · have z := zi_eq0 c1
    exact N (fun hh => by rw [decide_eq_true hh.1.1, decide_eq_true hh.1.2] at z; cases z)
  · have z1 := zi_ne0 c1
    simp only [Bool.and_eq_true, decide_eq_true_eq] at z1
    refine gx_iload_n (pc := 11) dX1_years_11 rfl ?_
    refine gx_iconst (pc := 12) (v := 1) dX1_years_12 (by decide) ?_
    refine gx_bipush (pc := 13) (v := 100) dX1_years_13 (by decide) ?_
    refine kX1_140 (kc := 0) (ks := 0) (mc := 0) (ms := 0) (pc := 15) rfl (c_Xwithin (d := d - 1) nights 1 100) (by omega) (Nat.le_of_ble_eq_true rfl) dX1_years_15 (fun r1 h1 e1 => ?_)
    obtain ⟨rfl, e1⟩ := e1
    subst h1
    refine gx_if_eq (pc := 18) 30 dX1_years_18 (by decide) (fun c2 => ?_) (fun c2 => ?_)
    · have z := zi_eq0 c2
      exact N (fun hh => by rw [decide_eq_true hh.2.1.1, decide_eq_true hh.2.1.2] at z; cases z)
    · have z2 := zi_ne0 c2
      simp only [Bool.and_eq_true, decide_eq_true_eq] at z2
      refine gx_iload_n (pc := 21) dX1_years_21 rfl ?_
      refine gx_iconst (pc := 22) (v := 0) dX1_years_22 (by decide) ?_
      refine gx_iconst (pc := 23) (v := 2) dX1_years_23 (by decide) ?_
      refine kX1_140 (kc := 0) (ks := 0) (mc := 0) (ms := 0) (pc := 24) rfl (c_Xwithin (d := d - 1) what 0 2) (by omega) (Nat.le_of_ble_eq_true rfl) dX1_years_24 (fun r1 h1 e1 => ?_)
      obtain ⟨rfl, e1⟩ := e1
      subst h1
      refine gx_if_ne (pc := 27) 32 dX1_years_27 (by decide) (fun c3 => ?_) (fun c3 => ?_)
      · have z3 := zi_ne0 c3
        simp only [Bool.and_eq_true, decide_eq_true_eq] at z3
        obtain ⟨n, hn1, en⟩ := nI_of2 (M := 9999) (n := 9999) (by decide) (Int32.not_lt.mpr z1.1) z1.2
        obtain ⟨T, hT1, eT⟩ := nI_of2 (M := 100) (n := 100) (by decide) (Int32.not_lt.mpr (Int32.le_trans (by decide) z2.1)) z2.2
        have hT0 : 1 ≤ T := by
          have := z2.1
          rw [eT] at this
          exact (nI_leI (a := 1) (by decide) (by omega)).mp this
        exact main n T hn1 hT0 hT1 en eT z3
      · have z := zi_eq0 c3
        exact N (fun hh => by rw [decide_eq_true hh.2.2.1, decide_eq_true hh.2.2.2] at z; cases z)
end LZ
