/-! ===== COMPONENT AP: plots found, the whole of mark, a person, counts ===== -/
set_option maxRecDepth 100000
def plAc (w : Option gxEv) (P S p q : Nat) (A : Nat → Nat → Int32) (t : Nat → Int32) : Nat → Option plI
  | 0 => none
  | n + 1 => (plL w P S p q n A 0 t).foldl plC (plAc w P S p q A t n)
theorem plAc_L (w : Option gxEv) {P S p q lim : Nat} (hl : lim ≤ 2) (A : Nat → Nat → Int32) (x : plT) (t : Nat → Int32) (hx : x.1.2.1 < 0) : plR (plAc w P S p q A t (lim + 1)) (spPl w P S p q lim A 0 x).1 := by
  have := spPl_L w (P := P) (S := S) (p := p) (q := q) hl A x t hx
  have hc : lim = 0 ∨ lim = 1 ∨ lim = 2 := by omega
  rcases hc with e | e | e <;> subst e <;> simpa [plAc, List.foldl_append] using this
theorem plC_some (l : List plI) : ∀ a, (∃ i, a = some i) → ∃ i, l.foldl plC a = some i := by
  induction l with
  | nil => intro a h; exact h
  | cons x l ih =>
    intro a ⟨i, hi⟩
    refine ih _ ?_
    subst hi
    unfold plC
    dsimp only
    split <;> exact ⟨_, rfl⟩
theorem plAc_some (w : Option gxEv) (P S p q : Nat) (A : Nat → Nat → Int32) (t : Nat → Int32) : ∀ n, ∃ i, plAc w P S p q A t (n + 1) = some i
  | 0 => ⟨_, rfl⟩
  | n + 1 => by rw [plAc]; exact plC_some _ _ (plAc_some w P S p q A t n)
section MAP
variable {G : gxG} {x r tk tr gl sl bl py pt ng ft mk lo hi ta fa P S E : Nat} {gg : Int64} {A : Nat → Nat → Int32} {s : Nat → Int32} {w : Option gxEv} {b : Bool}
theorem c_Pfinds (dx : x < pt) (dk : tk + 6 ≤ pt ∨ pt + 16 ≤ tk) (dl : hi ≤ pt ∨ pt + 16 ≤ lo) (df : fa < pt ∨ pt + 16 ≤ fa) (hn : gxN G ≤ x) (hN : gxN G ≤ lo) (h16 : ∀ k, k < S → A 16 k = 0 ∨ A 16 k = 1) (p q lim : Nat) (hp : p < P) (hq : q < P) (hl2 : lim ≤ 2) (t0 : Nat → Int32) {d : Nat} {h : gxH} {rw be : Nat → Int32} {mo ma pe ot : Int32} (hd : 100 ≤ d) (hS : (XS x r tk tr gl sl bl py pt ng ft mk lo hi ta fa P S E gg A s w b) h) (hF : PL h pt x rw be mo ma pe ot) :
    gxM G mX7_finds d 0 0 [.ref pt, .int (nI p), .int (nI q), .int (nI lim)] h (gxQv (fun h' => (XS x r tk tr gl sl bl py pt ng ft mk lo hi ta fa P S E gg A s w b) h' ∧ plE pt 0 fa h h' ∧ ∃ rw' be' mo' ma', PL h' pt x rw' be' mo' ma' (nI p) (nI q) ∧ plQ (plAc w P S p q (setS A s) t0 (lim + 1)) mo' ma' be')) := by
  have npt : gxN G ≤ pt := by omega
  refine gxM_of rfl (Nat.le_of_ble_eq_true rfl) rfl ?_
  have L : ∀ m n h1 rw1 be1 mo1 ma1, m + n = lim + 1 → (XS x r tk tr gl sl bl py pt ng ft mk lo hi ta fa P S E gg A s w b) h1 → plE pt 0 fa h h1 → PL h1 pt x rw1 be1 mo1 ma1 (nI p) (nI q) → plQ (plAc w P S p q (setS A s) t0 n) mo1 ma1 be1 → gxV G mX7_finds d 0 0 18 [some (.ref pt), some (.int (nI p)), some (.int (nI q)), some (.int (nI lim)), some (.int (nI n))] [] h1 (gxQv (fun h' => (XS x r tk tr gl sl bl py pt ng ft mk lo hi ta fa P S E gg A s w b) h' ∧ plE pt 0 fa h h' ∧ ∃ rw' be' mo' ma', PL h' pt x rw' be' mo' ma' (nI p) (nI q) ∧ plQ (plAc w P S p q (setS A s) t0 (lim + 1)) mo' ma' be')) := by
    intro m
    induction m with
    | zero =>
      intro n h1 rw1 be1 mo1 ma1 hm S1 E1 F1 q1
      have : n = lim + 1 := by omega
      subst this
      refine gx_iload (pc := 18) dX7_finds_18 rfl ?_
      refine gx_iload_n (pc := 20) dX7_finds_20 rfl ?_
      refine gx_icmp_gt (pc := 21) 44 dX7_finds_21 (by decide) (fun c1 => ?_) (fun c1 => ?_)
      · exact gx_return (pc := 44) rfl dX7_finds_44 (⟨rfl, ⟨S1, E1, rw1, be1, mo1, ma1, F1, q1⟩⟩)
      · exact absurd (nI_lt (a := lim) (by omega) (by omega)) c1
    | succ m ih =>
      intro n h1 rw1 be1 mo1 ma1 hm S1 E1 F1 q1
      have hpt := F1.1
      have hx := S1.1
      refine gx_iload (pc := 18) dX7_finds_18 rfl ?_
      refine gx_iload_n (pc := 20) dX7_finds_20 rfl ?_
      refine gx_icmp_gt (pc := 21) 44 dX7_finds_21 (by decide) (fun c1 => ?_) (fun c1 => ?_)
      · exact absurd c1 (nI_nlt (by omega) (by omega))
      · obtain ⟨_, _, _, _, _, htk, _⟩ := id S1.2.2.1
        refine gx_aload_n (pc := 24) dX7_finds_24 rfl ?_
        refine gx_aload_n (pc := 25) dX7_finds_25 rfl ?_
        refine gx_get (pc := 26) fX7_3 hpt rfl dX7_finds_26 ?_
        refine gx_getN (pc := 29) fX7_39 hx rfl dX7_finds_29 ?_
        refine gx_iconst (pc := 32) (v := 0) dX7_finds_32 (by decide) ?_
        refine gx_iload (pc := 33) dX7_finds_33 rfl ?_
        refine kX7_43 (kc := 0) (ks := 0) (mc := 0) (ms := 0) (pc := 35) rfl (c_Pgoes dx dk dl df hn hN h16 p q n hp hq (by omega) n 0 (d - 1) h1 s rw1 be1 mo1 ma1 _ (by omega) (by omega) S1 S1.2.2.1 F1 q1) (gxRc.of rfl hpt) (by omega) (Nat.le_of_ble_eq_true rfl) dX7_finds_35 (fun h2 e2 => ?_)
        obtain ⟨S2, E2, rw2, be2, mo2, ma2, F2, _, q2⟩ := e2
        refine gx_iincc (pc := 38) (c := 1) dX7_finds_38 rfl (by decide) (by decide) rfl ?_
        refine gx_goto (pc := 41) 18 dX7_finds_41 (by decide) ?_
        rw [nI_1]
        refine ih (n + 1) h2 rw2 be2 mo2 ma2 (by omega) S2 (E1.tr E2) F2 ?_
        rw [plAc, plL_cg w P S p q n (setS A s) 0 t0 rw1 (fun i hi => by omega)]
        exact q2
  have S1 := hS
  have F1 := hF
  have hpt := F1.1
  refine gx_aload_n (pc := 0) dX7_finds_0 rfl ?_
  refine gx_iload_n (pc := 1) dX7_finds_1 rfl ?_
  refine gx_put (pc := 2) fX7_29 hpt npt (by first | exact Nat.le_of_ble_eq_true rfl | simp) tX7_5 rfl rfl dX7_finds_2 ?_
  have F2 := F1.ob mo ma (nI p) ot
  have E2 := plE.up (pt := pt) (k := 0) (fa := fa) (i := 0) h (.inr (6, [.ref (pt + 1), .ref (pt + 2), .ref (pt + 3), .int mo, .int ma, .int (nI p), .int ot, .ref x])) (by decide) df
  change plE pt 0 fa h (gxup h pt _) at E2
  have S2 := S1.zE E2.z (Or.inl dx) dk dl
  change gxV _ _ _ _ _ _ _ _ (gxup h pt (.inr (6, [.ref (pt + 1), .ref (pt + 2), .ref (pt + 3), .int mo, .int ma, .int (nI p), .int ot, .ref x]))) _
  generalize gxup h pt (.inr (6, [.ref (pt + 1), .ref (pt + 2), .ref (pt + 3), .int mo, .int ma, .int (nI p), .int ot, .ref x])) = h2 at *
  have hpt := F2.1
  refine gx_aload_n (pc := 5) dX7_finds_5 rfl ?_
  refine gx_iload_n (pc := 6) dX7_finds_6 rfl ?_
  refine gx_put (pc := 7) fX7_33 hpt npt (by first | exact Nat.le_of_ble_eq_true rfl | simp) tX7_6 rfl rfl dX7_finds_7 ?_
  have F3 := F2.ob mo ma (nI p) (nI q)
  have E3 := plE.up (pt := pt) (k := 0) (fa := fa) (i := 0) h2 (.inr (6, [.ref (pt + 1), .ref (pt + 2), .ref (pt + 3), .int mo, .int ma, .int (nI p), .int (nI q), .ref x])) (by decide) df
  change plE pt 0 fa h2 (gxup h2 pt _) at E3
  have S3 := S2.zE E3.z (Or.inl dx) dk dl
  change gxV _ _ _ _ _ _ _ _ (gxup h2 pt (.inr (6, [.ref (pt + 1), .ref (pt + 2), .ref (pt + 3), .int mo, .int ma, .int (nI p), .int (nI q), .ref x]))) _
  generalize gxup h2 pt (.inr (6, [.ref (pt + 1), .ref (pt + 2), .ref (pt + 3), .int mo, .int ma, .int (nI p), .int (nI q), .ref x])) = h3 at *
  have hpt := F3.1
  refine gx_aload_n (pc := 10) dX7_finds_10 rfl ?_
  refine gx_iconst (pc := 11) (v := (-1)) dX7_finds_11 (by decide) ?_
  refine gx_put (pc := 12) fX7_36 hpt npt (by first | exact Nat.le_of_ble_eq_true rfl | simp) tX7_4 rfl rfl dX7_finds_12 ?_
  have F4 := F3.ob mo (-1) (nI p) (nI q)
  have E4 := plE.up (pt := pt) (k := 0) (fa := fa) (i := 0) h3 (.inr (6, [.ref (pt + 1), .ref (pt + 2), .ref (pt + 3), .int mo, .int (-1), .int (nI p), .int (nI q), .ref x])) (by decide) df
  change plE pt 0 fa h3 (gxup h3 pt _) at E4
  have S4 := S3.zE E4.z (Or.inl dx) dk dl
  change gxV _ _ _ _ _ _ _ _ (gxup h3 pt (.inr (6, [.ref (pt + 1), .ref (pt + 2), .ref (pt + 3), .int mo, .int (-1), .int (nI p), .int (nI q), .ref x]))) _
  generalize gxup h3 pt (.inr (6, [.ref (pt + 1), .ref (pt + 2), .ref (pt + 3), .int mo, .int (-1), .int (nI p), .int (nI q), .ref x])) = h4 at *
  refine gx_iconst (pc := 15) (v := 0) dX7_finds_15 (by decide) ?_
  refine gx_istore (pc := 16) dX7_finds_16 (by decide) rfl ?_
  exact L (lim + 1) 0 h4 rw be mo (-1) (by omega) S4 ((E2.tr E3).tr E4) F4 rfl
/-- the best plot's answers -/
theorem c_Xplot (dx : x < pt) (dk : tk + 6 ≤ pt ∨ pt + 16 ≤ tk) (dl : hi ≤ pt ∨ pt + 16 ≤ lo) (df : fa < pt ∨ pt + 16 ≤ fa) (hn : gxN G ≤ x) (hN : gxN G ≤ lo) (h16 : ∀ k, k < S → A 16 k = 0 ∨ A 16 k = 1) {d : Nat} {h : gxH} (nz : gxN G ≤ h.2) {rw be : Nat → Int32} {mo ma pe ot : Int32} (hd : 102 ≤ d) (hS : (XS x r tk tr gl sl bl py pt ng ft mk lo hi ta fa P S E gg A s w b) h) (hF : PL h pt x rw be mo ma pe ot) (p q lim wh : Int32) : gxM G mX1_plot d 1 6 [.ref x, .int p, .int q, .int lim, .int wh] h (gxQx (gxQi (fun v h' => ∃ p' q' l' w', p' < P ∧ p = nI p' ∧ q' < P ∧ q = nI q' ∧ p' ≠ q' ∧ l' ≤ 2 ∧ lim = nI l' ∧ w' ≤ 3 ∧ wh = nI w' ∧ (XS x r tk tr gl sl bl py pt ng ft mk lo hi ta fa P S E gg A s w b) h' ∧ plE pt 0 fa h h' ∧ (∃ rw' be' mo' ma' pe' ot', PL h' pt x rw' be' mo' ma' pe' ot') ∧ ∀ y : plT, y.1.2.1 < 0 → v = spPlr (spPl w P S p' q' l' (setS A s) 0 y) w')) (fun y h' => ¬ (two p q P ∧ (0 ≤ lim ∧ lim ≤ 2) ∧ (0 ≤ wh ∧ wh ≤ 3)) ∧ y = h.2 ∧ h'.2 = h.2 + 1 ∧ lowE h.2 h h' ∧ ∃ fs, h'.1 h.2 = some (.inr (35, fs)))) := by
  have hx := hS.1
  have hO : XF h x r tk tr gl sl bl py pt ng ft gg mk := hS.1
  have hX := hS.2
  have hP6 := hX.2.2.2.1
  refine gxM_of rfl (Nat.le_of_ble_eq_true rfl) rfl ?_
  have N : ¬ (two p q P ∧ (0 ≤ lim ∧ lim ≤ 2) ∧ (0 ≤ wh ∧ wh ≤ 3)) → gxV G mX1_plot d (0 + 1) (0 + 6) 40 [some (.ref x), some (.int p), some (.int q), some (.int lim), some (.int wh)] [] h (gxQx (gxQi (fun v h' => ∃ p' q' l' w', p' < P ∧ p = nI p' ∧ q' < P ∧ q = nI q' ∧ p' ≠ q' ∧ l' ≤ 2 ∧ lim = nI l' ∧ w' ≤ 3 ∧ wh = nI w' ∧ (XS x r tk tr gl sl bl py pt ng ft mk lo hi ta fa P S E gg A s w b) h' ∧ plE pt 0 fa h h' ∧ (∃ rw' be' mo' ma' pe' ot', PL h' pt x rw' be' mo' ma' pe' ot') ∧ ∀ y : plT, y.1.2.1 < 0 → v = spPlr (spPl w P S p' q' l' (setS A s) 0 y) w')) (fun y h' => ¬ (two p q P ∧ (0 ≤ lim ∧ lim ≤ 2) ∧ (0 ≤ wh ∧ wh ≤ 3)) ∧ y = h.2 ∧ h'.2 = h.2 + 1 ∧ lowE h.2 h h' ∧ ∃ fs, h'.1 h.2 = some (.inr (35, fs)))) := fun hh => gx_nsee (pc := 40) (pc3 := 43) (pc4 := 44) (pc7 := 47) rfl rfl rfl rfl nz (by omega) dX1_plot_40 dX1_plot_43 dX1_plot_44 dX1_plot_47 (by decide +kernel) (fun h' a b c => Or.inr ⟨h.2, rfl, hh, rfl, a, b, c⟩)
  refine gx_aload_n (pc := 0) dX1_plot_0 rfl ?_
  refine gx_iload_n (pc := 1) dX1_plot_1 rfl ?_
  refine kX1_146 (kc := 1) (ks := 6) (mc := 0) (ms := 0) (pc := 2) rfl (c_XisPerson (d := d - 1) (by omega) hO.O hX p) (gxRc.of rfl hx) (by omega) (Nat.le_of_ble_eq_true rfl) dX1_plot_2 (fun r1 h1 e1 => ?_)
  obtain ⟨e1, e2⟩ := e1
  subst h1
  refine gx_if_eq (pc := 5) 40 dX1_plot_5 (by decide) (fun c1 => ?_) (fun c1 => ?_)
  · rcases e1 with ⟨z, rfl⟩ | ⟨z, rfl⟩
    · exact absurd c1 (by decide)
    · exact N (fun hh => z hh.1.1)
  · rcases e1 with ⟨⟨p', hp', ep⟩, rfl⟩ | ⟨z, rfl⟩
    · refine gx_aload_n (pc := 8) dX1_plot_8 rfl ?_
      refine gx_iload_n (pc := 9) dX1_plot_9 rfl ?_
      refine kX1_146 (kc := 1) (ks := 6) (mc := 0) (ms := 0) (pc := 10) rfl (c_XisPerson (d := d - 1) (by omega) hO.O hX q) (gxRc.of rfl hx) (by omega) (Nat.le_of_ble_eq_true rfl) dX1_plot_10 (fun r1 h1 e1 => ?_)
      obtain ⟨e1, e2⟩ := e1
      subst h1
      refine gx_if_eq (pc := 13) 40 dX1_plot_13 (by decide) (fun c2 => ?_) (fun c2 => ?_)
      · rcases e1 with ⟨z, rfl⟩ | ⟨z, rfl⟩
        · exact absurd c2 (by decide)
        · exact N (fun hh => z hh.1.2.1)
      · rcases e1 with ⟨⟨q', hq', eq⟩, rfl⟩ | ⟨z, rfl⟩
        · refine gx_iload_n (pc := 16) dX1_plot_16 rfl ?_
          refine gx_iload_n (pc := 17) dX1_plot_17 rfl ?_
          refine gx_icmp_eq (pc := 18) 40 dX1_plot_18 (by decide) (fun c3 => ?_) (fun c3 => ?_)
          · exact N (fun hh => hh.1.2.2 c3)
          · refine gx_iload_n (pc := 21) dX1_plot_21 rfl ?_
            refine gx_iconst (pc := 22) (v := 0) dX1_plot_22 (by decide) ?_
            refine gx_iconst (pc := 23) (v := 2) dX1_plot_23 (by decide) ?_
            refine kX1_140 (kc := 1) (ks := 6) (mc := 0) (ms := 0) (pc := 24) rfl (c_Xwithin (d := d - 1) lim 0 2) (by omega) (Nat.le_of_ble_eq_true rfl) dX1_plot_24 (fun r1 h1 e1 => ?_)
            obtain ⟨rfl, e1⟩ := e1
            subst h1
            refine gx_if_eq (pc := 27) 40 dX1_plot_27 (by decide) (fun c4 => ?_) (fun c4 => ?_)
            · exact N (fun hh => wi_out c4 hh.2.1)
            · refine gx_iload (pc := 30) dX1_plot_30 rfl ?_
              refine gx_iconst (pc := 32) (v := 0) dX1_plot_32 (by decide) ?_
              refine gx_iconst (pc := 33) (v := 3) dX1_plot_33 (by decide) ?_
              refine kX1_140 (kc := 1) (ks := 6) (mc := 0) (ms := 0) (pc := 34) rfl (c_Xwithin (d := d - 1) wh 0 3) (by omega) (Nat.le_of_ble_eq_true rfl) dX1_plot_34 (fun r1 h1 e1 => ?_)
              obtain ⟨rfl, e1⟩ := e1
              subst h1
              have z4 := wi_in c4
              refine gx_if_ne (pc := 37) 48 dX1_plot_37 (by decide) (fun c5 => ?_) (fun c5 => ?_)
              · have z5 := wi_in c5
                obtain ⟨l', hl', el⟩ := nI_of2 (M := 2) (n := 2) (by decide) (Int32.not_lt.mpr z4.1) z4.2
                obtain ⟨w', hw', ew⟩ := nI_of2 (M := 3) (n := 3) (by decide) (Int32.not_lt.mpr z5.1) z5.2
                subst ep
                subst eq
                subst el
                subst ew
                have hpq : p' ≠ q' := fun e => c3 (by rw [e])
                have hpt := hF.1
                refine gx_aload_n (pc := 48) dX1_plot_48 rfl ?_
                refine gx_get (pc := 49) fX1_75 hx rfl dX1_plot_49 ?_
                refine gx_iload_n (pc := 52) dX1_plot_52 rfl ?_
                refine gx_iload_n (pc := 53) dX1_plot_53 rfl ?_
                refine gx_iload_n (pc := 54) dX1_plot_54 rfl ?_
                refine kX1_299 (kc := 1) (ks := 6) (mc := 0) (ms := 0) (pc := 55) rfl (c_Pfinds (d := d - 1) dx dk dl df hn hN h16 p' q' l' hp' hq' hl' (fun _ => 0) (by omega) hS hF) (gxRc.of rfl hpt) (by omega) (Nat.le_of_ble_eq_true rfl) dX1_plot_55 (fun h1 e1 => ?_)
                obtain ⟨S1, E1, rw1, be1, mo1, ma1, F1, q1⟩ := e1
                clear hpt hx
                have hpt := F1.1
                have hbe := F1.2.2.1
                have hx := S1.1
                have fin : ∀ v, (∀ y : plT, y.1.2.1 < 0 → v = spPlr (spPl w P S p' q' l' (setS A s) 0 y) w') → gxQi (fun v h' => ∃ p'' q'' l'' w'', p'' < P ∧ nI p' = nI p'' ∧ q'' < P ∧ nI q' = nI q'' ∧ p'' ≠ q'' ∧ l'' ≤ 2 ∧ nI l' = nI l'' ∧ w'' ≤ 3 ∧ nI w' = nI w'' ∧ (XS x r tk tr gl sl bl py pt ng ft mk lo hi ta fa P S E gg A s w b) h' ∧ plE pt 0 fa h h' ∧ (∃ rw' be' mo' ma' pe' ot', PL h' pt x rw' be' mo' ma' pe' ot') ∧ ∀ y : plT, y.1.2.1 < 0 → v = spPlr (spPl w P S p'' q'' l'' (setS A s) 0 y) w'') (.returned (some (.int v))) h1 := fun v hv => ⟨v, rfl, p', q', l', w', hp', rfl, hq', rfl, hpq, hl', rfl, hw', rfl, S1, E1, ⟨_, _, _, _, _, _, F1⟩, hv⟩
                have R := fun (y : plT) (hy : y.1.2.1 < 0) => plAc_L w (P := P) (S := S) (p := p') (q := q') hl' (setS A s) y (fun _ => 0) hy
                obtain ⟨i, hi⟩ := plAc_some w P S p' q' (setS A s) (fun _ => 0) l'
                rw [hi] at q1 R
                have hi2 := q1.2.2.1
                refine gx_iload (pc := 58) dX1_plot_58 rfl ?_
                refine gx_if_ne (pc := 60) 73 dX1_plot_60 (by decide) (fun c6 => ?_) (fun c6 => ?_)
                · have hw0 : w' ≠ 0 := fun e => c6 (by rw [e]; rfl)
                  refine gx_iload (pc := 73) dX1_plot_73 rfl ?_
                  refine gx_iconst (pc := 75) (v := 1) dX1_plot_75 (by decide) ?_
                  refine gx_icmp_ne (pc := 76) 89 dX1_plot_76 (by decide) (fun c7 => ?_) (fun c7 => ?_)
                  · have hw1 : w' ≠ 1 := fun e => c7 (by rw [e]; rfl)
                    obtain ⟨v', rfl⟩ : ∃ v', w' = v' + 2 := ⟨w' - 2, by omega⟩
                    have e2 : nI (v' + 2) - 2 = nI v' := by rw [← nI_add v' 2]; exact Int32.add_sub_cancel _ _
                    have ans : ∀ y : plT, y.1.2.1 < 0 → spPlr (spPl w P S p' q' l' (setS A s) 0 y) (v' + 2) = if v' < i.2.1 then i.2.2 v' else -1 := fun y hy => by
                      have := (R y hy).2.2.2 v' (by omega)
                      rw [← this]; simp [spPlr]
                    refine gx_iload (pc := 89) dX1_plot_89 rfl ?_
                    refine gx_iconst (pc := 91) (v := 2) dX1_plot_91 (by decide) ?_
                    refine gx_isub (pc := 92) dX1_plot_92 ?_
                    rw [e2]
                    refine gx_aload_n (pc := 93) dX1_plot_93 rfl ?_
                    refine gx_get (pc := 94) fX1_75 hx rfl dX1_plot_94 ?_
                    refine gx_get (pc := 97) fX1_305 hpt rfl dX1_plot_97 ?_
                    rw [q1.2.1]
                    refine gx_icmp_ge (pc := 100) 118 dX1_plot_100 (by decide) (fun c8 => ?_) (fun c8 => ?_)
                    · have : ¬ v' < i.2.1 := fun hh => absurd (nI_lt hh (by omega)) (Int32.not_lt.mpr c8)
                      refine gx_iconst (pc := 118) (v := (-1)) dX1_plot_118 (by decide) ?_
                      exact gx_ireturn (pc := 119) rfl dX1_plot_119 (Or.inl (fin _ (fun y hy => by rw [ans y hy, if_neg this])))
                    · have : v' < i.2.1 := by
                        rcases Nat.lt_or_ge v' i.2.1 with z | z
                        · exact z
                        · exact absurd (nI_le z (by omega)) c8
                      refine gx_aload_n (pc := 103) dX1_plot_103 rfl ?_
                      refine gx_get (pc := 104) fX1_75 hx rfl dX1_plot_104 ?_
                      refine gx_get (pc := 107) fX1_308 hpt rfl dX1_plot_107 ?_
                      refine gx_iload (pc := 110) dX1_plot_110 rfl ?_
                      refine gx_iconst (pc := 112) (v := 2) dX1_plot_112 (by decide) ?_
                      refine gx_isub (pc := 113) dX1_plot_113 ?_
                      rw [e2]
                      refine gx_iald (pc := 114) (v') hbe (by first | rfl | simp only [gx_lit, nI_add, pk_mul]) (by omega) (by decide) dX1_plot_114 ?_
                      refine gx_goto (pc := 115) 119 dX1_plot_115 (by decide) ?_
                      exact gx_ireturn (pc := 119) rfl dX1_plot_119 (Or.inl (fin _ (fun y hy => by rw [ans y hy, if_pos this]; exact q1.2.2.2 v' this)))
                  · have hw1 : w' = 1 := (nI_eq (b := 1) (by omega) (by decide)).mp c7
                    subst hw1
                    refine gx_aload_n (pc := 79) dX1_plot_79 rfl ?_
                    refine gx_get (pc := 80) fX1_75 hx rfl dX1_plot_80 ?_
                    refine gx_get (pc := 83) fX1_305 hpt rfl dX1_plot_83 ?_
                    refine gx_goto (pc := 86) 119 dX1_plot_86 (by decide) ?_
                    exact gx_ireturn (pc := 119) rfl dX1_plot_119 (Or.inl (fin _ (fun y hy => by rw [q1.2.1]; exact (R y hy).2.1.symm)))
                · have hw0 : w' = 0 := (nI_eq (b := 0) (by omega) (by decide)).mp c6
                  subst hw0
                  refine gx_aload_n (pc := 63) dX1_plot_63 rfl ?_
                  refine gx_get (pc := 64) fX1_75 hx rfl dX1_plot_64 ?_
                  refine gx_get (pc := 67) fX1_302 hpt rfl dX1_plot_67 ?_
                  refine gx_goto (pc := 70) 119 dX1_plot_70 (by decide) ?_
                  exact gx_ireturn (pc := 119) rfl dX1_plot_119 (Or.inl (fin _ (fun y hy => by rw [q1.1]; exact (R y hy).1.symm)))
              · exact N (fun hh => wi_out c5 hh.2.2)
        · exact absurd rfl c2
    · exact absurd rfl c1
end MAP
