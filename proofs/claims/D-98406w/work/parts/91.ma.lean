/-! ===== COMPONENT AA: feasts ===== -/
set_option maxRecDepth 100000
/-- alike but for a stretch and the facts -/
def zE (a n fa : Nat) (h h' : gxH) : Prop := h'.2 = h.2 ∧ (∀ q, q < a ∨ a + n ≤ q → q ≠ fa → h'.1 q = h.1 q) ∧ (fcA h fa → fcA h' fa)
theorem zE.rf (a n fa : Nat) (h : gxH) : zE a n fa h h := ⟨rfl, fun _ _ _ => rfl, fun x => x⟩
theorem zE.tr {a n fa : Nat} {x y z : gxH} (h : zE a n fa x y) (k : zE a n fa y z) : zE a n fa x z := ⟨k.1.trans h.1, fun q hq hf => (k.2.1 q hq hf).trans (h.2.1 q hq hf), fun e => k.2.2 (h.2.2 e)⟩
theorem fE.r {a n fa : Nat} {x y : gxH} (h : fE fa x y) : zE a n fa x y := ⟨h.1, fun q _ hf => h.2.1 q hf, h.2.2⟩
theorem zE.up {a n fa i : Nat} (h : gxH) (e : gxE) (hi : i < n) (hf : fa < a ∨ a + n ≤ fa) : zE a n fa h (gxup h (a + i) e) :=
  ⟨rfl, fun q hq _ => gxup_ne (by omega), fun ⟨f, hh⟩ => ⟨f, by rw [gxup_ne (by omega)]; exact hh⟩⟩
theorem zE.at {a n fa q : Nat} {h h' : gxH} {x : gxE} (e : zE a n fa h h') (hf : fcA h fa) (hq : q < a ∨ a + n ≤ q) (hx : h.1 q = some x) (hne : ∀ f, x ≠ .inl (0, 4, .inl f)) : h'.1 q = some x := by
  obtain ⟨f, hf⟩ := hf
  rw [e.2.1 q hq (fun k => by rw [k, hf] at hx; exact hne f (Option.some.inj hx).symm)]
  exact hx
theorem TK.zE {a n fa tk ta : Nat} {h h' : gxH} {s : Nat → Int32} {b : Bool} (x : TK h tk ta s b) (hf : fcA h fa) (e : zE a n fa h h') (dk : tk + 6 ≤ a ∨ a + n ≤ tk) : TK h' tk ta s b := by
  obtain ⟨kn, aw, rk, fi, ne, h0, h1, h2, h3, h4, h5, r⟩ := x
  exact ⟨kn, aw, rk, fi, ne, e.at hf (by omega) h0 (fun f q => by cases q), e.at hf (by omega) h1 (fun f q => by simp at q), e.at hf (by omega) h2 (fun f q => by simp at q), e.at hf (by omega) h3 (fun f q => by simp at q), e.at hf (by omega) h4 (fun f q => by simp at q), e.at hf (by omega) h5 (fun f q => by simp at q), r⟩
/-- the component with its talk and its town -/
def XS (x r tk tr gl sl bl py pt ng ft mk lo hi ta fa P S E : Nat) (g : Int64) (A : Nat → Nat → Int32) (s : Nat → Int32) (w : Option gxEv) (b : Bool) (h : gxH) : Prop := XF h x r tk tr gl sl bl py pt ng ft g mk ∧ TT h lo hi tk ta fa A s P S E w b
section XSs
variable {h h' : gxH} {x r tk tr gl sl bl py pt ng ft mk lo hi ta fa P S E : Nat} {g : Int64} {A : Nat → Nat → Int32} {s : Nat → Int32} {w : Option gxEv} {b : Bool} {a n : Nat}
theorem XS.zE (y : (XS x r tk tr gl sl bl py pt ng ft mk lo hi ta fa P S E g A s w b) h) (e : zE a n fa h h') (dx : x < a ∨ a + n ≤ x) (dk : tk + 6 ≤ a ∨ a + n ≤ tk) (dl : hi ≤ a ∨ a + n ≤ lo) : (XS x r tk tr gl sl bl py pt ng ft mk lo hi ta fa P S E g A s w b) h' := by
  have hf := y.2.1.2.2.1
  exact ⟨e.at hf dx y.1 (fun f q => by cases q), y.2.1.fr (fun q h1 h2 hq => e.2.1 q (by omega) hq) (e.2.2 hf), y.2.2.1.zE hf e dk, y.2.2.2⟩
theorem XS.fE (y : (XS x r tk tr gl sl bl py pt ng ft mk lo hi ta fa P S E g A s w b) h) (e : fE fa h h') : (XS x r tk tr gl sl bl py pt ng ft mk lo hi ta fa P S E g A s w b) h' := ⟨e.at y.2.1.2.2.1 y.1 (fun f q => by cases q), y.2.fE e⟩
end XSs
/-- the feast's cells -/
def FF (h : gxH) (ft x : Nat) (gu ch : Nat → Int32) (g : Int32) : Prop := h.1 ft = some (.inr (8, [.ref (ft + 1), .ref (ft + 2), .int g, .ref x])) ∧ h.1 (ft + 1) = some (.inl (0, 3, .inl gu)) ∧ h.1 (ft + 2) = some (.inl (0, 3, .inl ch))
theorem FF.ob {h : gxH} {ft x : Nat} {gu ch : Nat → Int32} {g : Int32} (y : FF h ft x gu ch g) (g' : Int32) : FF (gxup h ft (.inr (8, [.ref (ft + 1), .ref (ft + 2), .int g', .ref x]))) ft x gu ch g' := ⟨gxup_self _ _ _, by rw [gxup_ne (by omega)]; exact y.2.1, by rw [gxup_ne (by omega)]; exact y.2.2⟩
theorem FF.ugu {h : gxH} {ft x : Nat} {gu ch : Nat → Int32} {g : Int32} (y : FF h ft x gu ch g) (f : Nat → Int32) : FF (gxup h (ft + 1) (.inl (0, 3, .inl f))) ft x f ch g := ⟨by rw [gxup_ne (by omega)]; exact y.1, gxup_self _ _ _, by rw [gxup_ne (by omega)]; exact y.2.2⟩
theorem FF.uch {h : gxH} {ft x : Nat} {gu ch : Nat → Int32} {g : Int32} (y : FF h ft x gu ch g) (f : Nat → Int32) : FF (gxup h (ft + 2) (.inl (0, 3, .inl f))) ft x gu f g := ⟨by rw [gxup_ne (by omega)]; exact y.1, by rw [gxup_ne (by omega)]; exact y.2.1, gxup_self _ _ _⟩
theorem FF.fE {h h' : gxH} {ft x fa : Nat} {gu ch : Nat → Int32} {g : Int32} (y : FF h ft x gu ch g) (hf : fcA h fa) (e : fE fa h h') : FF h' ft x gu ch g := ⟨e.at hf y.1 (fun f q => by cases q), e.at hf y.2.1 (fun f q => by simp at q), e.at hf y.2.2 (fun f q => by simp at q)⟩
section MAA
variable {G : gxG} {d : Nat} {h : gxH} {x r tk tr gl sl bl py pt ng ft mk lo hi ta fa P S E : Nat} {gg : Int64} {A : Nat → Nat → Int32} {s : Nat → Int32} {w : Option gxEv} {b : Bool} {gu ch : Nat → Int32}
theorem c_Flays (dx : x < ft) (dk : tk + 6 ≤ ft ∨ ft + 3 ≤ tk) (dl : hi ≤ ft ∨ ft + 3 ≤ lo) (df : fa < ft ∨ ft + 3 ≤ fa) (hn : gxN G ≤ x) (hd : 2 ≤ d) (hS : (XS x r tk tr gl sl bl py pt ng ft mk lo hi ta fa P S E gg A s w b) h) {g0 : Int32} (hF : FF h ft x gu ch g0) (pe : Int32) (hg : (spGu gu pe P).1 ≤ 3) : gxM G mX9_lays d 0 0 [.ref ft, .int pe] h (gxQi (fun v h' => v = nI (spGu gu pe P).2.2 ∧ (XS x r tk tr gl sl bl py pt ng ft mk lo hi ta fa P S E gg A s w b) h' ∧ FF h' ft x (spGu gu pe P).2.1 ch (nI (spGu gu pe P).1) ∧ zE ft 3 fa h h')) := by
  have hP6 := hS.2.2.2.2.1
  have nft : gxN G ≤ ft := by omega
  have nwh : gxN G ≤ ft + 1 := by omega
  refine gxM_of rfl (Nat.le_of_ble_eq_true rfl) rfl ?_
  have L : ∀ m p h1, m + p = P → (XS x r tk tr gl sl bl py pt ng ft mk lo hi ta fa P S E gg A s w b) h1 → FF h1 ft x (spGu gu pe p).2.1 ch (nI (spGu gu pe p).1) → zE ft 3 fa h h1 → gxV G mX9_lays d 0 0 9 [some (.ref ft), some (.int pe), some (.int (nI (spGu gu pe p).2.2)), some (.int (nI p))] [] h1 (gxQi (fun v h' => v = nI (spGu gu pe P).2.2 ∧ (XS x r tk tr gl sl bl py pt ng ft mk lo hi ta fa P S E gg A s w b) h' ∧ FF h' ft x (spGu gu pe P).2.1 ch (nI (spGu gu pe P).1) ∧ zE ft 3 fa h h')) := by
    intro m
    induction m with
    | zero =>
      intro p h1 hp S1 F1 E1
      have : p = P := by omega
      subst this
      obtain ⟨hft, hwh, hch⟩ := id F1
      have hx := S1.1
      refine gx_iload_n (pc := 9) dX9_lays_9 rfl ?_
      refine gx_aload_n (pc := 10) dX9_lays_10 rfl ?_
      refine gx_get (pc := 11) fX9_3 hft rfl dX9_lays_11 ?_
      refine kX9_26 (kc := 0) (ks := 0) (mc := 0) (ms := 0) (pc := 14) rfl (c_people (d := d - 1) (by omega) S1.1.O S1.2) (gxRc.of rfl hx) (by omega) (Nat.le_of_ble_eq_true rfl) dX9_lays_14 (fun r1 h2 e1 => ?_)
      obtain ⟨rfl, e1⟩ := e1
      subst h2
      refine gx_icmp_ge (pc := 17) 62 dX9_lays_17 (by decide) (fun c1 => ?_) (fun c1 => ?_)
      · refine gx_iload_n (pc := 62) dX9_lays_62 rfl ?_
        exact gx_ireturn (pc := 63) rfl dX9_lays_63 (⟨_, rfl, ⟨rfl, S1, F1, E1⟩⟩)
      · exact absurd (nI_le (Nat.le_refl _) (by omega)) c1
    | succ m ih =>
      intro p h1 hp S1 F1 E1
      obtain ⟨hft, hwh, hch⟩ := id F1
      have hx := S1.1
      have K56 : ∀ v h2, v = nI (spGu gu pe (p + 1)).2.2 → (XS x r tk tr gl sl bl py pt ng ft mk lo hi ta fa P S E gg A s w b) h2 → FF h2 ft x (spGu gu pe (p + 1)).2.1 ch (nI (spGu gu pe (p + 1)).1) → zE ft 3 fa h h2 → gxV G mX9_lays d 0 0 56 [some (.ref ft), some (.int pe), some (.int v), some (.int (nI p))] [] h2 (gxQi (fun v h' => v = nI (spGu gu pe P).2.2 ∧ (XS x r tk tr gl sl bl py pt ng ft mk lo hi ta fa P S E gg A s w b) h' ∧ FF h' ft x (spGu gu pe P).2.1 ch (nI (spGu gu pe P).1) ∧ zE ft 3 fa h h')) := by
        intro v h2 hv S2 F2 E2
        subst hv
        refine gx_iincc (pc := 56) (c := 1) dX9_lays_56 rfl (by decide) (by decide) rfl ?_
        refine gx_goto (pc := 59) 9 dX9_lays_59 (by decide) ?_
        rw [nI_1]
        exact ih (p + 1) h2 (by omega) S2 F2 E2
      refine gx_iload_n (pc := 9) dX9_lays_9 rfl ?_
      refine gx_aload_n (pc := 10) dX9_lays_10 rfl ?_
      refine gx_get (pc := 11) fX9_3 hft rfl dX9_lays_11 ?_
      refine kX9_26 (kc := 0) (ks := 0) (mc := 0) (ms := 0) (pc := 14) rfl (c_people (d := d - 1) (by omega) S1.1.O S1.2) (gxRc.of rfl hx) (by omega) (Nat.le_of_ble_eq_true rfl) dX9_lays_14 (fun r1 h2 e1 => ?_)
      obtain ⟨rfl, e1⟩ := e1
      subst h2
      refine gx_icmp_ge (pc := 17) 62 dX9_lays_17 (by decide) (fun c1 => ?_) (fun c1 => ?_)
      · exact absurd c1 (nI_ge (by omega) (by omega))
      · refine gx_iload_n (pc := 20) dX9_lays_20 rfl ?_
        refine gx_iload_n (pc := 21) dX9_lays_21 rfl ?_
        refine kX9_30 (kc := 0) (ks := 0) (mc := 0) (ms := 0) (pc := 22) rfl (c_has (d := d - 1) pe (nI p)) (by omega) (Nat.le_of_ble_eq_true rfl) dX9_lays_22 (fun r1 h2 e1 => ?_)
        obtain ⟨rfl, e1⟩ := e1
        subst h2
        have bb := bit01 (pe >>> (nI p &&& 31))
        refine gx_if_ne (pc := 25) 31 dX9_lays_25 (by decide) (fun c2 => ?_) (fun c2 => ?_)
        · have z := zi_ne0 c2
          rw [hs, decide_eq_true_eq] at z
          have z0 : ¬ (pe >>> (nI p &&& 31)) &&& 1 = 0 := by rw [z]; decide
          have u1 : spGu gu pe (p + 1) = ((spGu gu pe p).1 + 1, upd (spGu gu pe p).2.1 (spGu gu pe p).1 (nI p), (spGu gu pe p).2.2 * 11) := by rw [spGu, if_neg z0]
          have hlt : (spGu gu pe p).1 < 3 := by
            have := spGu_le gu pe (p + 1) (P - (p + 1))
            rw [show p + 1 + (P - (p + 1)) = P by omega, u1] at this
            dsimp only at this
            omega
          generalize hu : spGu gu pe p = u at *
          obtain ⟨g, f, al⟩ := u
          dsimp only at *
          refine gx_aload_n (pc := 31) dX9_lays_31 rfl ?_
          refine gx_get (pc := 32) fX9_15 hft rfl dX9_lays_32 ?_
          refine gx_aload_n (pc := 35) dX9_lays_35 rfl ?_
          refine gx_get (pc := 36) fX9_22 hft rfl dX9_lays_36 ?_
          refine gx_iload_n (pc := 39) dX9_lays_39 rfl ?_
          refine gx_iast (pc := 40) g hwh nwh rfl (by omega) (by decide) dX9_lays_40 ?_
          have F2 := F1.ugu (upd f g (nI p))
          have E2 := E1.tr (zE.up (i := 1) h1 (.inl (0, 3, .inl (upd f g (nI p)))) (by decide) df)
          have S2 := S1.zE (zE.up (i := 1) h1 (.inl (0, 3, .inl (upd f g (nI p)))) (by decide) df) (Or.inl dx) dk dl
          generalize gxup h1 (ft + 1) (.inl (0, 3, .inl (upd f g (nI p)))) = h2 at *
          obtain ⟨hft, hwh, hch⟩ := id F2
          refine gx_aload_n (pc := 41) dX9_lays_41 rfl ?_
          refine gx_dup (pc := 42) dX9_lays_42 rfl ?_
          refine gx_get (pc := 43) fX9_22 hft rfl dX9_lays_43 ?_
          refine gx_iconst (pc := 46) (v := 1) dX9_lays_46 (by decide) ?_
          refine gx_iadd (pc := 47) dX9_lays_47 ?_
          refine gx_put (pc := 48) fX9_22 hft nft (by first | exact Nat.le_of_ble_eq_true rfl | simp) tX9_2 rfl rfl dX9_lays_48 ?_
          have F3 := F2.ob (nI g + 1)
          have E3 := E2.tr (zE.up (i := 0) h2 (.inr (8, [.ref (ft + 1), .ref (ft + 2), .int (nI g + 1), .ref x])) (by decide) df)
          have S3 := S2.zE (zE.up (i := 0) h2 (.inr (8, [.ref (ft + 1), .ref (ft + 2), .int (nI g + 1), .ref x])) (by decide) df) (Or.inl dx) dk dl
          change gxV _ _ _ _ _ _ _ _ (gxup h2 ft (.inr (8, [.ref (ft + 1), .ref (ft + 2), .int (nI g + 1), .ref x]))) _
          change zE ft 3 fa h (gxup h2 ft _) at E3
          change (XS x r tk tr gl sl bl py pt ng ft mk lo hi ta fa P S E gg A s w b) (gxup h2 ft _) at S3
          generalize gxup h2 ft (.inr (8, [.ref (ft + 1), .ref (ft + 2), .int (nI g + 1), .ref x])) = h3 at *
          refine gx_iload_n (pc := 51) dX9_lays_51 rfl ?_
          refine gx_bipush (pc := 52) (v := 11) dX9_lays_52 (by decide) ?_
          refine gx_imul (pc := 54) dX9_lays_54 ?_
          refine gx_istore_n (pc := 55) dX9_lays_55 (by decide) rfl ?_
          refine K56 _ h3 ?_ S3 ?_ E3
          · rw [u1]; exact pk_mul _ 11
          · rw [nI_1] at F3; rw [u1]; exact F3
        · have z := zi_eq0 c2
          rw [hs, decide_eq_false_iff_not] at z
          have u1 : spGu gu pe (p + 1) = spGu gu pe p := by rw [spGu, if_pos (bb.resolve_right z)]
          refine gx_goto (pc := 28) 56 dX9_lays_28 (by decide) ?_
          exact K56 _ h1 (by rw [u1]) S1 (by rw [u1]; exact F1) E1
  obtain ⟨hft, hwh, hch⟩ := id hF
  refine gx_aload_n (pc := 0) dX9_lays_0 rfl ?_
  refine gx_iconst (pc := 1) (v := 0) dX9_lays_1 (by decide) ?_
  refine gx_put (pc := 2) fX9_22 hft nft (by first | exact Nat.le_of_ble_eq_true rfl | simp) tX9_2 rfl rfl dX9_lays_2 ?_
  have F3 := hF.ob 0
  have E3 := zE.up (fa := fa) (a := ft) (n := 3) (i := 0) h (.inr (8, [.ref (ft + 1), .ref (ft + 2), .int 0, .ref x])) (by decide) df
  change zE ft 3 fa h (gxup h ft _) at E3
  have S3 := hS.zE E3 (Or.inl dx) dk dl
  change gxV _ _ _ _ _ _ _ _ (gxup h ft (.inr (8, [.ref (ft + 1), .ref (ft + 2), .int 0, .ref x]))) _
  generalize gxup h ft (.inr (8, [.ref (ft + 1), .ref (ft + 2), .int 0, .ref x])) = h3 at *
  refine gx_iconst (pc := 5) (v := 1) dX9_lays_5 (by decide) ?_
  refine gx_istore_n (pc := 6) dX9_lays_6 (by decide) rfl ?_
  refine gx_iconst (pc := 7) (v := 0) dX9_lays_7 (by decide) ?_
  refine gx_istore_n (pc := 8) dX9_lays_8 (by decide) rfl ?_
  exact L P 0 h3 (by omega) S3 F3 E3
theorem c_Fmay (hd : 3 ≤ d) (hS : (XS x r tk tr gl sl bl py pt ng ft mk lo hi ta fa P S E gg A s w b) h) {g0 : Int32} (hF : FF h ft x gu ch g0) (i c : Nat) (hi : i < 3) (hc : c ≤ 10) : gxM G mX9_may d 0 0 [.ref ft, .int (nI i), .int (nI c)] h (gxQi (fun v h' => v = zi (spMay (setS A s) S (gu i) c) ∧ h' = h)) := by
  have hS10 := hS.2.2.2.2.2.2.1
  obtain ⟨hft, hwh, hch⟩ := id hF
  have hx := hS.1
  obtain ⟨kn, aw, rk, fi, ne, htk, hkn, _, _, _, _, ekn, _⟩ := id hS.2.2.1
  refine gxM_of rfl (Nat.le_of_ble_eq_true rfl) rfl ?_
  have K41 : spMay (setS A s) S (gu i) c = true → gxV G mX9_may d 0 0 41 [some (.ref ft), some (.int (nI i)), some (.int (nI c))] [] h (gxQi (fun v h' => v = zi (spMay (setS A s) S (gu i) c) ∧ h' = h)) := by
    intro e
    refine gx_iconst (pc := 41) (v := 1) dX9_may_41 (by decide) ?_
    refine gx_goto (pc := 42) 46 dX9_may_42 (by decide) ?_
    exact gx_zreturn (pc := 46) rfl (by decide) dX9_may_46 (⟨_, rfl, ⟨by rw [e]; rfl, rfl⟩⟩)
  have K45 : spMay (setS A s) S (gu i) c = false → gxV G mX9_may d 0 0 45 [some (.ref ft), some (.int (nI i)), some (.int (nI c))] [] h (gxQi (fun v h' => v = zi (spMay (setS A s) S (gu i) c) ∧ h' = h)) := by
    intro e
    refine gx_iconst (pc := 45) (v := 0) dX9_may_45 (by decide) ?_
    exact gx_zreturn (pc := 46) rfl (by decide) dX9_may_46 (⟨_, rfl, ⟨by rw [e]; rfl, rfl⟩⟩)
  refine gx_iload_n (pc := 0) dX9_may_0 rfl ?_
  refine gx_if_eq (pc := 1) 41 dX9_may_1 (by decide) (fun c1 => ?_) (fun c1 => ?_)
  · have c0 : c = 0 := by
      have c1' : nI c = nI 0 := c1
      exact (nI_eq (by omega) (by omega)).mp c1'
    exact K41 (by rw [spMay, decide_eq_true c0]; rfl)
  · have c0 : c ≠ 0 := fun e => c1 (by rw [e]; rfl)
    refine gx_iload_n (pc := 4) dX9_may_4 rfl ?_
    refine gx_aload_n (pc := 5) dX9_may_5 rfl ?_
    refine gx_get (pc := 6) fX9_3 hft rfl dX9_may_6 ?_
    refine kX9_34 (kc := 0) (ks := 0) (mc := 0) (ms := 0) (pc := 9) rfl (c_secrets (d := d - 1) (by omega) hS.1.O hS.2) (gxRc.of rfl hx) (by omega) (Nat.le_of_ble_eq_true rfl) dX9_may_9 (fun r1 h2 e1 => ?_)
    obtain ⟨rfl, e1⟩ := e1
    subst h2
    refine gx_icmp_gt (pc := 12) 45 dX9_may_12 (by decide) (fun c2 => ?_) (fun c2 => ?_)
    · have : ¬ c ≤ S := by have := (nI_ltI (by omega) (by omega)).mp c2; omega
      exact K45 (by rw [spMay, decide_eq_false c0, decide_eq_false this]; rfl)
    · have cS : c ≤ S := Nat.le_of_not_lt (fun hh => c2 ((nI_ltI (by omega) (by omega)).mpr hh))
      refine gx_aload_n (pc := 15) dX9_may_15 rfl ?_
      refine gx_get (pc := 16) fX9_3 hft rfl dX9_may_16 ?_
      refine gx_getN (pc := 19) fX9_37 hx rfl dX9_may_19 ?_
      refine gx_get (pc := 22) fX9_41 htk rfl dX9_may_22 ?_
      refine gx_iload_n (pc := 25) dX9_may_25 rfl ?_
      refine gx_iconst (pc := 26) (v := 1) dX9_may_26 (by decide) ?_
      refine gx_isub (pc := 27) dX9_may_27 ?_
      rw [show nI c - 1 = nI (c - 1) from pk_sub (b := 1) (by omega)]
      refine gx_iald (pc := 28) ((c-1)) hkn (by first | rfl | simp only [gx_lit, nI_add, pk_mul]) (by omega) (by decide) dX9_may_28 ?_
      rw [ekn (c - 1) (by omega)]
      refine gx_aload_n (pc := 29) dX9_may_29 rfl ?_
      refine gx_get (pc := 30) fX9_15 hft rfl dX9_may_30 ?_
      refine gx_iload_n (pc := 33) dX9_may_33 rfl ?_
      refine gx_iald (pc := 34) (i) hwh (by first | rfl | simp only [gx_lit, nI_add, pk_mul]) (by omega) (by decide) dX9_may_34 ?_
      refine kX9_30 (kc := 0) (ks := 0) (mc := 0) (ms := 0) (pc := 35) rfl (c_has (d := d - 1) (s (c - 1)) (gu i)) (by omega) (Nat.le_of_ble_eq_true rfl) dX9_may_35 (fun r1 h2 e1 => ?_)
      obtain ⟨rfl, e1⟩ := e1
      subst h2
      have sm : spMay (setS A s) S (gu i) c = hs (s (c - 1)) (gu i) := by rw [spMay, decide_eq_false c0, decide_eq_true cS, setS_50]; simp
      refine gx_if_eq (pc := 38) 45 dX9_may_38 (by decide) (fun c3 => ?_) (fun c3 => ?_)
      · exact K45 (by rw [sm]; exact zi_eq0 c3)
      · exact K41 (by rw [sm]; exact zi_ne0 c3)
theorem c_Freads (dx : x < ft) (dk : tk + 6 ≤ ft ∨ ft + 3 ≤ tk) (dl : hi ≤ ft ∨ ft + 3 ≤ lo) (df : fa < ft ∨ ft + 3 ≤ fa) (hn : gxN G ≤ x) (hd : 4 ≤ d) (hS : (XS x r tk tr gl sl bl py pt ng ft mk lo hi ta fa P S E gg A s w b) h) (g : Nat) (hg : g ≤ 3) (hF : FF h ft x gu ch (nI g)) (c : Nat) (hc : c < 1332) : gxM G mX9_reads d 0 0 [.ref ft, .int (nI c)] h (gxQi (fun v h' => v = zi (spIs (setS A s) S gu g c g) ∧ (XS x r tk tr gl sl bl py pt ng ft mk lo hi ta fa P S E gg A s w b) h' ∧ zE ft 3 fa h h' ∧ ∃ ch', FF h' ft x gu ch' (nI g) ∧ (spIs (setS A s) S gu g c g = true → ch' = spChf ch g c g))) := by
  have hS10 := hS.2.2.2.2.2.2.1
  have nch : gxN G ≤ ft + 2 := by omega
  refine gxM_of rfl (Nat.le_of_ble_eq_true rfl) rfl ?_
  have F : ∀ k, spIs (setS A s) S gu g c k = false → ∀ m, spIs (setS A s) S gu g c (k + m) = false := by
    intro k hk m
    induction m with
    | zero => exact hk
    | succ m ih => show (spIs (setS A s) S gu g c (k + m) && _) = false; rw [ih]; rfl
  have L : ∀ m k h1 x3, m + k = g → (m = 0 → x3 = -1) → (∀ z, m = z + 1 → x3 = nI z) → spIs (setS A s) S gu g c k = true → (XS x r tk tr gl sl bl py pt ng ft mk lo hi ta fa P S E gg A s w b) h1 → FF h1 ft x gu (spChf ch g c k) (nI g) → zE ft 3 fa h h1 → gxV G mX9_reads d 0 0 9 [some (.ref ft), some (.int (nI c)), some (.int (nI (c / 11 ^ k))), some (.int x3)] [] h1 (gxQi (fun v h' => v = zi (spIs (setS A s) S gu g c g) ∧ (XS x r tk tr gl sl bl py pt ng ft mk lo hi ta fa P S E gg A s w b) h' ∧ zE ft 3 fa h h' ∧ ∃ ch', FF h' ft x gu ch' (nI g) ∧ (spIs (setS A s) S gu g c g = true → ch' = spChf ch g c g))) := by
    intro m
    induction m with
    | zero =>
      intro k h1 x3 hk z0 _ hI S1 F1 E1
      have := z0 rfl
      subst this
      have : k = g := by omega
      subst this
      refine gx_iload_n (pc := 9) dX9_reads_9 rfl ?_
      refine gx_if_lt (pc := 10) 50 dX9_reads_10 (by decide) (fun c1 => ?_) (fun c1 => ?_)
      · refine gx_iconst (pc := 50) (v := 1) dX9_reads_50 (by decide) ?_
        exact gx_zreturn (pc := 51) rfl (by decide) dX9_reads_51 (⟨_, rfl, ⟨by rw [hI]; rfl, S1, E1, _, F1, fun _ => rfl⟩⟩)
      · exact absurd (by decide) c1
    | succ m ih =>
      intro k h1 x3 hk _ z1 hI S1 F1 E1
      have := z1 m rfl
      subst this
      obtain ⟨hft, hwh, hch⟩ := id F1
      have hck : c / 11 ^ k < 1332 := Nat.lt_of_le_of_lt (Nat.div_le_self _ _) hc
      have d1 := d11 (c / 11 ^ k) hck
      have mk : g - 1 - k = m := by omega
      have dg : c / 11 ^ k % 11 = spDig g c m := by rw [spDig, show g - 1 - m = k by omega]
      have st := spChf_step (ch := ch) (g := g) (c := c) (k := k) (by omega)
      rw [mk] at st
      have dl11 : spDig g c m < 11 := Nat.mod_lt _ (by decide)
      have I1 : spIs (setS A s) S gu g c (k + 1) = (spIs (setS A s) S gu g c k && spMay (setS A s) S (gu m) (spDig g c m)) := by rw [spIs, mk]
      rw [hI, Bool.true_and] at I1
      refine gx_iload_n (pc := 9) dX9_reads_9 rfl ?_
      refine gx_if_lt (pc := 10) 50 dX9_reads_10 (by decide) (fun c1 => ?_) (fun c1 => ?_)
      · exact absurd c1 (nI_pos (by omega))
      · refine gx_aload_n (pc := 13) dX9_reads_13 rfl ?_
        refine gx_get (pc := 14) fX9_19 hft rfl dX9_reads_14 ?_
        refine gx_iload_n (pc := 17) dX9_reads_17 rfl ?_
        refine gx_iload_n (pc := 18) dX9_reads_18 rfl ?_
        refine gx_bipush (pc := 19) (v := 11) dX9_reads_19 (by decide) ?_
        refine gx_irem (pc := 21) dX9_reads_21 (by decide) ?_
        rw [d1.2, dg]
        refine gx_iast (pc := 22) (m) hch nch (by first | rfl | simp only [gx_lit, nI_add, pk_mul]) (by omega) (by decide) dX9_reads_22 ?_
        rw [st]
        have F2 := F1.uch (spChf ch g c (k + 1))
        have E2 := zE.up (fa := fa) (a := ft) (n := 3) (i := 2) h1 (.inl (0, 3, .inl (spChf ch g c (k + 1)))) (by decide) df
        have S2 := S1.zE E2 (Or.inl dx) dk dl
        generalize gxup h1 (ft + 2) (.inl (0, 3, .inl (spChf ch g c (k + 1)))) = h2 at *
        obtain ⟨hft, hwh, hch⟩ := id F2
        refine gx_iload_n (pc := 23) dX9_reads_23 rfl ?_
        refine gx_bipush (pc := 24) (v := 11) dX9_reads_24 (by decide) ?_
        refine gx_idiv (pc := 26) dX9_reads_26 (by decide) ?_
        rw [d1.1, Nat.div_div_eq_div_mul, ← Nat.pow_succ]
        refine gx_istore_n (pc := 27) dX9_reads_27 (by decide) rfl ?_
        refine gx_aload_n (pc := 28) dX9_reads_28 rfl ?_
        refine gx_iload_n (pc := 29) dX9_reads_29 rfl ?_
        refine gx_aload_n (pc := 30) dX9_reads_30 rfl ?_
        refine gx_get (pc := 31) fX9_19 hft rfl dX9_reads_31 ?_
        refine gx_iload_n (pc := 34) dX9_reads_34 rfl ?_
        refine gx_iald (pc := 35) (m) hch (by first | rfl | simp only [gx_lit, nI_add, pk_mul]) (by omega) (by decide) dX9_reads_35 ?_
        rw [show spChf ch g c (k + 1) m = nI (spDig g c m) by rw [← st]; simp [upd]]
        refine kX9_46 (kc := 0) (ks := 0) (mc := 0) (ms := 0) (pc := 36) rfl (c_Fmay (d := d - 1) (by omega) S2 F2 m (spDig g c m) (by omega) (by omega)) (gxRc.of rfl hft) (by omega) (Nat.le_of_ble_eq_true rfl) dX9_reads_36 (fun r1 h3 e1 => ?_)
        obtain ⟨rfl, e1⟩ := e1
        subst h3
        rw [← I1]
        refine gx_if_ne (pc := 39) 44 dX9_reads_39 (by decide) (fun c2 => ?_) (fun c2 => ?_)
        · have z := zi_ne0 c2
          refine gx_iincc (pc := 44) (c := (-1)) dX9_reads_44 rfl (by decide) (by decide) rfl ?_
          refine gx_goto (pc := 47) 9 dX9_reads_47 (by decide) ?_
          refine ih (k + 1) h2 _ (by omega) (fun e => by subst e; decide) (fun z e => by subst e; exact nI_m1 z) z S2 F2 (E1.tr E2)
        · have z := zi_eq0 c2
          have zz := F (k + 1) z m
          rw [show k + 1 + m = g by omega] at zz
          refine gx_iconst (pc := 42) (v := 0) dX9_reads_42 (by decide) ?_
          exact gx_zreturn (pc := 43) rfl (by decide) dX9_reads_43 (⟨_, rfl, ⟨by rw [zz]; rfl, S2, E1.tr E2, _, F2, fun e => by rw [zz] at e; cases e⟩⟩)
  obtain ⟨hft, hwh, hch⟩ := id hF
  refine gx_iload_n (pc := 0) dX9_reads_0 rfl ?_
  refine gx_istore_n (pc := 1) dX9_reads_1 (by decide) rfl ?_
  refine gx_aload_n (pc := 2) dX9_reads_2 rfl ?_
  refine gx_get (pc := 3) fX9_22 hft rfl dX9_reads_3 ?_
  refine gx_iconst (pc := 6) (v := 1) dX9_reads_6 (by decide) ?_
  refine gx_isub (pc := 7) dX9_reads_7 ?_
  refine gx_istore_n (pc := 8) dX9_reads_8 (by decide) rfl ?_
  have c0 : spChf ch g c 0 = ch := by
    funext i
    simp only [spChf]
    rw [if_neg (by omega)]
  have h11 : c / 11 ^ 0 = c := by simp
  have := L g 0 h (nI g - 1) (by omega) (fun e => by rw [e]; decide) (fun z e => by rw [e]; exact nI_pred z) rfl hS (by rw [c0]; exact hF) (zE.rf _ _ _ _)
  rw [h11] at this
  exact this
theorem c_Fgets (hN : gxN G ≤ lo) (hd : 93 ≤ d) (hS : (XS x r tk tr gl sl bl py pt ng ft mk lo hi ta fa P S E gg A s w b) h) (g i : Nat) (hg : g ≤ 3) (hF : FF h ft x gu ch (nI g)) (hi : i < g) (hc : chOk ch S g) : gxM G mX9_gets d 0 0 [.ref ft, .int (nI i)] h (gxQi (fun v h' => v = spHas w (setS A s) P ch g i ∧ fE fa h h')) := by
  have hS10 := hS.2.2.2.2.2.2.1
  obtain ⟨hft, hwh, hch⟩ := id hF
  have hx := hS.1
  obtain ⟨kn, aw, rk, fi, ne, htk, hkn, _, _, _, _, ekn, _⟩ := id hS.2.2.1
  obtain ⟨c, hc1, hc2⟩ := hc i hi
  refine gxM_of rfl (Nat.le_of_ble_eq_true rfl) rfl ?_
  refine gx_aload_n (pc := 0) dX9_gets_0 rfl ?_
  refine gx_get (pc := 1) fX9_19 hft rfl dX9_gets_1 ?_
  refine gx_iload_n (pc := 4) dX9_gets_4 rfl ?_
  refine gx_iald (pc := 5) (i) hch (by first | rfl | simp only [gx_lit, nI_add, pk_mul]) (by omega) (by decide) dX9_gets_5 ?_
  refine gx_if_ne (pc := 6) 11 dX9_gets_6 (by decide) (fun c1 => ?_) (fun c1 => ?_)
  · have L : ∀ m k, m + k = g → gxV G mX9_gets d 0 0 15 [some (.ref ft), some (.int (nI i)), some (.int (spCnt ch (ch i) k)), some (.int (nI k))] [] h (gxQi (fun v h' => v = spHas w (setS A s) P ch g i ∧ fE fa h h')) := by
      intro m
      induction m with
      | zero =>
        intro k hk
        have : k = g := by omega
        subst this
        obtain ⟨n, n1, n2, n3⟩ := spCnt_nI ch (ch i) k
        have n4 := n3 i hi rfl
        have c0 : c ≠ 0 := fun e => c1 (by rw [hc2, e]; rfl)
        refine gx_iload_n (pc := 15) dX9_gets_15 rfl ?_
        refine gx_aload_n (pc := 16) dX9_gets_16 rfl ?_
        refine gx_get (pc := 17) fX9_22 hft rfl dX9_gets_17 ?_
        refine gx_icmp_ge (pc := 20) 47 dX9_gets_20 (by decide) (fun c2 => ?_) (fun c2 => ?_)
        · refine gx_aload_n (pc := 47) dX9_gets_47 rfl ?_
          refine gx_get (pc := 48) fX9_3 hft rfl dX9_gets_48 ?_
          refine gx_getN (pc := 51) fX9_37 hx rfl dX9_gets_51 ?_
          refine gx_aload_n (pc := 54) dX9_gets_54 rfl ?_
          refine gx_get (pc := 55) fX9_19 hft rfl dX9_gets_55 ?_
          refine gx_iload_n (pc := 58) dX9_gets_58 rfl ?_
          refine gx_iald (pc := 59) (i) hch (by first | rfl | simp only [gx_lit, nI_add, pk_mul]) (by omega) (by decide) dX9_gets_59 ?_
          rw [hc2]
          refine gx_iconst (pc := 60) (v := 1) dX9_gets_60 (by decide) ?_
          refine gx_isub (pc := 61) dX9_gets_61 ?_
          rw [show nI c - 1 = nI (c - 1) from pk_sub (b := 1) (by omega)]
          refine kX9_49 (kc := 0) (ks := 0) (mc := 0) (ms := 0) (pc := 62) rfl (c_Tworth hN (c - 1) (by omega) (d - 1) h (by omega) hS.2) (gxRc.of rfl htk) (by omega) (Nat.le_of_ble_eq_true rfl) dX9_gets_62 (fun r1 h2 e1 => ?_)
          obtain ⟨rfl, e1⟩ := e1
          rw [← hc2]
          have nz : ¬ spCnt ch (ch i) k = 0 := by rw [n2]; exact nI_ne0 n4 (by omega)
          refine gx_iload_n (pc := 65) dX9_gets_65 rfl ?_
          refine gx_idiv (pc := 66) dX9_gets_66 (nz) ?_
          refine gx_iconst (pc := 67) (v := 1) dX9_gets_67 (by decide) ?_
          refine gx_isub (pc := 68) dX9_gets_68 ?_
          exact gx_ireturn (pc := 69) rfl dX9_gets_69 (⟨_, rfl, ⟨by rw [spHas, if_neg c1, hc2, nI_clamp (by omega)], e1⟩⟩)
        · exact absurd (nI_le (Nat.le_refl _) (by omega)) c2
      | succ m ih =>
        intro k hk
        have K41 : ∀ v, v = spCnt ch (ch i) (k + 1) → gxV G mX9_gets d 0 0 41 [some (.ref ft), some (.int (nI i)), some (.int v), some (.int (nI k))] [] h (gxQi (fun v h' => v = spHas w (setS A s) P ch g i ∧ fE fa h h')) := by
          intro v hv
          subst hv
          refine gx_iincc (pc := 41) (c := 1) dX9_gets_41 rfl (by decide) (by decide) rfl ?_
          refine gx_goto (pc := 44) 15 dX9_gets_44 (by decide) ?_
          rw [nI_1]
          exact ih (k + 1) (by omega)
        refine gx_iload_n (pc := 15) dX9_gets_15 rfl ?_
        refine gx_aload_n (pc := 16) dX9_gets_16 rfl ?_
        refine gx_get (pc := 17) fX9_22 hft rfl dX9_gets_17 ?_
        refine gx_icmp_ge (pc := 20) 47 dX9_gets_20 (by decide) (fun c2 => ?_) (fun c2 => ?_)
        · exact absurd c2 (nI_ge (by omega) (by omega))
        · refine gx_aload_n (pc := 23) dX9_gets_23 rfl ?_
          refine gx_get (pc := 24) fX9_19 hft rfl dX9_gets_24 ?_
          refine gx_iload_n (pc := 27) dX9_gets_27 rfl ?_
          refine gx_iald (pc := 28) (k) hch (by first | rfl | simp only [gx_lit, nI_add, pk_mul]) (by omega) (by decide) dX9_gets_28 ?_
          refine gx_aload_n (pc := 29) dX9_gets_29 rfl ?_
          refine gx_get (pc := 30) fX9_19 hft rfl dX9_gets_30 ?_
          refine gx_iload_n (pc := 33) dX9_gets_33 rfl ?_
          refine gx_iald (pc := 34) (i) hch (by first | rfl | simp only [gx_lit, nI_add, pk_mul]) (by omega) (by decide) dX9_gets_34 ?_
          refine gx_icmp_ne (pc := 35) 41 dX9_gets_35 (by decide) (fun c3 => ?_) (fun c3 => ?_)
          · exact K41 _ (by rw [spCnt, decide_eq_false c3]; exact (Int32.add_zero _).symm)
          · have c3' : ch k = ch i := c3
            refine gx_iincc (pc := 38) (c := 1) dX9_gets_38 rfl (by decide) (by decide) rfl ?_
            exact K41 _ (by rw [spCnt, decide_eq_true c3']; rfl)
    refine gx_iconst (pc := 11) (v := 0) dX9_gets_11 (by decide) ?_
    refine gx_istore_n (pc := 12) dX9_gets_12 (by decide) rfl ?_
    refine gx_iconst (pc := 13) (v := 0) dX9_gets_13 (by decide) ?_
    refine gx_istore_n (pc := 14) dX9_gets_14 (by decide) rfl ?_
    exact L g 0 (by omega)
  · have c1' : ch i = 0 := c1
    refine gx_iconst (pc := 9) (v := 0) dX9_gets_9 (by decide) ?_
    exact gx_ireturn (pc := 10) rfl dX9_gets_10 (⟨_, rfl, ⟨by rw [spHas, if_pos c1'], fE.rf _ _⟩⟩)
end MAA
