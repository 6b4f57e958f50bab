/-! ===== COMPONENT AG: plots ===== -/
set_option maxRecDepth 100000
/-- the plots' cells -/
def PL (h : gxH) (pt x : Nat) (rw be : Nat → Int32) (mo ma pe ot : Int32) : Prop := h.1 pt = some (.inr (6, [.ref (pt + 1), .ref (pt + 2), .ref (pt + 3), .int mo, .int ma, .int pe, .int ot, .ref x])) ∧ h.1 (pt + 1) = some (.inl (0, 2, .inl rw)) ∧ h.1 (pt + 2) = some (.inl (0, 2, .inl be)) ∧ (∃ f, h.1 (pt + 3) = some (gxq 5 2 f) ∧ f 0 = some (pt + 4) ∧ f 1 = some (pt + 10)) ∧
  (∃ tv kn aw rk fi ne m p y l q, TF h (pt + 4) tv kn aw rk fi ne m p y l q) ∧ (∃ tv kn aw rk fi ne m p y l q, TF h (pt + 10) tv kn aw rk fi ne m p y l q)
theorem TF.fr {h h' : gxH} {a : Nat} {tv : Value} {kn aw rk fi ne : Nat → Int32} {m p y l q : Int32} (x : TF h a tv kn aw rk fi ne m p y l q) (e : ∀ q, a ≤ q → q < a + 6 → h'.1 q = h.1 q) : TF h' a tv kn aw rk fi ne m p y l q := by
  obtain ⟨h0, h1, h2, h3, h4, h5⟩ := x
  exact ⟨by rw [e _ (by omega) (by omega)]; exact h0, by rw [e _ (by omega) (by omega)]; exact h1, by rw [e _ (by omega) (by omega)]; exact h2, by rw [e _ (by omega) (by omega)]; exact h3, by rw [e _ (by omega) (by omega)]; exact h4, by rw [e _ (by omega) (by omega)]; exact h5⟩
section PLs
variable {h h' : gxH} {pt x fa : Nat} {rw be : Nat → Int32} {mo ma pe ot : Int32}
theorem PL.ob (y : PL h pt x rw be mo ma pe ot) (mo' ma' pe' ot' : Int32) : PL (gxup h pt (.inr (6, [.ref (pt + 1), .ref (pt + 2), .ref (pt + 3), .int mo', .int ma', .int pe', .int ot', .ref x]))) pt x rw be mo' ma' pe' ot' := by
  obtain ⟨h0, h1, h2, ⟨f, h3, f3⟩, ⟨tv, kn, aw, rk, fi, ne, m, p, y, l, q, h4⟩, ⟨tv', kn', aw', rk', fi', ne', m', p', y', l', q', h5⟩⟩ := y
  exact ⟨gxup_self _ _ _, by rw [gxup_ne (by omega)]; exact h1, by rw [gxup_ne (by omega)]; exact h2, ⟨f, by rw [gxup_ne (by omega)]; exact h3, f3⟩, ⟨_, _, _, _, _, _, _, _, _, _, _, h4.fr (fun q _ _ => gxup_ne (by omega))⟩, ⟨_, _, _, _, _, _, _, _, _, _, _, h5.fr (fun q _ _ => gxup_ne (by omega))⟩⟩
theorem PL.urw (y : PL h pt x rw be mo ma pe ot) (g : Nat → Int32) : PL (gxup h (pt + 1) (.inl (0, 2, .inl g))) pt x g be mo ma pe ot := by
  obtain ⟨h0, h1, h2, ⟨f, h3, f3⟩, ⟨tv, kn, aw, rk, fi, ne, m, p, y, l, q, h4⟩, ⟨tv', kn', aw', rk', fi', ne', m', p', y', l', q', h5⟩⟩ := y
  exact ⟨by rw [gxup_ne (by omega)]; exact h0, gxup_self _ _ _, by rw [gxup_ne (by omega)]; exact h2, ⟨f, by rw [gxup_ne (by omega)]; exact h3, f3⟩, ⟨_, _, _, _, _, _, _, _, _, _, _, h4.fr (fun q _ _ => gxup_ne (by omega))⟩, ⟨_, _, _, _, _, _, _, _, _, _, _, h5.fr (fun q _ _ => gxup_ne (by omega))⟩⟩
theorem PL.ube (y : PL h pt x rw be mo ma pe ot) (g : Nat → Int32) : PL (gxup h (pt + 2) (.inl (0, 2, .inl g))) pt x rw g mo ma pe ot := by
  obtain ⟨h0, h1, h2, ⟨f, h3, f3⟩, ⟨tv, kn, aw, rk, fi, ne, m, p, y, l, q, h4⟩, ⟨tv', kn', aw', rk', fi', ne', m', p', y', l', q', h5⟩⟩ := y
  exact ⟨by rw [gxup_ne (by omega)]; exact h0, by rw [gxup_ne (by omega)]; exact h1, gxup_self _ _ _, ⟨f, by rw [gxup_ne (by omega)]; exact h3, f3⟩, ⟨_, _, _, _, _, _, _, _, _, _, _, h4.fr (fun q _ _ => gxup_ne (by omega))⟩, ⟨_, _, _, _, _, _, _, _, _, _, _, h5.fr (fun q _ _ => gxup_ne (by omega))⟩⟩
theorem PL.fE (y : PL h pt x rw be mo ma pe ot) (hf : fcA h fa) (e : fE fa h h') : PL h' pt x rw be mo ma pe ot := by
  obtain ⟨h0, h1, h2, ⟨f, h3, f3⟩, ⟨tv, kn, aw, rk, fi, ne, m, p, y, l, q, h4⟩, ⟨tv', kn', aw', rk', fi', ne', m', p', y', l', q', h5⟩⟩ := y
  have tf : ∀ {a : Nat} {tv : Value} {kn aw rk fi ne : Nat → Int32} {m p y l q : Int32}, TF h a tv kn aw rk fi ne m p y l q → TF h' a tv kn aw rk fi ne m p y l q := fun z => ⟨e.at hf z.1 (fun f q => by cases q), e.at hf z.2.1 (fun f q => by simp at q), e.at hf z.2.2.1 (fun f q => by simp at q), e.at hf z.2.2.2.1 (fun f q => by simp at q), e.at hf z.2.2.2.2.1 (fun f q => by simp at q), e.at hf z.2.2.2.2.2 (fun f q => by simp at q)⟩
  exact ⟨e.at hf h0 (fun f q => by cases q), e.at hf h1 (fun f q => by simp at q), e.at hf h2 (fun f q => by simp at q), ⟨f, e.at hf h3 (fun f q => by simp [gxq] at q), f3⟩, ⟨_, _, _, _, _, _, _, _, _, _, _, tf h4⟩, ⟨_, _, _, _, _, _, _, _, _, _, _, tf h5⟩⟩
/-- a step's talk was written -/
theorem PL.stp (y : PL h pt x rw be mo ma pe ot) {j : Nat} (hj : j < 2) (e : tE (pt + 4 + 6 * j) fa h h') (hfa : fa < pt ∨ pt + 16 ≤ fa) {ta : Nat} {s : Nat → Int32} {b : Bool} (hK : TK h' (pt + 4 + 6 * j) ta s b) : PL h' pt x rw be mo ma pe ot := by
  obtain ⟨h0, h1, h2, ⟨f, h3, f3⟩, ⟨tv, kn, aw, rk, fi, ne, m, p, y, l, q, h4⟩, ⟨tv', kn', aw', rk', fi', ne', m', p', y', l', q', h5⟩⟩ := y
  have F := hK.F0
  have ee : ∀ q, pt ≤ q → q < pt + 16 → (q < pt + 4 + 6 * j ∨ pt + 4 + 6 * j + 6 ≤ q) → h'.1 q = h.1 q := fun q a b c => e.2.1 q c (by omega)
  refine ⟨by rw [ee pt (by omega) (by omega) (by omega)]; exact h0, by rw [ee _ (by omega) (by omega) (by omega)]; exact h1, by rw [ee _ (by omega) (by omega) (by omega)]; exact h2, ⟨f, by rw [ee _ (by omega) (by omega) (by omega)]; exact h3, f3⟩, ?_, ?_⟩
  · by_cases z : j = 0
    · subst z; exact F
    · exact ⟨_, _, _, _, _, _, _, _, _, _, _, h4.fr (fun q a b => ee q (by omega) (by omega) (by omega))⟩
  · by_cases z : j = 1
    · subst z; exact F
    · exact ⟨_, _, _, _, _, _, _, _, _, _, _, h5.fr (fun q a b => ee q (by omega) (by omega) (by omega))⟩
end PLs
/-- where the talk of depth k stands -/
def plA (tk pt k : Nat) : Nat := if k = 0 then tk else pt + 4 + 6 * (k - 1)
/-- alike but for the plots' cells; the steps below k stay -/
def plE (pt k fa : Nat) (h h' : gxH) : Prop := h'.2 = h.2 ∧ (∀ q, q < pt ∨ pt + 16 ≤ q ∨ (pt + 4 ≤ q ∧ q < pt + 4 + 6 * k) → q ≠ fa → h'.1 q = h.1 q) ∧ (fcA h fa → fcA h' fa)
theorem plE.rf (pt k fa : Nat) (h : gxH) : plE pt k fa h h := ⟨rfl, fun _ _ _ => rfl, fun x => x⟩
theorem plE.tr {pt k fa : Nat} {u v z : gxH} (h : plE pt k fa u v) (g : plE pt k fa v z) : plE pt k fa u z := ⟨g.1.trans h.1, fun q hq hf => (g.2.1 q hq hf).trans (h.2.1 q hq hf), fun e => g.2.2 (h.2.2 e)⟩
theorem plE.mo {pt k k' fa : Nat} {u v : gxH} (h : plE pt k' fa u v) (hk : k ≤ k') : plE pt k fa u v := ⟨h.1, fun q hq hf => h.2.1 q (by omega) hf, h.2.2⟩
theorem plE.z {pt k fa : Nat} {u v : gxH} (h : plE pt k fa u v) : zE pt 16 fa u v := ⟨h.1, fun q hq hf => h.2.1 q (by omega) hf, h.2.2⟩
theorem fE.pl {pt k fa : Nat} {u v : gxH} (h : fE fa u v) : plE pt k fa u v := ⟨h.1, fun q _ hf => h.2.1 q hf, h.2.2⟩
theorem plE.up {pt k fa i : Nat} (h : gxH) (e : gxE) (hi : i < 4) (hf : fa < pt ∨ pt + 16 ≤ fa) : plE pt k fa h (gxup h (pt + i) e) :=
  ⟨rfl, fun q hq _ => gxup_ne (by omega), fun ⟨f, hh⟩ => ⟨f, by rw [gxup_ne (by omega)]; exact hh⟩⟩
theorem tE.pl {pt k fa : Nat} {u v : gxH} (h : tE (pt + 4 + 6 * k) fa u v) (hk : k < 2) : plE pt k fa u v := ⟨h.1, fun q hq hf => h.2.1 q (by omega) hf, h.2.2⟩
/-- what the component's search says -/
def plQ (b : Option plI) (mo ma : Int32) (be : Nat → Int32) : Prop := match b with
  | none => ma = -1
  | some i => mo = i.1 ∧ ma = nI i.2.1 ∧ i.2.1 ≤ 2 ∧ ∀ j, j < i.2.1 → be j = i.2.2 j
section MAG
variable {G : gxG} {x r tk tr gl sl bl py pt ng ft mk lo hi ta fa P S E : Nat} {gg : Int64} {A : Nat → Nat → Int32} {s : Nat → Int32} {w : Option gxEv} {b : Bool}
/-- the search at depth k, j more to be told -/
theorem c_Pgoes (dx : x < pt) (dk : tk + 6 ≤ pt ∨ pt + 16 ≤ tk) (dl : hi ≤ pt ∨ pt + 16 ≤ lo) (df : fa < pt ∨ pt + 16 ≤ fa) (hn : gxN G ≤ x) (hN : gxN G ≤ lo) (h16 : ∀ k, k < S → A 16 k = 0 ∨ A 16 k = 1) (p q n : Nat) (hp : p < P) (hq : q < P) (hn2 : n ≤ 2) : ∀ j k d h s' rw be mo ma bb, k + j = n → 96 + j ≤ d → (XS x r tk tr gl sl bl py pt ng ft mk lo hi ta fa P S E gg A s w b) h → TK h (plA tk pt k) ta s' b → PL h pt x rw be mo ma (nI p) (nI q) → plQ bb mo ma be →
    gxM G mX7_goes d 0 0 [.ref pt, .ref (plA tk pt k), .int (nI k), .int (nI n)] h (gxQv (fun h' => (XS x r tk tr gl sl bl py pt ng ft mk lo hi ta fa P S E gg A s w b) h' ∧ plE pt k fa h h' ∧ ∃ rw' be' mo' ma', PL h' pt x rw' be' mo' ma' (nI p) (nI q) ∧ (∀ i, i < k → rw' i = rw i) ∧ plQ ((plL w P S p q j (setS A s') k rw).foldl plC bb) mo' ma' be')) := by
  intro j
  induction j with
  | zero =>
    intro k d h s' rw be mo ma bb hk hd hS hK hF hb
    have : k = n := by omega
    subst this
    have npt : gxN G ≤ pt := by omega
    have nbe : gxN G ≤ pt + 2 := by omega
    refine gxM_of rfl (Nat.le_of_ble_eq_true rfl) rfl ?_
    generalize hat : plA tk pt k = a at *
    have T0 : TT h lo hi a ta fa A s' P S E w b := ⟨hS.2.1, hK, hS.2.2.2⟩
    have S1 := hS
    have F1 := hF
    obtain ⟨hpt, hrw, hbe, ⟨sf, hst, sf0, sf1⟩, hF4, hF10⟩ := id F1; have hx := S1.1
    obtain ⟨_, _, _, _, _, hat2, _⟩ := id hK
    have hat := hat2
    refine gx_iload_n (pc := 0) dX7_goes_0 rfl ?_
    refine gx_iload_n (pc := 1) dX7_goes_1 rfl ?_
    refine gx_icmp_ne (pc := 2) 68 dX7_goes_2 (by decide) (fun c1 => ?_) (fun c1 => ?_)
    · exact absurd rfl c1
    · refine gx_aload_n (pc := 5) dX7_goes_5 rfl ?_
      refine gx_aload_n (pc := 6) dX7_goes_6 rfl ?_
      refine gx_get (pc := 7) fX7_29 hpt rfl dX7_goes_7 ?_
      refine kX7_47 (kc := 0) (ks := 0) (mc := 0) (ms := 0) (pc := 10) rfl (c_Tpurse (d := d - 1) hN (by omega) T0 (nI p)) (gxRc.of rfl hat) (by omega) (Nat.le_of_ble_eq_true rfl) dX7_goes_10 (fun r1 h1 e1 => ?_)
      obtain ⟨rfl, e1⟩ := e1
      have S2 := S1.fE e1
      have F2 := F1.fE S1.2.1.2.2.1 e1
      have T1 := T0.fE e1
      have hpt := F2.1
      obtain ⟨_, _, _, _, _, hat, _⟩ := id T1.2.1
      refine gx_aload_n (pc := 13) dX7_goes_13 rfl ?_
      refine gx_aload_n (pc := 14) dX7_goes_14 rfl ?_
      refine gx_get (pc := 15) fX7_33 hpt rfl dX7_goes_15 ?_
      refine kX7_47 (kc := 0) (ks := 0) (mc := 0) (ms := 0) (pc := 18) rfl (c_Tpurse (d := d - 1) hN (by omega) T1 (nI q)) (gxRc.of rfl hat) (by omega) (Nat.le_of_ble_eq_true rfl) dX7_goes_18 (fun r1 h2 e2 => ?_)
      obtain ⟨rfl, e2⟩ := e2
      have S3 := S2.fE e2
      have F3 := F2.fE S2.2.1.2.2.1 e2
      have E3 : plE pt k fa h h2 := e1.pl.tr e2.pl
      refine gx_isub (pc := 21) dX7_goes_21 ?_
      have K42 : plQ ((plL w P S p q 0 (setS A s') k rw).foldl plC bb) ((spGap w (setS A s') P S p q)) (nI k) rw → gxV G mX7_goes d 0 0 42 [some (.ref pt), some (.ref a), some (.int (nI k)), some (.int (nI k)), some (.int ((spGap w (setS A s') P S p q))), none, none] [] h2 (gxQv (fun h' => (XS x r tk tr gl sl bl py pt ng ft mk lo hi ta fa P S E gg A s w b) h' ∧ plE pt k fa h h' ∧ ∃ rw' be' mo' ma', PL h' pt x rw' be' mo' ma' (nI p) (nI q) ∧ (∀ i, i < k → rw' i = rw i) ∧ plQ ((plL w P S p q 0 (setS A s') k rw).foldl plC bb) mo' ma' be')) := by
        intro hq2
        have hpt := F3.1
        refine gx_aload_n (pc := 42) dX7_goes_42 rfl ?_
        refine gx_iload (pc := 43) dX7_goes_43 rfl ?_
        refine gx_put (pc := 45) fX7_51 hpt npt (by first | exact Nat.le_of_ble_eq_true rfl | simp) tX7_3 rfl rfl dX7_goes_45 ?_
        have F4 := F3.ob ((spGap w (setS A s') P S p q)) ma (nI p) (nI q)
        have E4 := plE.up (pt := pt) (k := k) (fa := fa) (i := 0) h2 (.inr (6, [.ref (pt + 1), .ref (pt + 2), .ref (pt + 3), .int ((spGap w (setS A s') P S p q)), .int ma, .int (nI p), .int (nI q), .ref x])) (by decide) df
        change plE pt k fa h2 (gxup h2 pt _) at E4
        have S4 := S3.zE E4.z (Or.inl dx) dk dl
        change gxV _ _ _ _ _ _ _ _ (gxup h2 pt (.inr (6, [.ref (pt + 1), .ref (pt + 2), .ref (pt + 3), .int ((spGap w (setS A s') P S p q)), .int ma, .int (nI p), .int (nI q), .ref x]))) _
        generalize gxup h2 pt (.inr (6, [.ref (pt + 1), .ref (pt + 2), .ref (pt + 3), .int ((spGap w (setS A s') P S p q)), .int ma, .int (nI p), .int (nI q), .ref x])) = h4 at *
        have hpt := F4.1
        refine gx_aload_n (pc := 48) dX7_goes_48 rfl ?_
        refine gx_iload_n (pc := 49) dX7_goes_49 rfl ?_
        refine gx_put (pc := 50) fX7_36 hpt npt (by first | exact Nat.le_of_ble_eq_true rfl | simp) tX7_4 rfl rfl dX7_goes_50 ?_
        have F5 := F4.ob ((spGap w (setS A s') P S p q)) (nI k) (nI p) (nI q)
        have E5 := plE.up (pt := pt) (k := k) (fa := fa) (i := 0) h4 (.inr (6, [.ref (pt + 1), .ref (pt + 2), .ref (pt + 3), .int ((spGap w (setS A s') P S p q)), .int (nI k), .int (nI p), .int (nI q), .ref x])) (by decide) df
        change plE pt k fa h4 (gxup h4 pt _) at E5
        have S5 := S4.zE E5.z (Or.inl dx) dk dl
        change gxV _ _ _ _ _ _ _ _ (gxup h4 pt (.inr (6, [.ref (pt + 1), .ref (pt + 2), .ref (pt + 3), .int ((spGap w (setS A s') P S p q)), .int (nI k), .int (nI p), .int (nI q), .ref x]))) _
        generalize gxup h4 pt (.inr (6, [.ref (pt + 1), .ref (pt + 2), .ref (pt + 3), .int ((spGap w (setS A s') P S p q)), .int (nI k), .int (nI p), .int (nI q), .ref x])) = h5 at *
        have hpt := F5.1
        refine gx_aload_n (pc := 53) dX7_goes_53 rfl ?_
        refine gx_get (pc := 54) fX7_15 hpt rfl dX7_goes_54 ?_
        refine gx_iconst (pc := 57) (v := 0) dX7_goes_57 (by decide) ?_
        refine gx_aload_n (pc := 58) dX7_goes_58 rfl ?_
        refine gx_get (pc := 59) fX7_19 hpt rfl dX7_goes_59 ?_
        refine gx_iconst (pc := 62) (v := 0) dX7_goes_62 (by decide) ?_
        refine gx_iconst (pc := 63) (v := 2) dX7_goes_63 (by decide) ?_
        refine cIX7_54 (pc := 64) (sp := 0) (dp := 0) (n := 2) rfl F5.2.1 F5.2.2.1 nbe (by omega) (by omega) (by decide) (by decide) (by omega) (Nat.le_of_ble_eq_true rfl) dX7_goes_64 ?_
        have F6 := F5.ube (va_cpy rw be 0 0 2)
        have E6 := plE.up (pt := pt) (k := k) (fa := fa) (i := 2) h5 (.inl (0, 2, .inl (va_cpy rw be 0 0 2))) (by decide) df
        have S6 := S5.zE E6.z (Or.inl dx) dk dl
        generalize gxup h5 (pt + 2) (.inl (0, 2, .inl (va_cpy rw be 0 0 2))) = h6 at *
        have hq3 : plQ ((plL w P S p q 0 (setS A s') k rw).foldl plC bb) ((spGap w (setS A s') P S p q)) (nI k) (va_cpy rw be 0 0 2) := by
          revert hq2
          generalize (plL w P S p q 0 (setS A s') k rw).foldl plC bb = b2
          intro hq2
          cases b2 with
          | none => exact hq2
          | some i =>
            refine ⟨hq2.1, hq2.2.1, hq2.2.2.1, fun z hz => ?_⟩
            have := hq2.2.2.1
            rw [pk_cpy_in (by omega) (by omega), Nat.zero_add, Nat.sub_zero]
            exact hq2.2.2.2 z hz
        exact gx_return (pc := 67) rfl dX7_goes_67 (⟨rfl, ⟨S6, ((E3.tr E4).tr E5).tr E6, _, _, _, _, F6, fun _ _ => rfl, hq3⟩⟩)
      have hpt := F3.1
      refine gx_istore (pc := 22) dX7_goes_22 (by decide) rfl ?_
      refine gx_aload_n (pc := 24) dX7_goes_24 rfl ?_
      refine gx_get (pc := 25) fX7_36 hpt rfl dX7_goes_25 ?_
      refine gx_iconst (pc := 28) (v := (-1)) dX7_goes_28 (by decide) ?_
      change gxV _ _ _ _ _ _ [some (.ref pt), some (.ref a), some (.int (nI k)), some (.int (nI k)), some (.int ((spGap w (setS A s') P S p q))), none, none] _ _ _
      have fo : (plL w P S p q 0 (setS A s') k rw).foldl plC bb = plC bb ((spGap w (setS A s') P S p q), k, nrm k rw) := rfl
      have new : plQ (some ((spGap w (setS A s') P S p q), k, nrm k rw)) ((spGap w (setS A s') P S p q)) (nI k) rw := ⟨rfl, rfl, by omega, fun _ hz => (nrm_lt hz).symm⟩
      refine gx_icmp_eq (pc := 29) 42 dX7_goes_29 (by decide) (fun c2 => ?_) (fun c2 => ?_)
      · have c2' : ma = -1 := c2
        refine K42 ?_
        rw [fo]
        cases bb with
        | none => exact new
        | some i =>
          have := hb.2.1
          rw [c2'] at this
          have z := nI_pos (n := i.2.1) (by have := hb.2.2.1; omega)
          rw [← this] at z
          exact absurd (by decide) z
      · have c2' : ¬ ma = -1 := c2
        refine gx_iload (pc := 32) dX7_goes_32 rfl ?_
        refine gx_aload_n (pc := 34) dX7_goes_34 rfl ?_
        refine gx_get (pc := 35) fX7_51 hpt rfl dX7_goes_35 ?_
        cases bb with
        | none => exact absurd hb c2'
        | some i =>
          have f2 : plC (some i) ((spGap w (setS A s') P S p q), k, nrm k rw) = if i.1 < (spGap w (setS A s') P S p q) then some ((spGap w (setS A s') P S p q), k, nrm k rw) else some i := rfl
          refine gx_icmp_gt (pc := 38) 42 dX7_goes_38 (by decide) (fun c3 => ?_) (fun c3 => ?_)
          · refine K42 ?_
            rw [fo, f2, if_pos (by rw [← hb.1]; exact c3)]
            exact new
          · exact gx_return (pc := 41) rfl dX7_goes_41 (⟨rfl, ⟨S3, E3, _, _, _, _, F3, fun _ _ => rfl, by rw [fo, f2, if_neg (by rw [← hb.1]; exact c3)]; exact hb⟩⟩)
  | succ j IH =>
    intro k d h s' rw be mo ma bb hk hd hS hK hF hb
    have nrw : gxN G ≤ pt + 1 := by omega
    have hP6 := hS.2.2.2.2.1
    have hS10 := hS.2.2.2.2.2.2.1
    refine gxM_of rfl (Nat.le_of_ble_eq_true rfl) rfl ?_
    have pl1 : plL w P S p q (j + 1) (setS A s') k rw = ((List.range P).flatMap fun to => ((List.range S).filter fun k => decide (to ≠ p) && spCan (setS A s') p to k).map fun k => (to, k)).flatMap (fun v : Nat × Nat => plL w P S p q j (setS A (spTell (setS A s') p v.1 v.2)) (k + 1) (upd rw k (nI (10 * v.1 + v.2)))) := by
      rw [plL, plV]
      congr 1
      funext v
      rw [setS_setS]
    generalize hat0 : plA tk pt k = a at *
    have da6 : a + 6 ≤ pt ∨ pt + 16 ≤ a ∨ a + 6 ≤ pt + 4 + 6 * k ∧ pt + 4 ≤ a := by
      rw [← hat0]; unfold plA
      split
      · omega
      · omega
    have hKfr : ∀ h1, plE pt k fa h h1 → TK h1 a ta s' b := by
      intro h1 e
      obtain ⟨kn, aw, rk, fi, ne, g0, g1, g2, g3, g4, g5, rr⟩ := hK
      obtain ⟨ff, hff⟩ := hS.2.1.2.2.1
      have at' : ∀ z (e0 : gxE), a ≤ z → z < a + 6 → h.1 z = some e0 → (∀ f, e0 ≠ .inl (0, 4, .inl f)) → h1.1 z = some e0 := by
        intro z e0 z1 z2 z3 z4
        rw [e.2.1 z (by omega) (fun y => by rw [y, hff] at z3; exact z4 ff (Option.some.inj z3).symm)]
        exact z3
      exact ⟨kn, aw, rk, fi, ne, at' _ _ (by omega) (by omega) g0 (fun f q => by cases q), at' _ _ (by omega) (by omega) g1 (fun f q => by simp at q), at' _ _ (by omega) (by omega) g2 (fun f q => by simp at q), at' _ _ (by omega) (by omega) g3 (fun f q => by simp at q), at' _ _ (by omega) (by omega) g4 (fun f q => by simp at q), at' _ _ (by omega) (by omega) g5 (fun f q => by simp at q), rr⟩
    have LT : ∀ m to h1 rw1 be1 mo1 ma1 v5 v6, m + to = P → (XS x r tk tr gl sl bl py pt ng ft mk lo hi ta fa P S E gg A s w b) h1 → plE pt k fa h h1 → PL h1 pt x rw1 be1 mo1 ma1 (nI p) (nI q) → (∀ i, i < k → rw1 i = rw i) → plQ ((((List.range to).flatMap fun to => ((List.range S).filter fun k => decide (to ≠ p) && spCan (setS A s') p to k).map fun k => (to, k)).flatMap (fun v : Nat × Nat => plL w P S p q j (setS A (spTell (setS A s') p v.1 v.2)) (k + 1) (upd rw k (nI (10 * v.1 + v.2))))).foldl plC bb) mo1 ma1 be1 → gxV G mX7_goes d 0 0 71 [some (.ref pt), some (.ref a), some (.int (nI k)), some (.int (nI n)), some (.int (nI to)), v5, v6] [] h1 (gxQv (fun h' => (XS x r tk tr gl sl bl py pt ng ft mk lo hi ta fa P S E gg A s w b) h' ∧ plE pt k fa h h' ∧ ∃ rw' be' mo' ma', PL h' pt x rw' be' mo' ma' (nI p) (nI q) ∧ (∀ i, i < k → rw' i = rw i) ∧ plQ ((plL w P S p q (j + 1) (setS A s') k rw).foldl plC bb) mo' ma' be')) := by
      intro m
      induction m with
      | zero =>
        intro to h1 rw1 be1 mo1 ma1 v5 v6 hto S1 E1 F1 R1 Q1
        have : P = to := by omega
        subst this
        obtain ⟨hpt, hrw, hbe, ⟨sf, hst, sf0, sf1⟩, hF4, hF10⟩ := id F1; have hx := S1.1
        refine gx_iload (pc := 71) dX7_goes_71 rfl ?_
        refine gx_aload_n (pc := 73) dX7_goes_73 rfl ?_
        refine gx_get (pc := 74) fX7_3 hpt rfl dX7_goes_74 ?_
        refine kX7_60 (kc := 0) (ks := 0) (mc := 0) (ms := 0) (pc := 77) rfl (c_people (d := d - 1) (by omega) S1.1.O S1.2) (gxRc.of rfl hx) (by omega) (Nat.le_of_ble_eq_true rfl) dX7_goes_77 (fun r1 h2 e1 => ?_)
        obtain ⟨rfl, e1⟩ := e1
        subst h2
        refine gx_icmp_ge (pc := 80) 177 dX7_goes_80 (by decide) (fun c1 => ?_) (fun c1 => ?_)
        · exact gx_return (pc := 177) rfl dX7_goes_177 (⟨rfl, ⟨S1, E1, _, _, _, _, F1, R1, by rw [pl1]; exact Q1⟩⟩)
        · exact absurd (nI_le (by omega) (by omega)) c1
      | succ m ih =>
        intro to h1 rw1 be1 mo1 ma1 v5 v6 hto S1 E1 F1 R1 Q1
        generalize hb1 : ((((List.range to).flatMap fun to => ((List.range S).filter fun k => decide (to ≠ p) && spCan (setS A s') p to k).map fun k => (to, k)).flatMap (fun v : Nat × Nat => plL w P S p q j (setS A (spTell (setS A s') p v.1 v.2)) (k + 1) (upd rw k (nI (10 * v.1 + v.2))))).foldl plC bb) = b1 at *
        have LK : ∀ m2 c h1 rw1 be1 mo1 ma1 v6, m2 + c = S → (XS x r tk tr gl sl bl py pt ng ft mk lo hi ta fa P S E gg A s w b) h1 → plE pt k fa h h1 → PL h1 pt x rw1 be1 mo1 ma1 (nI p) (nI q) → (∀ i, i < k → rw1 i = rw i) → plQ (((((List.range c).filter fun k => decide (to ≠ p) && spCan (setS A s') p to k).map fun k => (to, k)).flatMap (fun v : Nat × Nat => plL w P S p q j (setS A (spTell (setS A s') p v.1 v.2)) (k + 1) (upd rw k (nI (10 * v.1 + v.2))))).foldl plC b1) mo1 ma1 be1 → gxV G mX7_goes d 0 0 86 [some (.ref pt), some (.ref a), some (.int (nI k)), some (.int (nI n)), some (.int (nI to)), some (.int (nI c)), v6] [] h1 (gxQv (fun h' => (XS x r tk tr gl sl bl py pt ng ft mk lo hi ta fa P S E gg A s w b) h' ∧ plE pt k fa h h' ∧ ∃ rw' be' mo' ma', PL h' pt x rw' be' mo' ma' (nI p) (nI q) ∧ (∀ i, i < k → rw' i = rw i) ∧ plQ ((plL w P S p q (j + 1) (setS A s') k rw).foldl plC bb) mo' ma' be')) := by
          intro m2
          induction m2 with
          | zero =>
            intro c h1 rw1 be1 mo1 ma1 v6 hc S1 E1 F1 R1 Q1
            have : S = c := by omega
            subst this
            obtain ⟨hpt, hrw, hbe, ⟨sf, hst, sf0, sf1⟩, hF4, hF10⟩ := id F1; have hx := S1.1
            refine gx_iload (pc := 86) dX7_goes_86 rfl ?_
            refine gx_aload_n (pc := 88) dX7_goes_88 rfl ?_
            refine gx_get (pc := 89) fX7_3 hpt rfl dX7_goes_89 ?_
            refine kX7_64 (kc := 0) (ks := 0) (mc := 0) (ms := 0) (pc := 92) rfl (c_secrets (d := d - 1) (by omega) S1.1.O S1.2) (gxRc.of rfl hx) (by omega) (Nat.le_of_ble_eq_true rfl) dX7_goes_92 (fun r1 h2 e1 => ?_)
            obtain ⟨rfl, e1⟩ := e1
            subst h2
            refine gx_icmp_ge (pc := 95) 171 dX7_goes_95 (by decide) (fun c1 => ?_) (fun c1 => ?_)
            · refine gx_iincc (pc := 171) (c := 1) dX7_goes_171 rfl (by decide) (by decide) rfl ?_
              refine gx_goto (pc := 174) 71 dX7_goes_174 (by decide) ?_
              rw [nI_1]
              refine ih (to + 1) h1 rw1 be1 mo1 ma1 _ _ (by omega) S1 E1 F1 R1 ?_
              rw [List.range_succ, List.flatMap_append, List.flatMap_append, List.foldl_append, hb1]
              simpa using Q1
            · exact absurd (nI_le (by omega) (by omega)) c1
          | succ m2 ih2 =>
            intro c h1 rw1 be1 mo1 ma1 v6 hc S1 E1 F1 R1 Q1
            obtain ⟨hpt, hrw, hbe, ⟨sf, hst, sf0, sf1⟩, hF4, hF10⟩ := id F1; have hx := S1.1
            have hK1 := hKfr h1 E1
            have T1 : TT h1 lo hi a ta fa A s' P S E w b := ⟨S1.2.1, hK1, S1.2.2.2⟩
            obtain ⟨_, _, _, _, _, hat, _⟩ := id hK1
            have K165 : ∀ h2 rw2 be2 mo2 ma2 v6, (XS x r tk tr gl sl bl py pt ng ft mk lo hi ta fa P S E gg A s w b) h2 → plE pt k fa h h2 → PL h2 pt x rw2 be2 mo2 ma2 (nI p) (nI q) → (∀ i, i < k → rw2 i = rw i) → plQ (((((List.range (c + 1)).filter fun k => decide (to ≠ p) && spCan (setS A s') p to k).map fun k => (to, k)).flatMap (fun v : Nat × Nat => plL w P S p q j (setS A (spTell (setS A s') p v.1 v.2)) (k + 1) (upd rw k (nI (10 * v.1 + v.2))))).foldl plC b1) mo2 ma2 be2 → gxV G mX7_goes d 0 0 165 [some (.ref pt), some (.ref a), some (.int (nI k)), some (.int (nI n)), some (.int (nI to)), some (.int (nI c)), v6] [] h2 (gxQv (fun h' => (XS x r tk tr gl sl bl py pt ng ft mk lo hi ta fa P S E gg A s w b) h' ∧ plE pt k fa h h' ∧ ∃ rw' be' mo' ma', PL h' pt x rw' be' mo' ma' (nI p) (nI q) ∧ (∀ i, i < k → rw' i = rw i) ∧ plQ ((plL w P S p q (j + 1) (setS A s') k rw).foldl plC bb) mo' ma' be')) := by
              intro h2 rw2 be2 mo2 ma2 v6 S2 E2 F2 R2 Q2
              refine gx_iincc (pc := 165) (c := 1) dX7_goes_165 rfl (by decide) (by decide) rfl ?_
              refine gx_goto (pc := 168) 86 dX7_goes_168 (by decide) ?_
              rw [nI_1]
              exact ih2 (c + 1) h2 rw2 be2 mo2 ma2 v6 (by omega) S2 E2 F2 R2 Q2
            refine gx_iload (pc := 86) dX7_goes_86 rfl ?_
            refine gx_aload_n (pc := 88) dX7_goes_88 rfl ?_
            refine gx_get (pc := 89) fX7_3 hpt rfl dX7_goes_89 ?_
            refine kX7_64 (kc := 0) (ks := 0) (mc := 0) (ms := 0) (pc := 92) rfl (c_secrets (d := d - 1) (by omega) S1.1.O S1.2) (gxRc.of rfl hx) (by omega) (Nat.le_of_ble_eq_true rfl) dX7_goes_92 (fun r1 h2 e1 => ?_)
            obtain ⟨rfl, e1⟩ := e1
            subst h2
            refine gx_icmp_ge (pc := 95) 171 dX7_goes_95 (by decide) (fun c1 => ?_) (fun c1 => ?_)
            · exact absurd c1 (nI_ge (by omega) (by omega))
            · refine gx_aload_n (pc := 98) dX7_goes_98 rfl ?_
              refine gx_aload_n (pc := 99) dX7_goes_99 rfl ?_
              refine gx_get (pc := 100) fX7_29 hpt rfl dX7_goes_100 ?_
              refine gx_iload (pc := 103) dX7_goes_103 rfl ?_
              refine gx_iload (pc := 105) dX7_goes_105 rfl ?_
              refine kX7_67 (kc := 0) (ks := 0) (mc := 0) (ms := 0) (pc := 107) rfl (c_mayTell (d := d - 1) (by omega) T1 p to c hp (by omega) (by omega)) (gxRc.of rfl hat) (by omega) (Nat.le_of_ble_eq_true rfl) dX7_goes_107 (fun r1 h2 e1 => ?_)
              obtain ⟨rfl, e1⟩ := e1
              subst h2
              rw [show (!decide (p = to)) = decide (to ≠ p) by by_cases e : p = to <;> simp [e, eq_comm]]
              refine gx_if_ne (pc := 110) 116 dX7_goes_110 (by decide) (fun c2 => ?_) (fun c2 => ?_)
              · have z := zi_ne0 c2
                have zp := z
                rw [Bool.and_eq_true, decide_eq_true_eq] at z
                have fl : (List.range (c + 1)).filter (fun k => decide (to ≠ p) && spCan (setS A s') p to k) = (List.range c).filter (fun k => decide (to ≠ p) && spCan (setS A s') p to k) ++ [c] := by
                  rw [List.range_succ, List.filter_append, List.filter_cons, if_pos zp]
                  rfl
                have dst : a + 6 ≤ pt + 4 + 6 * k ∨ pt + 4 + 6 * k + 6 ≤ a := by omega
                have hF : ∃ tv kn aw rk fi ne m p y l q, TF h1 (pt + 4 + 6 * k) tv kn aw rk fi ne m p y l q := by
                  have : k = 0 ∨ k = 1 := by omega
                  rcases this with e | e <;> subst e
                  · exact hF4
                  · exact hF10
                obtain ⟨tv, kn', aw', rk', fi', ne', m0, p0, y0, l0, q0, hTF⟩ := hF
                have hnx := hTF.1
                have sfk : sf k = some (pt + 4 + 6 * k) := by
                  have : k = 0 ∨ k = 1 := by omega
                  rcases this with e | e <;> subst e
                  · exact sf0
                  · exact sf1
                refine gx_aload_n (pc := 116) dX7_goes_116 rfl ?_
                refine gx_get (pc := 117) fX7_25 hpt rfl dX7_goes_117 ?_
                refine gx_iload_n (pc := 120) dX7_goes_120 rfl ?_
                refine gx_aald (pc := 121) (k) hst (fun _ => rfl) (by first | rfl | simp only [gx_lit, nI_add, pk_mul]) (by omega) (by decide) dX7_goes_121 ?_
                rw [sfk]
                change gxV _ _ _ _ _ _ _ (.ref (pt + 4 + 6 * k) :: _) _ _
                refine gx_aload_n (pc := 122) dX7_goes_122 rfl ?_
                refine kX7_71 (kc := 0) (ks := 0) (mc := 0) (ms := 0) (pc := 123) rfl (c_Xcopies (d := d - 1) (by omega) (by omega) (Or.symm dst) hK1 hTF) (gxRc.of rfl hnx) (by omega) (Nat.le_of_ble_eq_true rfl) dX7_goes_123 (fun r1 h2 e1 => ?_)
                obtain ⟨e0, hK2, hK2a, e1⟩ := e1
                subst r1
                have E2 : tE (pt + 4 + 6 * k) fa h1 h2 := e1.tE (by omega)
                have S2 := S1.zE (E2.pl (by omega)).z (Or.inl dx) dk dl
                have F2 := F1.stp (j := k) (by omega) E2 df hK2
                have T2 : TT h2 lo hi (pt + 4 + 6 * k) ta fa A s' P S E w b := ⟨S2.2.1, hK2, S2.2.2.2⟩
                have hpt := F2.1
                obtain ⟨_, _, _, _, _, hnx, _⟩ := id hK2
                refine gx_astore (pc := 126) dX7_goes_126 (by decide) rfl ?_
                refine gx_aload (pc := 128) dX7_goes_128 rfl ?_
                refine gx_aload_n (pc := 130) dX7_goes_130 rfl ?_
                refine gx_get (pc := 131) fX7_29 hpt rfl dX7_goes_131 ?_
                refine gx_iload (pc := 134) dX7_goes_134 rfl ?_
                refine gx_iload (pc := 136) dX7_goes_136 rfl ?_
                refine kX7_75 (kc := 0) (ks := 0) (mc := 0) (ms := 0) (pc := 138) rfl (c_Xtells (d := d - 1) (by omega) (by omega) (by omega) (by omega) T2 p to c hp (by omega) (by omega) (Ne.symm z.1) (h16 c (by omega))) (gxRc.of rfl hnx) (by omega) (Nat.le_of_ble_eq_true rfl) dX7_goes_138 (fun h3 e2 => ?_)
                obtain ⟨hK3, E3⟩ := e2
                have S3 := S2.zE (E3.pl (by omega)).z (Or.inl dx) dk dl
                have F3 := F2.stp (j := k) (by omega) E3 df hK3
                have hpt := F3.1
                have hrw := F3.2.1
                refine gx_aload_n (pc := 141) dX7_goes_141 rfl ?_
                refine gx_get (pc := 142) fX7_15 hpt rfl dX7_goes_142 ?_
                refine gx_iload_n (pc := 145) dX7_goes_145 rfl ?_
                refine gx_bipush (pc := 146) (v := 10) dX7_goes_146 (by decide) ?_
                refine gx_iload (pc := 148) dX7_goes_148 rfl ?_
                refine gx_imul (pc := 150) dX7_goes_150 ?_
                refine gx_iload (pc := 151) dX7_goes_151 rfl ?_
                refine gx_iadd (pc := 153) dX7_goes_153 ?_
                rw [show (10 : Int32) * nI to + nI c = nI (10 * to + c) by rw [show (10 : Int32) = nI 10 from rfl, pk_mul, nI_add]]
                refine gx_iast (pc := 154) (k) hrw nrw (by first | rfl | simp only [gx_lit, nI_add, pk_mul]) (by omega) (by decide) dX7_goes_154 ?_
                have F4 := F3.urw (upd rw1 k (nI (10 * to + c)))
                have E4 := plE.up (pt := pt) (k := k) (fa := fa) (i := 1) h3 (.inl (0, 2, .inl (upd rw1 k (nI (10 * to + c))))) (by decide) df
                have S4 := S3.zE E4.z (Or.inl dx) dk dl
                have hK4 := hK3.fr (h' := gxup h3 (pt + 1) (.inl (0, 2, .inl (upd rw1 k (nI (10 * to + c)))))) (fun q _ _ => gxup_ne (by omega))
                generalize gxup h3 (pt + 1) (.inl (0, 2, .inl (upd rw1 k (nI (10 * to + c))))) = h4 at *
                have eA : plA tk pt (k + 1) = pt + 4 + 6 * k := by unfold plA; rw [if_neg (by omega)]; omega
                have ihc := IH (k + 1) (d - 1) h4 (spTell (setS A s') p to c) (upd rw1 k (nI (10 * to + c))) be1 mo1 ma1 (((((List.range c).filter fun k => decide (to ≠ p) && spCan (setS A s') p to k).map fun k => (to, k)).flatMap (fun v : Nat × Nat => plL w P S p q j (setS A (spTell (setS A s') p v.1 v.2)) (k + 1) (upd rw k (nI (10 * v.1 + v.2))))).foldl plC b1) (by omega) (by omega) S4 (by rw [eA]; exact hK4) F4 Q1
                rw [eA] at ihc
                have hpt := F4.1
                refine gx_aload_n (pc := 155) dX7_goes_155 rfl ?_
                refine gx_aload (pc := 156) dX7_goes_156 rfl ?_
                refine gx_iload_n (pc := 158) dX7_goes_158 rfl ?_
                refine gx_iconst (pc := 159) (v := 1) dX7_goes_159 (by decide) ?_
                refine gx_iadd (pc := 160) dX7_goes_160 ?_
                rw [nI_1]
                refine gx_iload_n (pc := 161) dX7_goes_161 rfl ?_
                refine kX7_43 (kc := 0) (ks := 0) (mc := 0) (ms := 0) (pc := 162) rfl (ihc) (gxRc.of rfl hpt) (by omega) (Nat.le_of_ble_eq_true rfl) dX7_goes_162 (fun h5 e5 => ?_)
                obtain ⟨S5, E5, rw5, be5, mo5, ma5, F5, R5, Q5⟩ := e5
                refine K165 h5 rw5 be5 mo5 ma5 _ S5 ((((E1.tr (E2.pl (by omega))).tr (E3.pl (by omega))).tr E4).tr (E5.mo (by omega))) F5 (fun i hi => ?_) ?_
                · rw [R5 i (by omega)]
                  simp only [upd]
                  rw [if_neg (by omega)]
                  exact R1 i hi
                · rw [fl, List.map_append, List.flatMap_append, List.foldl_append]
                  have ag := plL_cg w P S p q j (setS A (spTell (setS A s') p to c)) (k + 1) (upd rw1 k (nI (10 * to + c))) (upd rw k (nI (10 * to + c))) (fun i hi => by
                    simp only [upd]
                    split
                    · rfl
                    · exact R1 i (by omega))
                  rw [ag] at Q5
                  simpa using Q5
              · have z := zi_eq0 c2
                have fl : (List.range (c + 1)).filter (fun k => decide (to ≠ p) && spCan (setS A s') p to k) = (List.range c).filter (fun k => decide (to ≠ p) && spCan (setS A s') p to k) := by
                  rw [List.range_succ, List.filter_append, List.filter_cons, if_neg (by rw [z]; decide)]
                  simp
                refine gx_goto (pc := 113) 165 dX7_goes_113 (by decide) ?_
                exact K165 h1 rw1 be1 mo1 ma1 _ S1 E1 F1 R1 (by rw [fl]; exact Q1)
        obtain ⟨hpt, hrw, hbe, ⟨sf, hst, sf0, sf1⟩, hF4, hF10⟩ := id F1; have hx := S1.1
        refine gx_iload (pc := 71) dX7_goes_71 rfl ?_
        refine gx_aload_n (pc := 73) dX7_goes_73 rfl ?_
        refine gx_get (pc := 74) fX7_3 hpt rfl dX7_goes_74 ?_
        refine kX7_60 (kc := 0) (ks := 0) (mc := 0) (ms := 0) (pc := 77) rfl (c_people (d := d - 1) (by omega) S1.1.O S1.2) (gxRc.of rfl hx) (by omega) (Nat.le_of_ble_eq_true rfl) dX7_goes_77 (fun r1 h2 e1 => ?_)
        obtain ⟨rfl, e1⟩ := e1
        subst h2
        refine gx_icmp_ge (pc := 80) 177 dX7_goes_80 (by decide) (fun c1 => ?_) (fun c1 => ?_)
        · exact absurd c1 (nI_ge (by omega) (by omega))
        · refine gx_iconst (pc := 83) (v := 0) dX7_goes_83 (by decide) ?_
          refine gx_istore (pc := 84) dX7_goes_84 (by decide) rfl ?_
          exact LK S 0 h1 rw1 be1 mo1 ma1 _ (by omega) S1 E1 F1 R1 Q1
    refine gx_iload_n (pc := 0) dX7_goes_0 rfl ?_
    refine gx_iload_n (pc := 1) dX7_goes_1 rfl ?_
    refine gx_icmp_ne (pc := 2) 68 dX7_goes_2 (by decide) (fun c1 => ?_) (fun c1 => ?_)
    · refine gx_iconst (pc := 68) (v := 0) dX7_goes_68 (by decide) ?_
      refine gx_istore (pc := 69) dX7_goes_69 (by decide) rfl ?_
      exact LT P 0 h rw be mo ma _ _ (by omega) hS (plE.rf _ _ _ _) hF (fun _ _ => rfl) hb
    · have c1' : nI k = nI n := c1
      exact absurd ((nI_eq (by omega) (by omega)).mp c1') (by omega)
end MAG
