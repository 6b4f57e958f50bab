/-! ===== COMPONENT H: may pay, talk written ===== -/
set_option maxRecDepth 100000
/-- the six cells of a talk -/
def TF (h : gxH) (a : Nat) (tv : Value) (kn aw rk fi ne : Nat → Int32) (m p y l q : Int32) : Prop :=
  h.1 a = some (.inr (2, [tv, .ref (a + 1), .ref (a + 2), .ref (a + 3), .ref (a + 4), .ref (a + 5), .int m, .int p, .int y, .int l, .int q])) ∧
  h.1 (a + 1) = some (.inl (0, 10, .inl kn)) ∧ h.1 (a + 2) = some (.inl (0, 36, .inl aw)) ∧ h.1 (a + 3) = some (.inl (0, 6, .inl rk)) ∧ h.1 (a + 4) = some (.inl (0, 6, .inl fi)) ∧ h.1 (a + 5) = some (.inl (0, 6, .inl ne))
/-- alike but for a talk and the facts -/
def tE (a fa : Nat) (h h' : gxH) : Prop := h'.2 = h.2 ∧ (∀ q, q < a ∨ a + 6 ≤ q → q ≠ fa → h'.1 q = h.1 q) ∧ (fcA h fa → fcA h' fa)
theorem tE.rf (a fa : Nat) (h : gxH) : tE a fa h h := ⟨rfl, fun _ _ _ => rfl, fun x => x⟩
theorem tE.tr {a fa : Nat} {x y z : gxH} (h : tE a fa x y) (k : tE a fa y z) : tE a fa x z := ⟨k.1.trans h.1, fun q hq hf => (k.2.1 q hq hf).trans (h.2.1 q hq hf), fun e => k.2.2 (h.2.2 e)⟩
theorem fE.t {a fa : Nat} {x y : gxH} (h : fE fa x y) : tE a fa x y := ⟨h.1, fun q _ hf => h.2.1 q hf, h.2.2⟩
theorem tE.up {a fa i : Nat} (h : gxH) (e : gxE) (hi : i < 6) (hf : fa < a ∨ a + 6 ≤ fa) : tE a fa h (gxup h (a + i) e) :=
  ⟨rfl, fun q hq _ => gxup_ne (by omega), fun ⟨f, hh⟩ => ⟨f, by rw [gxup_ne (by omega)]; exact hh⟩⟩
theorem TW.tE {h h' : gxH} {lo hi a ta fa P S E : Nat} {A : Nat → Nat → Int32} {w : Option gxEv} (x : TW h lo hi ta fa A P S E w) (e : tE a fa h h') (dj : a + 6 ≤ lo ∨ hi ≤ a) : TW h' lo hi ta fa A P S E w :=
  x.fr (fun q h1 h2 hq => e.2.1 q (by omega) hq) (e.2.2 x.2.2.1)
section TFs
variable {h : gxH} {a : Nat} {tv : Value} {kn aw rk fi ne : Nat → Int32} {m p y l q : Int32}
theorem TF.ob (x : TF h a tv kn aw rk fi ne m p y l q) (tv' : Value) (m' p' y' l' q' : Int32) : TF (gxup h a (.inr (2, [tv', .ref (a + 1), .ref (a + 2), .ref (a + 3), .ref (a + 4), .ref (a + 5), .int m', .int p', .int y', .int l', .int q']))) a tv' kn aw rk fi ne m' p' y' l' q' := by
  obtain ⟨h0, h1, h2, h3, h4, h5⟩ := x
  exact ⟨gxup_self _ _ _, by rw [gxup_ne (by omega)]; exact h1, by rw [gxup_ne (by omega)]; exact h2, by rw [gxup_ne (by omega)]; exact h3, by rw [gxup_ne (by omega)]; exact h4, by rw [gxup_ne (by omega)]; exact h5⟩
theorem TF.ukn (x : TF h a tv kn aw rk fi ne m p y l q) (f : Nat → Int32) : TF (gxup h (a + 1) (.inl (0, 10, .inl f))) a tv f aw rk fi ne m p y l q := by
  obtain ⟨h0, h1, h2, h3, h4, h5⟩ := x
  exact ⟨by rw [gxup_ne (by omega)]; exact h0, gxup_self _ _ _, by rw [gxup_ne (by omega)]; exact h2, by rw [gxup_ne (by omega)]; exact h3, by rw [gxup_ne (by omega)]; exact h4, by rw [gxup_ne (by omega)]; exact h5⟩
theorem TF.uaw (x : TF h a tv kn aw rk fi ne m p y l q) (f : Nat → Int32) : TF (gxup h (a + 2) (.inl (0, 36, .inl f))) a tv kn f rk fi ne m p y l q := by
  obtain ⟨h0, h1, h2, h3, h4, h5⟩ := x
  exact ⟨by rw [gxup_ne (by omega)]; exact h0, by rw [gxup_ne (by omega)]; exact h1, gxup_self _ _ _, by rw [gxup_ne (by omega)]; exact h3, by rw [gxup_ne (by omega)]; exact h4, by rw [gxup_ne (by omega)]; exact h5⟩
theorem TF.urk (x : TF h a tv kn aw rk fi ne m p y l q) (f : Nat → Int32) : TF (gxup h (a + 3) (.inl (0, 6, .inl f))) a tv kn aw f fi ne m p y l q := by
  obtain ⟨h0, h1, h2, h3, h4, h5⟩ := x
  exact ⟨by rw [gxup_ne (by omega)]; exact h0, by rw [gxup_ne (by omega)]; exact h1, by rw [gxup_ne (by omega)]; exact h2, gxup_self _ _ _, by rw [gxup_ne (by omega)]; exact h4, by rw [gxup_ne (by omega)]; exact h5⟩
theorem TF.ufi (x : TF h a tv kn aw rk fi ne m p y l q) (f : Nat → Int32) : TF (gxup h (a + 4) (.inl (0, 6, .inl f))) a tv kn aw rk f ne m p y l q := by
  obtain ⟨h0, h1, h2, h3, h4, h5⟩ := x
  exact ⟨by rw [gxup_ne (by omega)]; exact h0, by rw [gxup_ne (by omega)]; exact h1, by rw [gxup_ne (by omega)]; exact h2, by rw [gxup_ne (by omega)]; exact h3, gxup_self _ _ _, by rw [gxup_ne (by omega)]; exact h5⟩
theorem TF.une (x : TF h a tv kn aw rk fi ne m p y l q) (f : Nat → Int32) : TF (gxup h (a + 5) (.inl (0, 6, .inl f))) a tv kn aw rk fi f m p y l q := by
  obtain ⟨h0, h1, h2, h3, h4, h5⟩ := x
  exact ⟨by rw [gxup_ne (by omega)]; exact h0, by rw [gxup_ne (by omega)]; exact h1, by rw [gxup_ne (by omega)]; exact h2, by rw [gxup_ne (by omega)]; exact h3, by rw [gxup_ne (by omega)]; exact h4, gxup_self _ _ _⟩
end TFs
/-- what a talk's arrays say by a row -/
def TR (s kn aw rk fi ne : Nat → Int32) (b : Bool) : Prop := (∀ k, k < 10 → kn k = s k) ∧ (∀ p q k, p < 6 → q < 6 → k < 10 → hs (aw (6 * p + q)) (nI k) = hs (s (10 + 10 * p + k)) (nI q)) ∧ (∀ p, p < 6 → rk p = s (70 + p)) ∧ (∀ p, p < 6 → fi p = s (79 + p)) ∧ (∀ p, p < 6 → b = true → ne p = spNtS s p 6)
theorem TK.of {h : gxH} {a ta : Nat} {s kn aw rk fi ne : Nat → Int32} {b : Bool} (x : TF h a (.ref ta) kn aw rk fi ne (s 76) (s 77) (s 78) (s 122) (s 85)) (r : TR s kn aw rk fi ne b) : TK h a ta s b := ⟨kn, aw, rk, fi, ne, x.1, x.2.1, x.2.2.1, x.2.2.2.1, x.2.2.2.2.1, x.2.2.2.2.2, r⟩
theorem TK.F {h : gxH} {a ta : Nat} {s : Nat → Int32} {b : Bool} (x : TK h a ta s b) : ∃ kn aw rk fi ne, TF h a (.ref ta) kn aw rk fi ne (s 76) (s 77) (s 78) (s 122) (s 85) ∧ TR s kn aw rk fi ne b := by
  obtain ⟨kn, aw, rk, fi, ne, h0, h1, h2, h3, h4, h5, r⟩ := x
  exact ⟨kn, aw, rk, fi, ne, ⟨h0, h1, h2, h3, h4, h5⟩, r⟩
theorem hs_bit (x : Int32) {i : Nat} (hi : i < 32) : hs x (nI i) = x.toBitVec.getLsbD i := by
  have e : (x >>> (nI i &&& 31)).toBitVec.getLsbD 0 = x.toBitVec.getLsbD i := by
    rw [Int32.toBitVec_shiftRight]
    show (x.toBitVec.sshiftRight ((nI i &&& 31).toBitVec.smod 32).toNat).getLsbD 0 = _
    rw [sh_lt i (by omega), BitVec.getLsbD_sshiftRight]
    simp
    intro; omega
  rw [hs]
  rcases bit01 (x >>> (nI i &&& 31)) with b0 | b1
  · rw [b0]
    have h' := congrArg (fun z => z.toBitVec.getLsbD 0) b0
    simp only [Int32.toBitVec_and, BitVec.getLsbD_and, one_bit, Bool.and_true] at h'
    rw [e] at h'
    rw [h']; decide
  · rw [b1]
    have h' := congrArg (fun z => z.toBitVec.getLsbD 0) b1
    simp only [Int32.toBitVec_and, BitVec.getLsbD_and, one_bit, Bool.and_true] at h'
    rw [e] at h'
    rw [h']; decide
theorem sh_bit32 : ∀ q, q < 32 → ∀ i, i < 32 → ((1 : Int32) <<< (nI q &&& 31)).toBitVec.getLsbD i = decide (i = q) := by decide +kernel
theorem hs_or (x : Int32) {i j : Nat} (hi : i < 32) (hj : j < 32) : hs (x ||| (1 <<< (nI j &&& 31))) (nI i) = (hs x (nI i) || decide (i = j)) := by
  rw [hs_bit _ hi, hs_bit _ hi, Int32.toBitVec_or, BitVec.getLsbD_or]
  congr 1
  exact sh_bit32 j hj i hi
section LH
variable {G : gxG} {d : Nat} {h : gxH} {lo hi a ta fa P S E : Nat} {A : Nat → Nat → Int32} {s : Nat → Int32} {w : Option gxEv} {b : Bool}
theorem c_mayPay (hN : gxN G ≤ lo) (hd : 94 ≤ d) (hX : TT h lo hi a ta fa A s P S E w b) (p : Nat) (hp : p < P) (set : Int32) (h0 : 0 ≤ set) : gxM G mX3_mayPay d 0 0 [.ref a, .int (nI p), .int set] h (gxQi (fun r h' => r = zi (spCanPay w (setS A s) P S p set) ∧ fE fa h h')) := by
  have hX0 := hX
  obtain ⟨hT, hK, hM⟩ := hX; have hT0 := hT; obtain ⟨i1, i2, hf, nl, ol, pl, sl, el, fo, wv, pa, sa, ea, i3, ht, hfo, hpl, hsl, hel, hpa, hsa, hea, hwv⟩ := hT; have hpl0 := hpl.ls; have hsl0 := hsl.ls; have hel0 := hel.ls; have hpl := hpl0; have hsl := hsl0; have hel := hel0; obtain ⟨_, _, _, _, hpl, _⟩ := hpl; obtain ⟨_, _, _, _, hsl, _⟩ := hsl; obtain ⟨_, _, _, _, hel, _⟩ := hel; obtain ⟨kn, aw, rk, fi, ne, ha, hkn, haw, hrk, hfi, hne, ekn, eaw, erk, efi, ene⟩ := hK
  have hP6 := hM.2.1
  refine gxM_of rfl (Nat.le_of_ble_eq_true rfl) rfl ?_
  have sc : spCanPay w (setS A s) P S p set = (decide ((s 78 >>> (nI p &&& 31)) &&& 1 = 0) && decide (0 < set) && decide (set &&& ((spKnown (setS A s) (nI p) S &&& (s 77 ^^^ (-1))) ^^^ (-1)) = 0) && decide (A 15 p ≤ spWs w (setS A s) P set S)) := by
    unfold spCanPay
    rw [setS_50, setS_ne (q := 15) (by decide)]
  have N : spCanPay w (setS A s) P S p set = false → ∀ h1, fE fa h h1 → gxV G mX3_mayPay d 0 0 65 [some (.ref a), some (.int (nI p)), some (.int set)] [] h1 (gxQi (fun r h' => r = zi (spCanPay w (setS A s) P S p set) ∧ fE fa h h')) := by
    intro hn h1 e
    refine gx_iconst (pc := 65) (v := 0) dX3_mayPay_65 (by decide) ?_
    exact gx_zreturn (pc := 66) rfl (by decide) dX3_mayPay_66 (⟨_, rfl, ⟨by rw [hn]; rfl, e⟩⟩)
  refine gx_iload_n (pc := 0) dX3_mayPay_0 rfl ?_
  refine gx_if_eq (pc := 1) 65 dX3_mayPay_1 (by decide) (fun c1 => ?_) (fun c1 => ?_)
  · exact N (by rw [sc, c1]; simp) h (fE.rf _ _)
  · have c1' : 0 < set := by
      rcases Decidable.em (0 < set) with q | q
      · exact q
      · exact absurd (Int32.le_antisymm (Int32.not_lt.mp q) h0) c1
    refine gx_aload_n (pc := 4) dX3_mayPay_4 rfl ?_
    refine gx_get (pc := 5) fX3_66 ha rfl dX3_mayPay_5 ?_
    refine gx_iload_n (pc := 8) dX3_mayPay_8 rfl ?_
    refine kX3_97 (kc := 0) (ks := 0) (mc := 0) (ms := 0) (pc := 9) rfl (c_has (d := d - 1) (s 78) (nI p)) (by omega) (Nat.le_of_ble_eq_true rfl) dX3_mayPay_9 (fun r1 h1 e1 => ?_)
    obtain ⟨rfl, e1⟩ := e1
    subst h1
    refine gx_if_ne (pc := 12) 65 dX3_mayPay_12 (by decide) (fun c2 => ?_) (fun c2 => ?_)
    · have z := zi_ne0 c2
      rw [hs, decide_eq_true_eq] at z
      exact N (by rw [sc, z]; simp) h (fE.rf _ _)
    · have z := zi_eq0 c2
      rw [hs, decide_eq_false_iff_not] at z
      have z2 := (bit01 (s 78 >>> (nI p &&& 31))).resolve_right z
      refine gx_iload_n (pc := 15) dX3_mayPay_15 rfl ?_
      refine gx_aload_n (pc := 16) dX3_mayPay_16 rfl ?_
      refine gx_iload_n (pc := 17) dX3_mayPay_17 rfl ?_
      refine kX3_114 (kc := 0) (ks := 0) (mc := 0) (ms := 0) (pc := 18) rfl (c_Tknown (d := d - 1) (by omega) hX0 (nI p)) (gxRc.of rfl ha) (by omega) (Nat.le_of_ble_eq_true rfl) dX3_mayPay_18 (fun r1 h1 e1 => ?_)
      obtain ⟨rfl, e1⟩ := e1
      subst h1
      refine gx_iconst (pc := 21) (v := (-1)) dX3_mayPay_21 (by decide) ?_
      refine gx_ixor (pc := 22) dX3_mayPay_22 ?_
      refine gx_iand (pc := 23) dX3_mayPay_23 ?_
      refine gx_if_ne (pc := 24) 65 dX3_mayPay_24 (by decide) (fun c3 => ?_) (fun c3 => ?_)
      · refine N ?_ h (fE.rf _ _)
        rw [sc]
        have : ¬ set &&& ((spKnown (setS A s) (nI p) S &&& (s 77 ^^^ (-1))) ^^^ (-1)) = 0 := fun e => c3 ((or_split set).mpr e).1
        rw [decide_eq_false this, Bool.and_false, Bool.false_and]
      · refine gx_iload_n (pc := 27) dX3_mayPay_27 rfl ?_
        refine gx_aload_n (pc := 28) dX3_mayPay_28 rfl ?_
        refine gx_get (pc := 29) fX3_63 ha rfl dX3_mayPay_29 ?_
        refine gx_iand (pc := 32) dX3_mayPay_32 ?_
        refine gx_if_ne (pc := 33) 65 dX3_mayPay_33 (by decide) (fun c4 => ?_) (fun c4 => ?_)
        · refine N ?_ h (fE.rf _ _)
          rw [sc]
          have : ¬ set &&& ((spKnown (setS A s) (nI p) S &&& (s 77 ^^^ (-1))) ^^^ (-1)) = 0 := fun e => c4 ((or_split set).mpr e).2
          rw [decide_eq_false this, Bool.and_false, Bool.false_and]
        · have z4 := (or_split set).mp ⟨c3, c4⟩
          refine gx_aload_n (pc := 36) dX3_mayPay_36 rfl ?_
          refine gx_iload_n (pc := 37) dX3_mayPay_37 rfl ?_
          refine kX3_111 (kc := 0) (ks := 0) (mc := 0) (ms := 0) (pc := 38) rfl (c_Tworths (d := d - 1) hN (by omega) hX0 set) (gxRc.of rfl ha) (by omega) (Nat.le_of_ble_eq_true rfl) dX3_mayPay_38 (fun r1 h1 e1 => ?_)
          obtain ⟨rfl, e1⟩ := e1
          have hX := hX0.fE e1
          have hX1 := hX
          clear ha ht hpl hpl0 hpa
          obtain ⟨hT, hK, hM⟩ := hX; have hT0 := hT; obtain ⟨i1, i2, hf, nl, ol, pl, sl, el, fo, wv, pa, sa, ea, i3, ht, hfo, hpl, hsl, hel, hpa, hsa, hea, hwv⟩ := hT; have hpl0 := hpl.ls; have hsl0 := hsl.ls; have hel0 := hel.ls; have hpl := hpl0; have hsl := hsl0; have hel := hel0; obtain ⟨_, _, _, _, hpl, _⟩ := hpl; obtain ⟨_, _, _, _, hsl, _⟩ := hsl; obtain ⟨_, _, _, _, hel, _⟩ := hel; obtain ⟨kn, aw, rk, fi, ne, ha, hkn, haw, hrk, hfi, hne, ekn, eaw, erk, efi, ene⟩ := hK
          obtain ⟨_, hpe⟩ := hpa p hp
          refine gx_aload_n (pc := 41) dX3_mayPay_41 rfl ?_
          refine gx_get (pc := 42) fX3_27 ha rfl dX3_mayPay_42 ?_
          refine gx_get (pc := 45) fX3_53 ht rfl dX3_mayPay_45 ?_
          refine gx_iload_n (pc := 48) dX3_mayPay_48 rfl ?_
          refine kX3_43 (kc := 0) (ks := 0) (mc := 0) (ms := 0) (pc := 49) rfl (c_get (d := d - 1) (by omega) hpl0 p hp) (gxRc.of rfl hpl) (by omega) (Nat.le_of_ble_eq_true rfl) dX3_mayPay_49 (fun r2 h2 e2 => ?_)
          obtain ⟨rfl, e2⟩ := e2
          subst h2
          refine gx_castP (pc := 52) hpe q430 dX3_mayPay_52 ?_
          refine kFX3_125 (pc := 55) hpe rfl dX3_mayPay_55 ?_
          refine gx_icmp_lt (pc := 58) 65 dX3_mayPay_58 (by decide) (fun c5 => ?_) (fun c5 => ?_)
          · exact N (by rw [sc, decide_eq_false (Int32.not_le.mpr c5)]; simp) h1 e1
          · refine gx_iconst (pc := 61) (v := 1) dX3_mayPay_61 (by decide) ?_
            refine gx_goto (pc := 62) 66 dX3_mayPay_62 (by decide) ?_
            exact gx_zreturn (pc := 66) rfl (by decide) dX3_mayPay_66 (⟨_, rfl, ⟨by rw [sc, z2, decide_eq_true c1', decide_eq_true z4, decide_eq_true (Int32.not_lt.mp c5)]; rfl, e1⟩⟩)
theorem c_finedInAll (hX : TT h lo hi a ta fa A s P S E w b) : gxM G mX3_finedInAll d 0 0 [.ref a] h (gxQi (fun r h' => r = s 79 + s 80 + s 81 + s 82 + s 83 + s 84 ∧ h' = h)) := by
  obtain ⟨hT, hK, hM⟩ := hX; have hT0 := hT; obtain ⟨i1, i2, hf, nl, ol, pl, sl, el, fo, wv, pa, sa, ea, i3, ht, hfo, hpl, hsl, hel, hpa, hsa, hea, hwv⟩ := hT; have hpl0 := hpl.ls; have hsl0 := hsl.ls; have hel0 := hel.ls; have hpl := hpl0; have hsl := hsl0; have hel := hel0; obtain ⟨_, _, _, _, hpl, _⟩ := hpl; obtain ⟨_, _, _, _, hsl, _⟩ := hsl; obtain ⟨_, _, _, _, hel, _⟩ := hel; obtain ⟨kn, aw, rk, fi, ne, ha, hkn, haw, hrk, hfi, hne, ekn, eaw, erk, efi, ene⟩ := hK
  refine gxM_of rfl (Nat.le_of_ble_eq_true rfl) rfl ?_
  let F : Nat → Int32 := fun k => if k = 0 then 0 else if k = 1 then 0 + s 79 else if k = 2 then 0 + s 79 + s 80 else if k = 3 then 0 + s 79 + s 80 + s 81 else if k = 4 then 0 + s 79 + s 80 + s 81 + s 82 else if k = 5 then 0 + s 79 + s 80 + s 81 + s 82 + s 83 else 0 + s 79 + s 80 + s 81 + s 82 + s 83 + s 84
  have hF : ∀ k, k < 6 → F k + s (79 + k) = F (k + 1) := by
    intro k hk
    have : k = 0 ∨ k = 1 ∨ k = 2 ∨ k = 3 ∨ k = 4 ∨ k = 5 := by omega
    rcases this with e | e | e | e | e | e <;> subst e <;> rfl
  have L : ∀ m k, m + k = 6 → gxV G mX3_finedInAll d 0 0 4 [some (.ref a), some (.int (F k)), some (.int (nI k))] [] h (gxQi (fun r h' => r = s 79 + s 80 + s 81 + s 82 + s 83 + s 84 ∧ h' = h)) := by
    intro m
    induction m with
    | zero =>
      intro k hk
      have : k = 6 := by omega
      subst this
      refine gx_iload_n (pc := 4) dX3_finedInAll_4 rfl ?_
      refine gx_bipush (pc := 5) (v := 6) dX3_finedInAll_5 (by decide) ?_
      refine gx_icmp_ge (pc := 7) 25 dX3_finedInAll_7 (by decide) (fun c1 => ?_) (fun c1 => ?_)
      · refine gx_iload_n (pc := 25) dX3_finedInAll_25 rfl ?_
        exact gx_ireturn (pc := 26) rfl dX3_finedInAll_26 (⟨_, rfl, ⟨by show 0 + s 79 + s 80 + s 81 + s 82 + s 83 + s 84 = _; rw [Int32.zero_add], rfl⟩⟩)
      · exact absurd (by decide) c1
    | succ m ih =>
      intro k hk
      refine gx_iload_n (pc := 4) dX3_finedInAll_4 rfl ?_
      refine gx_bipush (pc := 5) (v := 6) dX3_finedInAll_5 (by decide) ?_
      refine gx_icmp_ge (pc := 7) 25 dX3_finedInAll_7 (by decide) (fun c1 => ?_) (fun c1 => ?_)
      · exact absurd c1 (nI_ge (a := k) (b := 6) (by omega) (by decide))
      · refine gx_iload_n (pc := 10) dX3_finedInAll_10 rfl ?_
        refine gx_aload_n (pc := 11) dX3_finedInAll_11 rfl ?_
        refine gx_get (pc := 12) fX3_21 ha rfl dX3_finedInAll_12 ?_
        refine gx_iload_n (pc := 15) dX3_finedInAll_15 rfl ?_
        refine gx_iald (pc := 16) (k) hfi (by first | rfl | simp only [gx_lit, nI_add, pk_mul]) (by omega) (by decide) dX3_finedInAll_16 ?_
        rw [efi k (by omega)]
        refine gx_iadd (pc := 17) dX3_finedInAll_17 ?_
        refine gx_istore_n (pc := 18) dX3_finedInAll_18 (by decide) rfl ?_
        refine gx_iincc (pc := 19) (c := 1) dX3_finedInAll_19 rfl (by decide) (by decide) rfl ?_
        refine gx_goto (pc := 22) 4 dX3_finedInAll_22 (by decide) ?_
        rw [nI_1, hF k (by omega)]
        exact ih (k + 1) (by omega)
  refine gx_iconst (pc := 0) (v := 0) dX3_finedInAll_0 (by decide) ?_
  refine gx_istore_n (pc := 1) dX3_finedInAll_1 (by decide) rfl ?_
  refine gx_iconst (pc := 2) (v := 0) dX3_finedInAll_2 (by decide) ?_
  refine gx_istore_n (pc := 3) dX3_finedInAll_3 (by decide) rfl ?_
  exact L 6 0 (by omega)
end LH
