/-! ===== COMPONENT M: talk begun, copied ===== -/
set_option maxRecDepth 100000
theorem spNtS_0 {s : Nat → Int32} {p : Nat} (hp : p < 6) (h : ∀ j, 86 ≤ j → j < 122 → s j = 0) : ∀ o, o ≤ 6 → spNtS s p o = 0
  | 0, _ => rfl
  | o + 1, ho => by
    rw [spNtS, spNtS_0 hp h o (by omega), h _ (by omega) (by omega), h _ (by omega) (by omega)]; decide
theorem hs_0 (i : Int32) : hs 0 i = false := by
  rw [hs, show (0 : Int32) >>> (i &&& 31) = 0 from by
    apply Int32.toBitVec_inj.mp
    rw [Int32.toBitVec_shiftRight]
    simp]
  decide
section LM
variable {G : gxG} {d : Nat} {h : gxH} {lo hi a ta fa P S E : Nat} {A : Nat → Nat → Int32} {s : Nat → Int32} {w : Option gxEv} {b : Bool}
theorem c_begins (hn : gxN G ≤ a) (hd : 4 ≤ d) (hf : fa < a ∨ a + 6 ≤ fa) (dj : a + 6 ≤ lo ∨ hi ≤ a) (hT : TW h lo hi ta fa A P S E w) (hP6 : P ≤ 6) (hS10 : S ≤ 10) {tv : Value} {kn aw rk fi ne : Nat → Int32} {m0 p0 y0 l0 q0 : Int32} (hF : TF h a tv kn aw rk fi ne m0 p0 y0 l0 q0) : gxM G mX3_begins d 0 0 [.ref a, .ref ta] h (gxQr (fun r h' => r = a ∧ TK h' a ta (spFresh A P S) true ∧ tE a fa h h')) := by
  have na := hn
  have nkn : gxN G ≤ a + 1 := by omega
  have naw : gxN G ≤ a + 2 := by omega
  have nrk : gxN G ≤ a + 3 := by omega
  have nfi : gxN G ≤ a + 4 := by omega
  have nne : gxN G ≤ a + 5 := by omega
  refine gxM_of rfl (Nat.le_of_ble_eq_true rfl) rfl ?_
  -- the numbers at the end
  have K138 : ∀ h1 kn1 aw1 rk1 fi1 ne1 (x2 : Option Value), TF h1 a (.ref ta) kn1 aw1 rk1 fi1 ne1 m0 p0 y0 l0 q0 → TR (spFresh A P S) kn1 aw1 rk1 fi1 ne1 true → tE a fa h h1 → gxV G mX3_begins d 0 0 138 [some (.ref a), some (.ref ta), x2] [] h1 (gxQr (fun r h' => r = a ∧ TK h' a ta (spFresh A P S) true ∧ tE a fa h h')) := by
    intro h1 kn1 aw1 rk1 fi1 ne1 x2 F1 R1 E1
    have stp : ∀ (h1 : gxH) (m p y l q m' p' y' l' q' : Int32), TF h1 a (.ref ta) kn1 aw1 rk1 fi1 ne1 m p y l q → tE a fa h h1 → TF (gxup h1 a (.inr (2, [.ref ta, .ref (a + 1), .ref (a + 2), .ref (a + 3), .ref (a + 4), .ref (a + 5), .int m', .int p', .int y', .int l', .int q']))) a (.ref ta) kn1 aw1 rk1 fi1 ne1 m' p' y' l' q' ∧ tE a fa h (gxup h1 a (.inr (2, [.ref ta, .ref (a + 1), .ref (a + 2), .ref (a + 3), .ref (a + 4), .ref (a + 5), .int m', .int p', .int y', .int l', .int q']))) := fun h1 m p y l q m' p' y' l' q' F E => ⟨F.ob _ _ _ _ _ _, E.tr (tE.up (i := 0) h1 _ (by decide) hf)⟩
    obtain ⟨ha, hkn, haw, hrk, hfi, hne⟩ := id F1
    refine gx_aload_n (pc := 138) dX3_begins_138 rfl ?_
    refine gx_iconst (pc := 139) (v := 0) dX3_begins_139 (by decide) ?_
    refine gx_put (pc := 140) fX3_60 ha na (by first | exact Nat.le_of_ble_eq_true rfl | simp) tX3_6 rfl rfl dX3_begins_140 ?_
    obtain ⟨F2, E2⟩ := stp h1 m0 p0 y0 l0 q0 0 p0 y0 l0 q0 F1 E1
    change gxV _ _ _ _ _ _ _ _ (gxup h1 a (.inr (2, [.ref ta, .ref (a + 1), .ref (a + 2), .ref (a + 3), .ref (a + 4), .ref (a + 5), .int 0, .int p0, .int y0, .int l0, .int q0]))) _
    generalize gxup h1 a (.inr (2, [.ref ta, .ref (a + 1), .ref (a + 2), .ref (a + 3), .ref (a + 4), .ref (a + 5), .int 0, .int p0, .int y0, .int l0, .int q0])) = h2 at *
    obtain ⟨ha, hkn, haw, hrk, hfi, hne⟩ := id F2
    refine gx_aload_n (pc := 143) dX3_begins_143 rfl ?_
    refine gx_iconst (pc := 144) (v := 0) dX3_begins_144 (by decide) ?_
    refine gx_put (pc := 145) fX3_63 ha na (by first | exact Nat.le_of_ble_eq_true rfl | simp) tX3_7 rfl rfl dX3_begins_145 ?_
    obtain ⟨F3, E3⟩ := stp h2 0 p0 y0 l0 q0 0 0 y0 l0 q0 F2 E2
    change gxV _ _ _ _ _ _ _ _ (gxup h2 a (.inr (2, [.ref ta, .ref (a + 1), .ref (a + 2), .ref (a + 3), .ref (a + 4), .ref (a + 5), .int 0, .int 0, .int y0, .int l0, .int q0]))) _
    generalize gxup h2 a (.inr (2, [.ref ta, .ref (a + 1), .ref (a + 2), .ref (a + 3), .ref (a + 4), .ref (a + 5), .int 0, .int 0, .int y0, .int l0, .int q0])) = h3 at *
    obtain ⟨ha, hkn, haw, hrk, hfi, hne⟩ := id F3
    refine gx_aload_n (pc := 148) dX3_begins_148 rfl ?_
    refine gx_iconst (pc := 149) (v := 0) dX3_begins_149 (by decide) ?_
    refine gx_put (pc := 150) fX3_66 ha na (by first | exact Nat.le_of_ble_eq_true rfl | simp) tX3_8 rfl rfl dX3_begins_150 ?_
    obtain ⟨F4, E4⟩ := stp h3 0 0 y0 l0 q0 0 0 0 l0 q0 F3 E3
    change gxV _ _ _ _ _ _ _ _ (gxup h3 a (.inr (2, [.ref ta, .ref (a + 1), .ref (a + 2), .ref (a + 3), .ref (a + 4), .ref (a + 5), .int 0, .int 0, .int 0, .int l0, .int q0]))) _
    generalize gxup h3 a (.inr (2, [.ref ta, .ref (a + 1), .ref (a + 2), .ref (a + 3), .ref (a + 4), .ref (a + 5), .int 0, .int 0, .int 0, .int l0, .int q0])) = h4 at *
    obtain ⟨ha, hkn, haw, hrk, hfi, hne⟩ := id F4
    refine gx_aload_n (pc := 153) dX3_begins_153 rfl ?_
    refine gx_iconst (pc := 154) (v := 0) dX3_begins_154 (by decide) ?_
    refine gx_put (pc := 155) fX3_69 ha na (by first | exact Nat.le_of_ble_eq_true rfl | simp) tX3_9 rfl rfl dX3_begins_155 ?_
    obtain ⟨F5, E5⟩ := stp h4 0 0 0 l0 q0 0 0 0 0 q0 F4 E4
    change gxV _ _ _ _ _ _ _ _ (gxup h4 a (.inr (2, [.ref ta, .ref (a + 1), .ref (a + 2), .ref (a + 3), .ref (a + 4), .ref (a + 5), .int 0, .int 0, .int 0, .int 0, .int q0]))) _
    generalize gxup h4 a (.inr (2, [.ref ta, .ref (a + 1), .ref (a + 2), .ref (a + 3), .ref (a + 4), .ref (a + 5), .int 0, .int 0, .int 0, .int 0, .int q0])) = h5 at *
    obtain ⟨ha, hkn, haw, hrk, hfi, hne⟩ := id F5
    refine gx_aload_n (pc := 158) dX3_begins_158 rfl ?_
    refine gx_iconst (pc := 159) (v := 0) dX3_begins_159 (by decide) ?_
    refine gx_put (pc := 160) fX3_72 ha na (by first | exact Nat.le_of_ble_eq_true rfl | simp) tX3_10 rfl rfl dX3_begins_160 ?_
    refine gx_aload_n (pc := 163) dX3_begins_163 rfl ?_
    obtain ⟨F6, E6⟩ := stp h5 0 0 0 0 q0 0 0 0 0 0 F5 E5
    have z : ∀ j, j = 76 ∨ j = 77 ∨ j = 78 ∨ j = 122 ∨ j = 85 → spFresh A P S j = 0 := fun j hj => by
      simp only [spFresh]; rw [if_neg (by omega), if_neg (by omega), if_neg (by omega)]
    exact gx_areturn (pc := 164) rfl (Or.inl ⟨_, rfl⟩) (Or.inr ⟨_, rfl⟩) dX3_begins_164 (⟨_, rfl, ⟨rfl, TK.of (s := spFresh A P S) (by rw [z 76 (by omega), z 77 (by omega), z 78 (by omega), z 122 (by omega), z 85 (by omega)]; exact F6) R1, E6⟩⟩)
  have fr : ∀ q, q < 10 → spFresh A P S q = (if q < S then A 20 q else 0) := fun q hq => by
    simp only [spFresh]
    rw [if_neg (by omega)]
    split
    · rfl
    · rw [if_neg (by omega)]
  have fz : ∀ q, 10 ≤ q → q < 123 → (q < 70 ∨ 76 ≤ q) → spFresh A P S q = 0 := fun q h1 h2 h3 => by
    simp only [spFresh]
    rw [if_neg (by omega), if_neg (by omega), if_neg (by omega)]
  have frk : ∀ p, p < 6 → spFresh A P S (70 + p) = (if p < P then A 14 p else 0) := fun p hp => by
    simp only [spFresh]
    rw [if_neg (by omega), if_neg (by omega)]
    by_cases e : p < P
    · rw [if_pos (by omega), if_pos e, show 70 + p - 70 = p by omega]
    · rw [if_neg (by omega), if_neg e]
  have L3 : ∀ m k h1 kn1 aw1 rk1 fi1 ne1, m + k = 6 → TF h1 a (.ref ta) kn1 aw1 rk1 fi1 ne1 m0 p0 y0 l0 q0 → (∀ q, q < 10 → kn1 q = (if q < S then A 20 q else 0)) → (∀ q, q < 36 → aw1 q = 0) → (∀ q, q < k → rk1 q = (if q < P then A 14 q else 0)) → (∀ q, q < k → fi1 q = 0) → (∀ q, q < k → ne1 q = 0) → tE a fa h h1 → gxV G mX3_begins d 0 0 77 [some (.ref a), some (.ref ta), some (.int (nI k))] [] h1 (gxQr (fun r h' => r = a ∧ TK h' a ta (spFresh A P S) true ∧ tE a fa h h')) := by
    intro m
    induction m with
    | zero =>
      intro k h1 kn1 aw1 rk1 fi1 ne1 hk F1 g1 g2 g3 g4 g5 E1
      have : k = 6 := by omega
      subst this
      refine gx_iload_n (pc := 77) dX3_begins_77 rfl ?_
      refine gx_bipush (pc := 78) (v := 6) dX3_begins_78 (by decide) ?_
      refine gx_icmp_ge (pc := 80) 138 dX3_begins_80 (by decide) (fun c1 => ?_) (fun c1 => ?_)
      · refine K138 h1 kn1 aw1 rk1 fi1 ne1 _ F1 ⟨fun k hk => by rw [g1 k hk, fr k hk], fun p q k hp hq hk => ?_, fun p hp => by rw [g3 p hp, frk p hp], fun p hp => by rw [g4 p hp, fz _ (by omega) (by omega) (by omega)], fun p hp _ => by rw [g5 p hp, spNtS_0 hp (fun j h1 h2 => fz j (by omega) (by omega) (by omega)) 6 (by omega)]⟩ E1
        rw [g2 _ (by omega), fz _ (by omega) (by omega) (by omega), hs_0, hs_0]
      · exact absurd (by decide) c1
    | succ m ih =>
      intro k h1 kn1 aw1 rk1 fi1 ne1 hk F1 g1 g2 g3 g4 g5 E1
      have T1 := hT.tE E1 dj
      obtain ⟨i1, i2, hfc, nl, ol, pl, sl, el, fo, wv, pa, sa, ea, i3, ht, hfo, hpl, hsl, hel, hpa, hsa, hea, hwv⟩ := T1
      have hpl0 := hpl.ls
      have hpl := hpl0
      obtain ⟨_, _, _, _, hpl, _⟩ := hpl
      have K117 : ∀ v, v = (if k < P then A 14 k else 0) → gxV G mX3_begins d 0 0 117 [some (.ref a), some (.ref ta), some (.int (nI k))] [.int v, .int (nI k), .ref (a + 3)] h1 (gxQr (fun r h' => r = a ∧ TK h' a ta (spFresh A P S) true ∧ tE a fa h h')) := by
        intro v hv
        obtain ⟨ha, hkn, haw, hrk, hfi, hne⟩ := id F1
        refine gx_iast (pc := 117) (k) hrk nrk (by first | rfl | simp only [gx_lit, nI_add, pk_mul]) (by omega) (by decide) dX3_begins_117 ?_
        have F2 := F1.urk (upd rk1 k v)
        have E2 := E1.tr (tE.up (i := 3) h1 (.inl (0, 6, .inl (upd rk1 k v))) (by decide) hf)
        generalize gxup h1 (a + 3) (.inl (0, 6, .inl (upd rk1 k v))) = h2 at *
        obtain ⟨ha, hkn, haw, hrk, hfi, hne⟩ := id F2
        refine gx_aload_n (pc := 118) dX3_begins_118 rfl ?_
        refine gx_get (pc := 119) fX3_21 ha rfl dX3_begins_119 ?_
        refine gx_iload_n (pc := 122) dX3_begins_122 rfl ?_
        refine gx_iconst (pc := 123) (v := 0) dX3_begins_123 (by decide) ?_
        refine gx_iast (pc := 124) (k) hfi nfi (by first | rfl | simp only [gx_lit, nI_add, pk_mul]) (by omega) (by decide) dX3_begins_124 ?_
        have F3 := F2.ufi (upd fi1 k 0)
        have E3 := E2.tr (tE.up (i := 4) h2 (.inl (0, 6, .inl (upd fi1 k 0))) (by decide) hf)
        generalize gxup h2 (a + 4) (.inl (0, 6, .inl (upd fi1 k 0))) = h3 at *
        obtain ⟨ha, hkn, haw, hrk, hfi, hne⟩ := id F3
        refine gx_aload_n (pc := 125) dX3_begins_125 rfl ?_
        refine gx_get (pc := 126) fX3_24 ha rfl dX3_begins_126 ?_
        refine gx_iload_n (pc := 129) dX3_begins_129 rfl ?_
        refine gx_iconst (pc := 130) (v := 0) dX3_begins_130 (by decide) ?_
        refine gx_iast (pc := 131) (k) hne nne (by first | rfl | simp only [gx_lit, nI_add, pk_mul]) (by omega) (by decide) dX3_begins_131 ?_
        have F4 := F3.une (upd ne1 k 0)
        have E4 := E3.tr (tE.up (i := 5) h3 (.inl (0, 6, .inl (upd ne1 k 0))) (by decide) hf)
        generalize gxup h3 (a + 5) (.inl (0, 6, .inl (upd ne1 k 0))) = h4 at *
        refine gx_iincc (pc := 132) (c := 1) dX3_begins_132 rfl (by decide) (by decide) rfl ?_
        refine gx_goto (pc := 135) 77 dX3_begins_135 (by decide) ?_
        rw [nI_1]
        refine ih (k + 1) h4 kn1 aw1 _ _ _ (by omega) F4 g1 g2 (fun q hq => ?_) (fun q hq => ?_) (fun q hq => ?_) E4
        · simp only [upd]
          split
          · rename_i e; rw [e, hv]
          · exact g3 q (by omega)
        · simp only [upd]
          split
          · rfl
          · exact g4 q (by omega)
        · simp only [upd]
          split
          · rfl
          · exact g5 q (by omega)
      obtain ⟨ha, hkn, haw, hrk, hfi, hne⟩ := id F1
      refine gx_iload_n (pc := 77) dX3_begins_77 rfl ?_
      refine gx_bipush (pc := 78) (v := 6) dX3_begins_78 (by decide) ?_
      refine gx_icmp_ge (pc := 80) 138 dX3_begins_80 (by decide) (fun c1 => ?_) (fun c1 => ?_)
      · exact absurd c1 (nI_ge (a := k) (b := 6) (by omega) (by decide))
      · refine gx_aload_n (pc := 83) dX3_begins_83 rfl ?_
        refine gx_get (pc := 84) fX3_18 ha rfl dX3_begins_84 ?_
        refine gx_iload_n (pc := 87) dX3_begins_87 rfl ?_
        refine gx_iload_n (pc := 88) dX3_begins_88 rfl ?_
        refine gx_aload_n (pc := 89) dX3_begins_89 rfl ?_
        refine gx_get (pc := 90) fX3_53 ht rfl dX3_begins_90 ?_
        refine kX3_37 (kc := 0) (ks := 0) (mc := 0) (ms := 0) (pc := 93) rfl (c_size (d := d - 1) hpl0) (gxRc.of rfl hpl) (by omega) (Nat.le_of_ble_eq_true rfl) dX3_begins_93 (fun r1 h2 e1 => ?_)
        obtain ⟨rfl, e1⟩ := e1
        subst h2
        refine gx_icmp_ge (pc := 96) 116 dX3_begins_96 (by decide) (fun c2 => ?_) (fun c2 => ?_)
        · have : ¬ k < P := fun hh => absurd c2 (nI_ge hh (by omega))
          refine gx_iconst (pc := 116) (v := 0) dX3_begins_116 (by decide) ?_
          exact K117 _ (by rw [if_neg this])
        · have kP : k < P := (nI_ltI (by omega) (by omega)).mp (Int32.not_le.mp c2)
          obtain ⟨_, hpe⟩ := hpa k kP
          refine gx_aload_n (pc := 99) dX3_begins_99 rfl ?_
          refine gx_get (pc := 100) fX3_53 ht rfl dX3_begins_100 ?_
          refine gx_iload_n (pc := 103) dX3_begins_103 rfl ?_
          refine kX3_43 (kc := 0) (ks := 0) (mc := 0) (ms := 0) (pc := 104) rfl (c_get (d := d - 1) (by omega) hpl0 k kP) (gxRc.of rfl hpl) (by omega) (Nat.le_of_ble_eq_true rfl) dX3_begins_104 (fun r1 h2 e1 => ?_)
          obtain ⟨rfl, e1⟩ := e1
          subst h2
          refine gx_castP (pc := 107) hpe q430 dX3_begins_107 ?_
          refine kFX3_58 (pc := 110) hpe rfl dX3_begins_110 ?_
          refine gx_goto (pc := 113) 117 dX3_begins_113 (by decide) ?_
          exact K117 _ (by rw [if_pos kP])
  have L2 : ∀ m k h1 kn1 aw1, m + k = 36 → TF h1 a (.ref ta) kn1 aw1 rk fi ne m0 p0 y0 l0 q0 → (∀ q, q < 10 → kn1 q = (if q < S then A 20 q else 0)) → (∀ q, q < k → aw1 q = 0) → tE a fa h h1 → gxV G mX3_begins d 0 0 56 [some (.ref a), some (.ref ta), some (.int (nI k))] [] h1 (gxQr (fun r h' => r = a ∧ TK h' a ta (spFresh A P S) true ∧ tE a fa h h')) := by
    intro m
    induction m with
    | zero =>
      intro k h1 kn1 aw1 hk F1 g1 g2 E1
      have : k = 36 := by omega
      subst this
      refine gx_iload_n (pc := 56) dX3_begins_56 rfl ?_
      refine gx_bipush (pc := 57) (v := 36) dX3_begins_57 (by decide) ?_
      refine gx_icmp_ge (pc := 59) 75 dX3_begins_59 (by decide) (fun c1 => ?_) (fun c1 => ?_)
      · refine gx_iconst (pc := 75) (v := 0) dX3_begins_75 (by decide) ?_
        refine gx_istore_n (pc := 76) dX3_begins_76 (by decide) rfl ?_
        exact L3 6 0 h1 kn1 aw1 rk fi ne (by omega) F1 g1 g2 (fun q hq => by omega) (fun q hq => by omega) (fun q hq => by omega) E1
      · exact absurd (by decide) c1
    | succ m ih =>
      intro k h1 kn1 aw1 hk F1 g1 g2 E1
      obtain ⟨ha, hkn, haw, hrk, hfi, hne⟩ := id F1
      refine gx_iload_n (pc := 56) dX3_begins_56 rfl ?_
      refine gx_bipush (pc := 57) (v := 36) dX3_begins_57 (by decide) ?_
      refine gx_icmp_ge (pc := 59) 75 dX3_begins_59 (by decide) (fun c1 => ?_) (fun c1 => ?_)
      · exact absurd c1 (nI_ge (a := k) (b := 36) (by omega) (by decide))
      · refine gx_aload_n (pc := 62) dX3_begins_62 rfl ?_
        refine gx_get (pc := 63) fX3_15 ha rfl dX3_begins_63 ?_
        refine gx_iload_n (pc := 66) dX3_begins_66 rfl ?_
        refine gx_iconst (pc := 67) (v := 0) dX3_begins_67 (by decide) ?_
        refine gx_iast (pc := 68) (k) haw naw (by first | rfl | simp only [gx_lit, nI_add, pk_mul]) (by omega) (by decide) dX3_begins_68 ?_
        have F2 := F1.uaw (upd aw1 k 0)
        have E2 := E1.tr (tE.up (i := 2) h1 (.inl (0, 36, .inl (upd aw1 k 0))) (by decide) hf)
        generalize gxup h1 (a + 2) (.inl (0, 36, .inl (upd aw1 k 0))) = h2 at *
        refine gx_iincc (pc := 69) (c := 1) dX3_begins_69 rfl (by decide) (by decide) rfl ?_
        refine gx_goto (pc := 72) 56 dX3_begins_72 (by decide) ?_
        rw [nI_1]
        refine ih (k + 1) h2 kn1 _ (by omega) F2 g1 (fun q hq => ?_) E2
        simp only [upd]
        split
        · rfl
        · exact g2 q (by omega)
  have L1 : ∀ m k h1 kn1, m + k = 10 → TF h1 a (.ref ta) kn1 aw rk fi ne m0 p0 y0 l0 q0 → (∀ q, q < k → kn1 q = (if q < S then A 20 q else 0)) → tE a fa h h1 → gxV G mX3_begins d 0 0 7 [some (.ref a), some (.ref ta), some (.int (nI k))] [] h1 (gxQr (fun r h' => r = a ∧ TK h' a ta (spFresh A P S) true ∧ tE a fa h h')) := by
    intro m
    induction m with
    | zero =>
      intro k h1 kn1 hk F1 g1 E1
      have : k = 10 := by omega
      subst this
      refine gx_iload_n (pc := 7) dX3_begins_7 rfl ?_
      refine gx_bipush (pc := 8) (v := 10) dX3_begins_8 (by decide) ?_
      refine gx_icmp_ge (pc := 10) 54 dX3_begins_10 (by decide) (fun c1 => ?_) (fun c1 => ?_)
      · refine gx_iconst (pc := 54) (v := 0) dX3_begins_54 (by decide) ?_
        refine gx_istore_n (pc := 55) dX3_begins_55 (by decide) rfl ?_
        exact L2 36 0 h1 kn1 aw (by omega) F1 g1 (fun q hq => by omega) E1
      · exact absurd (by decide) c1
    | succ m ih =>
      intro k h1 kn1 hk F1 g1 E1
      have T1 := hT.tE E1 dj
      obtain ⟨i1, i2, hfc, nl, ol, pl, sl, el, fo, wv, pa, sa, ea, i3, ht, hfo, hpl, hsl, hel, hpa, hsa, hea, hwv⟩ := T1
      have hsl0 := hsl.ls
      have hsl := hsl0
      obtain ⟨_, _, _, _, hsl, _⟩ := hsl
      have K47 : ∀ v, v = (if k < S then A 20 k else 0) → gxV G mX3_begins d 0 0 47 [some (.ref a), some (.ref ta), some (.int (nI k))] [.int v, .int (nI k), .ref (a + 1)] h1 (gxQr (fun r h' => r = a ∧ TK h' a ta (spFresh A P S) true ∧ tE a fa h h')) := by
        intro v hv
        obtain ⟨ha, hkn, haw, hrk, hfi, hne⟩ := id F1
        refine gx_iast (pc := 47) (k) hkn nkn (by first | rfl | simp only [gx_lit, nI_add, pk_mul]) (by omega) (by decide) dX3_begins_47 ?_
        have F2 := F1.ukn (upd kn1 k v)
        have E2 := E1.tr (tE.up (i := 1) h1 (.inl (0, 10, .inl (upd kn1 k v))) (by decide) hf)
        generalize gxup h1 (a + 1) (.inl (0, 10, .inl (upd kn1 k v))) = h2 at *
        refine gx_iincc (pc := 48) (c := 1) dX3_begins_48 rfl (by decide) (by decide) rfl ?_
        refine gx_goto (pc := 51) 7 dX3_begins_51 (by decide) ?_
        rw [nI_1]
        refine ih (k + 1) h2 _ (by omega) F2 (fun q hq => ?_) E2
        simp only [upd]
        split
        · rename_i e; rw [e, hv]
        · exact g1 q (by omega)
      obtain ⟨ha, hkn, haw, hrk, hfi, hne⟩ := id F1
      refine gx_iload_n (pc := 7) dX3_begins_7 rfl ?_
      refine gx_bipush (pc := 8) (v := 10) dX3_begins_8 (by decide) ?_
      refine gx_icmp_ge (pc := 10) 54 dX3_begins_10 (by decide) (fun c1 => ?_) (fun c1 => ?_)
      · exact absurd c1 (nI_ge (a := k) (b := 10) (by omega) (by decide))
      · refine gx_aload_n (pc := 13) dX3_begins_13 rfl ?_
        refine gx_get (pc := 14) fX3_9 ha rfl dX3_begins_14 ?_
        refine gx_iload_n (pc := 17) dX3_begins_17 rfl ?_
        refine gx_iload_n (pc := 18) dX3_begins_18 rfl ?_
        refine gx_aload_n (pc := 19) dX3_begins_19 rfl ?_
        refine gx_get (pc := 20) fX3_31 ht rfl dX3_begins_20 ?_
        refine kX3_37 (kc := 0) (ks := 0) (mc := 0) (ms := 0) (pc := 23) rfl (c_size (d := d - 1) hsl0) (gxRc.of rfl hsl) (by omega) (Nat.le_of_ble_eq_true rfl) dX3_begins_23 (fun r1 h2 e1 => ?_)
        obtain ⟨rfl, e1⟩ := e1
        subst h2
        refine gx_icmp_ge (pc := 26) 46 dX3_begins_26 (by decide) (fun c2 => ?_) (fun c2 => ?_)
        · have : ¬ k < S := fun hh => absurd c2 (nI_ge hh (by omega))
          refine gx_iconst (pc := 46) (v := 0) dX3_begins_46 (by decide) ?_
          exact K47 _ (by rw [if_neg this])
        · have kS : k < S := (nI_ltI (by omega) (by omega)).mp (Int32.not_le.mp c2)
          obtain ⟨_, hse⟩ := hsa k kS
          refine gx_aload_n (pc := 29) dX3_begins_29 rfl ?_
          refine gx_get (pc := 30) fX3_31 ht rfl dX3_begins_30 ?_
          refine gx_iload_n (pc := 33) dX3_begins_33 rfl ?_
          refine kX3_43 (kc := 0) (ks := 0) (mc := 0) (ms := 0) (pc := 34) rfl (c_get (d := d - 1) (by omega) hsl0 k kS) (gxRc.of rfl hsl) (by omega) (Nat.le_of_ble_eq_true rfl) dX3_begins_34 (fun r1 h2 e1 => ?_)
          obtain ⟨rfl, e1⟩ := e1
          subst h2
          refine gx_castS (pc := 37) hse rfl q429 dX3_begins_37 ?_
          refine gx_get (pc := 40) fX3_49 hse rfl dX3_begins_40 ?_
          refine gx_goto (pc := 43) 47 dX3_begins_43 (by decide) ?_
          exact K47 _ (by rw [if_pos kS])
  obtain ⟨ha, hkn, haw, hrk, hfi, hne⟩ := id hF
  refine gx_aload_n (pc := 0) dX3_begins_0 rfl ?_
  refine gx_aload_n (pc := 1) dX3_begins_1 rfl ?_
  refine gx_put (pc := 2) fX3_27 ha na (by first | exact Nat.le_of_ble_eq_true rfl | simp) tX3_0 rfl rfl dX3_begins_2 ?_
  have F1 := hF.ob (.ref ta) m0 p0 y0 l0 q0
  have E1 := tE.up (a := a) (fa := fa) (i := 0) h (.inr (2, [.ref ta, .ref (a + 1), .ref (a + 2), .ref (a + 3), .ref (a + 4), .ref (a + 5), .int m0, .int p0, .int y0, .int l0, .int q0])) (by decide) hf
  change gxV _ _ _ _ _ _ _ _ (gxup h a (.inr (2, [.ref ta, .ref (a + 1), .ref (a + 2), .ref (a + 3), .ref (a + 4), .ref (a + 5), .int m0, .int p0, .int y0, .int l0, .int q0]))) _
  change tE a fa h (gxup h a _) at E1
  generalize gxup h a (.inr (2, [.ref ta, .ref (a + 1), .ref (a + 2), .ref (a + 3), .ref (a + 4), .ref (a + 5), .int m0, .int p0, .int y0, .int l0, .int q0])) = h1 at *
  refine gx_iconst (pc := 5) (v := 0) dX3_begins_5 (by decide) ?_
  refine gx_istore_n (pc := 6) dX3_begins_6 (by decide) rfl ?_
  exact L1 10 0 h1 kn (by omega) F1 (fun q hq => by omega) E1
end LM
