/-! ===== COMPONENT N: talk copied ===== -/
set_option maxRecDepth 100000
theorem cpy_all {α : Type} (f g : Nat → α) (n : Nat) {k : Nat} (hk : k < n) : va_cpy f g 0 0 n k = f k := by
  simp [va_cpy, hk]
section LN
variable {G : gxG} {d : Nat} {h : gxH} {a c ta fa : Nat} {s : Nat → Int32} {b : Bool}
theorem TF.ap {h h' : gxH} {c a : Nat} {tv : Value} {kn aw rk fi ne : Nat → Int32} {m p y l q : Int32} (x : TF h c tv kn aw rk fi ne m p y l q) (dj : a + 6 ≤ c ∨ c + 6 ≤ a) (e : ∀ q, q < a ∨ a + 6 ≤ q → h'.1 q = h.1 q) : TF h' c tv kn aw rk fi ne m p y l q := by
  obtain ⟨h0, h1, h2, h3, h4, h5⟩ := x
  exact ⟨by rw [e _ (by omega)]; exact h0, by rw [e _ (by omega)]; exact h1, by rw [e _ (by omega)]; exact h2, by rw [e _ (by omega)]; exact h3, by rw [e _ (by omega)]; exact h4, by rw [e _ (by omega)]; exact h5⟩
/-- alike but for the six cells at a -/
def t6 (a : Nat) (h h' : gxH) : Prop := h'.2 = h.2 ∧ ∀ q, q < a ∨ a + 6 ≤ q → h'.1 q = h.1 q
theorem t6.rf (a : Nat) (h : gxH) : t6 a h h := ⟨rfl, fun _ _ => rfl⟩
theorem t6.tr {a : Nat} {x y z : gxH} (h : t6 a x y) (k : t6 a y z) : t6 a x z := ⟨k.1.trans h.1, fun q hq => (k.2 q hq).trans (h.2 q hq)⟩
theorem t6.up {a i : Nat} (h : gxH) (e : gxE) (hi : i < 6) : t6 a h (gxup h (a + i) e) := ⟨rfl, fun q hq => gxup_ne (by omega)⟩
theorem t6.tE {a fa : Nat} {x y : gxH} (h : t6 a x y) (hf : fa < a ∨ a + 6 ≤ fa) : tE a fa x y := ⟨h.1, fun q hq _ => h.2 q hq, fun ⟨f, hh⟩ => ⟨f, by rw [h.2 fa hf]; exact hh⟩⟩
theorem c_Xcopies (hn : gxN G ≤ a) (hd : 1 ≤ d) (dj : a + 6 ≤ c ∨ c + 6 ≤ a) (hK : TK h c ta s b) {tv : Value} {kn aw rk fi ne : Nat → Int32} {m0 p0 y0 l0 q0 : Int32} (hF : TF h a tv kn aw rk fi ne m0 p0 y0 l0 q0) : gxM G mX3_copies d 0 0 [.ref a, .ref c] h (gxQr (fun r h' => r = a ∧ TK h' a ta s b ∧ TK h' c ta s b ∧ t6 a h h')) := by
  obtain ⟨kn2, aw2, rk2, fi2, ne2, hC, hR⟩ := hK.F
  have na := hn
  have nkn : gxN G ≤ a + 1 := by omega
  have naw : gxN G ≤ a + 2 := by omega
  have nrk : gxN G ≤ a + 3 := by omega
  have nfi : gxN G ≤ a + 4 := by omega
  have nne : gxN G ≤ a + 5 := by omega
  refine gxM_of rfl (Nat.le_of_ble_eq_true rfl) rfl ?_
  obtain ⟨ha, hkn, haw, hrk, hfi, hne⟩ := id hF
  obtain ⟨hc, hckn, hcaw, hcrk, hcfi, hcne⟩ := id hC
  refine gx_aload_n (pc := 0) dX3_copies_0 rfl ?_
  refine gx_aload_n (pc := 1) dX3_copies_1 rfl ?_
  refine gx_get (pc := 2) fX3_27 hc rfl dX3_copies_2 ?_
  refine gx_put (pc := 5) fX3_27 ha na (by first | exact Nat.le_of_ble_eq_true rfl | simp) tX3_0 rfl rfl dX3_copies_5 ?_
  have F1 := hF.ob (.ref ta) m0 p0 y0 l0 q0
  have E1 := t6.up (a := a) (i := 0) h (.inr (2, [.ref ta, .ref (a + 1), .ref (a + 2), .ref (a + 3), .ref (a + 4), .ref (a + 5), .int m0, .int p0, .int y0, .int l0, .int q0])) (by decide)
  change gxV _ _ _ _ _ _ _ _ (gxup h a (.inr (2, [.ref ta, .ref (a + 1), .ref (a + 2), .ref (a + 3), .ref (a + 4), .ref (a + 5), .int m0, .int p0, .int y0, .int l0, .int q0]))) _
  change t6 a h (gxup h a _) at E1
  generalize gxup h a (.inr (2, [.ref ta, .ref (a + 1), .ref (a + 2), .ref (a + 3), .ref (a + 4), .ref (a + 5), .int m0, .int p0, .int y0, .int l0, .int q0])) = h1 at *
  have C1 := hC.ap dj E1.2
  clear ha hkn haw hrk hfi hne hc hckn hcaw hcrk hcfi hcne
  obtain ⟨ha, hkn, haw, hrk, hfi, hne⟩ := id F1
  obtain ⟨hc, hckn, hcaw, hcrk, hcfi, hcne⟩ := id C1
  refine gx_aload_n (pc := 8) dX3_copies_8 rfl ?_
  refine gx_get (pc := 9) fX3_9 hc rfl dX3_copies_9 ?_
  refine gx_iconst (pc := 12) (v := 0) dX3_copies_12 (by decide) ?_
  refine gx_aload_n (pc := 13) dX3_copies_13 rfl ?_
  refine gx_get (pc := 14) fX3_9 ha rfl dX3_copies_14 ?_
  refine gx_iconst (pc := 17) (v := 0) dX3_copies_17 (by decide) ?_
  refine gx_bipush (pc := 18) (v := 10) dX3_copies_18 (by decide) ?_
  refine cIX3_80 (pc := 20) (n := 10) (sp := 0) (dp := 0) rfl hckn hkn nkn (by decide) (by decide) (by decide) (by decide) (by omega) (Nat.le_of_ble_eq_true rfl) dX3_copies_20 ?_
  generalize hg2 : va_cpy kn2 kn 0 0 10 = g2
  have F2 := F1.ukn g2
  have E2 := E1.tr (t6.up (i := 1) h1 (.inl (0, 10, .inl g2)) (by decide))
  generalize gxup h1 (a + 1) (.inl (0, 10, .inl g2)) = h2 at *
  have C2 := hC.ap dj E2.2
  clear ha hkn haw hrk hfi hne hc hckn hcaw hcrk hcfi hcne
  obtain ⟨ha, hkn, haw, hrk, hfi, hne⟩ := id F2
  obtain ⟨hc, hckn, hcaw, hcrk, hcfi, hcne⟩ := id C2
  refine gx_aload_n (pc := 23) dX3_copies_23 rfl ?_
  refine gx_get (pc := 24) fX3_15 hc rfl dX3_copies_24 ?_
  refine gx_iconst (pc := 27) (v := 0) dX3_copies_27 (by decide) ?_
  refine gx_aload_n (pc := 28) dX3_copies_28 rfl ?_
  refine gx_get (pc := 29) fX3_15 ha rfl dX3_copies_29 ?_
  refine gx_iconst (pc := 32) (v := 0) dX3_copies_32 (by decide) ?_
  refine gx_bipush (pc := 33) (v := 36) dX3_copies_33 (by decide) ?_
  refine cIX3_80 (pc := 35) (n := 36) (sp := 0) (dp := 0) rfl hcaw haw naw (by decide) (by decide) (by decide) (by decide) (by omega) (Nat.le_of_ble_eq_true rfl) dX3_copies_35 ?_
  generalize hg3 : va_cpy aw2 aw 0 0 36 = g3
  have F3 := F2.uaw g3
  have E3 := E2.tr (t6.up (i := 2) h2 (.inl (0, 36, .inl g3)) (by decide))
  generalize gxup h2 (a + 2) (.inl (0, 36, .inl g3)) = h3 at *
  have C3 := hC.ap dj E3.2
  clear ha hkn haw hrk hfi hne hc hckn hcaw hcrk hcfi hcne
  obtain ⟨ha, hkn, haw, hrk, hfi, hne⟩ := id F3
  obtain ⟨hc, hckn, hcaw, hcrk, hcfi, hcne⟩ := id C3
  refine gx_aload_n (pc := 38) dX3_copies_38 rfl ?_
  refine gx_get (pc := 39) fX3_18 hc rfl dX3_copies_39 ?_
  refine gx_iconst (pc := 42) (v := 0) dX3_copies_42 (by decide) ?_
  refine gx_aload_n (pc := 43) dX3_copies_43 rfl ?_
  refine gx_get (pc := 44) fX3_18 ha rfl dX3_copies_44 ?_
  refine gx_iconst (pc := 47) (v := 0) dX3_copies_47 (by decide) ?_
  refine gx_bipush (pc := 48) (v := 6) dX3_copies_48 (by decide) ?_
  refine cIX3_80 (pc := 50) (n := 6) (sp := 0) (dp := 0) rfl hcrk hrk nrk (by decide) (by decide) (by decide) (by decide) (by omega) (Nat.le_of_ble_eq_true rfl) dX3_copies_50 ?_
  generalize hg4 : va_cpy rk2 rk 0 0 6 = g4
  have F4 := F3.urk g4
  have E4 := E3.tr (t6.up (i := 3) h3 (.inl (0, 6, .inl g4)) (by decide))
  generalize gxup h3 (a + 3) (.inl (0, 6, .inl g4)) = h4 at *
  have C4 := hC.ap dj E4.2
  clear ha hkn haw hrk hfi hne hc hckn hcaw hcrk hcfi hcne
  obtain ⟨ha, hkn, haw, hrk, hfi, hne⟩ := id F4
  obtain ⟨hc, hckn, hcaw, hcrk, hcfi, hcne⟩ := id C4
  refine gx_aload_n (pc := 53) dX3_copies_53 rfl ?_
  refine gx_get (pc := 54) fX3_21 hc rfl dX3_copies_54 ?_
  refine gx_iconst (pc := 57) (v := 0) dX3_copies_57 (by decide) ?_
  refine gx_aload_n (pc := 58) dX3_copies_58 rfl ?_
  refine gx_get (pc := 59) fX3_21 ha rfl dX3_copies_59 ?_
  refine gx_iconst (pc := 62) (v := 0) dX3_copies_62 (by decide) ?_
  refine gx_bipush (pc := 63) (v := 6) dX3_copies_63 (by decide) ?_
  refine cIX3_80 (pc := 65) (n := 6) (sp := 0) (dp := 0) rfl hcfi hfi nfi (by decide) (by decide) (by decide) (by decide) (by omega) (Nat.le_of_ble_eq_true rfl) dX3_copies_65 ?_
  generalize hg5 : va_cpy fi2 fi 0 0 6 = g5
  have F5 := F4.ufi g5
  have E5 := E4.tr (t6.up (i := 4) h4 (.inl (0, 6, .inl g5)) (by decide))
  generalize gxup h4 (a + 4) (.inl (0, 6, .inl g5)) = h5 at *
  have C5 := hC.ap dj E5.2
  clear ha hkn haw hrk hfi hne hc hckn hcaw hcrk hcfi hcne
  obtain ⟨ha, hkn, haw, hrk, hfi, hne⟩ := id F5
  obtain ⟨hc, hckn, hcaw, hcrk, hcfi, hcne⟩ := id C5
  refine gx_aload_n (pc := 68) dX3_copies_68 rfl ?_
  refine gx_get (pc := 69) fX3_24 hc rfl dX3_copies_69 ?_
  refine gx_iconst (pc := 72) (v := 0) dX3_copies_72 (by decide) ?_
  refine gx_aload_n (pc := 73) dX3_copies_73 rfl ?_
  refine gx_get (pc := 74) fX3_24 ha rfl dX3_copies_74 ?_
  refine gx_iconst (pc := 77) (v := 0) dX3_copies_77 (by decide) ?_
  refine gx_bipush (pc := 78) (v := 6) dX3_copies_78 (by decide) ?_
  refine cIX3_80 (pc := 80) (n := 6) (sp := 0) (dp := 0) rfl hcne hne nne (by decide) (by decide) (by decide) (by decide) (by omega) (Nat.le_of_ble_eq_true rfl) dX3_copies_80 ?_
  generalize hg6 : va_cpy ne2 ne 0 0 6 = g6
  have F6 := F5.une g6
  have E6 := E5.tr (t6.up (i := 5) h5 (.inl (0, 6, .inl g6)) (by decide))
  generalize gxup h5 (a + 5) (.inl (0, 6, .inl g6)) = h6 at *
  have C6 := hC.ap dj E6.2
  clear ha hkn haw hrk hfi hne hc hckn hcaw hcrk hcfi hcne
  have R6 : TR s g2 g3 g4 g5 g6 b := by
    obtain ⟨r1, r2, r3, r4, r5⟩ := hR
    refine ⟨fun k hk => by rw [← hg2, cpy_all _ _ _ hk]; exact r1 k hk, fun p q k hp hq hk => by rw [← hg3, cpy_all _ _ _ (by omega)]; exact r2 p q k hp hq hk, fun p hp => by rw [← hg4, cpy_all _ _ _ hp]; exact r3 p hp, fun p hp => by rw [← hg5, cpy_all _ _ _ hp]; exact r4 p hp, fun p hp hb => by rw [← hg6, cpy_all _ _ _ hp]; exact r5 p hp hb⟩
  have stp : ∀ (h1 : gxH) (m p y l q m' p' y' l' q' : Int32), TF h1 a (.ref ta) g2 g3 g4 g5 g6 m p y l q → t6 a h h1 → TF (gxup h1 a (.inr (2, [.ref ta, .ref (a + 1), .ref (a + 2), .ref (a + 3), .ref (a + 4), .ref (a + 5), .int m', .int p', .int y', .int l', .int q']))) a (.ref ta) g2 g3 g4 g5 g6 m' p' y' l' q' ∧ t6 a h (gxup h1 a (.inr (2, [.ref ta, .ref (a + 1), .ref (a + 2), .ref (a + 3), .ref (a + 4), .ref (a + 5), .int m', .int p', .int y', .int l', .int q']))) := fun h1 m p y l q m' p' y' l' q' F E => ⟨F.ob _ _ _ _ _ _, E.tr (t6.up (i := 0) h1 _ (by decide))⟩
  obtain ⟨ha, hkn, haw, hrk, hfi, hne⟩ := id F6
  obtain ⟨hc, hckn, hcaw, hcrk, hcfi, hcne⟩ := id C6
  refine gx_aload_n (pc := 83) dX3_copies_83 rfl ?_
  refine gx_aload_n (pc := 84) dX3_copies_84 rfl ?_
  refine gx_get (pc := 85) fX3_60 hc rfl dX3_copies_85 ?_
  refine gx_put (pc := 88) fX3_60 ha na (by first | exact Nat.le_of_ble_eq_true rfl | simp) tX3_6 rfl rfl dX3_copies_88 ?_
  obtain ⟨F7, E7⟩ := stp h6 m0 p0 y0 l0 q0 (s 76) p0 y0 l0 q0 F6 E6
  change gxV _ _ _ _ _ _ _ _ (gxup h6 a (.inr (2, [.ref ta, .ref (a + 1), .ref (a + 2), .ref (a + 3), .ref (a + 4), .ref (a + 5), .int (s 76), .int p0, .int y0, .int l0, .int q0]))) _
  generalize gxup h6 a (.inr (2, [.ref ta, .ref (a + 1), .ref (a + 2), .ref (a + 3), .ref (a + 4), .ref (a + 5), .int (s 76), .int p0, .int y0, .int l0, .int q0])) = h7 at *
  have C7 := hC.ap dj E7.2
  obtain ⟨ha, hkn, haw, hrk, hfi, hne⟩ := id F7
  obtain ⟨hc, hckn, hcaw, hcrk, hcfi, hcne⟩ := id C7
  refine gx_aload_n (pc := 91) dX3_copies_91 rfl ?_
  refine gx_aload_n (pc := 92) dX3_copies_92 rfl ?_
  refine gx_get (pc := 93) fX3_63 hc rfl dX3_copies_93 ?_
  refine gx_put (pc := 96) fX3_63 ha na (by first | exact Nat.le_of_ble_eq_true rfl | simp) tX3_7 rfl rfl dX3_copies_96 ?_
  obtain ⟨F8, E8⟩ := stp h7 (s 76) p0 y0 l0 q0 (s 76) (s 77) y0 l0 q0 F7 E7
  change gxV _ _ _ _ _ _ _ _ (gxup h7 a (.inr (2, [.ref ta, .ref (a + 1), .ref (a + 2), .ref (a + 3), .ref (a + 4), .ref (a + 5), .int (s 76), .int (s 77), .int y0, .int l0, .int q0]))) _
  generalize gxup h7 a (.inr (2, [.ref ta, .ref (a + 1), .ref (a + 2), .ref (a + 3), .ref (a + 4), .ref (a + 5), .int (s 76), .int (s 77), .int y0, .int l0, .int q0])) = h8 at *
  have C8 := hC.ap dj E8.2
  obtain ⟨ha, hkn, haw, hrk, hfi, hne⟩ := id F8
  obtain ⟨hc, hckn, hcaw, hcrk, hcfi, hcne⟩ := id C8
  refine gx_aload_n (pc := 99) dX3_copies_99 rfl ?_
  refine gx_aload_n (pc := 100) dX3_copies_100 rfl ?_
  refine gx_get (pc := 101) fX3_66 hc rfl dX3_copies_101 ?_
  refine gx_put (pc := 104) fX3_66 ha na (by first | exact Nat.le_of_ble_eq_true rfl | simp) tX3_8 rfl rfl dX3_copies_104 ?_
  obtain ⟨F9, E9⟩ := stp h8 (s 76) (s 77) y0 l0 q0 (s 76) (s 77) (s 78) l0 q0 F8 E8
  change gxV _ _ _ _ _ _ _ _ (gxup h8 a (.inr (2, [.ref ta, .ref (a + 1), .ref (a + 2), .ref (a + 3), .ref (a + 4), .ref (a + 5), .int (s 76), .int (s 77), .int (s 78), .int l0, .int q0]))) _
  generalize gxup h8 a (.inr (2, [.ref ta, .ref (a + 1), .ref (a + 2), .ref (a + 3), .ref (a + 4), .ref (a + 5), .int (s 76), .int (s 77), .int (s 78), .int l0, .int q0])) = h9 at *
  have C9 := hC.ap dj E9.2
  obtain ⟨ha, hkn, haw, hrk, hfi, hne⟩ := id F9
  obtain ⟨hc, hckn, hcaw, hcrk, hcfi, hcne⟩ := id C9
  refine gx_aload_n (pc := 107) dX3_copies_107 rfl ?_
  refine gx_aload_n (pc := 108) dX3_copies_108 rfl ?_
  refine gx_get (pc := 109) fX3_69 hc rfl dX3_copies_109 ?_
  refine gx_put (pc := 112) fX3_69 ha na (by first | exact Nat.le_of_ble_eq_true rfl | simp) tX3_9 rfl rfl dX3_copies_112 ?_
  obtain ⟨F10, E10⟩ := stp h9 (s 76) (s 77) (s 78) l0 q0 (s 76) (s 77) (s 78) (s 122) q0 F9 E9
  change gxV _ _ _ _ _ _ _ _ (gxup h9 a (.inr (2, [.ref ta, .ref (a + 1), .ref (a + 2), .ref (a + 3), .ref (a + 4), .ref (a + 5), .int (s 76), .int (s 77), .int (s 78), .int (s 122), .int q0]))) _
  generalize gxup h9 a (.inr (2, [.ref ta, .ref (a + 1), .ref (a + 2), .ref (a + 3), .ref (a + 4), .ref (a + 5), .int (s 76), .int (s 77), .int (s 78), .int (s 122), .int q0])) = h10 at *
  have C10 := hC.ap dj E10.2
  obtain ⟨ha, hkn, haw, hrk, hfi, hne⟩ := id F10
  obtain ⟨hc, hckn, hcaw, hcrk, hcfi, hcne⟩ := id C10
  refine gx_aload_n (pc := 115) dX3_copies_115 rfl ?_
  refine gx_aload_n (pc := 116) dX3_copies_116 rfl ?_
  refine gx_get (pc := 117) fX3_72 hc rfl dX3_copies_117 ?_
  refine gx_put (pc := 120) fX3_72 ha na (by first | exact Nat.le_of_ble_eq_true rfl | simp) tX3_10 rfl rfl dX3_copies_120 ?_
  refine gx_aload_n (pc := 123) dX3_copies_123 rfl ?_
  obtain ⟨F11, E11⟩ := stp h10 (s 76) (s 77) (s 78) (s 122) q0 (s 76) (s 77) (s 78) (s 122) (s 85) F10 E10
  have C11 := hC.ap dj E11.2
  exact gx_areturn (pc := 124) rfl (Or.inl ⟨_, rfl⟩) (Or.inr ⟨_, rfl⟩) dX3_copies_124 (⟨_, rfl, ⟨rfl, TK.of F11 R6, TK.of C11 hR, E11⟩⟩)
/-- a copy: a new talk -/
theorem c_copied (hn : gxN G ≤ h.2) (hd : 2 ≤ d) (hlt : c + 6 ≤ h.2) (hK : TK h c ta s b) : gxM G mX3_copied d 6 75 [.ref c] h (gxQr (fun r h' => r = h.2 ∧ TK h' h.2 ta s b ∧ h'.2 = h.2 + 6 ∧ lowE h.2 h h')) := by
  obtain ⟨a, ea⟩ : ∃ a, a = h.2 := ⟨_, rfl⟩
  rw [← ea] at hn hlt ⊢
  refine gxM_of rfl (Nat.le_of_ble_eq_true rfl) rfl ?_
  refine nX3_10 (pc := 0) rfl dX3_copied_0 ?_
  rw [← ea]
  have ha : (gxadd h (.inr (2, talk0))).1 a = some (.inr (2, talk0)) := by rw [ea]; exact gxadd_self _ _
  have l0 : lowE a h (gxadd h (.inr (2, talk0))) := fun q hq => gxadd_ne (by omega)
  have z0 : (gxadd h (.inr (2, talk0))).2 = a + 1 := by show h.2 + 1 = _; rw [ea]
  change gxV _ _ _ _ _ _ _ _ (gxadd h (.inr (2, talk0))) _
  generalize gxadd h (.inr (2, talk0)) = h1 at *
  refine gx_dup (pc := 3) dX3_copied_3 rfl ?_
  refine kX3_75 (kc := 0) (ks := 0) (mc := 5) (ms := 64) (pc := 4) rfl (c_Xinit (d := d - 1) (by omega) hn ha z0) (by omega) (Nat.le_of_ble_eq_true rfl) dX3_copied_4 (fun h2 e2 => ?_)
  obtain ⟨F2, z2, l2⟩ := e2
  have K2 : TK h2 c ta s b := by
    obtain ⟨k1, k2, k3, k4, k5, h0, h1', h2', h3, h4, h5, r⟩ := hK
    have e : ∀ q, q < a → h2.1 q = h.1 q := fun q hq => (l2 q hq).trans (l0 q hq)
    exact ⟨k1, k2, k3, k4, k5, by rw [e _ (by omega)]; exact h0, by rw [e _ (by omega)]; exact h1', by rw [e _ (by omega)]; exact h2', by rw [e _ (by omega)]; exact h3, by rw [e _ (by omega)]; exact h4, by rw [e _ (by omega)]; exact h5, r⟩
  have ha := F2.1
  refine gx_aload_n (pc := 7) dX3_copied_7 rfl ?_
  refine kX3_76 (kc := 0) (ks := 0) (mc := 0) (ms := 0) (pc := 8) rfl (c_Xcopies (d := d - 1) hn (by omega) (by omega) K2 F2) (gxRc.of rfl ha) (by omega) (Nat.le_of_ble_eq_true rfl) dX3_copied_8 (fun r1 h3 e3 => ?_)
  obtain ⟨rfl, K3, _, T3⟩ := e3
  exact gx_areturn (pc := 11) rfl (Or.inl ⟨_, rfl⟩) (Or.inr ⟨_, rfl⟩) dX3_copied_11 (⟨_, rfl, ⟨rfl, K3, T3.1.trans z2, fun q hq => (T3.2 q (by omega)).trans ((l2 q hq).trans (l0 q hq))⟩⟩)
end LN
