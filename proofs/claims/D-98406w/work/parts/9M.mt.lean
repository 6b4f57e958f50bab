/-! ===== COMPONENT AT: nights ===== -/
set_option maxRecDepth 100000
/-- the nights' cells -/
def NG (h : gxH) (ng x u v : Nat) (of ne hr : Nat → Int32) : Prop := h.1 ng = some (.inr (7, [.ref u, .ref v, .ref (ng + 3), .ref x])) ∧ ((u = ng + 1 ∧ v = ng + 2) ∨ (u = ng + 2 ∧ v = ng + 1)) ∧ h.1 u = some (.inl (0, 64, .inl of)) ∧ h.1 v = some (.inl (0, 64, .inl ne)) ∧ h.1 (ng + 3) = some (.inl (0, 6, .inl hr))
section NGs
variable {h h' : gxH} {ng x u v fa : Nat} {of ne hr : Nat → Int32}
theorem NG.uof (y : NG h ng x u v of ne hr) (f : Nat → Int32) : NG (gxup h u (.inl (0, 64, .inl f))) ng x u v f ne hr := by
  obtain ⟨h0, d, h1, h2, h3⟩ := y
  exact ⟨by rw [gxup_ne (by omega)]; exact h0, d, gxup_self _ _ _, by rw [gxup_ne (by omega)]; exact h2, by rw [gxup_ne (by omega)]; exact h3⟩
theorem NG.une (y : NG h ng x u v of ne hr) (f : Nat → Int32) : NG (gxup h v (.inl (0, 64, .inl f))) ng x u v of f hr := by
  obtain ⟨h0, d, h1, h2, h3⟩ := y
  exact ⟨by rw [gxup_ne (by omega)]; exact h0, d, by rw [gxup_ne (by omega)]; exact h1, gxup_self _ _ _, by rw [gxup_ne (by omega)]; exact h3⟩
theorem NG.uhr (y : NG h ng x u v of ne hr) (f : Nat → Int32) : NG (gxup h (ng + 3) (.inl (0, 6, .inl f))) ng x u v of ne f := by
  obtain ⟨h0, d, h1, h2, h3⟩ := y
  exact ⟨by rw [gxup_ne (by omega)]; exact h0, d, by rw [gxup_ne (by omega)]; exact h1, by rw [gxup_ne (by omega)]; exact h2, gxup_self _ _ _⟩
theorem NG.fE (y : NG h ng x u v of ne hr) (hf : fcA h fa) (e : fE fa h h') : NG h' ng x u v of ne hr := ⟨e.at hf y.1 (fun f q => by cases q), y.2.1, e.at hf y.2.2.1 (fun f q => by simp at q), e.at hf y.2.2.2.1 (fun f q => by simp at q), e.at hf y.2.2.2.2 (fun f q => by simp at q)⟩
theorem NG.ez (y : NG h ng x u v of ne hr) (e : gxE) (hf : fa < ng ∨ ng + 4 ≤ fa) {q : Nat} (hq : q = u ∨ q = v ∨ q = ng ∨ q = ng + 3) : zE ng 4 fa h (gxup h q e) := by
  obtain ⟨_, d, _⟩ := y
  have hc : ∃ i, i < 4 ∧ q = ng + i := ⟨q - ng, by omega, by omega⟩
  obtain ⟨i, hi, rfl⟩ := hc
  exact zE.up h e hi hf
end NGs
section MAT
variable {G : gxG} {d : Nat} {h : gxH} {x r tk tr gl sl bl py pt ng ft mk lo hi ta fa P S E u v : Nat} {gg : Int64} {A : Nat → Nat → Int32} {s : Nat → Int32} {w : Option gxEv} {b : Bool} {of ne hr : Nat → Int32}
theorem ear_N (hE : eaOk A E) (p q : Int32) : spEar A p q E 0 = -1 ∨ ∃ c, c ≤ 10 ∧ spEar A p q E 0 = nI c := by
  have : ∀ m e, e + m ≤ E → spEar A p q m e = -1 ∨ ∃ c, c ≤ 10 ∧ spEar A p q m e = nI c := by
    intro m
    induction m with
    | zero => intro e _; exact Or.inl rfl
    | succ m ih =>
      intro e he
      rw [spEar]
      split
      · obtain ⟨c, h1, h2⟩ := spChance_N hE (show e < E by omega)
        exact Or.inr ⟨c, h1, h2⟩
      · exact ih (e + 1) (by omega)
  exact this E 0 (by omega)
theorem c_Nhears (hd : 5 ≤ d) (hS : (XS x r tk tr gl sl bl py pt ng ft mk lo hi ta fa P S E gg A s w b) h) (hG : NG h ng x u v of ne hr) (hE : eaOk A E) (set q : Nat) (hs : set < 64) (hq : q < 6) : gxM G mX8_hears d 0 0 [.ref ng, .int (nI set), .int (nI q)] h (gxQi (fun a h' => a = nI (hN A P E set q) ∧ h' = h)) := by
  have hX := hS.2
  have hX0 := hX
  have hx := hS.1
  have hng := hG.1
  obtain ⟨hT, hK, hM⟩ := hX; have hT0 := hT; obtain ⟨i1, i2, hf, nl, ol, pl, sl, el, fo, wv, pa, sa, ea, i3, ht, hfo, hpl, hsl, hel, hpa, hsa, hea, hwv⟩ := hT; have hpl0 := hpl.ls; have hsl0 := hsl.ls; have hel0 := hel.ls; have hpl := hpl0; have hsl := hsl0; have hel := hel0; obtain ⟨_, _, _, _, hpl, _⟩ := hpl; obtain ⟨_, _, _, _, hsl, _⟩ := hsl; obtain ⟨_, _, _, _, hel, _⟩ := hel
  have hP6 := hM.2.1
  have hE30 := hM.2.2.2.2.2.1
  refine gxM_of rfl (Nat.le_of_ble_eq_true rfl) rfl ?_
  have L : ∀ m f (x5 : Option Value), m + f = P → gxV G mX8_hears d 0 0 6 [some (.ref ng), some (.int (nI set)), some (.int (nI q)), some (.int (nI (ntN A E set q f))), some (.int (nI f)), x5] [] h (gxQi (fun a h' => a = nI (hN A P E set q) ∧ h' = h)) := by
    intro m
    induction m with
    | zero =>
      intro f x5 hf
      have : f = P := by omega
      subst this
      have := ntN_le A E set q f
      refine gx_iload (pc := 6) dX8_hears_6 rfl ?_
      refine gx_aload_n (pc := 8) dX8_hears_8 rfl ?_
      refine gx_get (pc := 9) fX8_3 hng rfl dX8_hears_9 ?_
      refine kX8_35 (kc := 0) (ks := 0) (mc := 0) (ms := 0) (pc := 12) rfl (c_people (d := d - 1) (by omega) hS.1.O hX0) (gxRc.of rfl hx) (by omega) (Nat.le_of_ble_eq_true rfl) dX8_hears_12 (fun r1 h1 e1 => ?_)
      obtain ⟨rfl, e1⟩ := e1
      subst h1
      refine gx_icmp_ge (pc := 15) 93 dX8_hears_15 (by decide) (fun c1 => ?_) (fun c1 => ?_)
      · refine gx_ldc (pc := 93) q1651 dX8_hears_93 ?_
        refine gx_iload_n (pc := 95) dX8_hears_95 rfl ?_
        refine gx_isub (pc := 96) dX8_hears_96 ?_
        rw [show (1000000 : Int32) = nI 1000000 from rfl, nI_sub (by omega)]
        exact gx_ireturn (pc := 97) rfl dX8_hears_97 (⟨_, rfl, ⟨rfl, rfl⟩⟩)
      · exact absurd (nI_le (Nat.le_refl _) (by omega)) c1
    | succ m ih =>
      intro f x5 hf
      have hfP : f < P := by omega
      have nl := ntN_le A E set q f
      have K68 : ∀ a : Int32, (¬ (set.testBit f = true ∧ spSpeaks A f = true) ∧ a = -1) ∨ ((set.testBit f = true ∧ spSpeaks A f = true) ∧ a = spEar A (nI f) (nI q) E 0) → gxV G mX8_hears d 0 0 68 [some (.ref ng), some (.int (nI set)), some (.int (nI q)), some (.int (nI (ntN A E set q f))), some (.int (nI f)), x5] [.int a] h (gxQi (fun a h' => a = nI (hN A P E set q) ∧ h' = h)) := by
        intro a ha
        refine gx_istore (pc := 68) dX8_hears_68 (by decide) rfl ?_
        refine gx_iload (pc := 70) dX8_hears_70 rfl ?_
        refine gx_iconst (pc := 72) (v := (-1)) dX8_hears_72 (by decide) ?_
        refine gx_icmp_eq (pc := 73) 87 dX8_hears_73 (by decide) (fun c1 => ?_) (fun c1 => ?_)
        · have e : ntN A E set q (f + 1) = ntN A E set q f := by
            rw [ntN, if_neg]
            rintro ⟨z1, z2, z3⟩
            rcases ha with ⟨y, _⟩ | ⟨_, y⟩
            · exact y ⟨z1, z2⟩
            · exact z3 (by rw [← y]; exact c1)
          refine gx_iincc (pc := 87) (c := 1) dX8_hears_87 rfl (by decide) (by decide) rfl ?_
          refine gx_goto (pc := 90) 6 dX8_hears_90 (by decide) ?_
          rw [nI_1, ← e]
          exact ih (f + 1) _ (by omega)
        · have c1' : ¬ a = -1 := c1
          rcases ha with ⟨_, y⟩ | ⟨z, y⟩
          · exact absurd y c1'
          · obtain ⟨c, hc, ec⟩ := (ear_N hE (nI f) (nI q)).resolve_left (fun e => c1' (by rw [y, e]))
            have e : ntN A E set q (f + 1) = ntN A E set q f * (10 - c) / 10 := by
              rw [ntN, if_pos ⟨z.1, z.2, by rw [← y]; exact c1'⟩, ec, nI_clamp (by omega)]
            rw [y, ec]
            refine gx_iload_n (pc := 76) dX8_hears_76 rfl ?_
            refine gx_bipush (pc := 77) (v := 10) dX8_hears_77 (by decide) ?_
            refine gx_iload (pc := 79) dX8_hears_79 rfl ?_
            refine gx_isub (pc := 81) dX8_hears_81 ?_
            refine gx_imul (pc := 82) dX8_hears_82 ?_
            rw [show (10 : Int32) = nI 10 from rfl, nI_sub hc, nI_mul]
            refine gx_bipush (pc := 83) (v := 10) dX8_hears_83 (by decide) ?_
            refine gx_idiv (pc := 85) dX8_hears_85 ((by decide)) ?_
            rw [show (10 : Int32) = nI 10 from rfl, nI_dv (Nat.lt_of_le_of_lt (Nat.mul_le_mul nl (Nat.sub_le 10 c)) (by decide)) (by decide), ← e]
            refine gx_istore_n (pc := 86) dX8_hears_86 (by decide) rfl ?_
            refine gx_iincc (pc := 87) (c := 1) dX8_hears_87 rfl (by decide) (by decide) rfl ?_
            refine gx_goto (pc := 90) 6 dX8_hears_90 (by decide) ?_
            rw [nI_1]
            exact ih (f + 1) _ (by omega)
      obtain ⟨_, hpe⟩ := hpa f hfP
      refine gx_iload (pc := 6) dX8_hears_6 rfl ?_
      refine gx_aload_n (pc := 8) dX8_hears_8 rfl ?_
      refine gx_get (pc := 9) fX8_3 hng rfl dX8_hears_9 ?_
      refine kX8_35 (kc := 0) (ks := 0) (mc := 0) (ms := 0) (pc := 12) rfl (c_people (d := d - 1) (by omega) hS.1.O hX0) (gxRc.of rfl hx) (by omega) (Nat.le_of_ble_eq_true rfl) dX8_hears_12 (fun r1 h1 e1 => ?_)
      obtain ⟨rfl, e1⟩ := e1
      subst h1
      refine gx_icmp_ge (pc := 15) 93 dX8_hears_15 (by decide) (fun c1 => ?_) (fun c1 => ?_)
      · exact absurd c1 (nI_ge hfP (by omega))
      · refine gx_iload_n (pc := 18) dX8_hears_18 rfl ?_
        refine gx_iload (pc := 19) dX8_hears_19 rfl ?_
        refine kX8_43 (kc := 0) (ks := 0) (mc := 0) (ms := 0) (pc := 21) rfl (c_has (d := d - 1) (nI set) (nI f)) (by omega) (Nat.le_of_ble_eq_true rfl) dX8_hears_21 (fun r1 h1 e1 => ?_)
        obtain ⟨rfl, e1⟩ := e1
        subst h1
        refine gx_if_eq (pc := 24) 67 dX8_hears_24 (by decide) (fun c2 => ?_) (fun c2 => ?_)
        · have z := zi_eq0 c2
          rw [_root_.Jvm.Pilot.CPaidSecretsLaw_law_r4827_afc432.hs, decide_eq_false_iff_not, bit64 hs (by omega)] at z
          refine gx_iconst (pc := 67) (v := (-1)) dX8_hears_67 (by decide) ?_
          exact K68 _ (Or.inl ⟨fun y => z y.1, rfl⟩)
        · have z := zi_ne0 c2
          rw [_root_.Jvm.Pilot.CPaidSecretsLaw_law_r4827_afc432.hs, decide_eq_true_eq, bit64 hs (by omega)] at z
          refine gx_aload_n (pc := 27) dX8_hears_27 rfl ?_
          refine gx_get (pc := 28) fX8_3 hng rfl dX8_hears_28 ?_
          refine kX8_55 (kc := 0) (ks := 0) (mc := 0) (ms := 0) (pc := 31) rfl (c_now (d := d - 1) hS.1.O hX0) (gxRc.of rfl hx) (by omega) (Nat.le_of_ble_eq_true rfl) dX8_hears_31 (fun r1 h1 e1 => ?_)
          obtain ⟨rfl, e1⟩ := e1
          subst h1
          refine gx_get (pc := 34) fX8_59 ht rfl dX8_hears_34 ?_
          refine gx_iload (pc := 37) dX8_hears_37 rfl ?_
          refine kX8_64 (kc := 0) (ks := 0) (mc := 0) (ms := 0) (pc := 39) rfl (c_get (d := d - 1) (by omega) hpl0 f hfP) (gxRc.of rfl hpl) (by omega) (Nat.le_of_ble_eq_true rfl) dX8_hears_39 (fun r1 h1 e1 => ?_)
          obtain ⟨rfl, e1⟩ := e1
          subst h1
          refine gx_castP (pc := 42) hpe q1664 dX8_hears_42 ?_
          refine kPX8_72 (pc := 45) hpe rfl (by omega) (Nat.le_of_ble_eq_true rfl) dX8_hears_45 ?_
          refine gx_if_eq (pc := 48) 67 dX8_hears_48 (by decide) (fun c3 => ?_) (fun c3 => ?_)
          · have z2 := zi_eq0 c3
            refine gx_iconst (pc := 67) (v := (-1)) dX8_hears_67 (by decide) ?_
            exact K68 _ (Or.inl ⟨(fun y => by have := y.2; unfold spSpeaks at this; rw [z2] at this; cases this), rfl⟩)
          · have z2 := zi_ne0 c3
            refine gx_aload_n (pc := 51) dX8_hears_51 rfl ?_
            refine gx_get (pc := 52) fX8_3 hng rfl dX8_hears_52 ?_
            refine kX8_55 (kc := 0) (ks := 0) (mc := 0) (ms := 0) (pc := 55) rfl (c_now (d := d - 1) hS.1.O hX0) (gxRc.of rfl hx) (by omega) (Nat.le_of_ble_eq_true rfl) dX8_hears_55 (fun r1 h1 e1 => ?_)
            obtain ⟨rfl, e1⟩ := e1
            subst h1
            refine gx_iload (pc := 58) dX8_hears_58 rfl ?_
            refine gx_iload_n (pc := 60) dX8_hears_60 rfl ?_
            refine kX8_76 (kc := 0) (ks := 0) (mc := 0) (ms := 0) (pc := 61) rfl (c_Tear (d := d - 1) (by omega) hT0 hP6 hE30 f hfP (nI q)) (gxRc.of rfl ht) (by omega) (Nat.le_of_ble_eq_true rfl) dX8_hears_61 (fun r1 h1 e1 => ?_)
            obtain ⟨rfl, e1⟩ := e1
            subst h1
            refine gx_goto (pc := 64) 68 dX8_hears_64 (by decide) ?_
            exact K68 _ (Or.inr ⟨⟨z, z2⟩, spErr_ear (by omega) (nI q) E 0⟩)
  refine gx_ldc (pc := 0) q1651 dX8_hears_0 ?_
  refine gx_istore_n (pc := 2) dX8_hears_2 (by decide) rfl ?_
  refine gx_iconst (pc := 3) (v := 0) dX8_hears_3 (by decide) ?_
  refine gx_istore (pc := 4) dX8_hears_4 (by decide) rfl ?_
  exact L P 0 none (by omega)
theorem c_Nchance (hd : 3 ≤ d) (hS : (XS x r tk tr gl sl bl py pt ng ft mk lo hi ta fa P S E gg A s w b) h) (hG : NG h ng x u v of ne hr) {hh : Nat → Nat} (hhl : ∀ q, hh q ≤ 1000000) (set ot mo : Nat) (ho : ot < 64) (hm : mo < 64) (hs : set < 64) (h1 : ∀ q, q < P → ot.testBit q = !set.testBit q) (h2 : ∀ q, q < P → set.testBit q = false → hr q = nI (hh q)) : gxM G mX8_chance d 0 0 [.ref ng, .int (nI ot), .int (nI mo)] h (gxQi (fun a h' => a = nI (gN hh set P (set ||| mo)) ∧ h' = h)) := by
  have hX := hS.2
  have hX0 := hX
  have hx := hS.1
  obtain ⟨hng, hd0, hof, hne, hhr⟩ := id hG
  have hP6 := hX.2.2.2.1
  refine gxM_of rfl (Nat.le_of_ble_eq_true rfl) rfl ?_
  have L : ∀ m p, m + p = P → gxV G mX8_chance d 0 0 7 [some (.ref ng), some (.int (nI ot)), some (.int (nI mo)), some (.long (lN (gN hh set p (set ||| mo)))), none, some (.int (nI p))] [] h (gxQi (fun a h' => a = nI (gN hh set P (set ||| mo)) ∧ h' = h)) := by
    intro m
    induction m with
    | zero =>
      intro p hp
      have : p = P := by omega
      subst this
      refine gx_iload (pc := 7) dX8_chance_7 rfl ?_
      refine gx_aload_n (pc := 9) dX8_chance_9 rfl ?_
      refine gx_get (pc := 10) fX8_3 hng rfl dX8_chance_10 ?_
      refine kX8_35 (kc := 0) (ks := 0) (mc := 0) (ms := 0) (pc := 13) rfl (c_people (d := d - 1) (by omega) hS.1.O hX0) (gxRc.of rfl hx) (by omega) (Nat.le_of_ble_eq_true rfl) dX8_chance_13 (fun r1 h1 e1 => ?_)
      obtain ⟨rfl, e1⟩ := e1
      subst h1
      refine gx_icmp_ge (pc := 16) 71 dX8_chance_16 (by decide) (fun c1 => ?_) (fun c1 => ?_)
      · refine gx_lload_n (pc := 71) dX8_chance_71 rfl ?_
        refine gx_l2i (pc := 72) dX8_chance_72 ?_
        rw [lN_i]
        exact gx_ireturn (pc := 73) rfl dX8_chance_73 (⟨_, rfl, ⟨rfl, rfl⟩⟩)
      · exact absurd (nI_le (Nat.le_refl _) (by omega)) c1
    | succ m ih =>
      intro p hp
      have hpP : p < P := by omega
      have gl := gN_le hhl set (set ||| mo) p
      have hl := hhl p
      have bT : ((set ||| mo)).testBit p = (set.testBit p || mo.testBit p) := Nat.testBit_or _ _ _
      refine gx_iload (pc := 7) dX8_chance_7 rfl ?_
      refine gx_aload_n (pc := 9) dX8_chance_9 rfl ?_
      refine gx_get (pc := 10) fX8_3 hng rfl dX8_chance_10 ?_
      refine kX8_35 (kc := 0) (ks := 0) (mc := 0) (ms := 0) (pc := 13) rfl (c_people (d := d - 1) (by omega) hS.1.O hX0) (gxRc.of rfl hx) (by omega) (Nat.le_of_ble_eq_true rfl) dX8_chance_13 (fun r1 h3 e1 => ?_)
      obtain ⟨rfl, e1⟩ := e1
      subst h3
      refine gx_icmp_ge (pc := 16) 71 dX8_chance_16 (by decide) (fun c1 => ?_) (fun c1 => ?_)
      · exact absurd c1 (nI_ge hpP (by omega))
      · refine gx_iload_n (pc := 19) dX8_chance_19 rfl ?_
        refine gx_iload (pc := 20) dX8_chance_20 rfl ?_
        refine kX8_43 (kc := 0) (ks := 0) (mc := 0) (ms := 0) (pc := 22) rfl (c_has (d := d - 1) (nI ot) (nI p)) (by omega) (Nat.le_of_ble_eq_true rfl) dX8_chance_22 (fun r1 h3 e1 => ?_)
        obtain ⟨rfl, e1⟩ := e1
        subst h3
        refine gx_if_eq (pc := 25) 65 dX8_chance_25 (by decide) (fun c2 => ?_) (fun c2 => ?_)
        · have z := zi_eq0 c2
          rw [_root_.Jvm.Pilot.CPaidSecretsLaw_law_r4827_afc432.hs, decide_eq_false_iff_not, bit64 ho (by omega), h1 p hpP] at z
          have z' : set.testBit p = true := by cases e : set.testBit p with
            | true => rfl
            | false => rw [e] at z; exact absurd rfl z
          have e : gN hh set (p + 1) (set ||| mo) = gN hh set p (set ||| mo) := by rw [gN, if_pos z', bT, z']; rfl
          refine gx_iincc (pc := 65) (c := 1) dX8_chance_65 rfl (by decide) (by decide) rfl ?_
          refine gx_goto (pc := 68) 7 dX8_chance_68 (by decide) ?_
          rw [nI_1, ← e]
          exact ih (p + 1) (by omega)
        · have z := zi_ne0 c2
          rw [_root_.Jvm.Pilot.CPaidSecretsLaw_law_r4827_afc432.hs, decide_eq_true_eq, bit64 ho (by omega), h1 p hpP] at z
          have z' : set.testBit p = false := by cases e : set.testBit p with
            | false => rfl
            | true => rw [e] at z; cases z
          have K58 : ∀ y, y ≤ 1000000 → gN hh set (p + 1) (set ||| mo) = gN hh set p (set ||| mo) * y / 1000000 → gxV G mX8_chance d 0 0 58 [some (.ref ng), some (.int (nI ot)), some (.int (nI mo)), some (.long (lN (gN hh set p (set ||| mo)))), none, some (.int (nI p))] [.int (nI y), .long (lN (gN hh set p (set ||| mo)))] h (gxQi (fun a h' => a = nI (gN hh set P (set ||| mo)) ∧ h' = h)) := by
            intro y hy e
            refine gx_i2l (pc := 58) dX8_chance_58 ?_
            refine gx_lmul (pc := 59) dX8_chance_59 ?_
            refine gx_ldc2 (pc := 60) q1671 dX8_chance_60 ?_
            rw [nI_l (by omega), lN_mul, show (1000000 : Int64) = lN 1000000 from rfl]
            refine gx_ldiv (pc := 63) dX8_chance_63 ((by decide)) ?_
            rw [lN_dv (Nat.lt_of_le_of_lt (Nat.mul_le_mul gl hy) (by decide)) (by decide), ← e]
            refine gx_lstore_n (pc := 64) dX8_chance_64 (by decide) rfl ?_
            refine gx_iincc (pc := 65) (c := 1) dX8_chance_65 rfl (by decide) (by decide) rfl ?_
            refine gx_goto (pc := 68) 7 dX8_chance_68 (by decide) ?_
            rw [nI_1]
            exact ih (p + 1) (by omega)
          refine gx_lload_n (pc := 28) dX8_chance_28 rfl ?_
          refine gx_iload_n (pc := 29) dX8_chance_29 rfl ?_
          refine gx_iload (pc := 30) dX8_chance_30 rfl ?_
          refine kX8_43 (kc := 0) (ks := 0) (mc := 0) (ms := 0) (pc := 32) rfl (c_has (d := d - 1) (nI mo) (nI p)) (by omega) (Nat.le_of_ble_eq_true rfl) dX8_chance_32 (fun r1 h3 e1 => ?_)
          obtain ⟨rfl, e1⟩ := e1
          subst h3
          refine gx_if_eq (pc := 35) 48 dX8_chance_35 (by decide) (fun c3 => ?_) (fun c3 => ?_)
          · have y := zi_eq0 c3
            rw [_root_.Jvm.Pilot.CPaidSecretsLaw_law_r4827_afc432.hs, decide_eq_false_iff_not, bit64 hm (by omega), Bool.not_eq_true] at y
            refine gx_ldc (pc := 48) q1651 dX8_chance_48 ?_
            refine gx_aload_n (pc := 50) dX8_chance_50 rfl ?_
            refine gx_get (pc := 51) fX8_22 hng rfl dX8_chance_51 ?_
            refine gx_iload (pc := 54) dX8_chance_54 rfl ?_
            refine gx_iald (pc := 56) (p) hhr (by first | rfl | simp only [gx_lit, nI_add, pk_mul]) (by omega) (by decide) dX8_chance_56 ?_
            rw [h2 p hpP z', show (1000000 : Int32) = nI 1000000 from rfl]
            refine gx_isub (pc := 57) dX8_chance_57 ?_
            rw [nI_sub hl]
            exact K58 _ (Nat.sub_le _ _) (by rw [gN, z', bT, z', y]; rfl)
          · have y := zi_ne0 c3
            rw [_root_.Jvm.Pilot.CPaidSecretsLaw_law_r4827_afc432.hs, decide_eq_true_eq, bit64 hm (by omega)] at y
            refine gx_aload_n (pc := 38) dX8_chance_38 rfl ?_
            refine gx_get (pc := 39) fX8_22 hng rfl dX8_chance_39 ?_
            refine gx_iload (pc := 42) dX8_chance_42 rfl ?_
            refine gx_iald (pc := 44) (p) hhr (by first | rfl | simp only [gx_lit, nI_add, pk_mul]) (by omega) (by decide) dX8_chance_44 ?_
            rw [h2 p hpP z']
            refine gx_goto (pc := 45) 58 dX8_chance_45 (by decide) ?_
            exact K58 _ hl (by rw [gN, z', bT, z', y]; rfl)
  refine gx_ldc2 (pc := 0) q1671 dX8_chance_0 ?_
  refine gx_lstore_n (pc := 3) dX8_chance_3 (by decide) rfl ?_
  refine gx_iconst (pc := 4) (v := 0) dX8_chance_4 (by decide) ?_
  refine gx_istore (pc := 5) dX8_chance_5 (by decide) rfl ?_
  exact L P 0 (by omega)
end MAT
