/-! ===== COMPONENT BN: a part of the worth read, whole ===== -/
set_option maxRecDepth 100000
section MBN
variable {G : gxG} {d : Nat} {r z n : Nat} {dv : Value} {t : Nat → Int32}
theorem c_part (nr : gxN G ≤ r) (k : Nat) (hk5 : k ≤ 5) (hd : 12 ≤ d) (IH : ∀ k', k = k' + 1 → XC G mX2_part r z n t dv (nI (5 - k')) (d - 1) (4 * k') (prP t z k') ∧ XC G mX2_all r z n t dv (nI (5 - k')) (d - 1) (4 * k' + 4) (prA t z (prP t z k'))) : XC G mX2_part r z n t dv (nI (5 - k)) d (4 * k) (prP t z k) := by
  intro h i nz hR
  have hl := hR.lt
  have he := RR_end hR
  refine gxM_K (fun hK => ?_)
  obtain ⟨S70, hR70, hS70⟩ := st_70 hK
  have w70 : wdL [110, 111, 116] 0 = 10631 := by decide +kernel
  have T1 : 1 ≤ kR n i (prP t z k i) := by
    cases es : prP t z k i with
    | inl f => show 1 ≤ n + 1 - i; omega
    | inr b => have := prg_P he k _ _ hl.1 es; show 1 ≤ b.1 - i; omega
  refine gxM_of rfl (Nat.le_of_ble_eq_true rfl) rfl ?_
  obtain ⟨so, pl, va, ⟨hr, htp, hso, hva, hpl⟩, hin, hnz, hz, hend, hq, hst, hrz⟩ := id hR
  obtain ⟨q1, q2, q3, q4, q5⟩ := hq i hin
  obtain ⟨st1, st2, st3⟩ := hst
  have wf := whI_fact (tkK t z i)
  have K53 : ¬ (spFact (tkK t z i) = 0 ∧ tkW (tkK t z i) 10631 = false ∧ tkG t (tkK t z i) 40 = false ∧ ¬ (tkK t z i).2.2.1 = 2) → gxV G mX2_part d (10 * kR n i (prP t z k i)) (2100 * kR n i (prP t z k i)) 53 [some (.ref r), some (.int (oI (whI (tkK t z i) kwF 0))), some (.int (zi (tkW (tkK t z i) 10631))), none] [] h (gxQx (gxQr (fun a h' => ∃ j ev cs, prP t z k i = .inr (j, ev, cs) ∧ i < j ∧ RR G h' r dv (nI (5 - k)) t z n j ∧ gE h.2 r h h' ∧ exE h.2 h'.2 h' (4 * k) a ev)) (fun y h' => ∃ f, prP t z k i = .inl f ∧ xW h.2 r h f y h')) := by
    intro hN
    have n0 : ¬ (tkK t z i).2.2.1 = 0 := fun e => hN ⟨Decidable.byContradiction (fun y => spFact_n0 y e), by cases y : tkW (tkK t z i) 10631; rfl; exact absurd e (tkW_n0 y), by cases y : tkG t (tkK t z i) 40; rfl; exact absurd e (tkG_n0 y), by rw [e]; decide⟩
    refine gx_aload_n (pc := 53) dX2_part_53 rfl ?_
    refine gx_get (pc := 54) fX2_312 hr rfl dX2_part_54 ?_
    refine gx_iconst (pc := 57) (v := 5) dX2_part_57 (by decide) ?_
    refine gx_icmp_ne (pc := 58) 67 dX2_part_58 (by decide) (fun c1 => ?_) (fun c1 => ?_)
    · have hk0 : k ≠ 0 := fun e => c1 (by rw [e]; rfl)
      obtain ⟨k', rfl⟩ : ∃ k', k = k' + 1 := ⟨k - 1, by omega⟩
      obtain ⟨IHp, IHa⟩ := IH k' rfl
      refine gx_aload_n (pc := 67) dX2_part_67 rfl ?_
      refine gx_dup (pc := 68) dX2_part_68 rfl ?_
      refine gx_get (pc := 69) fX2_132 hr rfl dX2_part_69 ?_
      refine gx_iconst (pc := 72) (v := 1) dX2_part_72 (by decide) ?_
      refine gx_iadd (pc := 73) dX2_part_73 ?_
      rw [nI_1]
      refine gx_put (pc := 74) fX2_132 hr nr (by first | exact Nat.le_of_ble_eq_true rfl | simp) tX2_9 rfl rfl dX2_part_74 ?_
      change gxV _ _ _ _ _ _ _ _ (gxup h r (.inr (1, [.ref (r + 1), .ref (r + 2), .ref (r + 3), dv, .ref (r + 4), .int 0, .ref (r + 5), .ref (r + 6), .ref (r + 7), .int (nI (i + 1)), .int (nI (5 - (k' + 1)))]))) _
      obtain ⟨R1, E1⟩ := hR.step n0
      generalize gxup h r (.inr (1, [.ref (r + 1), .ref (r + 2), .ref (r + 3), dv, .ref (r + 4), .int 0, .ref (r + 5), .ref (r + 6), .ref (r + 7), .int (nI (i + 1)), .int (nI (5 - (k' + 1)))])) = h1 at *
      have s1 := E1.1
      have sp0 : prP t z (k' + 1) i = if ¬ spFact (tkK t z i) = 0 then .inr (i + 1, (fun a b c d => if spFact (tkK t z i) - 1 = 0 then a else if spFact (tkK t z i) - 1 = 1 then b else if spFact (tkK t z i) - 1 = 2 then c else d), [nI (spFact (tkK t z i))]) else if (tkK t z i).2.2.1 = 2 then .inr (i + 1, (fun _ _ _ _ => (tkK t z i).2.2.2.2), [100 + (tkK t z i).2.2.2.2]) else if tkW (tkK t z i) 10631 = true then rB (prP t z k' (i + 1)) (fun a => .inr (a.1, (fun x y u v => if a.2.1 x y u v = 0 then 1 else 0), 30 :: a.2.2)) else rB (prA t z (prP t z k') (i + 1)) (fun a => if tkG t (tkK t z a.1) 41 = true then .inr (a.1 + 1, a.2.1, 28 :: (a.2.2 ++ [29])) else .inl (flt t z a.1 1)) := by
        rw [prP, if_neg hN]
      clear hr hso hva hpl htp hq
      obtain ⟨so2, pl2, va2, ⟨hr, htp, hso, hva, hpl⟩, _, _, _, _, hq2, _⟩ := id R1
      obtain ⟨p1, p2, p3, p4, p5⟩ := hq2 i (by omega)
      refine gx_iload_n (pc := 77) dX2_part_77 rfl ?_
      refine gx_iconst (pc := 78) (v := (-1)) dX2_part_78 (by decide) ?_
      by_cases hF : spFact (tkK t z i) = 0
      · rw [if_pos hF] at wf
        rw [wf]
        refine gx_icmp_eq (pc := 79) 91 dX2_part_79 (by decide) (fun c2 => ?_) (fun c2 => ?_)
        · rw [if_neg (fun y => y hF)] at sp0
          by_cases h2 : (tkK t z i).2.2.1 = 2
          · rw [if_pos h2] at sp0
            have hn : tkW (tkK t z i) 10631 = false := by unfold tkW; rw [decide_eq_false (by rw [h2]; decide)]; rfl
            rw [hn]
            refine gx_iload_n (pc := 91) dX2_part_91 rfl ?_
            refine gx_if_ne (pc := 92) 130 dX2_part_92 (by decide) (fun c3 => ?_) (fun c3 => ?_)
            · exact absurd rfl c3
            · refine gx_aload_n (pc := 95) dX2_part_95 rfl ?_
              refine gx_get (pc := 96) fX2_83 hr rfl dX2_part_96 ?_
              refine gx_aload_n (pc := 99) dX2_part_99 rfl ?_
              refine gx_get (pc := 100) fX2_132 hr rfl dX2_part_100 ?_
              refine gx_iconst (pc := 103) (v := 1) dX2_part_103 (by decide) ?_
              refine gx_isub (pc := 104) dX2_part_104 ?_
              rw [nI_pred]
              refine gx_iald (pc := 105) (i) hso (by first | rfl | simp only [gx_lit, nI_add, pk_mul]) (by omega) (by decide) dX2_part_105 ?_
              refine gx_iconst (pc := 106) (v := 2) dX2_part_106 (by decide) ?_
              rw [p1, h2]
              refine gx_icmp_ne (pc := 107) 130 dX2_part_107 (by decide) (fun c4 => ?_) (fun c4 => ?_)
              · exact absurd rfl c4
              · have p4' := p4 h2
                refine gx_more (a := 0 + 1) (b := 0 + 1) (by omega) (by omega) ?_
                refine nX2_366 (kc := 0) (ks := 0) (pc := 110) rfl dX2_part_110 ?_
                have ha : (gxadd h1 (.inr (17, [.int 0]))).1 h1.2 = some (.inr (17, [.int 0])) := gxadd_self _ _
                have f2 : ∀ q, q ≠ h1.2 → (gxadd h1 (.inr (17, [.int 0]))).1 q = h1.1 q := fun q hq => gxadd_ne hq
                have s2 : (gxadd h1 (.inr (17, [.int 0]))).2 = h1.2 + 1 := rfl
                generalize gxadd h1 (.inr (17, [.int 0])) = h2 at *
                have hr' : RO h2 r dv 0 (nI (i + 1)) (nI (5 - (k' + 1))) := by show h2.1 r = _; rw [f2 r (by omega)]; exact hr
                have hva' : h2.1 (r + 6) = some (.inl (1, 1001, .inr (.inl va2))) := by rw [f2 _ (by omega)]; exact hva
                clear hr hva
                have hr := hr'
                have hva := hva'
                refine gx_dup (pc := 113) dX2_part_113 rfl ?_
                refine gx_aload_n (pc := 114) dX2_part_114 rfl ?_
                refine gx_get (pc := 115) fX2_86 hr rfl dX2_part_115 ?_
                refine gx_aload_n (pc := 118) dX2_part_118 rfl ?_
                refine gx_get (pc := 119) fX2_132 hr rfl dX2_part_119 ?_
                refine gx_iconst (pc := 122) (v := 1) dX2_part_122 (by decide) ?_
                refine gx_isub (pc := 123) dX2_part_123 ?_
                rw [nI_pred]
                refine gx_lald (pc := 124) (i) hva (by first | rfl | simp only [gx_lit, nI_add, pk_mul]) (by omega) (by decide) dX2_part_124 ?_
                refine gx_l2i (pc := 125) dX2_part_125 ?_
                rw [p4', Int32.toInt32_toInt64]
                refine kX2_368 (kc := 0) (ks := 0) (mc := 0) (ms := 0) (pc := 126) rfl (c_plaini (d := d - 1) (by omega) (by omega) ha _) (by omega) (Nat.le_of_ble_eq_true rfl) dX2_part_126 (fun h3 e3 => ?_)
                obtain ⟨s3, e3, f3⟩ := e3
                have R3 := R1.gr (h' := h3) (by omega) (fun q _ b => by rw [f3 q (by omega), f2 q (by omega)])
                refine gx_areturn (pc := 129) rfl (Or.inl ⟨_, rfl⟩) (Or.inr ⟨_, rfl⟩) dX2_part_129 (Or.inl ⟨_, rfl, i + 1, _, _, sp0, by omega, R3, ⟨by omega, fun q a b => by rw [f3 q (by omega), f2 q (by omega), E1.2 q b]⟩, ?_⟩)
                rw [show 4 * (k' + 1) = 4 * k' + 3 + 1 by omega]
                exact ⟨⟨by omega, by omega⟩, Or.inl ⟨_, e3, rfl⟩⟩
          · have G : gxV G mX2_part d (10 * kR n i (prP t z (k' + 1) i)) (2100 * kR n i (prP t z (k' + 1) i)) 130 [some (.ref r), some (.int (-1)), some (.int (zi (tkW (tkK t z i) 10631))), none] [] h1 (gxQx (gxQr (fun a h' => ∃ j ev cs, prP t z (k' + 1) i = .inr (j, ev, cs) ∧ i < j ∧ RR G h' r dv (nI (5 - (k' + 1))) t z n j ∧ gE h.2 r h h' ∧ exE h.2 h'.2 h' (4 * (k' + 1)) a ev)) (fun y h' => ∃ f, prP t z (k' + 1) i = .inl f ∧ xW h.2 r h f y h')) := by
              refine gxV_post ?_ (part130 nr k' hk5 hd IHp IHa (by omega) (-1) R1 hF h2 hN)
              rintro o h' (⟨a, rfl, j, ev, cs, y1, y2, y3, y4, y5⟩ | ⟨y, rfl, f, y1, y2⟩)
              · rw [s1] at y4 y5
                exact Or.inl ⟨a, rfl, j, ev, cs, y1, y2, y3, E1.g.tr y4, y5⟩
              · rw [s1] at y2
                exact Or.inr ⟨y, rfl, f, y1, y2.tr E1.g⟩
            cases hn : tkW (tkK t z i) 10631 with
            | true =>
              rw [hn] at G
              refine gx_iload_n (pc := 91) dX2_part_91 rfl ?_
              refine gx_if_ne (pc := 92) 130 dX2_part_92 (by decide) (fun c3 => ?_) (fun c3 => ?_)
              · exact G
              · exact absurd c3 (by decide)
            | false =>
              rw [hn] at G
              refine gx_iload_n (pc := 91) dX2_part_91 rfl ?_
              refine gx_if_ne (pc := 92) 130 dX2_part_92 (by decide) (fun c3 => ?_) (fun c3 => ?_)
              · exact absurd rfl c3
              · refine gx_aload_n (pc := 95) dX2_part_95 rfl ?_
                refine gx_get (pc := 96) fX2_83 hr rfl dX2_part_96 ?_
                refine gx_aload_n (pc := 99) dX2_part_99 rfl ?_
                refine gx_get (pc := 100) fX2_132 hr rfl dX2_part_100 ?_
                refine gx_iconst (pc := 103) (v := 1) dX2_part_103 (by decide) ?_
                refine gx_isub (pc := 104) dX2_part_104 ?_
                rw [nI_pred]
                refine gx_iald (pc := 105) (i) hso (by first | rfl | simp only [gx_lit, nI_add, pk_mul]) (by omega) (by decide) dX2_part_105 ?_
                refine gx_iconst (pc := 106) (v := 2) dX2_part_106 (by decide) ?_
                rw [p1]
                refine gx_icmp_ne (pc := 107) 130 dX2_part_107 (by decide) (fun c4 => ?_) (fun c4 => ?_)
                · exact G
                · exact absurd c4 h2
        · exact absurd rfl c2
      · rw [if_neg hF] at wf
        rw [if_pos hF] at sp0
        have f5 := spFact_lt (tkK t z i)
        rw [wf]
        refine gx_icmp_eq (pc := 79) 91 dX2_part_79 (by decide) (fun c2 => ?_) (fun c2 => ?_)
        · exact absurd c2 (n30 _ (by omega))
        · refine gx_more (a := 0 + 1) (b := 0 + 1) (by omega) (by omega) ?_
          refine nX2_363 (kc := 0) (ks := 0) (pc := 82) rfl dX2_part_82 ?_
          have ha : (gxadd h1 (.inr (16, [.int 0]))).1 h1.2 = some (.inr (16, [.int 0])) := gxadd_self _ _
          have f2 : ∀ q, q ≠ h1.2 → (gxadd h1 (.inr (16, [.int 0]))).1 q = h1.1 q := fun q hq => gxadd_ne hq
          have s2 : (gxadd h1 (.inr (16, [.int 0]))).2 = h1.2 + 1 := rfl
          generalize gxadd h1 (.inr (16, [.int 0])) = h2 at *
          refine gx_dup (pc := 85) dX2_part_85 rfl ?_
          refine gx_iload_n (pc := 86) dX2_part_86 rfl ?_
          refine kX2_365 (kc := 0) (ks := 0) (mc := 0) (ms := 0) (pc := 87) rfl (c_facti (d := d - 1) (by omega) (by omega) ha _) (by omega) (Nat.le_of_ble_eq_true rfl) dX2_part_87 (fun h3 e3 => ?_)
          obtain ⟨s3, e3, f3⟩ := e3
          have R3 := R1.gr (h' := h3) (by omega) (fun q _ b => by rw [f3 q (by omega), f2 q (by omega)])
          refine gx_areturn (pc := 90) rfl (Or.inl ⟨_, rfl⟩) (Or.inr ⟨_, rfl⟩) dX2_part_90 (Or.inl ⟨_, rfl, i + 1, _, _, sp0, by omega, R3, ⟨by omega, fun q a b => by rw [f3 q (by omega), f2 q (by omega), E1.2 q b]⟩, ?_⟩)
          rw [show 4 * (k' + 1) = 4 * k' + 3 + 1 by omega]
          exact ⟨⟨by omega, by omega⟩, Or.inr (Or.inl ⟨spFact (tkK t z i) - 1, by omega, e3, rfl⟩)⟩
    · have hk0 : k = 0 := by
        have : 5 - k = 5 := (nI_eq (b := 5) (by omega) (by decide)).mp c1
        omega
      subst hk0
      refine gx_more (a := 0 + 1) (b := 0 + 7) (by omega) (by omega) ?_
      exact gx_wrong (kc := 0) (ks := 0) (pc := 61) (pc1 := 62) (pc2 := 63) (pc5 := 66) 5 rfl rfl rfl rfl (by omega) nz hR rfl dX2_part_61 dX2_part_62 (by decide) dX2_part_63 dX2_part_66 (by decide +kernel) (fun y h' e2 => ⟨_, by rw [prP, if_neg hN], e2⟩)
  generalize hT : kR n i (prP t z k i) = T at *
  refine gx_aload_n (pc := 0) dX2_part_0 rfl ?_
  refine gx_aload_n (pc := 1) dX2_part_1 rfl ?_
  refine gx_get (pc := 2) fX2_19 hr rfl dX2_part_2 ?_
  refine kX2_158 (kc := 10 * T) (ks := 2100 * T) (mc := 0) (ms := 0) (pc := 5) rfl (c_Rwhich (d := d - 1) (by omega) hR (by decide) st1) (gxRc.of rfl hr) (by omega) (Nat.le_of_ble_eq_true rfl) dX2_part_5 (fun r1 h1 e1 => ?_)
  obtain ⟨rfl, e1⟩ := e1
  subst h1
  refine gx_istore_n (pc := 8) dX2_part_8 (by decide) rfl ?_
  refine gx_aload_n (pc := 9) dX2_part_9 rfl ?_
  refine gx_ldcS (pc := 10) hR70 dX2_part_10 ?_
  refine kX2_144 (kc := 10 * T) (ks := 2100 * T) (mc := 0) (ms := 0) (pc := 12) rfl (c_RisWord (d := d - 1) (by omega) hR hS70) (gxRc.of rfl hr) (by omega) (Nat.le_of_ble_eq_true rfl) dX2_part_12 (fun r1 h1 e1 => ?_)
  obtain ⟨rfl, e1⟩ := e1
  subst h1
  rw [w70]
  refine gx_istore_n (pc := 15) dX2_part_15 (by decide) rfl ?_
  refine gx_iload_n (pc := 16) dX2_part_16 rfl ?_
  refine gx_iconst (pc := 17) (v := (-1)) dX2_part_17 (by decide) ?_
  refine gx_icmp_ne (pc := 18) 53 dX2_part_18 (by decide) (fun c1 => ?_) (fun c1 => ?_)
  · refine K53 (fun y => ?_)
    rw [if_pos y.1] at wf
    rw [wf] at c1
    exact c1 rfl
  · refine gx_iload_n (pc := 21) dX2_part_21 rfl ?_
    refine gx_if_ne (pc := 22) 53 dX2_part_22 (by decide) (fun c2 => ?_) (fun c2 => ?_)
    · exact K53 (fun y => by rw [y.2.1] at c2; exact c2 rfl)
    · have z2 := zi_eq0 c2
      refine gx_aload_n (pc := 25) dX2_part_25 rfl ?_
      refine gx_get (pc := 26) fX2_83 hr rfl dX2_part_26 ?_
      refine gx_aload_n (pc := 29) dX2_part_29 rfl ?_
      refine gx_get (pc := 30) fX2_132 hr rfl dX2_part_30 ?_
      refine gx_iald (pc := 33) (i) hso (by first | rfl | simp only [gx_lit, nI_add, pk_mul]) (by omega) (by decide) dX2_part_33 ?_
      refine gx_iconst (pc := 34) (v := 2) dX2_part_34 (by decide) ?_
      rw [q1]
      refine gx_icmp_eq (pc := 35) 53 dX2_part_35 (by decide) (fun c3 => ?_) (fun c3 => ?_)
      · exact K53 (fun y => y.2.2.2 c3)
      · refine gx_aload_n (pc := 38) dX2_part_38 rfl ?_
        refine gx_bipush (pc := 39) (v := 40) dX2_part_39 (by decide) ?_
        refine kX2_148 (kc := 10 * T) (ks := 2100 * T) (mc := 0) (ms := 0) (pc := 41) rfl (c_RisSign (d := d - 1) hR 40) (gxRc.of rfl hr) (by omega) (Nat.le_of_ble_eq_true rfl) dX2_part_41 (fun r1 h1 e1 => ?_)
        obtain ⟨rfl, e1⟩ := e1
        subst h1
        refine gx_if_ne (pc := 44) 53 dX2_part_44 (by decide) (fun c4 => ?_) (fun c4 => ?_)
        · exact K53 (fun y => by rw [y.2.2.1] at c4; exact c4 rfl)
        · have z4 := zi_eq0 c4
          have F0 : spFact (tkK t z i) = 0 := Decidable.byContradiction (fun hF => by
            rw [if_neg hF] at wf
            rw [wf] at c1
            have := spFact_lt (tkK t z i)
            exact n30 _ (by omega) c1)
          have PN' : (spFact (tkK t z i) = 0 ∧ tkW (tkK t z i) 10631 = false ∧ tkG t (tkK t z i) 40 = false ∧ ¬ (tkK t z i).2.2.1 = 2) := ⟨F0, z2, z4, c3⟩
          refine gx_more (a := 0 + 1) (b := 0 + 7) (by omega) (by omega) ?_
          exact gx_wrong (kc := 0) (ks := 0) (pc := 47) (pc1 := 48) (pc2 := 49) (pc5 := 52) 1 rfl rfl rfl rfl (by omega) nz hR rfl dX2_part_47 dX2_part_48 (by decide) dX2_part_49 dX2_part_52 (by decide +kernel) (fun y h' e2 => ⟨_, by cases k <;> rw [prP, if_pos PN'], e2⟩)
end MBN
