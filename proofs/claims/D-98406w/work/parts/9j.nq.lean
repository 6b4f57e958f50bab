/-! ===== COMPONENT BQ: tests read ===== -/
set_option maxRecDepth 100000
section MBQ
variable {G : gxG} {d : Nat} {r z n : Nat} {dv : Value} {dp : Int32} {t : Nat → Int32}
theorem c_test (nr : gxN G ≤ r) (hd : 12 ≤ d) {m : Nat} {P : Nat → Sum Int32 rdR} (hp : prg n P) (hP : XC G mX2_sum r z n t dv dp (d - 1) m P) : XC G mX2_test r z n t dv dp d (m + 1) (fun i => rB (P i) (fun a =>
  if tkG t (tkK t z a.1) 60 = true then rB (P (a.1 + 1)) (fun b => .inr (b.1, fun x y u v => lkE 23 (a.2.1 x y u v) (b.2.1 x y u v), a.2.2 ++ 24 :: b.2.2))
  else if tkG t (tkK t z a.1) 61 = true then rB (P (a.1 + 1)) (fun b => .inr (b.1, fun x y u v => lkE 24 (a.2.1 x y u v) (b.2.1 x y u v), a.2.2 ++ 25 :: b.2.2)) else .inr a)) := by
  intro h i nz hR
  have hl := hR.lt
  have he := RR_end hR
  refine gxM_of rfl (Nat.le_of_ble_eq_true rfl) rfl ?_
  obtain ⟨so, pl, va, ⟨hr, htp, hso, hva, hpl⟩, hin, hnz, hz, hend, hq, hst, hrz⟩ := id hR
  have IH := hP h i nz hR
  refine gx_aload_n (pc := 0) dX2_test_0 rfl ?_
  dsimp only
  cases es : P i with
  | inl f =>
    rw [es] at IH
    have hk : kR n i (rB (.inl f) (fun (a : rdR) => if tkG t (tkK t z a.1) 60 = true then rB (P (a.1 + 1)) (fun b => .inr (b.1, fun x y u v => lkE 23 (a.2.1 x y u v) (b.2.1 x y u v), a.2.2 ++ 24 :: b.2.2)) else if tkG t (tkK t z a.1) 61 = true then rB (P (a.1 + 1)) (fun b => .inr (b.1, fun x y u v => lkE 24 (a.2.1 x y u v) (b.2.1 x y u v), a.2.2 ++ 25 :: b.2.2)) else .inr a)) = kR n i (.inl f) := rfl
    rw [hk]
    refine gx_more (a := 0 + 10 * kR n i (.inl f)) (b := 0 + 2100 * kR n i (.inl f)) (by omega) (by omega) ?_
    refine kX2_339x (d' := d - 1) (kc := 0) (ks := 0) (mc := 10 * kR n i (.inl f)) (ms := 2100 * kR n i (.inl f)) (pc := 1) rfl IH (gxRc.of rfl hr) (by omega) (Nat.le_of_ble_eq_true rfl) dX2_test_1 (fun a2 h3 e3 => ?_) (fun y h' e => gxT_out (by decide +kernel) (Or.inr ⟨y, rfl, ?_⟩))
    · obtain ⟨j, ev', cs', e3, _⟩ := e3; cases e3
    · obtain ⟨f', e3, e4⟩ := e
      cases e3
      exact ⟨f, rfl, e4⟩
  | inr b0 =>
    obtain ⟨cur, ev, cs⟩ := b0
    have pb := hp _ _ hl.1 es
    dsimp only at pb
    rw [es] at IH
    rw [rB_r]
    dsimp only
    have hk : kR n i (.inr (cur, ev, cs)) = cur - i := rfl
    rw [hk] at IH
    generalize hX : (if tkG t (tkK t z cur) 60 = true then rB (P (cur + 1)) (fun b => .inr (b.1, fun x y u v => lkE 23 (ev x y u v) (b.2.1 x y u v), cs ++ 24 :: b.2.2)) else if tkG t (tkK t z cur) 61 = true then rB (P (cur + 1)) (fun b => .inr (b.1, fun x y u v => lkE 24 (ev x y u v) (b.2.1 x y u v), cs ++ 25 :: b.2.2)) else (.inr (cur, ev, cs) : Sum Int32 rdR)) = X at *
    have hTT : kR n cur X + (cur - i) ≤ kR n i X := by
      cases X with
      | inl f => show n + 1 - cur + (cur - i) ≤ n + 1 - i; omega
      | inr c =>
        have : cur ≤ c.1 := by
          split at hX
          · rename_i g
            obtain ⟨q, e1, e2⟩ := rB_inv hX
            have := hp _ _ (nend he pb.2 (tkG_n0 g)) e1
            cases e2; dsimp only; omega
          · split at hX
            · rename_i g
              obtain ⟨q, e1, e2⟩ := rB_inv hX
              have := hp _ _ (nend he pb.2 (tkG_n0 g)) e1
              cases e2; dsimp only; omega
            · cases hX; exact Nat.le_refl _
        show c.1 - cur + (cur - i) ≤ c.1 - i; omega
    generalize hT : kR n cur X = T at *
    refine gx_more (a := 10 * T + 10 * (cur - i)) (b := 2100 * T + 2100 * (cur - i)) (by omega) (by omega) ?_
    refine kX2_339x (d' := d - 1) (kc := 10 * T) (ks := 2100 * T) (mc := 10 * (cur - i)) (ms := 2100 * (cur - i)) (pc := 1) rfl IH (gxRc.of rfl hr) (by omega) (Nat.le_of_ble_eq_true rfl) dX2_test_1 (fun a1 h1 e3 => ?_) (fun y h' e => gxT_out (by decide +kernel) (Or.inr ⟨y, rfl, ?_⟩))
    · obtain ⟨j, ev', cs', e3, hij, R1, g1, x1⟩ := e3
      cases e3
      have z1 := g1.1
      have hl1 := R1.lt
      clear hr hso hva hpl htp hq hst
      obtain ⟨so, pl, va, ⟨hr, htp, hso, hva, hpl⟩, hin, hnz, hz, hend, hq, hst, hrz⟩ := id R1
      have K42 : ∀ (b : Bool) h2, tkG t (tkK t z cur) 60 = b → (b = false → tkG t (tkK t z cur) 61 = true) → RR G h2 r dv dp t z n (cur + 1) → aE r h1 h2 → gxV G mX2_test d (10 * T) (2100 * T) 42 [some (.ref r), some (.ref a1), some (.int (zi b)), none, none] [] h2 (gxQx (gxQr (fun a h' => ∃ j ev cs, X = .inr (j, ev, cs) ∧ i < j ∧ RR G h' r dv dp t z n j ∧ gE h.2 r h h' ∧ exE h.2 h'.2 h' (m + 1) a ev)) (fun y h' => ∃ f, X = .inl f ∧ xW h.2 r h f y h')) := by
        intro b h2 hb1 hb2 R2 E2
        have n0 : ¬ (tkK t z cur).2.2.1 = 0 := by
          cases b
          · exact tkG_n0 (hb2 rfl)
          · exact tkG_n0 hb1
        have n1 := nend he hl1.1 n0
        have s2 := E2.1
        have g2 : gE h.2 r h h2 := g1.tr E2.g
        have hX' : rB (P (cur + 1)) (fun q => (.inr (q.1, fun x y u v => lkE (if b = true then 23 else 24) (ev x y u v) (q.2.1 x y u v), cs ++ (if b = true then 24 else 25) :: q.2.2) : Sum Int32 rdR)) = X := by
          rw [← hX]
          cases b with
          | true => rw [if_pos hb1]; rfl
          | false => rw [if_neg (show ¬ tkG t (tkK t z cur) 60 = true by rw [hb1]; decide), if_pos (hb2 rfl)]; rfl
        clear hr hso hva hpl htp hq hst
        obtain ⟨so, pl, va, ⟨hr, htp, hso, hva, hpl⟩, hin, hnz, hz, hend, hq, hst, hrz⟩ := id R2
        have IH := hP h2 (cur + 1) (by omega) R2
        refine gx_aload_n (pc := 42) dX2_test_42 rfl ?_
        cases es2 : P (cur + 1) with
        | inl f =>
          rw [es2] at hX' IH
          have hX2 : X = .inl f := hX'.symm
          have hT' : T = n + 1 - cur := by rw [← hT, hX2]; rfl
          have hk : kR n (cur + 1) (.inl f) = n + 1 - (cur + 1) := rfl
          rw [hk] at IH
          refine gx_more (a := 0 + 10 * (n + 1 - (cur + 1))) (b := 0 + 2100 * (n + 1 - (cur + 1))) (by omega) (by omega) ?_
          refine kX2_339x (d' := d - 1) (kc := 0) (ks := 0) (mc := 10 * (n + 1 - (cur + 1))) (ms := 2100 * (n + 1 - (cur + 1))) (pc := 43) rfl IH (gxRc.of rfl hr) (by omega) (Nat.le_of_ble_eq_true rfl) dX2_test_43 (fun a2 h3 e3 => ?_) (fun y h' e => gxT_out (by decide +kernel) (Or.inr ⟨y, rfl, ?_⟩))
          · obtain ⟨j, ev', cs', e3, _⟩ := e3; cases e3
          · obtain ⟨f', e3, e4⟩ := e
            cases e3
            exact ⟨f, hX2, (e4.mo (by omega)).tr g2⟩
        | inr bb =>
          have pb2 := hp _ _ n1 es2
          rw [es2, rB_r] at hX'
          rw [es2] at IH
          have hk : kR n (cur + 1) (.inr bb) = bb.1 - (cur + 1) := rfl
          rw [hk] at IH
          have hT' : T = bb.1 - cur := by rw [← hT, ← hX']; rfl
          refine gx_more (a := 5 + 10 * (bb.1 - (cur + 1))) (b := 2007 + 2100 * (bb.1 - (cur + 1))) (by omega) (by omega) ?_
          refine kX2_339x (d' := d - 1) (kc := 5) (ks := 2007) (mc := 10 * (bb.1 - (cur + 1))) (ms := 2100 * (bb.1 - (cur + 1))) (pc := 43) rfl IH (gxRc.of rfl hr) (by omega) (Nat.le_of_ble_eq_true rfl) dX2_test_43 (fun a2 h3 e3 => ?_) (fun y h' e => gxT_out (by decide +kernel) (Or.inr ⟨y, rfl, ?_⟩))
          · obtain ⟨j, ev', cs', e3, hij2, R3, g3, x3⟩ := e3
            cases e3
            have s3 := g3.1
            have hl3 := R3.lt
            dsimp only at *
            have x13 : exE h.2 h1.2 h3 m a1 ev := x1.gr (fun q a b => by rw [g3.2 q (by omega) (by omega), E2.2 q (by omega)])
            refine gx_astore_n (pc := 46) dX2_test_46 (by decide) rfl ?_
            refine nX2_318 (kc := 4) (ks := 2005) (pc := 47) rfl dX2_test_47 ?_
            have hc0 : (gxadd h3 (.inr (19, [.null, .null]))).1 h3.2 = some (.inr (19, [.null, .null])) := gxadd_self _ _
            have f4 : ∀ q, q ≠ h3.2 → (gxadd h3 (.inr (19, [.null, .null]))).1 q = h3.1 q := fun q hq => gxadd_ne hq
            have s4 : (gxadd h3 (.inr (19, [.null, .null]))).2 = h3.2 + 1 := rfl
            generalize gxadd h3 (.inr (19, [.null, .null])) = h4 at *
            refine gx_dup (pc := 50) dX2_test_50 rfl ?_
            refine gx_aload_n (pc := 51) dX2_test_51 rfl ?_
            refine kX2_320 (kc := 2) (ks := 2001) (mc := 2) (ms := 4) (pc := 52) rfl (c_chaini (d := d - 1) (by omega) (by omega) (by omega) hc0 a1) (by omega) (Nat.le_of_ble_eq_true rfl) dX2_test_52 (fun h5 e5 => ?_)
            obtain ⟨s5, e5, l5, f5⟩ := e5
            rw [s4] at l5 s5 e5
            have f35 : ∀ q, q < h3.2 → h5.1 q = h3.1 q := fun q hq => by rw [f5 q (by omega) (by omega), f4 q (by omega)]
            have L5 : CL G h5 h.2 m a1 h3.2 ev ev 0 h2.2 h3.2 := ⟨h3.2 + 1, h3.2 + 1 + 1, 1, fun _ => 0, fun _ => 0, fun _ => 0, fun _ => ev, ⟨by omega, by omega⟩, ⟨by omega, by omega⟩, ⟨by omega, by omega⟩, e5, l5, Or.inl rfl, ⟨h.2, h1.2, Nat.le_refl _, by omega, by omega, by omega, x13.gr (fun q a b => f35 q (by omega))⟩, fun k hk => by omega, rfl, Or.inr (by omega), Or.inr (by omega)⟩
            have hca := e5
            obtain ⟨_, hll0⟩ := l5.ob
            have K85 : ∀ h7 c, 20 ≤ c → c ≤ 26 → c = (if b = true then 23 else 24) → h7.2 = h5.2 + 1 → (∀ q, q ≠ h5.2 → h7.1 q = h5.1 q) → h7.1 h5.2 = some (.inr (c, [.ref a2])) → gxV G mX2_test d (0 + 1) (0 + 2000) 85 [some (.ref r), some (.ref a1), some (.int (zi b)), some (.ref a2), some (.ref h3.2)] [.ref h5.2, .ref (h3.2 + 1)] h7 (gxQx (gxQr (fun a h' => ∃ j ev cs, X = .inr (j, ev, cs) ∧ i < j ∧ RR G h' r dv dp t z n j ∧ gE h.2 r h h' ∧ exE h.2 h'.2 h' (m + 1) a ev)) (fun y h' => ∃ f, X = .inl f ∧ xW h.2 r h f y h')) := by
              intro h7 c hc1 hc2 hcc s7 f57 e7
              have L7 := L5.gr (h' := h7) (by omega) (fun q a b => f57 q (by omega))
              have hca7 : h7.1 h3.2 = some (.inr (19, [.ref a1, .ref (h3.2 + 1)])) := by rw [f57 _ (by omega)]; exact hca
              have hll7 := hll0
              rw [← f57 _ (by omega)] at hll7
              have x7 : exE h2.2 h3.2 h7 m a2 ev' := x3.gr (fun q a b => by rw [f57 q (by omega), f35 q b])
              refine kX2_211 (kc := 0) (ks := 0) (mc := 1) (ms := 2000) (pc := 85) rfl (c_linkadd (d := d - 1) (by omega) nz L7 hca7 (by omega) (c := c) ⟨by omega, by omega⟩ hc1 hc2 e7 (by omega) (by omega) x7) (gxRc.of rfl hll7) (by omega) (Nat.le_of_ble_eq_true rfl) dX2_test_85 (fun r8 h8 e8 => ?_)
              obtain ⟨C8, s8, s8', f8⟩ := e8
              rw [hcc] at C8
              have R7 := R3.gr (h' := h7) (by omega) (fun q _ b => by rw [f57 q (by omega), f35 q (by omega)])
              have R8 := R7.gr (h' := h8) s8 (fun q _ b => f8 q (by omega))
              refine gx_pop (pc := 88) dX2_test_88 rfl ?_
              refine gx_aload (pc := 89) dX2_test_89 rfl ?_
              rcases C8.fin with ⟨y, _⟩ | ⟨ca, y, x8⟩
              · cases y
              · cases y
                exact gx_areturn (pc := 91) rfl (Or.inl ⟨_, rfl⟩) (Or.inr ⟨_, rfl⟩) dX2_test_91 (Or.inl ⟨_, rfl, j, _, _, hX'.symm, by omega, R8, ⟨by omega, fun q a b => by rw [f8 q a, f57 q (by omega), f35 q (by omega), g3.2 q (by omega) b, g2.2 q a b]⟩, x8⟩)
            have hll := hll0
            refine gx_astore (pc := 55) dX2_test_55 (by decide) rfl ?_
            refine gx_aload (pc := 57) dX2_test_57 rfl ?_
            refine gx_get (pc := 59) fX2_330 hca rfl dX2_test_59 ?_
            refine gx_iload_n (pc := 62) dX2_test_62 rfl ?_
            cases b with
            | true =>
              refine gx_if_eq (pc := 63) 77 dX2_test_63 (by decide) (fun c1 => ?_) (fun c1 => ?_)
              · exact absurd c1 (by decide)
              · refine nX2_342 (kc := 1) (ks := 2000) (pc := 66) rfl dX2_test_66 ?_
                have ha : (gxadd h5 (.inr (23, [.null]))).1 h5.2 = some (.inr (23, [.null])) := gxadd_self _ _
                have f6 : ∀ q, q ≠ h5.2 → (gxadd h5 (.inr (23, [.null]))).1 q = h5.1 q := fun q hq => gxadd_ne hq
                have s6 : (gxadd h5 (.inr (23, [.null]))).2 = h5.2 + 1 := rfl
                generalize gxadd h5 (.inr (23, [.null])) = h6 at *
                refine gx_dup (pc := 69) dX2_test_69 rfl ?_
                refine gx_aload_n (pc := 70) dX2_test_70 rfl ?_
                refine kX2_344 (kc := 1) (ks := 2000) (mc := 0) (ms := 0) (pc := 71) rfl (c_lk3 (d := d - 1) (by omega) (by omega) ha a2) (by omega) (Nat.le_of_ble_eq_true rfl) dX2_test_71 (fun h7 e7 => ?_)
                obtain ⟨s7, e7, f7⟩ := e7
                refine gx_goto (pc := 74) 85 dX2_test_74 (by decide) ?_
                exact K85 h7 23 (by decide) (by decide) rfl (by omega) (fun q hq => by rw [f7 q hq, f6 q hq]) e7
            | false =>
              refine gx_if_eq (pc := 63) 77 dX2_test_63 (by decide) (fun c1 => ?_) (fun c1 => ?_)
              · refine nX2_345 (kc := 1) (ks := 2000) (pc := 77) rfl dX2_test_77 ?_
                have ha : (gxadd h5 (.inr (24, [.null]))).1 h5.2 = some (.inr (24, [.null])) := gxadd_self _ _
                have f6 : ∀ q, q ≠ h5.2 → (gxadd h5 (.inr (24, [.null]))).1 q = h5.1 q := fun q hq => gxadd_ne hq
                have s6 : (gxadd h5 (.inr (24, [.null]))).2 = h5.2 + 1 := rfl
                generalize gxadd h5 (.inr (24, [.null])) = h6 at *
                refine gx_dup (pc := 80) dX2_test_80 rfl ?_
                refine gx_aload_n (pc := 81) dX2_test_81 rfl ?_
                refine kX2_347 (kc := 1) (ks := 2000) (mc := 0) (ms := 0) (pc := 82) rfl (c_lk4 (d := d - 1) (by omega) (by omega) ha a2) (by omega) (Nat.le_of_ble_eq_true rfl) dX2_test_82 (fun h7 e7 => ?_)
                obtain ⟨s7, e7, f7⟩ := e7
                exact K85 h7 24 (by decide) (by decide) rfl (by omega) (fun q hq => by rw [f7 q hq, f6 q hq]) e7
              · exact absurd rfl c1
          · obtain ⟨f', e3, e4⟩ := e
            cases e3
      have K25 : ∀ b : Bool, tkG t (tkK t z cur) 60 = b → (b = false → tkG t (tkK t z cur) 61 = true) → gxV G mX2_test d (10 * T) (2100 * T) 25 [some (.ref r), some (.ref a1), none, none, none] [] h1 (gxQx (gxQr (fun a h' => ∃ j ev cs, X = .inr (j, ev, cs) ∧ i < j ∧ RR G h' r dv dp t z n j ∧ gE h.2 r h h' ∧ exE h.2 h'.2 h' (m + 1) a ev)) (fun y h' => ∃ f, X = .inl f ∧ xW h.2 r h f y h')) := by
        intro b hb1 hb2
        have n0 : ¬ (tkK t z cur).2.2.1 = 0 := by
          cases b
          · exact tkG_n0 (hb2 rfl)
          · exact tkG_n0 hb1
        refine gx_aload_n (pc := 25) dX2_test_25 rfl ?_
        refine gx_bipush (pc := 26) (v := 60) dX2_test_26 (by decide) ?_
        refine kX2_148 (kc := 10 * T) (ks := 2100 * T) (mc := 0) (ms := 0) (pc := 28) rfl (c_RisSign (d := d - 1) R1 60) (gxRc.of rfl hr) (by omega) (Nat.le_of_ble_eq_true rfl) dX2_test_28 (fun r2 h2 e2 => ?_)
        obtain ⟨rfl, e2⟩ := e2
        subst h2
        rw [hb1]
        refine gx_istore_n (pc := 31) dX2_test_31 (by decide) rfl ?_
        refine gx_aload_n (pc := 32) dX2_test_32 rfl ?_
        refine gx_dup (pc := 33) dX2_test_33 rfl ?_
        refine gx_get (pc := 34) fX2_132 hr rfl dX2_test_34 ?_
        refine gx_iconst (pc := 37) (v := 1) dX2_test_37 (by decide) ?_
        refine gx_iadd (pc := 38) dX2_test_38 ?_
        rw [nI_1]
        refine gx_put (pc := 39) fX2_132 hr nr (by first | exact Nat.le_of_ble_eq_true rfl | simp) tX2_9 rfl rfl dX2_test_39 ?_
        change gxV _ _ _ _ _ _ _ _ (gxup h1 r (.inr (1, [.ref (r + 1), .ref (r + 2), .ref (r + 3), dv, .ref (r + 4), .int 0, .ref (r + 5), .ref (r + 6), .ref (r + 7), .int (nI (cur + 1)), .int dp]))) _
        obtain ⟨R2, E2⟩ := R1.step n0
        generalize gxup h1 r (.inr (1, [.ref (r + 1), .ref (r + 2), .ref (r + 3), dv, .ref (r + 4), .int 0, .ref (r + 5), .ref (r + 6), .ref (r + 7), .int (nI (cur + 1)), .int dp])) = h2 at *
        exact K42 b h2 hb1 hb2 R2 E2
      refine gx_astore_n (pc := 4) dX2_test_4 (by decide) rfl ?_
      refine gx_aload_n (pc := 5) dX2_test_5 rfl ?_
      refine gx_bipush (pc := 6) (v := 60) dX2_test_6 (by decide) ?_
      refine kX2_148 (kc := 10 * T) (ks := 2100 * T) (mc := 0) (ms := 0) (pc := 8) rfl (c_RisSign (d := d - 1) R1 60) (gxRc.of rfl hr) (by omega) (Nat.le_of_ble_eq_true rfl) dX2_test_8 (fun r2 h2 e2 => ?_)
      obtain ⟨rfl, e2⟩ := e2
      subst h2
      refine gx_if_ne (pc := 11) 25 dX2_test_11 (by decide) (fun c1 => ?_) (fun c1 => ?_)
      · exact K25 true (zi_ne0 c1) (fun e => by cases e)
      · have y1 := zi_eq0 c1
        refine gx_aload_n (pc := 14) dX2_test_14 rfl ?_
        refine gx_bipush (pc := 15) (v := 61) dX2_test_15 (by decide) ?_
        refine kX2_148 (kc := 10 * T) (ks := 2100 * T) (mc := 0) (ms := 0) (pc := 17) rfl (c_RisSign (d := d - 1) R1 61) (gxRc.of rfl hr) (by omega) (Nat.le_of_ble_eq_true rfl) dX2_test_17 (fun r2 h2 e2 => ?_)
        obtain ⟨rfl, e2⟩ := e2
        subst h2
        refine gx_if_ne (pc := 20) 25 dX2_test_20 (by decide) (fun c2 => ?_) (fun c2 => ?_)
        · exact K25 false y1 (fun _ => zi_ne0 c2)
        · have y2 := zi_eq0 c2
          rw [if_neg (by rw [y1]; decide), if_neg (by rw [y2]; decide)] at hX
          refine gx_aload_n (pc := 23) dX2_test_23 rfl ?_
          exact gx_areturn (pc := 24) rfl (Or.inl ⟨_, rfl⟩) (Or.inr ⟨_, rfl⟩) dX2_test_24 (Or.inl ⟨_, rfl, cur, ev, cs, hX.symm, hij, R1, g1, x1.up (by omega)⟩)
    · obtain ⟨f', e3, e4⟩ := e
      cases e3
end MBQ
