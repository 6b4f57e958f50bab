/-! ===== COMPONENT BP: sums, all of it (by program) ===== -/
set_option maxRecDepth 100000
section MBP
variable {G : gxG} {d : Nat} {r z n : Nat} {dv : Value} {dp : Int32} {t : Nat → Int32}
theorem c_sum (nr : gxN G ≤ r) (hd : 12 ≤ d) {m : Nat} {P : Nat → Sum Int32 rdR} (hp : prg n P) (hP : XC G mX2_term r z n t dv dp (d - 1) m P) : XC G mX2_sum r z n t dv dp d (m + 1) (fun i => rB (P i) (fun a => lpS t z P (z + 1) a)) := by
  intro h i nz hR
  have hl := hR.lt
  have he := RR_end hR
  have L : ∀ F cur ev cs nl h1 a1 cv ev0 (x3 x4 : Option Value), n + 1 - cur ≤ F → i < cur → 2 * nl ≤ cur - i → (rB (P i) (fun a => lpS t z P (z + 1) a)) = lpS t z P F (cur, ev, cs) → RR G h1 r dv dp t z n cur → gE h.2 r h h1 → CQ G h1 h.2 m a1 cv ev0 ev nl → gxV G mX2_sum d (10 * kR n cur (lpS t z P F (cur, ev, cs))) (2100 * kR n cur (lpS t z P F (cur, ev, cs))) 7 [some (.ref r), some (.ref a1), some cv, x3, x4] [] h1 (gxQx (gxQr (fun a h' => ∃ j ev cs, (rB (P i) (fun a => lpS t z P (z + 1) a)) = .inr (j, ev, cs) ∧ i < j ∧ RR G h' r dv dp t z n j ∧ gE h.2 r h h' ∧ exE h.2 h'.2 h' (m + 1) a ev)) (fun y h' => ∃ f, (rB (P i) (fun a => lpS t z P (z + 1) a)) = .inl f ∧ xW h.2 r h f y h')) := by
    intro F
    induction F with
    | zero => intro cur ev cs nl h1 a1 cv ev0 x3 x4 hF _ _ _ R1; have := R1.lt; omega
    | succ F ih =>
      intro cur ev cs nl h1 a1 cv ev0 x3 x4 hF hic hnl hX R1 g1 C1
      have hl1 := R1.lt
      have z1 := g1.1
      have hcv : cv = .null ∨ ∃ q, cv = .ref q := by
        rcases C1 with ⟨y, _⟩ | ⟨q, y, _⟩
        · exact Or.inl y
        · exact Or.inr ⟨q, y⟩
      generalize hT : kR n cur (lpS t z P (F + 1) (cur, ev, cs)) = T at *
      rw [lpS] at hX hT
      dsimp only at hX hT
      obtain ⟨so, pl, va, ⟨hr, htp, hso, hva, hpl⟩, hin, hnz, hz, hend, hq, hst, hrz⟩ := id R1
      have n1' : tkG t (tkK t z cur) 43 = true ∨ tkG t (tkK t z cur) 45 = true → cur + 1 ≤ n := fun y => nend he hl1.1 (y.elim (fun y => tkG_n0 y) (fun y => tkG_n0 y))
      /- one more operand is read -/
      have K42 : ∀ (b : Bool) h2, tkG t (tkK t z cur) 43 = b → (b = false → tkG t (tkK t z cur) 45 = true) → RR G h2 r dv dp t z n (cur + 1) → aE r h1 h2 → gxV G mX2_sum d (10 * T) (2100 * T) 42 [some (.ref r), some (.ref a1), some cv, some (.int (zi b)), x4] [] h2 (gxQx (gxQr (fun a h' => ∃ j ev cs, (rB (P i) (fun a => lpS t z P (z + 1) a)) = .inr (j, ev, cs) ∧ i < j ∧ RR G h' r dv dp t z n j ∧ gE h.2 r h h' ∧ exE h.2 h'.2 h' (m + 1) a ev)) (fun y h' => ∃ f, (rB (P i) (fun a => lpS t z P (z + 1) a)) = .inl f ∧ xW h.2 r h f y h')) := by
        intro b h2 hb1 hb2 R2 E2
        have n1 : cur + 1 ≤ n := n1' (by cases b; exact Or.inr (hb2 rfl); exact Or.inl hb1)
        have s2 := E2.1
        have C2 : CQ G h2 h.2 m a1 cv ev0 ev nl := C1.gr (by omega) (fun q a _ => E2.2 q (by omega))
        have g2 : gE h.2 r h h2 := g1.tr E2.g
        have spb : (if tkG t (tkK t z cur) 43 = true then rB (P (cur + 1)) (fun b => lpS t z P F (b.1, fun x y u v => lkE 21 (ev x y u v) (b.2.1 x y u v), cs ++ 20 :: b.2.2)) else if tkG t (tkK t z cur) 45 = true then rB (P (cur + 1)) (fun b => lpS t z P F (b.1, fun x y u v => lkE 22 (ev x y u v) (b.2.1 x y u v), cs ++ 21 :: b.2.2)) else .inr (cur, ev, cs)) = rB (P (cur + 1)) (fun q => lpS t z P F (q.1, fun x y u v => lkE (if b = true then 21 else 22) (ev x y u v) (q.2.1 x y u v), cs ++ (if b = true then 20 else 21) :: q.2.2)) := by
          cases b with
          | true => rw [if_pos hb1]; rfl
          | false => rw [if_neg (by rw [hb1]; decide), if_pos (hb2 rfl)]; rfl
        rw [spb] at hX hT
        clear hr hso hva hpl htp hq hst
        obtain ⟨so, pl, va, ⟨hr, htp, hso, hva, hpl⟩, hin, hnz, hz, hend, hq, hst, hrz⟩ := id R2
        have IH := hP h2 (cur + 1) (by omega) R2
        refine gx_aload_n (pc := 42) dX2_sum_42 rfl ?_
        cases es : P (cur + 1) with
        | inl f =>
          rw [es] at hX hT IH
          have hT' : T = n + 1 - cur := hT.symm
          have hk : kR n (cur + 1) (.inl f) = n + 1 - (cur + 1) := rfl
          rw [hk] at IH
          refine gx_more (a := 0 + 10 * (n + 1 - (cur + 1))) (b := 0 + 2100 * (n + 1 - (cur + 1))) (by omega) (by omega) ?_
          refine kX2_348x (d' := d - 1) (kc := 0) (ks := 0) (mc := 10 * (n + 1 - (cur + 1))) (ms := 2100 * (n + 1 - (cur + 1))) (pc := 43) rfl IH (gxRc.of rfl hr) (by omega) (Nat.le_of_ble_eq_true rfl) dX2_sum_43 (fun a2 h3 e3 => ?_) (fun y h' e => gxT_out (by decide +kernel) (Or.inr ⟨y, rfl, ?_⟩))
          · obtain ⟨j, ev', cs', e3, _⟩ := e3; cases e3
          · obtain ⟨f', e3, e4⟩ := e
            cases e3
            exact ⟨f, hX, (e4.mo (by omega)).tr g2⟩
        | inr bb =>
          have pb := hp _ _ n1 es
          rw [es, rB_r] at hX hT
          rw [es] at IH
          have hk : kR n (cur + 1) (.inr bb) = bb.1 - (cur + 1) := rfl
          rw [hk] at IH
          generalize hT2 : kR n bb.1 (lpS t z P F (bb.1, fun x y u v => lkE (if b = true then 21 else 22) (ev x y u v) (bb.2.1 x y u v), cs ++ (if b = true then 20 else 21) :: bb.2.2)) = T2 at *
          have hTT : T2 + (bb.1 - (cur + 1)) + 1 ≤ T := by
            rw [← hT, ← hT2]
            cases e9 : lpS t z P F (bb.1, fun x y u v => lkE (if b = true then 21 else 22) (ev x y u v) (bb.2.1 x y u v), cs ++ (if b = true then 20 else 21) :: bb.2.2) with
            | inl f => show n + 1 - bb.1 + (bb.1 - (cur + 1)) + 1 ≤ n + 1 - cur; omega
            | inr c =>
              have pc0 := fun q => prg_lpS he hp _ _ _ q e9
              have pc := pc0 pb.2
              dsimp only at pc
              show c.1 - bb.1 + (bb.1 - (cur + 1)) + 1 ≤ c.1 - cur; omega
          refine gx_more (a := (10 * T2 + 5) + 10 * (bb.1 - (cur + 1))) (b := (2100 * T2 + 2007) + 2100 * (bb.1 - (cur + 1))) (by omega) (by omega) ?_
          refine kX2_348x (d' := d - 1) (kc := 10 * T2 + 5) (ks := 2100 * T2 + 2007) (mc := 10 * (bb.1 - (cur + 1))) (ms := 2100 * (bb.1 - (cur + 1))) (pc := 43) rfl IH (gxRc.of rfl hr) (by omega) (Nat.le_of_ble_eq_true rfl) dX2_sum_43 (fun a2 h3 e3 => ?_) (fun y h' e => gxT_out (by decide +kernel) (Or.inr ⟨y, rfl, ?_⟩))
          · obtain ⟨j, ev', cs', e3, hij, R3, g3, x3'⟩ := e3
            cases e3
            have s3 := g3.1
            have hl3 := R3.lt
            dsimp only at *
            have K50 : gxV G mX2_sum d (10 * T2 + 5) (2100 * T2 + 2007) 50 [some (.ref r), some (.ref a1), some cv, some (.int (zi b)), some (.ref a2)] [cv, .ref a1] h3 (gxQx (gxQr (fun a h' => ∃ j ev cs, (rB (P i) (fun a => lpS t z P (z + 1) a)) = .inr (j, ev, cs) ∧ i < j ∧ RR G h' r dv dp t z n j ∧ gE h.2 r h h' ∧ exE h.2 h'.2 h' (m + 1) a ev)) (fun y h' => ∃ f, (rB (P i) (fun a => lpS t z P (z + 1) a)) = .inl f ∧ xW h.2 r h f y h')) := by
              refine kX2_326 (kc := 10 * T2 + 2) (ks := 2100 * T2 + 2001) (mc := 3) (ms := 6) (pc := 50) rfl (c_chain (d := d - 1) (h0 := h2) (by omega) nz (by omega) s3 (fun q a b => g3.2 q b (by omega)) C2) (by omega) (Nat.le_of_ble_eq_true rfl) dX2_sum_50 (fun ca h4 e4 => ?_)
              obtain ⟨s4, s4', f4, L4⟩ := e4
              obtain ⟨ll, mc, lv, hca, hll⟩ := L4.ll
              have hcz : ca < h4.2 := by obtain ⟨_, _, _, _, _, _, _, y, _⟩ := L4; exact y.2
              have hlz : ll < h4.2 := by
                obtain ⟨ll', _, _, _, _, _, _, _, y, _, y5, _⟩ := L4
                have := Option.some.inj (y5.symm.trans hca)
                injection this with this
                injection this with _ this
                injection this with _ this
                injection this with this
                injection this with this
                rw [← this]; exact y.2
              /- the link made is laid in -/
              have K83 : ∀ h6 c, 20 ≤ c → c ≤ 26 → c = (if b = true then 21 else 22) → h6.2 = h4.2 + 1 → (∀ q, q ≠ h4.2 → h6.1 q = h4.1 q) → h6.1 h4.2 = some (.inr (c, [.ref a2])) → gxV G mX2_sum d (10 * T2 + 1) (2100 * T2 + 2000) 83 [some (.ref r), some (.ref a1), some (.ref ca), some (.int (zi b)), some (.ref a2)] [.ref h4.2, .ref ll] h6 (gxQx (gxQr (fun a h' => ∃ j ev cs, (rB (P i) (fun a => lpS t z P (z + 1) a)) = .inr (j, ev, cs) ∧ i < j ∧ RR G h' r dv dp t z n j ∧ gE h.2 r h h' ∧ exE h.2 h'.2 h' (m + 1) a ev)) (fun y h' => ∃ f, (rB (P i) (fun a => lpS t z P (z + 1) a)) = .inl f ∧ xW h.2 r h f y h')) := by
                intro h6 c hc1 hc2 hcc s6 f46 e6
                have L6 := L4.gr (h' := h6) (by omega) (fun q a b => f46 q (by omega))
                have hca6 : h6.1 ca = some (.inr (19, [.ref a1, .ref ll])) := by rw [f46 _ (by omega)]; exact hca
                have hll6 : h6.1 ll = some (.inr (32, [.int mc, lv, .int (nI nl)])) := by rw [f46 _ (by omega)]; exact hll
                have x6 : exE h2.2 h3.2 h6 m a2 ev' := x3'.gr (fun q a b => by rw [f46 q (by omega), f4 q b])
                refine kX2_211 (kc := 10 * T2) (ks := 2100 * T2) (mc := 1) (ms := 2000) (pc := 83) rfl (c_linkadd (d := d - 1) (by omega) nz L6 hca6 (by omega) (c := c) ⟨by omega, by omega⟩ hc1 hc2 e6 (by omega) (by omega) x6) (gxRc.of rfl hll6) (by omega) (Nat.le_of_ble_eq_true rfl) dX2_sum_83 (fun r7 h7 e7 => ?_)
                obtain ⟨C7, s7, s7', f7⟩ := e7
                rw [hcc] at C7
                have R6 := R3.gr (h' := h6) (by omega) (fun q _ b => by rw [f46 q (by omega), f4 q (by omega)])
                have R7 := R6.gr (h' := h7) s7 (fun q _ b => f7 q (by omega))
                refine gx_pop (pc := 86) dX2_sum_86 rfl ?_
                refine gx_goto (pc := 87) 7 dX2_sum_87 (by decide) ?_
                have K := ih j (fun x y u v => lkE (if b = true then 21 else 22) (ev x y u v) (ev' x y u v)) (cs ++ (if b = true then 20 else 21) :: cs') (nl + 1) h7 a1 (.ref ca) ev0 (some (.int (zi b))) (some (.ref a2)) (by omega) (by omega) (by omega) hX R7 ⟨by omega, fun q a b => by rw [f7 q a, f46 q (by omega), f4 q (by omega), g3.2 q (by omega) b, g2.2 q a b]⟩ C7
                rw [hT2] at K
                exact K
              refine gx_astore_n (pc := 53) dX2_sum_53 (by decide) rfl ?_
              refine gx_aload_n (pc := 54) dX2_sum_54 rfl ?_
              refine gx_get (pc := 55) fX2_330 hca rfl dX2_sum_55 ?_
              refine gx_iload_n (pc := 58) dX2_sum_58 rfl ?_
              cases b with
              | true =>
                refine gx_if_eq (pc := 59) 74 dX2_sum_59 (by decide) (fun c1 => ?_) (fun c1 => ?_)
                · exact absurd c1 (by decide)
                · refine nX2_351 (kc := 10 * T2 + 1) (ks := 2100 * T2 + 2000) (pc := 62) rfl dX2_sum_62 ?_
                  have ha : (gxadd h4 (.inr (21, [.null]))).1 h4.2 = some (.inr (21, [.null])) := gxadd_self _ _
                  have f5 : ∀ q, q ≠ h4.2 → (gxadd h4 (.inr (21, [.null]))).1 q = h4.1 q := fun q hq => gxadd_ne hq
                  have s5 : (gxadd h4 (.inr (21, [.null]))).2 = h4.2 + 1 := rfl
                  generalize gxadd h4 (.inr (21, [.null])) = h5 at *
                  refine gx_dup (pc := 65) dX2_sum_65 rfl ?_
                  refine gx_aload (pc := 66) dX2_sum_66 rfl ?_
                  refine kX2_353 (kc := 10 * T2 + 1) (ks := 2100 * T2 + 2000) (mc := 0) (ms := 0) (pc := 68) rfl (c_lk1 (d := d - 1) (by omega) (by omega) ha a2) (by omega) (Nat.le_of_ble_eq_true rfl) dX2_sum_68 (fun h6 e6 => ?_)
                  obtain ⟨s6, e6, f6⟩ := e6
                  refine gx_goto (pc := 71) 83 dX2_sum_71 (by decide) ?_
                  exact K83 h6 21 (by decide) (by decide) rfl (by omega) (fun q hq => by rw [f6 q hq, f5 q hq]) e6
              | false =>
                refine gx_if_eq (pc := 59) 74 dX2_sum_59 (by decide) (fun c1 => ?_) (fun c1 => ?_)
                · refine nX2_354 (kc := 10 * T2 + 1) (ks := 2100 * T2 + 2000) (pc := 74) rfl dX2_sum_74 ?_
                  have ha : (gxadd h4 (.inr (22, [.null]))).1 h4.2 = some (.inr (22, [.null])) := gxadd_self _ _
                  have f5 : ∀ q, q ≠ h4.2 → (gxadd h4 (.inr (22, [.null]))).1 q = h4.1 q := fun q hq => gxadd_ne hq
                  have s5 : (gxadd h4 (.inr (22, [.null]))).2 = h4.2 + 1 := rfl
                  generalize gxadd h4 (.inr (22, [.null])) = h5 at *
                  refine gx_dup (pc := 77) dX2_sum_77 rfl ?_
                  refine gx_aload (pc := 78) dX2_sum_78 rfl ?_
                  refine kX2_356 (kc := 10 * T2 + 1) (ks := 2100 * T2 + 2000) (mc := 0) (ms := 0) (pc := 80) rfl (c_lk2 (d := d - 1) (by omega) (by omega) ha a2) (by omega) (Nat.le_of_ble_eq_true rfl) dX2_sum_80 (fun h6 e6 => ?_)
                  obtain ⟨s6, e6, f6⟩ := e6
                  exact K83 h6 22 (by decide) (by decide) rfl (by omega) (fun q hq => by rw [f6 q hq, f5 q hq]) e6
                · exact absurd rfl c1
            rcases hcv with rfl | ⟨q, rfl⟩
            · refine gx_astore (pc := 46) dX2_sum_46 (by decide) rfl ?_
              refine gx_aload_n (pc := 48) dX2_sum_48 rfl ?_
              refine gx_aload_nN (pc := 49) dX2_sum_49 rfl ?_
              exact K50
            · refine gx_astore (pc := 46) dX2_sum_46 (by decide) rfl ?_
              refine gx_aload_n (pc := 48) dX2_sum_48 rfl ?_
              refine gx_aload_n (pc := 49) dX2_sum_49 rfl ?_
              exact K50
          · obtain ⟨f', e3, e4⟩ := e
            cases e3
      /- the flag is set, the sign passed -/
      have K25 : ∀ b : Bool, tkG t (tkK t z cur) 43 = b → (b = false → tkG t (tkK t z cur) 45 = true) → gxV G mX2_sum d (10 * T) (2100 * T) 25 [some (.ref r), some (.ref a1), some cv, x3, x4] [] h1 (gxQx (gxQr (fun a h' => ∃ j ev cs, (rB (P i) (fun a => lpS t z P (z + 1) a)) = .inr (j, ev, cs) ∧ i < j ∧ RR G h' r dv dp t z n j ∧ gE h.2 r h h' ∧ exE h.2 h'.2 h' (m + 1) a ev)) (fun y h' => ∃ f, (rB (P i) (fun a => lpS t z P (z + 1) a)) = .inl f ∧ xW h.2 r h f y h')) := by
        intro b hb1 hb2
        have n0 : ¬ (tkK t z cur).2.2.1 = 0 := by
          cases b
          · exact tkG_n0 (hb2 rfl)
          · exact tkG_n0 hb1
        refine gx_aload_n (pc := 25) dX2_sum_25 rfl ?_
        refine gx_bipush (pc := 26) (v := 43) dX2_sum_26 (by decide) ?_
        refine kX2_148 (kc := 10 * T) (ks := 2100 * T) (mc := 0) (ms := 0) (pc := 28) rfl (c_RisSign (d := d - 1) R1 43) (gxRc.of rfl hr) (by omega) (Nat.le_of_ble_eq_true rfl) dX2_sum_28 (fun r2 h2 e2 => ?_)
        obtain ⟨rfl, e2⟩ := e2
        subst h2
        skip
        rw [hb1]
        refine gx_istore_n (pc := 31) dX2_sum_31 (by decide) (by rcases hcv with rfl | ⟨q, rfl⟩ <;> rfl) ?_
        refine gx_aload_n (pc := 32) dX2_sum_32 rfl ?_
        refine gx_dup (pc := 33) dX2_sum_33 rfl ?_
        refine gx_get (pc := 34) fX2_132 hr rfl dX2_sum_34 ?_
        refine gx_iconst (pc := 37) (v := 1) dX2_sum_37 (by decide) ?_
        refine gx_iadd (pc := 38) dX2_sum_38 ?_
        rw [nI_1]
        refine gx_put (pc := 39) fX2_132 hr nr (by first | exact Nat.le_of_ble_eq_true rfl | simp) tX2_9 rfl rfl dX2_sum_39 ?_
        change gxV _ _ _ _ _ _ _ _ (gxup h1 r (.inr (1, [.ref (r + 1), .ref (r + 2), .ref (r + 3), dv, .ref (r + 4), .int 0, .ref (r + 5), .ref (r + 6), .ref (r + 7), .int (nI (cur + 1)), .int dp]))) _
        obtain ⟨R2, E2⟩ := R1.step n0
        generalize gxup h1 r (.inr (1, [.ref (r + 1), .ref (r + 2), .ref (r + 3), dv, .ref (r + 4), .int 0, .ref (r + 5), .ref (r + 6), .ref (r + 7), .int (nI (cur + 1)), .int dp])) = h2 at *
        exact K42 b h2 hb1 hb2 R2 E2
      refine gx_aload_n (pc := 7) dX2_sum_7 rfl ?_
      refine gx_bipush (pc := 8) (v := 43) dX2_sum_8 (by decide) ?_
      refine kX2_148 (kc := 10 * T) (ks := 2100 * T) (mc := 0) (ms := 0) (pc := 10) rfl (c_RisSign (d := d - 1) R1 43) (gxRc.of rfl hr) (by omega) (Nat.le_of_ble_eq_true rfl) dX2_sum_10 (fun r2 h2 e2 => ?_)
      obtain ⟨rfl, e2⟩ := e2
      subst h2
      skip
      refine gx_if_ne (pc := 13) 25 dX2_sum_13 (by decide) (fun c1 => ?_) (fun c1 => ?_)
      · exact K25 true (zi_ne0 c1) (fun e => by cases e)
      · have y1 := zi_eq0 c1
        refine gx_aload_n (pc := 16) dX2_sum_16 rfl ?_
        refine gx_bipush (pc := 17) (v := 45) dX2_sum_17 (by decide) ?_
        refine kX2_148 (kc := 10 * T) (ks := 2100 * T) (mc := 0) (ms := 0) (pc := 19) rfl (c_RisSign (d := d - 1) R1 45) (gxRc.of rfl hr) (by omega) (Nat.le_of_ble_eq_true rfl) dX2_sum_19 (fun r2 h2 e2 => ?_)
        obtain ⟨rfl, e2⟩ := e2
        subst h2
        skip
        refine gx_if_eq (pc := 22) 90 dX2_sum_22 (by decide) (fun c2 => ?_) (fun c2 => ?_)
        · have y2 := zi_eq0 c2
          rw [if_neg (by rw [y1]; decide), if_neg (by rw [y2]; decide)] at hX
          rcases C1.fin with ⟨rfl, x1⟩ | ⟨ca, rfl, x1⟩
          · refine gx_aload_nN (pc := 90) dX2_sum_90 rfl ?_
            refine gx_ifnonnullN (pc := 91) dX2_sum_91 ?_
            refine gx_aload_n (pc := 94) dX2_sum_94 rfl ?_
            refine gx_goto (pc := 95) 99 dX2_sum_95 (by decide) ?_
            exact gx_areturn (pc := 99) rfl (Or.inl ⟨_, rfl⟩) (Or.inr ⟨_, rfl⟩) dX2_sum_99 (Or.inl ⟨_, rfl, cur, ev, cs, hX, hic, R1, g1, x1⟩)
          · refine gx_aload_n (pc := 90) dX2_sum_90 rfl ?_
            refine gx_ifnonnull (pc := 91) 98 dX2_sum_91 (by decide) ?_
            refine gx_aload_n (pc := 98) dX2_sum_98 rfl ?_
            exact gx_areturn (pc := 99) rfl (Or.inl ⟨_, rfl⟩) (Or.inr ⟨_, rfl⟩) dX2_sum_99 (Or.inl ⟨_, rfl, cur, ev, cs, hX, hic, R1, g1, x1⟩)
        · exact K25 false y1 (fun _ => zi_ne0 c2)
  refine gxM_of rfl (Nat.le_of_ble_eq_true rfl) rfl ?_
  obtain ⟨so, pl, va, ⟨hr, htp, hso, hva, hpl⟩, hin, hnz, hz, hend, hq, hst, hrz⟩ := id hR
  have IH := hP h i nz hR
  refine gx_aload_n (pc := 0) dX2_sum_0 rfl ?_
  dsimp only
  cases es : P i with
  | inl f =>
    rw [es] at IH L
    have hk : kR n i (rB (.inl f) (fun a => lpS t z P (z + 1) a)) = kR n i (.inl f) := rfl
    rw [hk]
    refine gx_more (a := 0 + 10 * kR n i (.inl f)) (b := 0 + 2100 * kR n i (.inl f)) (by omega) (by omega) ?_
    refine kX2_348x (d' := d - 1) (kc := 0) (ks := 0) (mc := 10 * kR n i (.inl f)) (ms := 2100 * kR n i (.inl f)) (pc := 1) rfl IH (gxRc.of rfl hr) (by omega) (Nat.le_of_ble_eq_true rfl) dX2_sum_1 (fun a2 h3 e3 => ?_) (fun y h' e => gxT_out (by decide +kernel) (Or.inr ⟨y, rfl, ?_⟩))
    · obtain ⟨j, ev', cs', e3, _⟩ := e3; cases e3
    · obtain ⟨f', e3, e4⟩ := e
      cases e3
      exact ⟨f, rfl, e4⟩
  | inr b =>
    have pb := hp _ _ hl.1 es
    rw [es, rB_r] at L
    rw [es] at IH
    rw [rB_r]
    have hk : kR n i (.inr b) = b.1 - i := rfl
    rw [hk] at IH
    generalize hT2 : kR n b.1 (lpS t z P (z + 1) b) = T2 at *
    have hTT : T2 + (b.1 - i) ≤ kR n i (lpS t z P (z + 1) b) := by
      rw [← hT2]
      cases e9 : lpS t z P (z + 1) b with
      | inl f => show n + 1 - b.1 + (b.1 - i) ≤ n + 1 - i; omega
      | inr c =>
        have pc := prg_lpS he hp _ _ _ pb.2 e9
        show c.1 - b.1 + (b.1 - i) ≤ c.1 - i; omega
    refine gx_more (a := 10 * T2 + 10 * (b.1 - i)) (b := 2100 * T2 + 2100 * (b.1 - i)) (by omega) (by omega) ?_
    refine kX2_348x (d' := d - 1) (kc := 10 * T2) (ks := 2100 * T2) (mc := 10 * (b.1 - i)) (ms := 2100 * (b.1 - i)) (pc := 1) rfl IH (gxRc.of rfl hr) (by omega) (Nat.le_of_ble_eq_true rfl) dX2_sum_1 (fun a2 h3 e3 => ?_) (fun y h' e => gxT_out (by decide +kernel) (Or.inr ⟨y, rfl, ?_⟩))
    · obtain ⟨j, ev', cs', e3, hij, R3, g3, x3⟩ := e3
      cases e3
      refine gx_astore_n (pc := 4) dX2_sum_4 (by decide) rfl ?_
      refine gx_null (pc := 5) dX2_sum_5 ?_
      refine gx_astore_nN (pc := 6) dX2_sum_6 (by decide) rfl ?_
      have K := L (z + 1) j ev' cs' 0 h3 a2 .null ev' none none (by omega) hij (by omega) rfl R3 g3 (Or.inl ⟨rfl, rfl, rfl, x3⟩)
      rw [hT2] at K
      exact K
    · obtain ⟨f', e3, e4⟩ := e
      cases e3
theorem c_all (nr : gxN G ≤ r) (hd : 12 ≤ d) {m : Nat} {P : Nat → Sum Int32 rdR} (hp : prg n P) (hP : XC G mX2_test r z n t dv dp (d - 1) m P) : XC G mX2_all r z n t dv dp d (m + 1) (fun i => rB (P i) (fun a => lpA t z P (z + 1) a)) := by
  intro h i nz hR
  have hl := hR.lt
  have he := RR_end hR
  refine gxM_K (fun hK => ?_)
  obtain ⟨S72, hR72, hS72⟩ := st_72 hK
  obtain ⟨S74, hR74, hS74⟩ := st_74 hK
  have w72 : wdL [97, 110, 100] 0 = 1111 := by decide +kernel
  have w74 : wdL [111, 114] 0 = 423 := by decide +kernel
  have L : ∀ F cur ev cs nl h1 a1 cv ev0 (x3 x4 : Option Value), n + 1 - cur ≤ F → i < cur → 2 * nl ≤ cur - i → (rB (P i) (fun a => lpA t z P (z + 1) a)) = lpA t z P F (cur, ev, cs) → RR G h1 r dv dp t z n cur → gE h.2 r h h1 → CQ G h1 h.2 m a1 cv ev0 ev nl → gxV G mX2_all d (10 * kR n cur (lpA t z P F (cur, ev, cs))) (2100 * kR n cur (lpA t z P F (cur, ev, cs))) 7 [some (.ref r), some (.ref a1), some cv, x3, x4] [] h1 (gxQx (gxQr (fun a h' => ∃ j ev cs, (rB (P i) (fun a => lpA t z P (z + 1) a)) = .inr (j, ev, cs) ∧ i < j ∧ RR G h' r dv dp t z n j ∧ gE h.2 r h h' ∧ exE h.2 h'.2 h' (m + 1) a ev)) (fun y h' => ∃ f, (rB (P i) (fun a => lpA t z P (z + 1) a)) = .inl f ∧ xW h.2 r h f y h')) := by
    intro F
    induction F with
    | zero => intro cur ev cs nl h1 a1 cv ev0 x3 x4 hF _ _ _ R1; have := R1.lt; omega
    | succ F ih =>
      intro cur ev cs nl h1 a1 cv ev0 x3 x4 hF hic hnl hX R1 g1 C1
      have hl1 := R1.lt
      have z1 := g1.1
      have hcv : cv = .null ∨ ∃ q, cv = .ref q := by
        rcases C1 with ⟨y, _⟩ | ⟨q, y, _⟩
        · exact Or.inl y
        · exact Or.inr ⟨q, y⟩
      generalize hT : kR n cur (lpA t z P (F + 1) (cur, ev, cs)) = T at *
      rw [lpA] at hX hT
      dsimp only at hX hT
      obtain ⟨so, pl, va, ⟨hr, htp, hso, hva, hpl⟩, hin, hnz, hz, hend, hq, hst, hrz⟩ := id R1
      have n1' : tkW (tkK t z cur) 1111 = true ∨ tkW (tkK t z cur) 423 = true → cur + 1 ≤ n := fun y => nend he hl1.1 (y.elim (fun y => tkW_n0 y) (fun y => tkW_n0 y))
      /- one more operand is read -/
      have K42 : ∀ (b : Bool) h2, tkW (tkK t z cur) 1111 = b → (b = false → tkW (tkK t z cur) 423 = true) → RR G h2 r dv dp t z n (cur + 1) → aE r h1 h2 → gxV G mX2_all d (10 * T) (2100 * T) 42 [some (.ref r), some (.ref a1), some cv, some (.int (zi b)), x4] [] h2 (gxQx (gxQr (fun a h' => ∃ j ev cs, (rB (P i) (fun a => lpA t z P (z + 1) a)) = .inr (j, ev, cs) ∧ i < j ∧ RR G h' r dv dp t z n j ∧ gE h.2 r h h' ∧ exE h.2 h'.2 h' (m + 1) a ev)) (fun y h' => ∃ f, (rB (P i) (fun a => lpA t z P (z + 1) a)) = .inl f ∧ xW h.2 r h f y h')) := by
        intro b h2 hb1 hb2 R2 E2
        have n1 : cur + 1 ≤ n := n1' (by cases b; exact Or.inr (hb2 rfl); exact Or.inl hb1)
        have s2 := E2.1
        have C2 : CQ G h2 h.2 m a1 cv ev0 ev nl := C1.gr (by omega) (fun q a _ => E2.2 q (by omega))
        have g2 : gE h.2 r h h2 := g1.tr E2.g
        have spb : (if tkW (tkK t z cur) 1111 = true then rB (P (cur + 1)) (fun b => lpA t z P F (b.1, fun x y u v => lkE 25 (ev x y u v) (b.2.1 x y u v), cs ++ 26 :: b.2.2)) else if tkW (tkK t z cur) 423 = true then rB (P (cur + 1)) (fun b => lpA t z P F (b.1, fun x y u v => lkE 26 (ev x y u v) (b.2.1 x y u v), cs ++ 27 :: b.2.2)) else .inr (cur, ev, cs)) = rB (P (cur + 1)) (fun q => lpA t z P F (q.1, fun x y u v => lkE (if b = true then 25 else 26) (ev x y u v) (q.2.1 x y u v), cs ++ (if b = true then 26 else 27) :: q.2.2)) := by
          cases b with
          | true => rw [if_pos hb1]; rfl
          | false => rw [if_neg (by rw [hb1]; decide), if_pos (hb2 rfl)]; rfl
        rw [spb] at hX hT
        clear hr hso hva hpl htp hq hst
        obtain ⟨so, pl, va, ⟨hr, htp, hso, hva, hpl⟩, hin, hnz, hz, hend, hq, hst, hrz⟩ := id R2
        have IH := hP h2 (cur + 1) (by omega) R2
        refine gx_aload_n (pc := 42) dX2_all_42 rfl ?_
        cases es : P (cur + 1) with
        | inl f =>
          rw [es] at hX hT IH
          have hT' : T = n + 1 - cur := hT.symm
          have hk : kR n (cur + 1) (.inl f) = n + 1 - (cur + 1) := rfl
          rw [hk] at IH
          refine gx_more (a := 0 + 10 * (n + 1 - (cur + 1))) (b := 0 + 2100 * (n + 1 - (cur + 1))) (by omega) (by omega) ?_
          refine kX2_323x (d' := d - 1) (kc := 0) (ks := 0) (mc := 10 * (n + 1 - (cur + 1))) (ms := 2100 * (n + 1 - (cur + 1))) (pc := 43) rfl IH (gxRc.of rfl hr) (by omega) (Nat.le_of_ble_eq_true rfl) dX2_all_43 (fun a2 h3 e3 => ?_) (fun y h' e => gxT_out (by decide +kernel) (Or.inr ⟨y, rfl, ?_⟩))
          · obtain ⟨j, ev', cs', e3, _⟩ := e3; cases e3
          · obtain ⟨f', e3, e4⟩ := e
            cases e3
            exact ⟨f, hX, (e4.mo (by omega)).tr g2⟩
        | inr bb =>
          have pb := hp _ _ n1 es
          rw [es, rB_r] at hX hT
          rw [es] at IH
          have hk : kR n (cur + 1) (.inr bb) = bb.1 - (cur + 1) := rfl
          rw [hk] at IH
          generalize hT2 : kR n bb.1 (lpA t z P F (bb.1, fun x y u v => lkE (if b = true then 25 else 26) (ev x y u v) (bb.2.1 x y u v), cs ++ (if b = true then 26 else 27) :: bb.2.2)) = T2 at *
          have hTT : T2 + (bb.1 - (cur + 1)) + 1 ≤ T := by
            rw [← hT, ← hT2]
            cases e9 : lpA t z P F (bb.1, fun x y u v => lkE (if b = true then 25 else 26) (ev x y u v) (bb.2.1 x y u v), cs ++ (if b = true then 26 else 27) :: bb.2.2) with
            | inl f => show n + 1 - bb.1 + (bb.1 - (cur + 1)) + 1 ≤ n + 1 - cur; omega
            | inr c =>
              have pc0 := fun q => prg_lpA he hp _ _ _ q e9
              have pc := pc0 pb.2
              dsimp only at pc
              show c.1 - bb.1 + (bb.1 - (cur + 1)) + 1 ≤ c.1 - cur; omega
          refine gx_more (a := (10 * T2 + 5) + 10 * (bb.1 - (cur + 1))) (b := (2100 * T2 + 2007) + 2100 * (bb.1 - (cur + 1))) (by omega) (by omega) ?_
          refine kX2_323x (d' := d - 1) (kc := 10 * T2 + 5) (ks := 2100 * T2 + 2007) (mc := 10 * (bb.1 - (cur + 1))) (ms := 2100 * (bb.1 - (cur + 1))) (pc := 43) rfl IH (gxRc.of rfl hr) (by omega) (Nat.le_of_ble_eq_true rfl) dX2_all_43 (fun a2 h3 e3 => ?_) (fun y h' e => gxT_out (by decide +kernel) (Or.inr ⟨y, rfl, ?_⟩))
          · obtain ⟨j, ev', cs', e3, hij, R3, g3, x3'⟩ := e3
            cases e3
            have s3 := g3.1
            have hl3 := R3.lt
            dsimp only at *
            have K50 : gxV G mX2_all d (10 * T2 + 5) (2100 * T2 + 2007) 50 [some (.ref r), some (.ref a1), some cv, some (.int (zi b)), some (.ref a2)] [cv, .ref a1] h3 (gxQx (gxQr (fun a h' => ∃ j ev cs, (rB (P i) (fun a => lpA t z P (z + 1) a)) = .inr (j, ev, cs) ∧ i < j ∧ RR G h' r dv dp t z n j ∧ gE h.2 r h h' ∧ exE h.2 h'.2 h' (m + 1) a ev)) (fun y h' => ∃ f, (rB (P i) (fun a => lpA t z P (z + 1) a)) = .inl f ∧ xW h.2 r h f y h')) := by
              refine kX2_326 (kc := 10 * T2 + 2) (ks := 2100 * T2 + 2001) (mc := 3) (ms := 6) (pc := 50) rfl (c_chain (d := d - 1) (h0 := h2) (by omega) nz (by omega) s3 (fun q a b => g3.2 q b (by omega)) C2) (by omega) (Nat.le_of_ble_eq_true rfl) dX2_all_50 (fun ca h4 e4 => ?_)
              obtain ⟨s4, s4', f4, L4⟩ := e4
              obtain ⟨ll, mc, lv, hca, hll⟩ := L4.ll
              have hcz : ca < h4.2 := by obtain ⟨_, _, _, _, _, _, _, y, _⟩ := L4; exact y.2
              have hlz : ll < h4.2 := by
                obtain ⟨ll', _, _, _, _, _, _, _, y, _, y5, _⟩ := L4
                have := Option.some.inj (y5.symm.trans hca)
                injection this with this
                injection this with _ this
                injection this with _ this
                injection this with this
                injection this with this
                rw [← this]; exact y.2
              /- the link made is laid in -/
              have K83 : ∀ h6 c, 20 ≤ c → c ≤ 26 → c = (if b = true then 25 else 26) → h6.2 = h4.2 + 1 → (∀ q, q ≠ h4.2 → h6.1 q = h4.1 q) → h6.1 h4.2 = some (.inr (c, [.ref a2])) → gxV G mX2_all d (10 * T2 + 1) (2100 * T2 + 2000) 83 [some (.ref r), some (.ref a1), some (.ref ca), some (.int (zi b)), some (.ref a2)] [.ref h4.2, .ref ll] h6 (gxQx (gxQr (fun a h' => ∃ j ev cs, (rB (P i) (fun a => lpA t z P (z + 1) a)) = .inr (j, ev, cs) ∧ i < j ∧ RR G h' r dv dp t z n j ∧ gE h.2 r h h' ∧ exE h.2 h'.2 h' (m + 1) a ev)) (fun y h' => ∃ f, (rB (P i) (fun a => lpA t z P (z + 1) a)) = .inl f ∧ xW h.2 r h f y h')) := by
                intro h6 c hc1 hc2 hcc s6 f46 e6
                have L6 := L4.gr (h' := h6) (by omega) (fun q a b => f46 q (by omega))
                have hca6 : h6.1 ca = some (.inr (19, [.ref a1, .ref ll])) := by rw [f46 _ (by omega)]; exact hca
                have hll6 : h6.1 ll = some (.inr (32, [.int mc, lv, .int (nI nl)])) := by rw [f46 _ (by omega)]; exact hll
                have x6 : exE h2.2 h3.2 h6 m a2 ev' := x3'.gr (fun q a b => by rw [f46 q (by omega), f4 q b])
                refine kX2_211 (kc := 10 * T2) (ks := 2100 * T2) (mc := 1) (ms := 2000) (pc := 83) rfl (c_linkadd (d := d - 1) (by omega) nz L6 hca6 (by omega) (c := c) ⟨by omega, by omega⟩ hc1 hc2 e6 (by omega) (by omega) x6) (gxRc.of rfl hll6) (by omega) (Nat.le_of_ble_eq_true rfl) dX2_all_83 (fun r7 h7 e7 => ?_)
                obtain ⟨C7, s7, s7', f7⟩ := e7
                rw [hcc] at C7
                have R6 := R3.gr (h' := h6) (by omega) (fun q _ b => by rw [f46 q (by omega), f4 q (by omega)])
                have R7 := R6.gr (h' := h7) s7 (fun q _ b => f7 q (by omega))
                refine gx_pop (pc := 86) dX2_all_86 rfl ?_
                refine gx_goto (pc := 87) 7 dX2_all_87 (by decide) ?_
                have K := ih j (fun x y u v => lkE (if b = true then 25 else 26) (ev x y u v) (ev' x y u v)) (cs ++ (if b = true then 26 else 27) :: cs') (nl + 1) h7 a1 (.ref ca) ev0 (some (.int (zi b))) (some (.ref a2)) (by omega) (by omega) (by omega) hX R7 ⟨by omega, fun q a b => by rw [f7 q a, f46 q (by omega), f4 q (by omega), g3.2 q (by omega) b, g2.2 q a b]⟩ C7
                rw [hT2] at K
                exact K
              refine gx_astore_n (pc := 53) dX2_all_53 (by decide) rfl ?_
              refine gx_aload_n (pc := 54) dX2_all_54 rfl ?_
              refine gx_get (pc := 55) fX2_330 hca rfl dX2_all_55 ?_
              refine gx_iload_n (pc := 58) dX2_all_58 rfl ?_
              cases b with
              | true =>
                refine gx_if_eq (pc := 59) 74 dX2_all_59 (by decide) (fun c1 => ?_) (fun c1 => ?_)
                · exact absurd c1 (by decide)
                · refine nX2_333 (kc := 10 * T2 + 1) (ks := 2100 * T2 + 2000) (pc := 62) rfl dX2_all_62 ?_
                  have ha : (gxadd h4 (.inr (25, [.null]))).1 h4.2 = some (.inr (25, [.null])) := gxadd_self _ _
                  have f5 : ∀ q, q ≠ h4.2 → (gxadd h4 (.inr (25, [.null]))).1 q = h4.1 q := fun q hq => gxadd_ne hq
                  have s5 : (gxadd h4 (.inr (25, [.null]))).2 = h4.2 + 1 := rfl
                  generalize gxadd h4 (.inr (25, [.null])) = h5 at *
                  refine gx_dup (pc := 65) dX2_all_65 rfl ?_
                  refine gx_aload (pc := 66) dX2_all_66 rfl ?_
                  refine kX2_335 (kc := 10 * T2 + 1) (ks := 2100 * T2 + 2000) (mc := 0) (ms := 0) (pc := 68) rfl (c_lk5 (d := d - 1) (by omega) (by omega) ha a2) (by omega) (Nat.le_of_ble_eq_true rfl) dX2_all_68 (fun h6 e6 => ?_)
                  obtain ⟨s6, e6, f6⟩ := e6
                  refine gx_goto (pc := 71) 83 dX2_all_71 (by decide) ?_
                  exact K83 h6 25 (by decide) (by decide) rfl (by omega) (fun q hq => by rw [f6 q hq, f5 q hq]) e6
              | false =>
                refine gx_if_eq (pc := 59) 74 dX2_all_59 (by decide) (fun c1 => ?_) (fun c1 => ?_)
                · refine nX2_336 (kc := 10 * T2 + 1) (ks := 2100 * T2 + 2000) (pc := 74) rfl dX2_all_74 ?_
                  have ha : (gxadd h4 (.inr (26, [.null]))).1 h4.2 = some (.inr (26, [.null])) := gxadd_self _ _
                  have f5 : ∀ q, q ≠ h4.2 → (gxadd h4 (.inr (26, [.null]))).1 q = h4.1 q := fun q hq => gxadd_ne hq
                  have s5 : (gxadd h4 (.inr (26, [.null]))).2 = h4.2 + 1 := rfl
                  generalize gxadd h4 (.inr (26, [.null])) = h5 at *
                  refine gx_dup (pc := 77) dX2_all_77 rfl ?_
                  refine gx_aload (pc := 78) dX2_all_78 rfl ?_
                  refine kX2_338 (kc := 10 * T2 + 1) (ks := 2100 * T2 + 2000) (mc := 0) (ms := 0) (pc := 80) rfl (c_lk6 (d := d - 1) (by omega) (by omega) ha a2) (by omega) (Nat.le_of_ble_eq_true rfl) dX2_all_80 (fun h6 e6 => ?_)
                  obtain ⟨s6, e6, f6⟩ := e6
                  exact K83 h6 26 (by decide) (by decide) rfl (by omega) (fun q hq => by rw [f6 q hq, f5 q hq]) e6
                · exact absurd rfl c1
            rcases hcv with rfl | ⟨q, rfl⟩
            · refine gx_astore (pc := 46) dX2_all_46 (by decide) rfl ?_
              refine gx_aload_n (pc := 48) dX2_all_48 rfl ?_
              refine gx_aload_nN (pc := 49) dX2_all_49 rfl ?_
              exact K50
            · refine gx_astore (pc := 46) dX2_all_46 (by decide) rfl ?_
              refine gx_aload_n (pc := 48) dX2_all_48 rfl ?_
              refine gx_aload_n (pc := 49) dX2_all_49 rfl ?_
              exact K50
          · obtain ⟨f', e3, e4⟩ := e
            cases e3
      /- the flag is set, the sign passed -/
      have K25 : ∀ b : Bool, tkW (tkK t z cur) 1111 = b → (b = false → tkW (tkK t z cur) 423 = true) → gxV G mX2_all d (10 * T) (2100 * T) 25 [some (.ref r), some (.ref a1), some cv, x3, x4] [] h1 (gxQx (gxQr (fun a h' => ∃ j ev cs, (rB (P i) (fun a => lpA t z P (z + 1) a)) = .inr (j, ev, cs) ∧ i < j ∧ RR G h' r dv dp t z n j ∧ gE h.2 r h h' ∧ exE h.2 h'.2 h' (m + 1) a ev)) (fun y h' => ∃ f, (rB (P i) (fun a => lpA t z P (z + 1) a)) = .inl f ∧ xW h.2 r h f y h')) := by
        intro b hb1 hb2
        have n0 : ¬ (tkK t z cur).2.2.1 = 0 := by
          cases b
          · exact tkW_n0 (hb2 rfl)
          · exact tkW_n0 hb1
        refine gx_aload_n (pc := 25) dX2_all_25 rfl ?_
        refine gx_ldcS (pc := 26) hR72 dX2_all_26 ?_
        refine kX2_144 (kc := 10 * T) (ks := 2100 * T) (mc := 0) (ms := 0) (pc := 28) rfl (c_RisWord (d := d - 1) (by omega) R1 hS72) (gxRc.of rfl hr) (by omega) (Nat.le_of_ble_eq_true rfl) dX2_all_28 (fun r2 h2 e2 => ?_)
        obtain ⟨rfl, e2⟩ := e2
        subst h2
        rw [w72]
        rw [hb1]
        refine gx_istore_n (pc := 31) dX2_all_31 (by decide) (by rcases hcv with rfl | ⟨q, rfl⟩ <;> rfl) ?_
        refine gx_aload_n (pc := 32) dX2_all_32 rfl ?_
        refine gx_dup (pc := 33) dX2_all_33 rfl ?_
        refine gx_get (pc := 34) fX2_132 hr rfl dX2_all_34 ?_
        refine gx_iconst (pc := 37) (v := 1) dX2_all_37 (by decide) ?_
        refine gx_iadd (pc := 38) dX2_all_38 ?_
        rw [nI_1]
        refine gx_put (pc := 39) fX2_132 hr nr (by first | exact Nat.le_of_ble_eq_true rfl | simp) tX2_9 rfl rfl dX2_all_39 ?_
        change gxV _ _ _ _ _ _ _ _ (gxup h1 r (.inr (1, [.ref (r + 1), .ref (r + 2), .ref (r + 3), dv, .ref (r + 4), .int 0, .ref (r + 5), .ref (r + 6), .ref (r + 7), .int (nI (cur + 1)), .int dp]))) _
        obtain ⟨R2, E2⟩ := R1.step n0
        generalize gxup h1 r (.inr (1, [.ref (r + 1), .ref (r + 2), .ref (r + 3), dv, .ref (r + 4), .int 0, .ref (r + 5), .ref (r + 6), .ref (r + 7), .int (nI (cur + 1)), .int dp])) = h2 at *
        exact K42 b h2 hb1 hb2 R2 E2
      refine gx_aload_n (pc := 7) dX2_all_7 rfl ?_
      refine gx_ldcS (pc := 8) hR72 dX2_all_8 ?_
      refine kX2_144 (kc := 10 * T) (ks := 2100 * T) (mc := 0) (ms := 0) (pc := 10) rfl (c_RisWord (d := d - 1) (by omega) R1 hS72) (gxRc.of rfl hr) (by omega) (Nat.le_of_ble_eq_true rfl) dX2_all_10 (fun r2 h2 e2 => ?_)
      obtain ⟨rfl, e2⟩ := e2
      subst h2
      rw [w72]
      refine gx_if_ne (pc := 13) 25 dX2_all_13 (by decide) (fun c1 => ?_) (fun c1 => ?_)
      · exact K25 true (zi_ne0 c1) (fun e => by cases e)
      · have y1 := zi_eq0 c1
        refine gx_aload_n (pc := 16) dX2_all_16 rfl ?_
        refine gx_ldcS (pc := 17) hR74 dX2_all_17 ?_
        refine kX2_144 (kc := 10 * T) (ks := 2100 * T) (mc := 0) (ms := 0) (pc := 19) rfl (c_RisWord (d := d - 1) (by omega) R1 hS74) (gxRc.of rfl hr) (by omega) (Nat.le_of_ble_eq_true rfl) dX2_all_19 (fun r2 h2 e2 => ?_)
        obtain ⟨rfl, e2⟩ := e2
        subst h2
        rw [w74]
        refine gx_if_eq (pc := 22) 90 dX2_all_22 (by decide) (fun c2 => ?_) (fun c2 => ?_)
        · have y2 := zi_eq0 c2
          rw [if_neg (by rw [y1]; decide), if_neg (by rw [y2]; decide)] at hX
          rcases C1.fin with ⟨rfl, x1⟩ | ⟨ca, rfl, x1⟩
          · refine gx_aload_nN (pc := 90) dX2_all_90 rfl ?_
            refine gx_ifnonnullN (pc := 91) dX2_all_91 ?_
            refine gx_aload_n (pc := 94) dX2_all_94 rfl ?_
            refine gx_goto (pc := 95) 99 dX2_all_95 (by decide) ?_
            exact gx_areturn (pc := 99) rfl (Or.inl ⟨_, rfl⟩) (Or.inr ⟨_, rfl⟩) dX2_all_99 (Or.inl ⟨_, rfl, cur, ev, cs, hX, hic, R1, g1, x1⟩)
          · refine gx_aload_n (pc := 90) dX2_all_90 rfl ?_
            refine gx_ifnonnull (pc := 91) 98 dX2_all_91 (by decide) ?_
            refine gx_aload_n (pc := 98) dX2_all_98 rfl ?_
            exact gx_areturn (pc := 99) rfl (Or.inl ⟨_, rfl⟩) (Or.inr ⟨_, rfl⟩) dX2_all_99 (Or.inl ⟨_, rfl, cur, ev, cs, hX, hic, R1, g1, x1⟩)
        · exact K25 false y1 (fun _ => zi_ne0 c2)
  refine gxM_of rfl (Nat.le_of_ble_eq_true rfl) rfl ?_
  obtain ⟨so, pl, va, ⟨hr, htp, hso, hva, hpl⟩, hin, hnz, hz, hend, hq, hst, hrz⟩ := id hR
  have IH := hP h i nz hR
  refine gx_aload_n (pc := 0) dX2_all_0 rfl ?_
  dsimp only
  cases es : P i with
  | inl f =>
    rw [es] at IH L
    have hk : kR n i (rB (.inl f) (fun a => lpA t z P (z + 1) a)) = kR n i (.inl f) := rfl
    rw [hk]
    refine gx_more (a := 0 + 10 * kR n i (.inl f)) (b := 0 + 2100 * kR n i (.inl f)) (by omega) (by omega) ?_
    refine kX2_323x (d' := d - 1) (kc := 0) (ks := 0) (mc := 10 * kR n i (.inl f)) (ms := 2100 * kR n i (.inl f)) (pc := 1) rfl IH (gxRc.of rfl hr) (by omega) (Nat.le_of_ble_eq_true rfl) dX2_all_1 (fun a2 h3 e3 => ?_) (fun y h' e => gxT_out (by decide +kernel) (Or.inr ⟨y, rfl, ?_⟩))
    · obtain ⟨j, ev', cs', e3, _⟩ := e3; cases e3
    · obtain ⟨f', e3, e4⟩ := e
      cases e3
      exact ⟨f, rfl, e4⟩
  | inr b =>
    have pb := hp _ _ hl.1 es
    rw [es, rB_r] at L
    rw [es] at IH
    rw [rB_r]
    have hk : kR n i (.inr b) = b.1 - i := rfl
    rw [hk] at IH
    generalize hT2 : kR n b.1 (lpA t z P (z + 1) b) = T2 at *
    have hTT : T2 + (b.1 - i) ≤ kR n i (lpA t z P (z + 1) b) := by
      rw [← hT2]
      cases e9 : lpA t z P (z + 1) b with
      | inl f => show n + 1 - b.1 + (b.1 - i) ≤ n + 1 - i; omega
      | inr c =>
        have pc := prg_lpA he hp _ _ _ pb.2 e9
        show c.1 - b.1 + (b.1 - i) ≤ c.1 - i; omega
    refine gx_more (a := 10 * T2 + 10 * (b.1 - i)) (b := 2100 * T2 + 2100 * (b.1 - i)) (by omega) (by omega) ?_
    refine kX2_323x (d' := d - 1) (kc := 10 * T2) (ks := 2100 * T2) (mc := 10 * (b.1 - i)) (ms := 2100 * (b.1 - i)) (pc := 1) rfl IH (gxRc.of rfl hr) (by omega) (Nat.le_of_ble_eq_true rfl) dX2_all_1 (fun a2 h3 e3 => ?_) (fun y h' e => gxT_out (by decide +kernel) (Or.inr ⟨y, rfl, ?_⟩))
    · obtain ⟨j, ev', cs', e3, hij, R3, g3, x3⟩ := e3
      cases e3
      refine gx_astore_n (pc := 4) dX2_all_4 (by decide) rfl ?_
      refine gx_null (pc := 5) dX2_all_5 ?_
      refine gx_astore_nN (pc := 6) dX2_all_6 (by decide) rfl ?_
      have K := L (z + 1) j ev' cs' 0 h3 a2 .null ev' none none (by omega) hij (by omega) rfl R3 g3 (Or.inl ⟨rfl, rfl, rfl, x3⟩)
      rw [hT2] at K
      exact K
    · obtain ⟨f', e3, e4⟩ := e
      cases e3
end MBP
