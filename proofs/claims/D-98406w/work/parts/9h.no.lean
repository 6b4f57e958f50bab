/-! ===== COMPONENT BO: terms read ===== -/
set_option maxRecDepth 100000
section MBO
variable {G : gxG} {d : Nat} {r z n : Nat} {dv : Value} {dp : Int32} {t : Nat → Int32}
theorem c_term (nr : gxN G ≤ r) (hd : 12 ≤ d) {m : Nat} {P : Nat → Sum Int32 rdR} (hp : prg n P) (hP : XC G mX2_part r z n t dv dp (d - 1) m P) : XC G mX2_term r z n t dv dp d (m + 1) (prT t z P) := by
  intro h i nz hR
  have hl := hR.lt
  have he := RR_end hR
  have L : ∀ F cur ev cs nl h1 a1 cv ev0 (x3 : Option Value), n + 1 - cur ≤ F → i < cur → 2 * nl ≤ cur - i → prT t z P i = lpT t z P F (cur, ev, cs) → RR G h1 r dv dp t z n cur → gE h.2 r h h1 → CQ G h1 h.2 m a1 cv ev0 ev nl → gxV G mX2_term d (10 * kR n cur (lpT t z P F (cur, ev, cs))) (2100 * kR n cur (lpT t z P F (cur, ev, cs))) 7 [some (.ref r), some (.ref a1), some cv, x3] [] h1 (gxQx (gxQr (fun a h' => ∃ j ev cs, prT t z P i = .inr (j, ev, cs) ∧ i < j ∧ RR G h' r dv dp t z n j ∧ gE h.2 r h h' ∧ exE h.2 h'.2 h' (m + 1) a ev)) (fun y h' => ∃ f, prT t z P i = .inl f ∧ xW h.2 r h f y h')) := by
    intro F
    induction F with
    | zero => intro cur ev cs nl h1 a1 cv ev0 x3 hF _ _ _ R1; have := R1.lt; omega
    | succ F ih =>
      intro cur ev cs nl h1 a1 cv ev0 x3 hF hic hnl hX R1 g1 C1
      have hl1 := R1.lt
      have z1 := g1.1
      generalize hT : kR n cur (lpT t z P (F + 1) (cur, ev, cs)) = T at *
      rw [lpT] at hX hT
      dsimp only at hX hT
      obtain ⟨so, pl, va, ⟨hr, htp, hso, hva, hpl⟩, hin, hnz, hz, hend, hq, hst, hrz⟩ := id R1
      refine gx_aload_n (pc := 7) dX2_term_7 rfl ?_
      refine gx_bipush (pc := 8) (v := 42) dX2_term_8 (by decide) ?_
      refine kX2_151 (kc := 10 * T) (ks := 2100 * T) (mc := 0) (ms := 0) (pc := 10) rfl (c_RhasSign (d := d - 1) nr (by omega) R1 42) (gxRc.of rfl hr) (by omega) (Nat.le_of_ble_eq_true rfl) dX2_term_10 (fun r2 h2 e2 => ?_)
      refine gx_if_eq (pc := 13) 46 dX2_term_13 (by decide) (fun c1 => ?_) (fun c1 => ?_)
      · rcases e2 with ⟨_, rfl, _⟩ | ⟨y1, _, e2⟩
        · exact absurd c1 (by decide)
        · subst h2
          rw [if_neg (by rw [y1]; decide)] at hX
          rcases C1.fin with ⟨rfl, x1⟩ | ⟨ca, rfl, x1⟩
          · refine gx_aload_nN (pc := 46) dX2_term_46 rfl ?_
            refine gx_ifnonnullN (pc := 47) dX2_term_47 ?_
            refine gx_aload_n (pc := 50) dX2_term_50 rfl ?_
            refine gx_goto (pc := 51) 55 dX2_term_51 (by decide) ?_
            exact gx_areturn (pc := 55) rfl (Or.inl ⟨_, rfl⟩) (Or.inr ⟨_, rfl⟩) dX2_term_55 (Or.inl ⟨_, rfl, cur, ev, cs, hX, hic, R1, g1, x1⟩)
          · refine gx_aload_n (pc := 46) dX2_term_46 rfl ?_
            refine gx_ifnonnull (pc := 47) 54 dX2_term_47 (by decide) ?_
            refine gx_aload_n (pc := 54) dX2_term_54 rfl ?_
            exact gx_areturn (pc := 55) rfl (Or.inl ⟨_, rfl⟩) (Or.inr ⟨_, rfl⟩) dX2_term_55 (Or.inl ⟨_, rfl, cur, ev, cs, hX, hic, R1, g1, x1⟩)
      · rcases e2 with ⟨y1, rfl, R2, E2⟩ | ⟨_, rfl, _⟩
        · rw [if_pos y1] at hX hT
          have n1 := nend he hl1.1 (tkG_n0 y1)
          have s2 := E2.1
          have C2 : CQ G h2 h.2 m a1 cv ev0 ev nl := C1.gr (by omega) (fun q a _ => E2.2 q (by omega))
          have g2 : gE h.2 r h h2 := g1.tr E2.g
          clear hr hso hva hpl htp hq hst
          obtain ⟨so, pl, va, ⟨hr, htp, hso, hva, hpl⟩, hin, hnz, hz, hend, hq, hst, hrz⟩ := id R2
          have IH := hP h2 (cur + 1) (by omega) R2
          refine gx_aload_n (pc := 16) dX2_term_16 rfl ?_
          cases es : P (cur + 1) with
          | inl f =>
            rw [es] at hX hT IH
            have hT' : T = n + 1 - cur := hT.symm
            have hk : kR n (cur + 1) (.inl f) = n + 1 - (cur + 1) := rfl
            rw [hk] at IH
            refine gx_more (a := 0 + 10 * (n + 1 - (cur + 1))) (b := 0 + 2100 * (n + 1 - (cur + 1))) (by omega) (by omega) ?_
            refine kX2_357x (d' := d - 1) (kc := 0) (ks := 0) (mc := 10 * (n + 1 - (cur + 1))) (ms := 2100 * (n + 1 - (cur + 1))) (pc := 17) rfl IH (gxRc.of rfl hr) (by omega) (Nat.le_of_ble_eq_true rfl) dX2_term_17 (fun a2 h3 e3 => ?_) (fun y h' e => gxT_out (by decide +kernel) (Or.inr ⟨y, rfl, ?_⟩))
            · obtain ⟨j, ev', cs', e3, _⟩ := e3; cases e3
            · obtain ⟨f', e3, e4⟩ := e
              cases e3
              exact ⟨f, hX, (e4.mo (by omega)).tr g2⟩
          | inr b =>
            have pb := hp _ _ n1 es
            rw [es, rB_r] at hX hT
            rw [es] at IH
            have hk : kR n (cur + 1) (.inr b) = b.1 - (cur + 1) := rfl
            rw [hk] at IH
            generalize hT2 : kR n b.1 (lpT t z P F (b.1, fun x y u v => lkE 20 (ev x y u v) (b.2.1 x y u v), cs ++ 22 :: b.2.2)) = T2 at *
            have hTT : T2 + (b.1 - (cur + 1)) + 1 ≤ T := by
              rw [← hT, ← hT2]
              cases e9 : lpT t z P F (b.1, fun x y u v => lkE 20 (ev x y u v) (b.2.1 x y u v), cs ++ 22 :: b.2.2) with
              | inl f => show n + 1 - b.1 + (b.1 - (cur + 1)) + 1 ≤ n + 1 - cur; omega
              | inr c =>
                have pc0 := fun q => prg_lpT he hp _ _ _ q e9
                have pc := pc0 pb.2
                dsimp only at pc
                show c.1 - b.1 + (b.1 - (cur + 1)) + 1 ≤ c.1 - cur; omega
            refine gx_more (a := (10 * T2 + 5) + 10 * (b.1 - (cur + 1))) (b := (2100 * T2 + 2007) + 2100 * (b.1 - (cur + 1))) (by omega) (by omega) ?_
            refine kX2_357x (d' := d - 1) (kc := 10 * T2 + 5) (ks := 2100 * T2 + 2007) (mc := 10 * (b.1 - (cur + 1))) (ms := 2100 * (b.1 - (cur + 1))) (pc := 17) rfl IH (gxRc.of rfl hr) (by omega) (Nat.le_of_ble_eq_true rfl) dX2_term_17 (fun a2 h3 e3 => ?_) (fun y h' e => gxT_out (by decide +kernel) (Or.inr ⟨y, rfl, ?_⟩))
            · obtain ⟨j, ev', cs', e3, hij, R3, g3, x3⟩ := e3
              cases e3
              have s3 := g3.1
              have hl3 := R3.lt
              dsimp only at *
              have hcv : cv = .null ∨ ∃ q, cv = .ref q := by
                rcases C2 with ⟨y, _⟩ | ⟨q, y, _⟩
                · exact Or.inl y
                · exact Or.inr ⟨q, y⟩
              have K23 : gxV G mX2_term d (10 * T2 + 5) (2100 * T2 + 2007) 23 [some (.ref r), some (.ref a1), some cv, some (.ref a2)] [cv, .ref a1] h3 (gxQx (gxQr (fun a h' => ∃ j ev cs, prT t z P i = .inr (j, ev, cs) ∧ i < j ∧ RR G h' r dv dp t z n j ∧ gE h.2 r h h' ∧ exE h.2 h'.2 h' (m + 1) a ev)) (fun y h' => ∃ f, prT t z P i = .inl f ∧ xW h.2 r h f y h')) := by
                refine kX2_326 (kc := 10 * T2 + 2) (ks := 2100 * T2 + 2001) (mc := 3) (ms := 6) (pc := 23) rfl (c_chain (d := d - 1) (h0 := h2) (by omega) nz (by omega) s3 (fun q a b => g3.2 q b (by omega)) C2) (by omega) (Nat.le_of_ble_eq_true rfl) dX2_term_23 (fun ca h4 e4 => ?_)
                obtain ⟨s4, s4', f4, L4⟩ := e4
                obtain ⟨ll, mc, lv, hca, hll⟩ := L4.ll
                refine gx_astore_n (pc := 26) dX2_term_26 (by decide) rfl ?_
                refine gx_aload_n (pc := 27) dX2_term_27 rfl ?_
                refine gx_get (pc := 28) fX2_330 hca rfl dX2_term_28 ?_
                refine nX2_360 (kc := 10 * T2 + 1) (ks := 2100 * T2 + 2000) (pc := 31) rfl dX2_term_31 ?_
                have ha : (gxadd h4 (.inr (20, [.null]))).1 h4.2 = some (.inr (20, [.null])) := gxadd_self _ _
                have f5 : ∀ q, q ≠ h4.2 → (gxadd h4 (.inr (20, [.null]))).1 q = h4.1 q := fun q hq => gxadd_ne hq
                have s5 : (gxadd h4 (.inr (20, [.null]))).2 = h4.2 + 1 := rfl
                generalize gxadd h4 (.inr (20, [.null])) = h5 at *
                refine gx_dup (pc := 34) dX2_term_34 rfl ?_
                refine gx_aload_n (pc := 35) dX2_term_35 rfl ?_
                refine kX2_362 (kc := 10 * T2 + 1) (ks := 2100 * T2 + 2000) (mc := 0) (ms := 0) (pc := 36) rfl (c_lk0 (d := d - 1) (by omega) (by omega) ha a2) (by omega) (Nat.le_of_ble_eq_true rfl) dX2_term_36 (fun h6 e6 => ?_)
                obtain ⟨s6, e6, f6⟩ := e6
                have f46 : ∀ q, q ≠ h4.2 → h6.1 q = h4.1 q := fun q hq => by rw [f6 q hq, f5 q hq]
                have L6 := L4.gr (h' := h6) (by omega) (fun q a b => f46 q (by omega))
                have hcz : ca < h4.2 := by obtain ⟨_, _, _, _, _, _, _, y, _⟩ := L4; exact y.2
                have hlz : ll < h4.2 := by
                  obtain ⟨ll', _, _, _, _, _, _, _, y, _, y5, _⟩ := L4
                  have := Option.some.inj (y5.symm.trans hca)
                  injection this with this
                  injection this with _ this
                  injection this with _ this
                  injection this with this
                  injection this with this
                  rw [← this]; exact y.2
                have hca6 : h6.1 ca = some (.inr (19, [.ref a1, .ref ll])) := by rw [f46 _ (by omega)]; exact hca
                have hll6 : h6.1 ll = some (.inr (32, [.int mc, lv, .int (nI nl)])) := by rw [f46 _ (by omega)]; exact hll
                have x6 : exE h2.2 h3.2 h6 m a2 ev' := x3.gr (fun q a b => by rw [f46 q (by omega), f4 q b])
                refine kX2_211 (kc := 10 * T2) (ks := 2100 * T2) (mc := 1) (ms := 2000) (pc := 39) rfl (c_linkadd (d := d - 1) (by omega) nz L6 hca6 (by omega) (c := 20) ⟨by omega, by omega⟩ (by decide) (by decide) e6 (by omega) (by omega) x6) (gxRc.of rfl hll6) (by omega) (Nat.le_of_ble_eq_true rfl) dX2_term_39 (fun r7 h7 e7 => ?_)
                obtain ⟨C7, s7, s7', f7⟩ := e7
                have R6 := R3.gr (h' := h6) (by omega) (fun q _ b => by rw [f46 q (by omega), f4 q (by omega)])
                have R7 := R6.gr (h' := h7) s7 (fun q _ b => f7 q (by omega))
                refine gx_pop (pc := 42) dX2_term_42 rfl ?_
                refine gx_goto (pc := 43) 7 dX2_term_43 (by decide) ?_
                have K := ih j (fun x y u v => lkE 20 (ev x y u v) (ev' x y u v)) (cs ++ 22 :: cs') (nl + 1) h7 a1 (.ref ca) ev0 (some (.ref a2)) (by omega) (by omega) (by omega) hX R7 ⟨by omega, fun q a b => by rw [f7 q a, f46 q (by omega), f4 q (by omega), g3.2 q (by omega) b, g2.2 q a b]⟩ C7
                rw [hT2] at K
                exact K
              rcases hcv with rfl | ⟨q, rfl⟩
              · refine gx_astore_n (pc := 20) dX2_term_20 (by decide) rfl ?_
                refine gx_aload_n (pc := 21) dX2_term_21 rfl ?_
                refine gx_aload_nN (pc := 22) dX2_term_22 rfl ?_
                exact K23
              · refine gx_astore_n (pc := 20) dX2_term_20 (by decide) rfl ?_
                refine gx_aload_n (pc := 21) dX2_term_21 rfl ?_
                refine gx_aload_n (pc := 22) dX2_term_22 rfl ?_
                exact K23
            · obtain ⟨f', e3, e4⟩ := e
              cases e3
        · exact absurd rfl c1
  refine gxM_of rfl (Nat.le_of_ble_eq_true rfl) rfl ?_
  obtain ⟨so, pl, va, ⟨hr, htp, hso, hva, hpl⟩, hin, hnz, hz, hend, hq, hst, hrz⟩ := id hR
  have IH := hP h i nz hR
  refine gx_aload_n (pc := 0) dX2_term_0 rfl ?_
  have hsp : prT t z P i = rB (P i) (fun a => lpT t z P (z + 1) a) := rfl
  cases es : P i with
  | inl f =>
    rw [es] at IH hsp
    have hsp' : prT t z P i = .inl f := hsp
    rw [hsp']
    refine gx_more (a := 0 + 10 * kR n i (.inl f)) (b := 0 + 2100 * kR n i (.inl f)) (by omega) (by omega) ?_
    refine kX2_357x (d' := d - 1) (kc := 0) (ks := 0) (mc := 10 * kR n i (.inl f)) (ms := 2100 * kR n i (.inl f)) (pc := 1) rfl IH (gxRc.of rfl hr) (by omega) (Nat.le_of_ble_eq_true rfl) dX2_term_1 (fun a2 h3 e3 => ?_) (fun y h' e => gxT_out (by decide +kernel) (Or.inr ⟨y, rfl, ?_⟩))
    · obtain ⟨j, ev', cs', e3, _⟩ := e3; cases e3
    · obtain ⟨f', e3, e4⟩ := e
      cases e3
      exact ⟨f, rfl, e4⟩
  | inr b =>
    have pb := hp _ _ hl.1 es
    rw [es] at IH hsp
    rw [rB_r] at hsp
    have hk : kR n i (.inr b) = b.1 - i := rfl
    rw [hk] at IH
    generalize hT2 : kR n b.1 (lpT t z P (z + 1) b) = T2 at *
    have hTT : T2 + (b.1 - i) ≤ kR n i (prT t z P i) := by
      rw [hsp, ← hT2]
      cases e9 : lpT t z P (z + 1) b with
      | inl f => show n + 1 - b.1 + (b.1 - i) ≤ n + 1 - i; omega
      | inr c =>
        have pc := prg_lpT he hp _ _ _ pb.2 e9
        show c.1 - b.1 + (b.1 - i) ≤ c.1 - i; omega
    refine gx_more (a := 10 * T2 + 10 * (b.1 - i)) (b := 2100 * T2 + 2100 * (b.1 - i)) (by omega) (by omega) ?_
    refine kX2_357x (d' := d - 1) (kc := 10 * T2) (ks := 2100 * T2) (mc := 10 * (b.1 - i)) (ms := 2100 * (b.1 - i)) (pc := 1) rfl IH (gxRc.of rfl hr) (by omega) (Nat.le_of_ble_eq_true rfl) dX2_term_1 (fun a2 h3 e3 => ?_) (fun y h' e => gxT_out (by decide +kernel) (Or.inr ⟨y, rfl, ?_⟩))
    · obtain ⟨j, ev', cs', e3, hij, R3, g3, x3⟩ := e3
      cases e3
      refine gx_astore_n (pc := 4) dX2_term_4 (by decide) rfl ?_
      refine gx_null (pc := 5) dX2_term_5 ?_
      refine gx_astore_nN (pc := 6) dX2_term_6 (by decide) rfl ?_
      have K := L (z + 1) j ev' cs' 0 h3 a2 .null ev' none (by omega) hij (by omega) hsp R3 g3 (Or.inl ⟨rfl, rfl, rfl, x3⟩)
      rw [hT2] at K
      exact K
    · obtain ⟨f', e3, e4⟩ := e
      cases e3
end MBO
