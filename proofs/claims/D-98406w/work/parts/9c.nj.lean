/-! ===== COMPONENT BJ: clashes told, walked ===== -/
set_option maxRecDepth 100000
section MBJ
variable {G : gxG} {d : Nat} {h : gxH} {hb r ta z n i P S E : Nat} {dp : Int32} {t : Nat → Int32} {x : dS} {w : Option gxEv}
theorem clash63 (nr : gxN G ≤ r) (hrb : r + 8 ≤ hb) (hd : 4 ≤ d) (R : (RR G h r (.ref ta) dp t z n i)) (hi0 : ¬ (tkK t z i).2.2.1 = 0) (D : DX G h hb ta x P S E w) {a c : Nat} (ha : a < S) (hc : c < S) (hac : a ≠ c) : gxV G mX2_clash d 0 0 63 [some (.ref r), some (.int (nI a)), some (.int (nI c))] [] h (gxQv (fun h' => RR G h' r (.ref ta) dp t z n (i + 1) ∧ gE hb r h h' ∧ DX G h' hb ta (dA (dA (dA x 21 (10 + a) (x.1 21 (10 + a) ||| (1 <<< (nI c &&& 31)))) 21 (10 + c) (x.1 21 (10 + c) ||| (1 <<< (nI a &&& 31)))) 10 7 (x.1 10 7 + 1)) P S E w)) := by
  obtain ⟨fo, fa, la, le, lc, ln, lf, wv, nv, nc, elo, ehi, Y, hNM, n0, n1, n2, n3, n4, hP6, hS10, hE30, hwn⟩ := D
  have hij : ∀ j k, j < ln 3 → k < ln 3 → j ≠ k → lf 3 j ≠ lf 3 k := fun j k h1 h2 h3 => hwn.2.2 j k (by omega) (by omega) h3
  have nhb := Y.2.2.2.2.2.2.2
  have ge : ∀ k, k < ln 3 → hb ≤ lf 3 k := fun k hk => (Y.2.1.2.2.2.2.2.2 3 k (by decide) hk).1.1
  have tge : hb ≤ ta := Y.2.1.1.1
  obtain ⟨so, pl, va, ⟨hr, htp, hso, hva, hpl⟩, hin, hnz, hz, hend, hq, hst, hrz⟩ := id R
  refine gx_aload_n (pc := 63) dX2_clash_63 rfl ?_
  refine gx_dup (pc := 64) dX2_clash_64 rfl ?_
  refine gx_get (pc := 65) fX2_132 hr rfl dX2_clash_65 ?_
  refine gx_iconst (pc := 68) (v := 1) dX2_clash_68 (by decide) ?_
  refine gx_iadd (pc := 69) dX2_clash_69 ?_
  rw [nI_1]
  refine gx_put (pc := 70) fX2_132 hr nr (by first | exact Nat.le_of_ble_eq_true rfl | simp) tX2_9 rfl rfl dX2_clash_70 ?_
  change gxV _ _ _ _ _ _ _ _ (gxup h r (.inr (1, [.ref (r + 1), .ref (r + 2), .ref (r + 3), .ref ta, .ref (r + 4), .int 0, .ref (r + 5), .ref (r + 6), .ref (r + 7), .int (nI (i + 1)), .int dp]))) _
  obtain ⟨R1, E1⟩ := R.step hi0
  generalize gxup h r (.inr (1, [.ref (r + 1), .ref (r + 2), .ref (r + 3), .ref ta, .ref (r + 4), .int 0, .ref (r + 5), .ref (r + 6), .ref (r + 7), .int (nI (i + 1)), .int dp])) = h1 at *
  have Y1 := E1.dy hrb Y
  have hta := Y1.2.1.2.2.2.2.2.1
  have l3 := (Y1.1.1 3 (by decide)).2.2.2.ls
  rw [n3] at l3
  obtain ⟨_, hl3⟩ := (Y1.1.1 3 (by decide)).2.2.2.ob
  have hse := (Y1.2.1.2.2.2.2.2.2 3 a (by decide) (by omega)).2
  clear hr hso hva hpl htp hq hst
  obtain ⟨so, pl, va, ⟨hr, htp, hso, hva, hpl⟩, hin, hnz, hz, hend, hq, hst, hrz⟩ := id R1
  have nse : gxN G ≤ lf 3 a := by have := ge a (by omega); omega
  refine gx_aload_n (pc := 73) dX2_clash_73 rfl ?_
  refine gx_get (pc := 74) fX2_168 hr rfl dX2_clash_74 ?_
  refine gx_get (pc := 77) fX2_249 hta rfl dX2_clash_77 ?_
  refine gx_iload_n (pc := 80) dX2_clash_80 rfl ?_
  refine kX2_271 (kc := 0) (ks := 0) (mc := 0) (ms := 0) (pc := 81) rfl (c_get (d := d - 1) (by omega) l3 a ha) (gxRc.of rfl hl3) (by omega) (Nat.le_of_ble_eq_true rfl) dX2_clash_81 (fun r2 h2 e2 => ?_)
  obtain ⟨rfl, e2⟩ := e2
  subst h2
  refine gx_castS (pc := 84) hse rfl q1014 dX2_clash_84 ?_
  refine gx_dup (pc := 87) dX2_clash_87 rfl ?_
  refine gx_get (pc := 88) fX2_275 hse rfl dX2_clash_88 ?_
  refine gx_iconst (pc := 91) (v := 1) dX2_clash_91 (by decide) ?_
  refine gx_iload_n (pc := 92) dX2_clash_92 rfl ?_
  refine gx_ishl (pc := 93) dX2_clash_93 ?_
  refine gx_ior (pc := 94) dX2_clash_94 ?_
  refine gx_put (pc := 95) fX2_275 hse nse (by first | exact Nat.le_of_ble_eq_true rfl | simp) tX16_5 rfl rfl dX2_clash_95 ?_
  change gxV _ _ _ _ _ _ _ _ (gxup h1 (lf 3 a) (.inr (15, [.int (x.1 16 (10 + a)), .int (x.1 17 (10 + a)), .int (x.1 18 (10 + a)), .int (x.1 19 (10 + a)), .int (x.1 20 (10 + a)), .int (x.1 21 (10 + a) ||| (1 <<< (nI c &&& 31)))]))) _
  have Y2 := Y1.s21 hij (by omega) (show a < ln 3 by omega) (x.1 21 (10 + a) ||| (1 <<< (nI c &&& 31)))
  have f2 : ∀ q, q ≠ lf 3 a → (gxup h1 (lf 3 a) (.inr (15, [.int (x.1 16 (10 + a)), .int (x.1 17 (10 + a)), .int (x.1 18 (10 + a)), .int (x.1 19 (10 + a)), .int (x.1 20 (10 + a)), .int (x.1 21 (10 + a) ||| (1 <<< (nI c &&& 31)))]))).1 q = h1.1 q := fun q hq => gxup_ne hq
  have s2 : (gxup h1 (lf 3 a) (.inr (15, [.int (x.1 16 (10 + a)), .int (x.1 17 (10 + a)), .int (x.1 18 (10 + a)), .int (x.1 19 (10 + a)), .int (x.1 20 (10 + a)), .int (x.1 21 (10 + a) ||| (1 <<< (nI c &&& 31)))]))).2 = h1.2 := rfl
  generalize gxup h1 (lf 3 a) (.inr (15, [.int (x.1 16 (10 + a)), .int (x.1 17 (10 + a)), .int (x.1 18 (10 + a)), .int (x.1 19 (10 + a)), .int (x.1 20 (10 + a)), .int (x.1 21 (10 + a) ||| (1 <<< (nI c &&& 31)))])) = h2 at *
  have ga := ge a (by omega)
  have gc := ge c (by omega)
  have R2 := R1.gr (h' := h2) (by omega) (fun q _ b => f2 q (by omega))
  clear hta l3 hl3 hse hr hso hva hpl htp hq hst nse
  generalize hx1 : (dA x 21 (10 + a) (x.1 21 (10 + a) ||| (1 <<< (nI c &&& 31)))) = x1 at *
  have xc : x1.1 21 (10 + c) = x.1 21 (10 + c) := by rw [← hx1, dA_at, if_neg (by omega)]
  have hta := Y2.2.1.2.2.2.2.2.1
  have l3 := (Y2.1.1 3 (by decide)).2.2.2.ls
  rw [n3] at l3
  obtain ⟨_, hl3⟩ := (Y2.1.1 3 (by decide)).2.2.2.ob
  have hse := (Y2.2.1.2.2.2.2.2.2 3 c (by decide) (by omega)).2
  have nse : gxN G ≤ lf 3 c := by omega
  obtain ⟨so, pl, va, ⟨hr, htp, hso, hva, hpl⟩, hin, hnz, hz, hend, hq, hst, hrz⟩ := id R2
  refine gx_aload_n (pc := 98) dX2_clash_98 rfl ?_
  refine gx_get (pc := 99) fX2_168 hr rfl dX2_clash_99 ?_
  refine gx_get (pc := 102) fX2_249 hta rfl dX2_clash_102 ?_
  refine gx_iload_n (pc := 105) dX2_clash_105 rfl ?_
  refine kX2_271 (kc := 0) (ks := 0) (mc := 0) (ms := 0) (pc := 106) rfl (c_get (d := d - 1) (by omega) l3 c hc) (gxRc.of rfl hl3) (by omega) (Nat.le_of_ble_eq_true rfl) dX2_clash_106 (fun r2 h3 e2 => ?_)
  obtain ⟨rfl, e2⟩ := e2
  subst h3
  refine gx_castS (pc := 109) hse rfl q1014 dX2_clash_109 ?_
  refine gx_dup (pc := 112) dX2_clash_112 rfl ?_
  refine gx_get (pc := 113) fX2_275 hse rfl dX2_clash_113 ?_
  refine gx_iconst (pc := 116) (v := 1) dX2_clash_116 (by decide) ?_
  refine gx_iload_n (pc := 117) dX2_clash_117 rfl ?_
  refine gx_ishl (pc := 118) dX2_clash_118 ?_
  refine gx_ior (pc := 119) dX2_clash_119 ?_
  refine gx_put (pc := 120) fX2_275 hse nse (by first | exact Nat.le_of_ble_eq_true rfl | simp) tX16_5 rfl rfl dX2_clash_120 ?_
  rw [xc]
  change gxV _ _ _ _ _ _ _ _ (gxup h2 (lf 3 c) (.inr (15, [.int (x1.1 16 (10 + c)), .int (x1.1 17 (10 + c)), .int (x1.1 18 (10 + c)), .int (x1.1 19 (10 + c)), .int (x1.1 20 (10 + c)), .int (x.1 21 (10 + c) ||| (1 <<< (nI a &&& 31)))]))) _
  have Y3 := Y2.s21 hij (by omega) (show c < ln 3 by omega) (x.1 21 (10 + c) ||| (1 <<< (nI a &&& 31)))
  have f3 : ∀ q, q ≠ lf 3 c → (gxup h2 (lf 3 c) (.inr (15, [.int (x1.1 16 (10 + c)), .int (x1.1 17 (10 + c)), .int (x1.1 18 (10 + c)), .int (x1.1 19 (10 + c)), .int (x1.1 20 (10 + c)), .int (x.1 21 (10 + c) ||| (1 <<< (nI a &&& 31)))]))).1 q = h2.1 q := fun q hq => gxup_ne hq
  have s3 : (gxup h2 (lf 3 c) (.inr (15, [.int (x1.1 16 (10 + c)), .int (x1.1 17 (10 + c)), .int (x1.1 18 (10 + c)), .int (x1.1 19 (10 + c)), .int (x1.1 20 (10 + c)), .int (x.1 21 (10 + c) ||| (1 <<< (nI a &&& 31)))]))).2 = h2.2 := rfl
  generalize gxup h2 (lf 3 c) (.inr (15, [.int (x1.1 16 (10 + c)), .int (x1.1 17 (10 + c)), .int (x1.1 18 (10 + c)), .int (x1.1 19 (10 + c)), .int (x1.1 20 (10 + c)), .int (x.1 21 (10 + c) ||| (1 <<< (nI a &&& 31)))])) = h3 at *
  have R3 := R2.gr (h' := h3) (by omega) (fun q _ b => f3 q (by omega))
  clear hta l3 hl3 hse hr hso hva hpl htp hq hst nse
  generalize hx2 : dA x1 21 (10 + c) (x.1 21 (10 + c) ||| (1 <<< (nI a &&& 31))) = x2 at *
  have x7 : x2.1 10 7 = x.1 10 7 := by rw [← hx2, dA_at, if_neg (by omega), ← hx1, dA_at, if_neg (by omega)]
  have hta := Y3.2.1.2.2.2.2.2.1
  have nta : gxN G ≤ ta := by omega
  obtain ⟨so, pl, va, ⟨hr, htp, hso, hva, hpl⟩, hin, hnz, hz, hend, hq, hst, hrz⟩ := id R3
  refine gx_aload_n (pc := 123) dX2_clash_123 rfl ?_
  refine gx_get (pc := 124) fX2_168 hr rfl dX2_clash_124 ?_
  refine gx_dup (pc := 127) dX2_clash_127 rfl ?_
  refine gx_get (pc := 128) fX2_278 hta rfl dX2_clash_128 ?_
  refine gx_iconst (pc := 131) (v := 1) dX2_clash_131 (by decide) ?_
  refine gx_iadd (pc := 132) dX2_clash_132 ?_
  refine gx_put (pc := 133) fX2_278 hta nta (by first | exact Nat.le_of_ble_eq_true rfl | simp) tX4_5 rfl rfl dX2_clash_133 ?_
  rw [x7]
  change gxV _ _ _ _ _ _ _ _ (gxup h3 ta (.inr (3, [.ref (la 0), .ref (la 1), .ref (la 2), .ref (la 3), .ref (la 4), .int (x.1 10 7 + 1), wv, .ref fo]))) _
  have Y4 := Y3.tn (x.1 10 7 + 1)
  have f4 : ∀ q, q ≠ ta → (gxup h3 ta (.inr (3, [.ref (la 0), .ref (la 1), .ref (la 2), .ref (la 3), .ref (la 4), .int (x.1 10 7 + 1), wv, .ref fo]))).1 q = h3.1 q := fun q hq => gxup_ne hq
  have s4 : (gxup h3 ta (.inr (3, [.ref (la 0), .ref (la 1), .ref (la 2), .ref (la 3), .ref (la 4), .int (x.1 10 7 + 1), wv, .ref fo]))).2 = h3.2 := rfl
  generalize gxup h3 ta (.inr (3, [.ref (la 0), .ref (la 1), .ref (la 2), .ref (la 3), .ref (la 4), .int (x.1 10 7 + 1), wv, .ref fo])) = h4 at *
  have R4 := R3.gr (h' := h4) (by omega) (fun q _ b => f4 q (by omega))
  have s1 := E1.1
  have xv : ∀ j k, j ≠ 21 → ¬ (j = 10 ∧ k = 7) → (dA x2 10 7 (x.1 10 7 + 1)).1 j k = x.1 j k := fun j k a1 a2 => by
    rw [dA_at, if_neg a2, ← hx2, dA_at, if_neg (by omega), ← hx1, dA_at, if_neg (by omega)]
  refine gx_return (pc := 136) rfl dX2_clash_136 ⟨rfl, R4, ⟨by omega, fun q a b => by rw [f4 q (by omega), f3 q (by omega), f2 q (by omega), E1.2 q b]⟩, fo, fa, la, le, lc, ln, lf, wv, nv, nc, elo, ehi, Y4, ?_, n0, n1, n2, n3, n4, hP6, hS10, hE30, by rw [xv 25 1 (by omega) (by omega), xv 26 1 (by omega) (by omega)]; exact hwn.1, fun e he => by rw [xv 24 _ (by omega) (by omega)]; exact hwn.2.1 e he, hwn.2.2⟩
  have : (dA x2 10 7 (x.1 10 7 + 1)).2 = x.2 := by rw [← hx2, ← hx1]; rfl
  unfold NMi at hNM ⊢
  rw [this]; exact hNM
theorem c_Rclash (nr : gxN G ≤ r) (hrb : r + 8 ≤ hb) (hd : 16 ≤ d) (hR : (RR G h r (.ref ta) dp t z n i)) (hi0 : ¬ (tkK t z i).2.2.1 = 0) (hD : DX G h hb ta x P S E w) : gxM G mX2_clash d 3 21 [.ref r] h (gxQx (gxQv (fun h' => ∃ j x', spRC0 t z S x i = .inr (j, x') ∧ RR G h' r (.ref ta) dp t z n j ∧ gE hb r h h' ∧ DX G h' hb ta x' P S E w)) (fun y h' => ∃ f, spRC0 t z S x i = .inl f ∧ xW hb r h f y h')) := by
  obtain ⟨hhb, nhb, hP6, hS10, hE30, m, nv, nc, F, nmP, nmS⟩ := hD.nf
  have nz : gxN G ≤ h.2 := by omega
  refine gxM_of rfl (Nat.le_of_ble_eq_true rfl) rfl ?_
  obtain ⟨so, pl, va, ⟨hr, htp, hso, hva, hpl⟩, hin, hnz, hz, hend, hq, hst, hrz⟩ := id hR
  refine gx_aload_n (pc := 0) dX2_clash_0 rfl ?_
  refine gx_dup (pc := 1) dX2_clash_1 rfl ?_
  refine gx_get (pc := 2) fX2_132 hr rfl dX2_clash_2 ?_
  refine gx_iconst (pc := 5) (v := 1) dX2_clash_5 (by decide) ?_
  refine gx_iadd (pc := 6) dX2_clash_6 ?_
  rw [nI_1]
  refine gx_put (pc := 7) fX2_132 hr nr (by first | exact Nat.le_of_ble_eq_true rfl | simp) tX2_9 rfl rfl dX2_clash_7 ?_
  change gxV _ _ _ _ _ _ _ _ (gxup h r (.inr (1, [.ref (r + 1), .ref (r + 2), .ref (r + 3), .ref ta, .ref (r + 4), .int 0, .ref (r + 5), .ref (r + 6), .ref (r + 7), .int (nI (i + 1)), .int dp]))) _
  obtain ⟨R1, E1⟩ := hR.step hi0
  have ty1 := E1.ty hR
  generalize gxup h r (.inr (1, [.ref (r + 1), .ref (r + 2), .ref (r + 3), .ref ta, .ref (r + 4), .int 0, .ref (r + 5), .ref (r + 6), .ref (r + 7), .int (nI (i + 1)), .int dp])) = h1 at *
  have F1 := F.aE hR ty1
  clear hr hso hva hpl htp hq hst
  obtain ⟨so, pl, va, ⟨hr, htp, hso, hva, hpl⟩, hin, hnz, hz, hend, hq, hst, hrz⟩ := id R1
  refine gx_aload_n (pc := 10) dX2_clash_10 rfl ?_
  refine gx_bipush (pc := 11) (v := 20) dX2_clash_11 (by decide) ?_
  refine gx_bipush (pc := 13) (v := 10) dX2_clash_13 (by decide) ?_
  refine kX2_252x (d' := d - 1) (kc := 2) (ks := 14) (mc := 1) (ms := 7) (pc := 15) rfl (c_Rtake (d := d - 1) (fr := 20) (many := 10) nr (by rw [E1.1]; exact nz) (by omega) rfl R1 F1 (by decide) (by decide) nmS) (gxRc.of rfl hr) (by omega) (Nat.le_of_ble_eq_true rfl) dX2_clash_15 (fun v h2 e2 => ?_) (fun y h' e => gxT_out (by decide +kernel) (Or.inr ⟨y, rfl, by obtain ⟨f, e3, e4⟩ := e; exact ⟨f, by unfold spRC0; rw [e3]; rfl, (e4.mo (by rw [E1.1]; exact hhb)).tr E1.g⟩⟩))
  obtain ⟨a, e2, rfl, ha6, R2, E2⟩ := e2
  have E12 := E1.tr E2
  have F2 := F1.aE R1 (E2.ty R1)
  have q1 : spRC0 t z S x i = rB (spNd t z (i + 1 + 1) (spSn x.2 1 S (tkK t z (i + 1 + 1)).2.2.2.1)) (fun c => if a = c ∨ (x.1 21 (10 + a) >>> (nI c &&& 31)) &&& 1 = 1 then .inl (flt t z (i + 1 + 1) 3) else .inr (i + 1 + 1 + 1, (dA (dA (dA x 21 (10 + a) (x.1 21 (10 + a) ||| (1 <<< (nI c &&& 31)))) 21 (10 + c) (x.1 21 (10 + c) ||| (1 <<< (nI a &&& 31)))) 10 7 (x.1 10 7 + 1)))) := by unfold spRC0; rw [e2]; rfl
  have aS : a < S := spNm_lt0 (spNd_k e2)
  clear hr hso hva hpl htp hq hst
  obtain ⟨so, pl, va, ⟨hr, htp, hso, hva, hpl⟩, hin, hnz, hz, hend, hq, hst, hrz⟩ := id R2
  refine gx_istore_n (pc := 18) dX2_clash_18 (by decide) rfl ?_
  refine gx_aload_n (pc := 19) dX2_clash_19 rfl ?_
  refine gx_bipush (pc := 20) (v := 20) dX2_clash_20 (by decide) ?_
  refine gx_bipush (pc := 22) (v := 10) dX2_clash_22 (by decide) ?_
  refine kX2_225x (d' := d - 1) (kc := 1) (ks := 7) (mc := 1) (ms := 7) (pc := 24) rfl (c_Rtold (d := d - 1) (fr := 20) (many := 10) nr (by rw [E12.1]; exact nz) (by omega) rfl R2 F2 (by decide) (by decide) nmS) (gxRc.of rfl hr) (by omega) (Nat.le_of_ble_eq_true rfl) dX2_clash_24 (fun v h3 e3 => ?_) (fun y h' e => gxT_out (by decide +kernel) (Or.inr ⟨y, rfl, by obtain ⟨f, e3, e4⟩ := e; exact ⟨f, by rw [q1, e3]; rfl, (e4.mo (by rw [E12.1]; exact hhb)).tr E12.g⟩⟩))
  obtain ⟨c, e3, rfl, hc6, e4⟩ := e3
  subst h3
  rw [e3, rB_r] at q1
  have cS : c < S := spNm_lt0 (spNd_k e3)
  have D2 := hD.aE hrb E12
  have WR : (a = c ∨ (x.1 21 (10 + a) >>> (nI c &&& 31)) &&& 1 = 1) → gxV G mX2_clash d 1 7 57 [some (.ref r), some (.int (nI a)), some (.int (nI c))] [] h2 (gxQx (gxQv (fun h' => ∃ j x', spRC0 t z S x i = .inr (j, x') ∧ RR G h' r (.ref ta) dp t z n j ∧ gE hb r h h' ∧ DX G h' hb ta x' P S E w)) (fun y h' => ∃ f, spRC0 t z S x i = .inl f ∧ xW hb r h f y h')) := fun hh =>
    gx_wrong (kc := 0) (ks := 0) (pc := 57) (pc1 := 58) (pc2 := 59) (pc5 := 62) 3 rfl rfl rfl rfl (by omega) (by rw [E12.1]; exact nz) R2 rfl dX2_clash_57 dX2_clash_58 (by decide) dX2_clash_59 dX2_clash_62 (by decide +kernel) (fun y h' e2 => ⟨_, by rw [q1, if_pos hh], (e2.mo (by rw [E12.1]; exact hhb)).tr E12.g⟩)
  refine gx_istore_n (pc := 27) dX2_clash_27 (by decide) rfl ?_
  refine gx_iload_n (pc := 28) dX2_clash_28 rfl ?_
  refine gx_iload_n (pc := 29) dX2_clash_29 rfl ?_
  refine gx_icmp_eq (pc := 30) 57 dX2_clash_30 (by decide) (fun c1 => ?_) (fun c1 => ?_)
  · exact WR (Or.inl ((nI_eq (by omega) (by omega)).mp c1))
  · have hac : ¬ a = c := fun e => c1 (by rw [e])
    have DD := D2
    obtain ⟨fo, fa, la, le, lc, ln, lf, wv, nv, nc, elo, ehi, Y2, hNM, n0, n1, n2, n3, n4, _⟩ := DD
    have hta := Y2.2.1.2.2.2.2.2.1
    have l3 := (Y2.1.1 3 (by decide)).2.2.2.ls
    rw [n3] at l3
    obtain ⟨_, hl3⟩ := (Y2.1.1 3 (by decide)).2.2.2.ob
    have hse := (Y2.2.1.2.2.2.2.2.2 3 a (by decide) (by omega)).2
    refine gx_aload_n (pc := 33) dX2_clash_33 rfl ?_
    refine gx_get (pc := 34) fX2_168 hr rfl dX2_clash_34 ?_
    refine gx_get (pc := 37) fX2_249 hta rfl dX2_clash_37 ?_
    refine gx_iload_n (pc := 40) dX2_clash_40 rfl ?_
    refine kX2_271 (kc := 1) (ks := 7) (mc := 0) (ms := 0) (pc := 41) rfl (c_get (d := d - 1) (by omega) l3 a aS) (gxRc.of rfl hl3) (by omega) (Nat.le_of_ble_eq_true rfl) dX2_clash_41 (fun r4 h4 e4 => ?_)
    obtain ⟨rfl, e4⟩ := e4
    subst h4
    refine gx_castS (pc := 44) hse rfl q1014 dX2_clash_44 ?_
    refine gx_get (pc := 47) fX2_275 hse rfl dX2_clash_47 ?_
    refine gx_iload_n (pc := 50) dX2_clash_50 rfl ?_
    refine kX2_228 (kc := 1) (ks := 7) (mc := 0) (ms := 0) (pc := 51) rfl (c_has (d := d - 1) (x.1 21 (10 + a)) (nI c)) (by omega) (Nat.le_of_ble_eq_true rfl) dX2_clash_51 (fun r4 h4 e4 => ?_)
    obtain ⟨rfl, e4⟩ := e4
    subst h4
    refine gx_if_eq (pc := 54) 63 dX2_clash_54 (by decide) (fun c2 => ?_) (fun c2 => ?_)
    · have z2 := zi_eq0 c2
      rw [hs, decide_eq_false_iff_not] at z2
      have nn : ¬ (a = c ∨ (x.1 21 (10 + a) >>> (nI c &&& 31)) &&& 1 = 1) := fun y => y.elim hac z2
      rw [if_neg nn] at q1
      refine gx_more (a := 0) (b := 0) (by omega) (by omega) ?_
      refine gxV_post ?_ (clash63 nr hrb (by omega) R2 (spNd_n0 e3) D2 aS cS hac)
      rintro q h' ⟨rfl, e1, e2, e3⟩
      exact Or.inl ⟨rfl, _, _, q1, e1, E12.g.tr e2, e3⟩
    · have z2 := zi_ne0 c2
      rw [hs, decide_eq_true_eq] at z2
      exact WR (Or.inr z2)
end MBJ
