/-! ===== COMPONENT BR: the whole worth read ===== -/
set_option maxRecDepth 100000
section MBR
variable {G : gxG} {r z n : Nat} {dv : Value} {t : Nat → Int32}
theorem c_lvl (nr : gxN G ≤ r) (he : (tkK t z n).2.2.1 = 0) : ∀ k, k ≤ 5 → ∀ d, 12 + 5 * k ≤ d → XC G mX2_part r z n t dv (nI (5 - k)) d (4 * k) (prP t z k) ∧ XC G mX2_all r z n t dv (nI (5 - k)) (d + 4) (4 * k + 4) (prA t z (prP t z k)) := by
  intro k
  induction k with
  | zero =>
    intro _ d hd
    have hp := prg_P he 0 (t := t) (z := z)
    have h1 : ∀ d, 12 ≤ d → XC G mX2_part r z n t dv (nI (5 - 0)) d (4 * 0) (prP t z 0) := fun d hd => c_part nr 0 (by decide) hd (fun k' e => by omega)
    refine ⟨h1 d (by omega), ?_⟩
    have h2 := c_term (d := d + 1) nr (by omega) hp (h1 _ (by omega))
    have h3 := c_sum (d := d + 2) nr (by omega) (prg_T he hp) h2
    have h4 := c_test (d := d + 3) nr (by omega) (prg_S he hp) h3
    exact c_all (d := d + 4) nr (by omega) (prg_E he hp) h4
  | succ k ih =>
    intro hk d hd
    have hp := prg_P he (k + 1) (t := t) (z := z)
    have h1 : ∀ d, 12 + 5 * (k + 1) ≤ d → XC G mX2_part r z n t dv (nI (5 - (k + 1))) d (4 * (k + 1)) (prP t z (k + 1)) := fun d hd => c_part nr (k + 1) hk (by omega) (fun k' e => by
      have : k = k' := by omega
      subst this
      refine ⟨(ih (by omega) (d - 1) (by omega)).1, ?_⟩
      have := (ih (by omega) (d - 1 - 4) (by omega)).2
      rw [Nat.sub_add_cancel (by omega)] at this
      exact this)
    refine ⟨h1 d hd, ?_⟩
    have h2 := c_term (d := d + 1) nr (by omega) hp (h1 _ (by omega))
    have h3 := c_sum (d := d + 2) nr (by omega) (prg_T he hp) h2
    have h4 := c_test (d := d + 3) nr (by omega) (prg_S he hp) h3
    exact c_all (d := d + 4) nr (by omega) (prg_E he hp) h4
theorem c_whole (nr : gxN G ≤ r) {d : Nat} (hd : 42 ≤ d) {h : gxH} {dp : Int32} {i : Nat} (nz : gxN G ≤ h.2) (hR : RR G h r dv dp t z n i) : gxM G mX2_whole d (10 * kR n i (prA t z (prP t z 5) i)) (2100 * kR n i (prA t z (prP t z 5) i)) [.ref r] h (gxQx (gxQr (fun a h' => ∃ j ev cs, prA t z (prP t z 5) i = .inr (j, ev, cs) ∧ i < j ∧ RR G h' r dv 0 t z n j ∧ gE h.2 r h h' ∧ exE h.2 h'.2 h' 24 a ev)) (fun y h' => ∃ f, prA t z (prP t z 5) i = .inl f ∧ xW h.2 r h f y h')) := by
  have hl := hR.lt
  refine gxM_of rfl (Nat.le_of_ble_eq_true rfl) rfl ?_
  obtain ⟨so, pl, va, ⟨hr, htp, hso, hva, hpl⟩, hin, hnz, hz, hend, hq, hst, hrz⟩ := id hR
  refine gx_aload_n (pc := 0) dX2_whole_0 rfl ?_
  refine gx_iconst (pc := 1) (v := 0) dX2_whole_1 (by decide) ?_
  refine gx_put (pc := 2) fX2_312 hr nr (by first | exact Nat.le_of_ble_eq_true rfl | simp) tX2_10 rfl rfl dX2_whole_2 ?_
  change gxV _ _ _ _ _ _ _ _ (gxup h r (.inr (1, [.ref (r + 1), .ref (r + 2), .ref (r + 3), dv, .ref (r + 4), .int 0, .ref (r + 5), .ref (r + 6), .ref (r + 7), .int (nI i), .int 0]))) _
  have E1 : aE r h (gxup h r (.inr (1, [.ref (r + 1), .ref (r + 2), .ref (r + 3), dv, .ref (r + 4), .int 0, .ref (r + 5), .ref (r + 6), .ref (r + 7), .int (nI i), .int 0]))) := ⟨rfl, fun q hq => gxup_ne hq⟩
  have R1 : RR G (gxup h r (.inr (1, [.ref (r + 1), .ref (r + 2), .ref (r + 3), dv, .ref (r + 4), .int 0, .ref (r + 5), .ref (r + 6), .ref (r + 7), .int (nI i), .int 0]))) r dv 0 t z n i := hR.mv hl.1 (gxup_self _ _ _) E1
  generalize gxup h r (.inr (1, [.ref (r + 1), .ref (r + 2), .ref (r + 3), dv, .ref (r + 4), .int 0, .ref (r + 5), .ref (r + 6), .ref (r + 7), .int (nI i), .int 0])) = h1 at *
  have s1 := E1.1
  have IH := (c_lvl (dv := dv) nr hend 5 (by decide) (d - 1 - 4) (by omega)).2 h1 i (by omega) R1
  rw [Nat.sub_add_cancel (by omega)] at IH
  clear hr hso hva hpl htp hq hst
  obtain ⟨so, pl, va, ⟨hr, htp, hso, hva, hpl⟩, hin, hnz, hz, hend, hq, hst, hrz⟩ := id R1
  refine gx_aload_n (pc := 5) dX2_whole_5 rfl ?_
  refine gx_more (a := 0 + 10 * kR n i (prA t z (prP t z 5) i)) (b := 0 + 2100 * kR n i (prA t z (prP t z 5) i)) (by omega) (by omega) ?_
  refine kX2_315x (d' := d - 1) (kc := 0) (ks := 0) (mc := 10 * kR n i (prA t z (prP t z 5) i)) (ms := 2100 * kR n i (prA t z (prP t z 5) i)) (pc := 6) rfl IH (gxRc.of rfl hr) (by omega) (Nat.le_of_ble_eq_true rfl) dX2_whole_6 (fun a2 h3 e3 => ?_) (fun y h' e => gxT_out (by decide +kernel) (Or.inr ⟨y, rfl, ?_⟩))
  · obtain ⟨j, ev, cs, e3, hij, R3, g3, x3⟩ := e3
    rw [s1] at g3 x3
    exact gx_areturn (pc := 9) rfl (Or.inl ⟨_, rfl⟩) (Or.inr ⟨_, rfl⟩) dX2_whole_9 (Or.inl ⟨_, rfl, j, ev, cs, e3, hij, R3, E1.g.tr g3, x3⟩)
  · obtain ⟨f, e3, e4⟩ := e
    rw [s1] at e4
    exact ⟨f, e3, e4.tr E1.g⟩
end MBR
