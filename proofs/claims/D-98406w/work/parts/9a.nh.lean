/-! ===== COMPONENT BH: ears told ===== -/
set_option maxRecDepth 100000
section MBH
variable {G : gxG} {d : Nat} {h : gxH} {hb r ta z n i P S E : Nat} {dp : Int32} {t : Nat → Int32} {x : dS} {w : Option gxEv}
theorem c_Rear (nr : gxN G ≤ r) (hrb : r + 8 ≤ hb) (hd : 16 ≤ d) (hR : (RR G h r (.ref ta) dp t z n i)) (hi0 : ¬ (tkK t z i).2.2.1 = 0) (hD : DX G h hb ta x P S E w) (hdI : dI x P S E) : gxM G mX2_ear d 5 152 [.ref r] h (gxQx (gxQv (fun h' => ∃ j x', spRE0 t z P E x i = .inr (j, x') ∧ RR G h' r (.ref ta) dp t z n j ∧ gE hb r h h' ∧ DX G h' hb ta x' P S (E + 1) w)) (fun y h' => ∃ f, spRE0 t z P E x i = .inl f ∧ xW hb r h f y h')) := by
  obtain ⟨hhb, nhb, hP6, hS10, hE30, m, nv, nc, F, nmP, nmS⟩ := hD.nf
  have nz : gxN G ≤ h.2 := by omega
  refine gxM_of rfl (Nat.le_of_ble_eq_true rfl) rfl ?_
  obtain ⟨so, pl, va, ⟨hr, htp, hso, hva, hpl⟩, hin, hnz, hz, hend, hq, hst, hrz⟩ := id hR
  refine gx_aload_n (pc := 0) dX2_ear_0 rfl ?_
  refine gx_dup (pc := 1) dX2_ear_1 rfl ?_
  refine gx_get (pc := 2) fX2_132 hr rfl dX2_ear_2 ?_
  refine gx_iconst (pc := 5) (v := 1) dX2_ear_5 (by decide) ?_
  refine gx_iadd (pc := 6) dX2_ear_6 ?_
  rw [nI_1]
  refine gx_put (pc := 7) fX2_132 hr nr (by first | exact Nat.le_of_ble_eq_true rfl | simp) tX2_9 rfl rfl dX2_ear_7 ?_
  change gxV _ _ _ _ _ _ _ _ (gxup h r (.inr (1, [.ref (r + 1), .ref (r + 2), .ref (r + 3), .ref ta, .ref (r + 4), .int 0, .ref (r + 5), .ref (r + 6), .ref (r + 7), .int (nI (i + 1)), .int dp]))) _
  obtain ⟨R1, E1⟩ := hR.step hi0
  have ty1 := E1.ty hR
  generalize gxup h r (.inr (1, [.ref (r + 1), .ref (r + 2), .ref (r + 3), .ref ta, .ref (r + 4), .int 0, .ref (r + 5), .ref (r + 6), .ref (r + 7), .int (nI (i + 1)), .int dp])) = h1 at *
  have F1 := F.aE hR ty1
  clear hr hso hva hpl htp hq hst
  obtain ⟨so, pl, va, ⟨hr, htp, hso, hva, hpl⟩, hin, hnz, hz, hend, hq, hst, hrz⟩ := id R1
  refine gx_aload_n (pc := 10) dX2_ear_10 rfl ?_
  refine gx_iconst (pc := 11) (v := 0) dX2_ear_11 (by decide) ?_
  refine gx_bipush (pc := 12) (v := 6) dX2_ear_12 (by decide) ?_
  refine kX2_252x (d' := d - 1) (kc := 4) (ks := 145) (mc := 1) (ms := 7) (pc := 14) rfl (c_Rtake (d := d - 1) (fr := 0) (many := 6) nr (by rw [E1.1]; exact nz) (by omega) rfl R1 F1 (by decide) (by decide) nmP) (gxRc.of rfl hr) (by omega) (Nat.le_of_ble_eq_true rfl) dX2_ear_14 (fun v h2 e2 => ?_) (fun y h' e => gxT_out (by decide +kernel) (Or.inr ⟨y, rfl, by obtain ⟨f, e3, e4⟩ := e; exact ⟨f, by unfold spRE0; rw [e3]; rfl, (e4.mo (by rw [E1.1]; exact hhb)).tr E1.g⟩⟩))
  obtain ⟨a, e2, rfl, ha6, R2, E2⟩ := e2
  have E12 := E1.tr E2
  have F2 := F1.aE R1 (E2.ty R1)
  have q1 : spRE0 t z P E x i = rB (spNd t z (i + 1 + 1) (spPn x.2 1 P (tkK t z (i + 1 + 1)).2.2.2.1)) (fun c => if a = c then .inl (flt t z (i + 1 + 1) 3) else if spHe0 x.1 (nI a) (nI c) E 0 = true then .inl (flt t z (i + 1 + 1) 3) else rB (spNum t z 0 10 (i + 1 + 1 + 1)) (fun e => .inr (e.1, dA (dA (dA (dA x 22 (30 + E) (nI a)) 23 (30 + E) (nI c)) 24 (30 + E) e.2) 10 6 (nI (E + 1))))) := by unfold spRE0; rw [e2]; rfl
  have aP : a < P := spNm_lt0 (spNd_k e2)
  clear hr hso hva hpl htp hq hst
  obtain ⟨so, pl, va, ⟨hr, htp, hso, hva, hpl⟩, hin, hnz, hz, hend, hq, hst, hrz⟩ := id R2
  refine gx_istore_n (pc := 17) dX2_ear_17 (by decide) rfl ?_
  refine gx_aload_n (pc := 18) dX2_ear_18 rfl ?_
  refine gx_iconst (pc := 19) (v := 0) dX2_ear_19 (by decide) ?_
  refine gx_bipush (pc := 20) (v := 6) dX2_ear_20 (by decide) ?_
  refine kX2_225x (d' := d - 1) (kc := 3) (ks := 138) (mc := 1) (ms := 7) (pc := 22) rfl (c_Rtold (d := d - 1) (fr := 0) (many := 6) nr (by rw [E12.1]; exact nz) (by omega) rfl R2 F2 (by decide) (by decide) nmP) (gxRc.of rfl hr) (by omega) (Nat.le_of_ble_eq_true rfl) dX2_ear_22 (fun v h3 e3 => ?_) (fun y h' e => gxT_out (by decide +kernel) (Or.inr ⟨y, rfl, by obtain ⟨f, e3, e4⟩ := e; exact ⟨f, by rw [q1, e3]; rfl, (e4.mo (by rw [E12.1]; exact hhb)).tr E12.g⟩⟩))
  obtain ⟨c, e3, rfl, hc6, e4⟩ := e3
  subst h3
  rw [e3, rB_r] at q1
  have cP : c < P := spNm_lt0 (spNd_k e3)
  have D2 := hD.aE hrb E12
  have WR : spRE0 t z P E x i = .inl (flt t z (i + 1 + 1) 3) → gxV G mX2_ear d 3 138 44 [some (.ref r), some (.int (nI a)), some (.int (nI c))] [] h2 (gxQx (gxQv (fun h' => ∃ j x', spRE0 t z P E x i = .inr (j, x') ∧ RR G h' r (.ref ta) dp t z n j ∧ gE hb r h h' ∧ DX G h' hb ta x' P S (E + 1) w)) (fun y h' => ∃ f, spRE0 t z P E x i = .inl f ∧ xW hb r h f y h')) := fun hh => by
    refine gx_more (a := 0 + 1) (b := 0 + 7) (by omega) (by omega) ?_
    exact gx_wrong (kc := 0) (ks := 0) (pc := 44) (pc1 := 45) (pc2 := 46) (pc5 := 49) 3 rfl rfl rfl rfl (by omega) (by rw [E12.1]; exact nz) R2 rfl dX2_ear_44 dX2_ear_45 (by decide) dX2_ear_46 dX2_ear_49 (by decide +kernel) (fun y h' e2 => ⟨_, hh, (e2.mo (by rw [E12.1]; exact hhb)).tr E12.g⟩)
  refine gx_istore_n (pc := 25) dX2_ear_25 (by decide) rfl ?_
  refine gx_iload_n (pc := 26) dX2_ear_26 rfl ?_
  refine gx_iload_n (pc := 27) dX2_ear_27 rfl ?_
  refine gx_icmp_eq (pc := 28) 44 dX2_ear_28 (by decide) (fun c1 => ?_) (fun c1 => ?_)
  · have : a = c := (nI_eq (by omega) (by omega)).mp c1
    exact WR (by rw [q1, if_pos this])
  · have hac : ¬ a = c := fun e => c1 (by rw [e])
    rw [if_neg hac] at q1
    obtain ⟨fa, T2⟩ := D2.TW
    have hta := T2.2.2.2.choose_spec.choose_spec.choose_spec.choose_spec.choose_spec.choose_spec.choose_spec.choose_spec.choose_spec.choose_spec.2.1
    refine gx_aload_n (pc := 31) dX2_ear_31 rfl ?_
    refine gx_get (pc := 32) fX2_168 hr rfl dX2_ear_32 ?_
    refine gx_iload_n (pc := 35) dX2_ear_35 rfl ?_
    refine gx_iload_n (pc := 36) dX2_ear_36 rfl ?_
    refine kX2_266 (kc := 3) (ks := 138) (mc := 0) (ms := 0) (pc := 37) rfl (c_Tear (d := d - 1) (by omega) T2 hP6 hE30 a aP (nI c)) (gxRc.of rfl hta) (by omega) (Nat.le_of_ble_eq_true rfl) dX2_ear_37 (fun r4 h4 e4 => ?_)
    obtain ⟨rfl, e4⟩ := e4
    subst h4
    have iso := spErr_0 (x := x) (P := P) (S := S) (a := nI a) (c := nI c) E 0 (by omega)
    have el := hD
    obtain ⟨_, _, _, _, _, _, _, _, _, _, _, _, _, _, _, _, _, _, _, _, _, _, _, hwn2⟩ := el
    refine gx_iconst (pc := 40) (v := (-1)) dX2_ear_40 (by decide) ?_
    cases e5 : spErr (layA x.1) (nI a) (nI c) E 0 with
    | none =>
      rw [e5] at iso
      have hf : spHe0 x.1 (nI a) (nI c) E 0 = false := by rw [← iso]; rfl
      rw [hf, if_neg (by decide)] at q1
      refine gx_icmp_eq (pc := 41) 50 dX2_ear_41 (by decide) (fun c2 => ?_) (fun c2 => ?_)
      · have hE := hdI.ear aP cP hac hf
        refine gxV_post ?_ (ear50 nr hrb (by omega) R2 (spNd_n0 e3) D2 hE a c)
        rintro q h' (⟨rfl, v, e1, e2, e3, e4⟩ | ⟨y, rfl, f, e1, e2⟩)
        · exact Or.inl ⟨rfl, _, _, by rw [q1, e1]; rfl, e2, E12.g.tr e3, e4⟩
        · exact Or.inr ⟨y, rfl, f, by rw [q1, e1]; rfl, e2.tr E12.g⟩
      · exact absurd rfl c2
    | some e =>
      rw [e5] at iso
      have hf : spHe0 x.1 (nI a) (nI c) E 0 = true := by rw [← iso]; rfl
      rw [hf, if_pos rfl] at q1
      obtain ⟨k1, k2, k3, k4⟩ := spErr_lt e5
      obtain ⟨cc, hcc, ecc⟩ := hwn2.1 e (by omega)
      have ch : ¬ oChc (layA x.1) a (some e) = -1 := by
        show ¬ spChc (layA x.1) e a = -1
        unfold spChc
        rw [layA_e _ (by omega) (by omega), ecc]
        have dd : ∀ c, c < 11 → ∀ b : Bool, ¬ (if nI c + (if b = true then 1 else 0) < 10 then nI c + (if b = true then 1 else 0) else 10) = (-1 : Int32) := by decide +kernel
        have := dd cc (by omega) (decide (layA x.1 13 a = 1))
        simpa using this
      refine gx_icmp_eq (pc := 41) 50 dX2_ear_41 (by decide) (fun c2 => ?_) (fun c2 => ?_)
      · exact absurd c2 ch
      · exact WR q1
end MBH
