/-! ===== COMPONENT BC: a person told ===== -/
set_option maxRecDepth 100000
/-- a town in the making -/
def DX (G : gxG) (h : gxH) (hb ta : Nat) (x : dS) (P S E : Nat) (w : Option gxEv) : Prop := ∃ fo fa la le lc ln lf wv nv nc elo ehi, DY G h hb ta fo fa la le lc ln lf x wv nv nc elo ehi w ∧ NMi x 1 P S (P + S) nv nc ∧ ln 0 = P + S ∧ ln 1 = P + S ∧ ln 2 = P ∧ ln 3 = S ∧ ln 4 = E ∧ P ≤ 6 ∧ S ≤ 10 ∧ E ≤ 30 ∧ (w = none ↔ ¬ x.1 25 1 < x.1 26 1) ∧ (∀ e, e < E → ∃ c, c ≤ 10 ∧ x.1 24 (30 + e) = nI c) ∧ ∀ j k, j < S → k < S → j ≠ k → lf 3 j ≠ lf 3 k
def spRP0 (t : Nat → Int32) (z P S : Nat) (x : dS) (i : Nat) : Sum Int32 (Nat × dS) :=
  if P = 6 then .inl (flt t z i 5) else rB (spNew t z x.2 P S (i + 1)) (fun _ =>
    if spKind (tkK t z (i + 1 + 1)) < 0 then .inl (flt t z (i + 1 + 1) 1) else rB (spBoth t z 355412 0 9 (i + 1 + 1 + 1)) (fun a => rB (spBoth t z 14631 0 999 a.1) (fun c =>
      .inr (c.1, dA (dL (dA (dA (dA x 13 (6 + P) (spKind (tkK t z (i + 1 + 1)))) 14 (6 + P) a.2) 15 (6 + P) c.2) 11 (6 + P) (tkK t z (i + 1)).2.2.2.1) 10 4 (nI (P + 1))))))
theorem rB_as {α β γ : Type} (x : Sum Int32 α) (f : α → Sum Int32 β) (g : β → Sum Int32 γ) : rB (rB x f) g = rB x (fun a => rB (f a) g) := by cases x <;> rfl
theorem spRP_0 (t : Nat → Int32) (z P S : Nat) (x : dS) (i : Nat) : spRP t z P S x i = rB (spRP0 t z P S x i) (fun a => rB (spClo t z a.1) (fun e => .inr (e, a.2))) := by
  unfold spRP spRP0
  split
  · rfl
  · rw [rB_as]
    congr 1
    funext _
    split
    · rfl
    · rw [rB_as]
      congr 1
      funext a
      rw [rB_as]
      congr 1
theorem nwS_new {t : Nat → Int32} {z : Nat} {x : dS} {P S m : Nat} {nv : Nat → Int64} {nc : Nat → Nat} (h : NMi x 1 P S m nv nc) (hP : P ≤ 6) (hS : S ≤ 10) (full : Bool) (i : Nat) : nwS t z full (fun u => fdF nv nc u m 0) i = if full = true then .inl (flt t z i 5) else spNew t z x.2 P S (i + 1) := by
  unfold nwS spNew
  split
  · rfl
  · split
    · rfl
    · have := cdF_1 (a := spPn x.2 1 P (tkK t z (i + 1)).2.2.2.1) (b := spSn x.2 1 S (tkK t z (i + 1)).2.2.2.1) (spPn_lt hP) (spSn_lt hS)
      rw [← h.1] at this
      by_cases e : fdF nv nc (tkK t z (i + 1)).2.2.2.1 m 0 = -1
      · rw [if_pos e, if_pos (this.mp e)]
      · rw [if_neg e, if_neg (fun y => e (this.mpr y))]
section MBC
variable {G : gxG} {d : Nat} {h : gxH} {hb r ta z n i P S E : Nat} {dp : Int32} {t : Nat → Int32} {x : dS} {w : Option gxEv}
theorem whI_k4 (q : tkV) : (∃ k, k < 4 ∧ whI q kwK 0 = some k) ∨ whI q kwK 0 = none := by
  cases e : whI q kwK 0 with
  | none => exact Or.inr rfl
  | some k =>
    rw [whI_map] at e
    cases e2 : (kwK.map (fun b => wdL b 0)).findIdx? (fun w => tkW q w) with
    | none => rw [e2] at e; cases e
    | some j =>
      rw [e2] at e
      have := List.findIdx?_eq_some_iff_findIdx_eq.mp e2
      simp at e
      rw [List.length_map] at this
      exact Or.inl ⟨k, by have h4 : kwK.length = 4 := rfl; omega, rfl⟩
theorem person57 (nr : gxN G ≤ r) (hrb : r + 8 ≤ hb) (hd : 12 ≤ d) {fo fa : Nat} {la le1 lc1 ln : Nat → Nat} {lf1 : Nat → Nat → Nat} {wv : Value} {nv : Nat → Int64} {nc : Nat → Nat} {elo ehi kd : Nat} {nm : Int64} (hkd : kd < 4) {S38 S40 : Nat} (hR38 : vk_R "PaidSecrets$Reader" 38 "rank" S38 G.2.1) (hS38 : SB G S38 [114, 97, 110, 107]) (hR40 : vk_R "PaidSecrets$Reader" 40 "tax" S40 G.2.1) (hS40 : SB G S40 [116, 97, 120])
    (R2 : RR G h r (.ref ta) dp t z n i) (Y2 : DY G h hb ta fo fa la le1 lc1 (va_up (va_up ln 0 (ln 0 + 1)) 1 (ln 1 + 1)) lf1 x wv (va_up nv (ln 0) nm) (va_up nc (ln 0) P) elo ehi w) (hNM : NMi x 1 P S (P + S) nv nc) (n0 : ln 0 = P + S) (n1 : ln 1 = P + S) (n2 : ln 2 = P) (n3 : ln 3 = S) (n4 : ln 4 = E) (hP5 : P < 6) (hS10 : S ≤ 10) (hE30 : E ≤ 30) (hwn : (w = none ↔ ¬ x.1 25 1 < x.1 26 1) ∧ (∀ e, e < E → ∃ c, c ≤ 10 ∧ x.1 24 (30 + e) = nI c) ∧ ∀ j k, j < S → k < S → j ≠ k → lf1 3 j ≠ lf1 3 k) (hnm : fdF nv nc nm (P + S) 0 = -1) :
    gxV G mX2_person d 6 158 57 [some (.ref r), some (.int (nI P)), some (.int (nI kd)), none] [] h (gxQx (gxQv (fun h' => ∃ j x', (rB (spBoth t z 355412 0 9 i) (fun a => rB (spBoth t z 14631 0 999 a.1) (fun c => .inr (c.1, dA (dL (dA (dA (dA x 13 (6 + P) (nI kd)) 14 (6 + P) a.2) 15 (6 + P) c.2) 11 (6 + P) nm) 10 4 (nI (P + 1)))))) = .inr (j, x') ∧ RR G h' r (.ref ta) dp t z n j ∧ gE hb r h h' ∧ DX G h' hb ta x' (P + 1) S E w)) (fun y h' => ∃ f, (rB (spBoth t z 355412 0 9 i) (fun a => rB (spBoth t z 14631 0 999 a.1) (fun c => .inr (c.1, dA (dL (dA (dA (dA x 13 (6 + P) (nI kd)) 14 (6 + P) a.2) 15 (6 + P) c.2) 11 (6 + P) nm) 10 4 (nI (P + 1)))))) = .inl f ∧ xW hb r h f y h')) := by
  have hhb := Y2.2.2.2.2.2.2.1
  have nz : gxN G ≤ h.2 := by have := Y2.2.2.2.2.2.2.2; omega
  have w38 : wdL [114, 97, 110, 107] 0 = 355412 := by decide +kernel
  have w40 : wdL [116, 97, 120] 0 = 14631 := by decide +kernel
  obtain ⟨so, pl, va, ⟨hr, htp, hso, hva, hpl⟩, hin, hnz, hz, hend, hq, hst, hrz⟩ := id R2
  refine gx_aload_n (pc := 57) dX2_person_57 rfl ?_
  refine gx_ldcS (pc := 58) hR38 dX2_person_58 ?_
  refine gx_iconst (pc := 60) (v := 0) dX2_person_60 (by decide) ?_
  refine gx_bipush (pc := 61) (v := 9) dX2_person_61 (by decide) ?_
  refine kX2_242x (kc := 4) (ks := 144) (mc := 2) (ms := 14) (pc := 63) rfl (c_Rboth (d := d - 1) nr nz (by omega) R2 hS38 0 9) (gxRc.of rfl hr) (by omega) (Nat.le_of_ble_eq_true rfl) dX2_person_63 (fun a h3 e3 => ?_) (fun y h' e => gxT_out (by decide +kernel) (Or.inr ⟨y, rfl, by obtain ⟨f, e3, e4⟩ := e; rw [w38] at e3; exact ⟨f, by rw [e3]; rfl, e4.mo hhb⟩⟩))
  obtain ⟨e3, R3, E3⟩ := e3
  rw [w38] at e3
  have sp3 : (rB (spBoth t z 355412 0 9 i) (fun a => rB (spBoth t z 14631 0 999 a.1) (fun c => .inr (c.1, dA (dL (dA (dA (dA x 13 (6 + P) (nI kd)) 14 (6 + P) a.2) 15 (6 + P) c.2) 11 (6 + P) nm) 10 4 (nI (P + 1)))))) = rB (spBoth t z 14631 0 999 (i + 2)) (fun c => .inr (c.1, dA (dL (dA (dA (dA x 13 (6 + P) (nI kd)) 14 (6 + P) a) 15 (6 + P) c.2) 11 (6 + P) nm) 10 4 (nI (P + 1)))) := by rw [e3]; rfl
  have Y3 := E3.dy hrb Y2
  have g3' : gE hb r h h3 := E3.g
  clear hr hso hva hpl htp hq hst
  obtain ⟨so, pl, va, ⟨hr, htp, hso, hva, hpl⟩, hin, hnz, hz, hend, hq, hst, hrz⟩ := id R3
  have hta := Y3.2.1.2.2.2.2.2.1
  have z3 : h3.2 = h.2 := E3.1
  refine gx_istore_n (pc := 66) dX2_person_66 (by decide) rfl ?_
  refine gx_aload_n (pc := 67) dX2_person_67 rfl ?_
  refine gx_get (pc := 68) fX2_168 hr rfl dX2_person_68 ?_
  refine gx_get (pc := 71) fX2_232 hta rfl dX2_person_71 ?_
  refine gx_iload_n (pc := 74) dX2_person_74 rfl ?_
  refine gx_iload_n (pc := 75) dX2_person_75 rfl ?_
  refine gx_aload_n (pc := 76) dX2_person_76 rfl ?_
  refine gx_ldcS (pc := 77) hR40 dX2_person_77 ?_
  refine gx_iconst (pc := 79) (v := 0) dX2_person_79 (by decide) ?_
  refine gx_sipush (pc := 80) (v := 999) dX2_person_80 (by decide) ?_
  refine kX2_242x (kc := 2) (ks := 130) (mc := 2) (ms := 14) (pc := 83) rfl (c_Rboth (d := d - 1) nr (by omega) (by omega) R3 hS40 0 999) (gxRc.of rfl hr) (by omega) (Nat.le_of_ble_eq_true rfl) dX2_person_83 (fun b h4 e4 => ?_) (fun y h' e => gxT_out (by decide +kernel) (Or.inr ⟨y, rfl, by obtain ⟨f, e3, e4⟩ := e; rw [w40] at e3; exact ⟨f, by rw [sp3, e3]; rfl, (e4.mo (by omega)).tr g3'⟩⟩))
  obtain ⟨e4, R4, E4⟩ := e4
  rw [w40] at e4
  rw [e4, rB_r] at sp3
  have Y4 := E4.dy hrb Y3
  have g4' : gE hb r h h4 := g3'.tr E4.g
  have z4 : h4.2 = h.2 := by rw [E4.1, z3]
  refine kX2_245 (kc := 1) (ks := 128) (mc := 1) (ms := 2) (pc := 86) rfl (c_made (d := d - 1) (by omega) (by omega) kd hkd a b) (by omega) (Nat.le_of_ble_eq_true rfl) dX2_person_86 (fun ad h5 e5 => ?_)
  obtain ⟨rfl, s5, e5, f5⟩ := e5
  have Y5 := Y4.gr (by omega) (fun q _ b => f5 q (by omega))
  have R5 := R4.gr (by omega) (fun q _ b => f5 q (by have := R4.lt; omega))
  generalize hx' : dA (dL (dA (dA (dA x 13 (6 + P) (nI kd)) 14 (6 + P) a) 15 (6 + P) b) 11 (6 + P) nm) 10 4 (nI (P + 1)) = x' at *
  have x1 : ∀ j k, ¬ (j = 13 ∧ k = 6 + P) → ¬ (j = 14 ∧ k = 6 + P) → ¬ (j = 15 ∧ k = 6 + P) → ¬ (j = 10 ∧ k = 4) → x'.1 j k = x.1 j k := fun j k a1 a2 a3 a4 => by
    rw [← hx', dA_at, if_neg a4, dL_1, dA_at, if_neg a3, dA_at, if_neg a2, dA_at, if_neg a1]
  have x13 : x'.1 13 (6 + P) = nI kd := by rw [← hx']; simp [dA_at, dL_1]
  have x14 : x'.1 14 (6 + P) = a := by rw [← hx']; simp [dA_at, dL_1]
  have x15 : x'.1 15 (6 + P) = b := by rw [← hx']; simp [dA_at, dL_1]
  have Y6 : DY G h5 hb ta fo fa la le1 lc1 (va_up (va_up ln 0 (ln 0 + 1)) 1 (ln 1 + 1)) lf1 x' wv (va_up nv (ln 0) nm) (va_up nc (ln 0) P) elo ehi w := by
    refine Y5.cg (x1 10 7 (by omega) (by omega) (by omega) (by omega)) (fun j k a hj hk e => ?_)
    match j, hj, hk, e with
    | 0, _, _, e => exact e
    | 1, _, _, e => exact e
    | 2, _, hk, e =>
      rw [va_n (show (2 : Nat) ≠ 1 by decide), va_n (show (2 : Nat) ≠ 0 by decide), n2] at hk
      refine ⟨e.1, ?_⟩
      rw [x1 13 (6 + k) (by omega) (by omega) (by omega) (by omega), x1 14 (6 + k) (by omega) (by omega) (by omega) (by omega), x1 15 (6 + k) (by omega) (by omega) (by omega) (by omega)]
      exact e.2
    | 3, _, _, e =>
      refine ⟨e.1, ?_⟩
      rw [x1 16 _ (by omega) (by omega) (by omega) (by omega), x1 17 _ (by omega) (by omega) (by omega) (by omega), x1 18 _ (by omega) (by omega) (by omega) (by omega), x1 19 _ (by omega) (by omega) (by omega) (by omega), x1 20 _ (by omega) (by omega) (by omega) (by omega), x1 21 _ (by omega) (by omega) (by omega) (by omega)]
      exact e.2
    | 4, _, _, e =>
      obtain ⟨e1, g, e2, e3, e4, e5⟩ := e
      exact ⟨e1, g, e2, by rw [x1 22 _ (by omega) (by omega) (by omega) (by omega)]; exact e3, by rw [x1 23 _ (by omega) (by omega) (by omega) (by omega)]; exact e4, by rw [x1 24 _ (by omega) (by omega) (by omega) (by omega)]; exact e5⟩
  have ln2 : va_up (va_up ln 0 (ln 0 + 1)) 1 (ln 1 + 1) 2 = P := by rw [va_n (show (2 : Nat) ≠ 1 by decide), va_n (show (2 : Nat) ≠ 0 by decide), n2]
  have el2 : El G h5 hb x' (va_up nv (ln 0) nm) (va_up nc (ln 0) P) 2 (va_up (va_up ln 0 (ln 0 + 1)) 1 (ln 1 + 1) 2) h4.2 := by
    rw [ln2]
    exact ⟨⟨by omega, by omega⟩, kd, hkd, by rw [x13], by rw [x14, x15]; exact e5⟩
  obtain ⟨_, hl2'⟩ := (Y6.1.1 2 (by decide)).2.2.2.ob
  have hl2 := hl2'
  refine gx_r0 ?_
  refine kX2_211 (kc := 0) (ks := 0) (mc := 1) (ms := 128) (pc := 89) rfl (c_Dadd (d := d - 1) (by omega) Y6 2 (by decide) (by rw [ln2]; omega) el2) (gxRc.of rfl hl2) (by omega) (Nat.le_of_ble_eq_true rfl) dX2_person_89 (fun r7 h7 e7 => ?_)
  obtain ⟨e7a, c7a, Y7, s7, s7', f7⟩ := e7
  refine gx_pop (pc := 92) dX2_person_92 rfl ?_
  have R7 := R5.gr s7' (fun q _ b => f7 q (by omega))
  refine gx_return (pc := 93) rfl dX2_person_93 (Or.inl ⟨rfl, _, x', sp3, R7, ⟨by have := g4'.1; omega, fun q a b => by rw [f7 q a, f5 q (by omega), g4'.2 q a b]⟩, ?_⟩)
  rw [ln2] at Y7
  have hNM' : NMi x' 1 (P + 1) S (P + S + 1) (va_up nv (P + S) nm) (va_up nc (P + S) P) := by
    refine hNM.addP (by omega) hS10 hnm (fun k hk => ?_) (fun k hk => ?_)
    · rw [← hx']
      show (if (11 : Nat) = 11 then vp_updL (x.2 11) (6 + P) nm else x.2 11) (6 + k) = _
      rw [if_pos rfl]
      simp only [vp_updL]
      by_cases e : k = P
      · rw [if_pos (by omega), if_pos e]
      · rw [if_neg (by omega), if_neg e]
    · rw [← hx']; rfl
  rw [n0] at Y7
  refine ⟨fo, fa, la, _, _, _, _, wv, _, _, elo, ehi, Y7, by rw [show P + 1 + S = P + S + 1 by omega]; exact hNM', ?_, ?_, ?_, ?_, ?_, by omega, hS10, hE30, by rw [x1 25 1 (by omega) (by omega) (by omega) (by omega), x1 26 1 (by omega) (by omega) (by omega) (by omega)]; exact hwn.1, fun e he => by rw [x1 24 _ (by omega) (by omega) (by omega) (by omega)]; exact hwn.2.1 e he, fun j k hj hk hjk => by rw [va_n (show (3 : Nat) ≠ 2 by decide)]; exact hwn.2.2 j k hj hk hjk⟩
  · rw [va_n (show (0 : Nat) ≠ 2 by decide), va_n (show (0 : Nat) ≠ 1 by decide), va_s]; omega
  · rw [va_n (show (1 : Nat) ≠ 2 by decide), va_s]; omega
  · rw [va_s]
  · rw [va_n (show (3 : Nat) ≠ 2 by decide), va_n (show (3 : Nat) ≠ 1 by decide), va_n (show (3 : Nat) ≠ 0 by decide), n3]
  · rw [va_n (show (4 : Nat) ≠ 2 by decide), va_n (show (4 : Nat) ≠ 1 by decide), va_n (show (4 : Nat) ≠ 0 by decide), n4]
theorem c_Rperson (nr : gxN G ≤ r) (hrb : r + 8 ≤ hb) (hd : 12 ≤ d) (hR : (RR G h r (.ref ta) dp t z n i)) (hi0 : ¬ (tkK t z i).2.2.1 = 0) (hD : DX G h hb ta x P S E w) : gxM G mX2_person d 9 415 [.ref r] h (gxQx (gxQv (fun h' => ∃ j x', spRP0 t z P S x i = .inr (j, x') ∧ RR G h' r (.ref ta) dp t z n j ∧ gE hb r h h' ∧ DX G h' hb ta x' (P + 1) S E w)) (fun y h' => ∃ f, spRP0 t z P S x i = .inl f ∧ xW hb r h f y h')) := by
  obtain ⟨fo, fa, la, le, lc, ln, lf, wv, nv, nc, elo, ehi, Y, hNM, n0, n1, n2, n3, n4, hP6, hS10, hE30, hwn⟩ := hD
  have hhb := Y.2.2.2.2.2.2.1
  have nz : gxN G ≤ h.2 := by have := Y.2.2.2.2.2.2.2; omega
  refine gxM_K (fun hK => ?_)
  obtain ⟨S38, hR38, hS38⟩ := st_38 hK
  obtain ⟨S40, hR40, hS40⟩ := st_40 hK
  obtain ⟨so, pl, va, ⟨hr, htp, hso, hva, hpl⟩, hin, hnz, hz, hend, hq, hst, hrz⟩ := id hR
  refine gxM_of rfl (Nat.le_of_ble_eq_true rfl) rfl ?_
  have hta := Y.2.1.2.2.2.2.2.1
  have l2 := (Y.1.1 2 (by decide)).2.2.2.ls
  obtain ⟨_, hl2⟩ := (Y.1.1 2 (by decide)).2.2.2.ob
  rw [n2] at l2
  have K24 : gxV G mX2_person d 9 415 24 [some (.ref r), some (.int (nI P)), none, none] [.int (nI P), .int (zi (decide (P = 6))), .ref r] h (gxQx (gxQv (fun h' => ∃ j x', spRP0 t z P S x i = .inr (j, x') ∧ RR G h' r (.ref ta) dp t z n j ∧ gE hb r h h' ∧ DX G h' hb ta x' (P + 1) S E w)) (fun y h' => ∃ f, spRP0 t z P S x i = .inl f ∧ xW hb r h f y h')) := by
    refine kX2_238x (kc := 6) (ks := 158) (mc := 3) (ms := 257) (pc := 24) rfl (c_newName (d := d - 1) nr hrb (by omega) hR hi0 Y (by omega) (by omega) (decide (P = 6)) P (by omega)) (gxRc.of rfl hr) (by omega) (Nat.le_of_ble_eq_true rfl) dX2_person_24 (fun h1 e1 => ?_) (fun y h' e => gxT_out (by decide +kernel) (Or.inr ⟨y, rfl, by obtain ⟨f, e3, e4⟩ := e; rw [n0, nwS_new hNM hP6 hS10] at e3; refine ⟨f, ?_, e4⟩; unfold spRP0; by_cases z6 : P = 6; rw [if_pos z6]; rw [decide_eq_true z6, if_pos rfl] at e3; cases e3; rfl; rw [if_neg z6]; rw [decide_eq_false z6, if_neg (by decide)] at e3; rw [e3]; rfl⟩))
    obtain ⟨e1, R1, E1, s1, le1, lc1, lf1, Y1, g2, g3, g4⟩ := e1
    rw [n0, nwS_new hNM hP6 hS10] at e1
    have hP5 : ¬ P = 6 := fun e => by rw [decide_eq_true e, if_pos rfl] at e1; cases e1
    rw [decide_eq_false hP5, if_neg (by decide)] at e1
    have sp : spRP0 t z P S x i = (if spKind (tkK t z (i + 1 + 1)) < 0 then .inl (flt t z (i + 1 + 1) 1) else rB (spBoth t z 355412 0 9 (i + 1 + 1 + 1)) (fun a => rB (spBoth t z 14631 0 999 a.1) (fun c => .inr (c.1, dA (dL (dA (dA (dA x 13 (6 + P) (spKind (tkK t z (i + 1 + 1)))) 14 (6 + P) a.2) 15 (6 + P) c.2) 11 (6 + P) (tkK t z (i + 1)).2.2.2.1) 10 4 (nI (P + 1)))))) := by
      unfold spRP0; rw [if_neg hP5, e1]; rfl
    have hnm : fdF nv nc (tkK t z (i + 1)).2.2.2.1 (P + S) 0 = -1 := by
      have c := cdF_1 (a := spPn x.2 1 P (tkK t z (i + 1)).2.2.2.1) (b := spSn x.2 1 S (tkK t z (i + 1)).2.2.2.1) (spPn_lt hP6) (spSn_lt hS10)
      rw [hNM.1]
      refine c.mpr ?_
      unfold spNew at e1
      split at e1
      · cases e1
      · split at e1
        · rename_i hh; exact hh
        · cases e1
    have nz1 : gxN G ≤ h1.2 := Nat.le_trans nz E1.1
    have hh1 : hb ≤ h1.2 := Nat.le_trans hhb E1.1
    have up : ∀ {f y h'}, xW h1.2 r h1 f y h' → xW hb r h f y h' := fun e => (e.mo hh1).tr E1
    clear hr hso hva hpl htp hq hst
    obtain ⟨so, pl, va, ⟨hr, htp, hso, hva, hpl⟩, hin, hnz, hz, hend, hq, hst, hrz⟩ := id R1
    refine gx_aload_n (pc := 27) dX2_person_27 rfl ?_
    refine gx_aload_n (pc := 28) dX2_person_28 rfl ?_
    refine gx_get (pc := 29) fX2_33 hr rfl dX2_person_29 ?_
    refine kX2_158 (kc := 6) (ks := 158) (mc := 0) (ms := 0) (pc := 32) rfl (c_Rwhich (d := d - 1) (by omega) R1 (by decide) hst.2.1) (gxRc.of rfl hr) (by omega) (Nat.le_of_ble_eq_true rfl) dX2_person_32 (fun r2 h2 e2 => ?_)
    obtain ⟨rfl, e2⟩ := e2
    subst h2
    rw [whI_kind] at *
    refine gx_istore_n (pc := 35) dX2_person_35 (by decide) rfl ?_
    refine gx_iload_n (pc := 36) dX2_person_36 rfl ?_
    refine gx_iconst (pc := 37) (v := (-1)) dX2_person_37 (by decide) ?_
    rcases whI_k4 (tkK t z (i + 2)) with ⟨kd, hkd, ekd⟩ | ekd
    · have kk : spKind (tkK t z (i + 2)) = nI kd := by rw [← whI_kind, ekd]; rfl
      have kk' : spKind (tkK t z (i + 1 + 1)) = nI kd := kk
      rw [kk', if_neg (nI_pos (by omega))] at sp
      rw [kk]
      have n2t : ¬ (tkK t z (i + 2)).2.2.1 = 0 := fun e => by
        have : spKind (tkK t z (i + 2)) = -1 := by
          unfold spKind tkW
          rw [decide_eq_false (show ¬ (tkK t z (i + 2)).2.2.1 = 1 by rw [e]; decide)]
          rfl
        rw [kk] at this
        exact n30 kd (by omega) this
      refine gx_icmp_ne (pc := 38) 47 dX2_person_38 (by decide) (fun c1 => ?_) (fun c1 => ?_)
      · refine gx_aload_n (pc := 47) dX2_person_47 rfl ?_
        refine gx_dup (pc := 48) dX2_person_48 rfl ?_
        refine gx_get (pc := 49) fX2_132 hr rfl dX2_person_49 ?_
        refine gx_iconst (pc := 52) (v := 1) dX2_person_52 (by decide) ?_
        refine gx_iadd (pc := 53) dX2_person_53 ?_
        rw [nI_1]
        refine gx_put (pc := 54) fX2_132 hr nr (by first | exact Nat.le_of_ble_eq_true rfl | simp) tX2_9 rfl rfl dX2_person_54 ?_
        change gxV _ _ _ _ _ _ _ _ (gxup h1 r (.inr (1, [.ref (r + 1), .ref (r + 2), .ref (r + 3), .ref ta, .ref (r + 4), .int 0, .ref (r + 5), .ref (r + 6), .ref (r + 7), .int (nI (i + 2 + 1)), .int dp]))) _
        obtain ⟨R2, E2⟩ := R1.step n2t
        generalize gxup h1 r (.inr (1, [.ref (r + 1), .ref (r + 2), .ref (r + 3), .ref ta, .ref (r + 4), .int 0, .ref (r + 5), .ref (r + 6), .ref (r + 7), .int (nI (i + 2 + 1)), .int dp])) = h2 at *
        have Y2 := E2.dy hrb Y1
        have g2' : gE hb r h h2 := E1.tr E2.g
        refine gxV_post ?_ (person57 (E := E) nr hrb hd hkd hR38 hS38 hR40 hS40 R2 Y2 hNM n0 n1 n2 n3 n4 (by omega) hS10 hE30 ⟨hwn.1, hwn.2.1, by rw [g3]; exact hwn.2.2⟩ hnm)
        rintro o h' (⟨rfl, j, x', e1, e2, e3, e4⟩ | ⟨y, rfl, f, e1, e2⟩)
        · exact Or.inl ⟨rfl, j, x', by rw [sp]; exact e1, e2, g2'.tr e3, e4⟩
        · exact Or.inr ⟨y, rfl, f, by rw [sp]; exact e1, e2.tr g2'⟩
      · exact absurd c1 (n30 kd (by omega))
    · have kk : spKind (tkK t z (i + 2)) = -1 := by rw [← whI_kind, ekd]; rfl
      have kk' : spKind (tkK t z (i + 1 + 1)) = -1 := kk
      rw [kk', if_pos (by decide)] at sp
      rw [kk]
      refine gx_icmp_ne (pc := 38) 47 dX2_person_38 (by decide) (fun c1 => ?_) (fun c1 => ?_)
      · exact absurd rfl c1
      · exact gx_wrong (kc := 5) (ks := 151) (pc := 41) (pc1 := 42) (pc2 := 43) (pc5 := 46) 1 rfl rfl rfl rfl (by omega) nz1 R1 rfl dX2_person_41 dX2_person_42 (by decide) dX2_person_43 dX2_person_46 (by decide +kernel) (fun y h' e2 => ⟨_, sp, up e2⟩)
  refine gx_aload_n (pc := 0) dX2_person_0 rfl ?_
  refine gx_get (pc := 1) fX2_168 hr rfl dX2_person_1 ?_
  refine gx_get (pc := 4) fX2_232 hta rfl dX2_person_4 ?_
  refine kX2_235 (kc := 9) (ks := 415) (mc := 0) (ms := 0) (pc := 7) rfl (c_size (d := d - 1) l2) (gxRc.of rfl hl2) (by omega) (Nat.le_of_ble_eq_true rfl) dX2_person_7 (fun r1 h1 e1 => ?_)
  obtain ⟨rfl, e1⟩ := e1
  subst h1
  refine gx_istore_n (pc := 10) dX2_person_10 (by decide) rfl ?_
  refine gx_aload_n (pc := 11) dX2_person_11 rfl ?_
  refine gx_iload_n (pc := 12) dX2_person_12 rfl ?_
  refine gx_bipush (pc := 13) (v := 6) dX2_person_13 (by decide) ?_
  refine gx_icmp_ne (pc := 15) 22 dX2_person_15 (by decide) (fun c1 => ?_) (fun c1 => ?_)
  · have : ¬ P = 6 := fun e => c1 (by rw [e]; rfl)
    refine gx_iconst (pc := 22) (v := 0) dX2_person_22 (by decide) ?_
    refine gx_iload_n (pc := 23) dX2_person_23 rfl ?_
    rw [decide_eq_false this] at K24
    exact K24
  · have : P = 6 := (nI_eq (b := 6) (by omega) (by decide)).mp c1
    refine gx_iconst (pc := 18) (v := 1) dX2_person_18 (by decide) ?_
    refine gx_goto (pc := 19) 23 dX2_person_19 (by decide) ?_
    refine gx_iload_n (pc := 23) dX2_person_23 rfl ?_
    rw [decide_eq_true this] at K24
    exact K24
end MBC
