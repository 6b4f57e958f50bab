/-! ===== COMPONENT BG: the town in the making is a town; ears ===== -/
set_option maxRecDepth 100000
theorem layA_10 (A : Nat → Nat → Int32) {k : Nat} (h : k < 4) : layA A 10 k = A 10 (4 + k) := by simp [layA, lay0, mv, setJ, mvF, upA, h]
theorem layA_6 (A : Nat → Nat → Int32) {j k : Nat} (hj : j = 13 ∨ j = 14 ∨ j = 15) (h : k < 6) : layA A j k = A j (6 + k) := by
  rcases hj with e | e | e <;> subst e <;> simp [layA, lay0, mv, setJ, mvF, upA, h]
theorem layA_s (A : Nat → Nat → Int32) {j k : Nat} (h1 : 16 ≤ j) (h2 : j ≤ 21) (h : k < 10) : layA A j k = A j (10 + k) := by
  have hj : j = 16 ∨ j = 17 ∨ j = 18 ∨ j = 19 ∨ j = 20 ∨ j = 21 := by omega
  rcases hj with e | e | e | e | e | e <;> subst e <;> simp [layA, lay0, mv, setJ, mvF, upA, h]
theorem layA_e (A : Nat → Nat → Int32) {j k : Nat} (hj : j = 22 ∨ j = 23 ∨ j = 24) (h : k < 30) : layA A j k = A j (30 + k) := by
  rcases hj with e | e | e <;> subst e <;> simp [layA, lay0, mv, setJ, mvF, upA, h]
theorem exE.mo {h : gxH} {lo hi lo' hi' : Nat} (h1 : lo' ≤ lo) (h2 : hi ≤ hi') : ∀ {m r ev}, exE lo hi h m r ev → exE lo' hi' h m r ev
  | 0, _, _, x => x
  | m + 1, r, ev, x => by
    have mr : ∀ {q}, inR lo hi q → inR lo' hi' q := fun z => ⟨Nat.le_trans h1 z.1, Nat.lt_of_lt_of_le z.2 h2⟩
    obtain ⟨i1, x⟩ := x
    refine ⟨mr i1, ?_⟩
    rcases x with x | x | ⟨r', ev', a1, a2, e⟩ | ⟨r', ll, n, ev', la, lc, lr, le, a1, a2, ⟨i2, mc, e, c, g, i3, b⟩, a4, e2⟩
    · exact Or.inl x
    · exact Or.inr (Or.inl x)
    · exact Or.inr (Or.inr (Or.inl ⟨r', ev', a1, exE.mo h1 h2 a2, e⟩))
    · exact Or.inr (Or.inr (Or.inr ⟨r', ll, n, ev', la, lc, lr, le, a1, exE.mo h1 h2 a2, ⟨mr i2, mc, e, c, g, mr i3, b⟩, fun k hk => by
        obtain ⟨j1, j2, j3, j4, j5⟩ := a4 k hk
        exact ⟨mr j1, j2, j3, j4, exE.mo h1 h2 j5⟩, e2⟩))
theorem wvE.mo {h : gxH} {lo hi lo' hi' : Nat} {wv : Value} {w : Option gxEv} (x : wvE lo hi h wv w) (h1 : lo' ≤ lo) (h2 : hi ≤ hi') : wvE lo' hi' h wv w := by
  cases w with
  | none => exact x
  | some ev =>
    obtain ⟨r, m, a, b, c⟩ := x
    exact ⟨r, m, a, b, c.mo h1 h2⟩
theorem DX.TW {G : gxG} {h : gxH} {hb ta : Nat} {x : dS} {P S E : Nat} {w : Option gxEv} (y : DX G h hb ta x P S E w) : ∃ fa, TW h hb h.2 ta fa (layA x.1) P S E w := by
  obtain ⟨fo, fa, la, le, lc, ln, lf, wv, nv, nc, elo, ehi, Y, hNM, n0, n1, n2, n3, n4, hP6, hS10, hE30, hwn⟩ := y
  obtain ⟨y1, y2, y3, y4, y5, y6, y7, y8⟩ := Y
  obtain ⟨i1, i2, i3, hf, h1, h2, h3⟩ := y2
  have ls : ∀ j, j < 5 → lsR h hb h.2 (la j) (ln j) (lf j) := fun j hj => by
    obtain ⟨a, b, c, l⟩ := y1.1 j hj
    exact l.lsR ⟨a, l.2.1⟩ ⟨b, l.2.2.2.2.1⟩
  have l2 := ls 2 (by decide)
  have l3 := ls 3 (by decide)
  have l4 := ls 4 (by decide)
  rw [n2] at l2
  rw [n3] at l3
  rw [n4] at l4
  refine ⟨fa, i1, i2, hf, la 0, la 1, la 2, la 3, la 4, fo, wv, lf 2, lf 3, lf 4, i3, by rw [layA_10 _ (by decide)]; exact h2, h1, l2, l3, l4, fun p hp => ?_, fun k hk => ?_, fun e he => ?_, y3.mo y4 y5⟩
  · have := h3 2 p (by decide) (by omega)
    rw [layA_6 _ (by omega) (by omega), layA_6 _ (by omega) (by omega), layA_6 _ (by omega) (by omega)]
    exact this
  · have := h3 3 k (by decide) (by omega)
    rw [layA_s _ (by omega) (by omega) (by omega), layA_s _ (by omega) (by omega) (by omega), layA_s _ (by omega) (by omega) (by omega), layA_s _ (by omega) (by omega) (by omega), layA_s _ (by omega) (by omega) (by omega), layA_s _ (by omega) (by omega) (by omega)]
    exact this
  · have := h3 4 e (by decide) (by omega)
    rw [layA_e _ (by omega) (by omega), layA_e _ (by omega) (by omega), layA_e _ (by omega) (by omega)]
    exact this
theorem DX.aE {G : gxG} {h h' : gxH} {hb r ta : Nat} {x : dS} {P S E : Nat} {w : Option gxEv} (y : DX G h hb ta x P S E w) (hrb : r + 8 ≤ hb) (e : aE r h h') : DX G h' hb ta x P S E w := by
  obtain ⟨fo, fa, la, le, lc, ln, lf, wv, nv, nc, elo, ehi, Y, z⟩ := y
  exact ⟨fo, fa, la, le, lc, ln, lf, wv, nv, nc, elo, ehi, e.dy hrb Y, z⟩
theorem DX.gr {G : gxG} {h h' : gxH} {hb ta : Nat} {x : dS} {P S E : Nat} {w : Option gxEv} (y : DX G h hb ta x P S E w) (hz : h.2 ≤ h'.2) (e : ∀ q, hb ≤ q → q < h.2 → h'.1 q = h.1 q) : DX G h' hb ta x P S E w := by
  obtain ⟨fo, fa, la, le, lc, ln, lf, wv, nv, nc, elo, ehi, Y, z⟩ := y
  exact ⟨fo, fa, la, le, lc, ln, lf, wv, nv, nc, elo, ehi, Y.gr hz e, z⟩
theorem DX.nf {G : gxG} {h : gxH} {hb ta : Nat} {x : dS} {P S E : Nat} {w : Option gxEv} (y : DX G h hb ta x P S E w) : hb ≤ h.2 ∧ gxN G ≤ hb ∧ P ≤ 6 ∧ S ≤ 10 ∧ E ≤ 30 ∧ ∃ m nv nc, NF G h ta m nv nc ∧ nmOk (fun u => fdF nv nc u m 0) (spPn x.2 1 P) 0 6 ∧ nmOk (fun u => fdF nv nc u m 0) (spSn x.2 1 S) 20 10 := by
  obtain ⟨fo, fa, la, le, lc, ln, lf, wv, nv, nc, elo, ehi, Y, hNM, n0, n1, n2, n3, n4, hP6, hS10, hE30, hwn⟩ := y
  have F := Y.NF (by omega) (by omega)
  rw [n0] at F
  exact ⟨Y.2.2.2.2.2.2.1, Y.2.2.2.2.2.2.2, hP6, hS10, hE30, P + S, nv, nc, F, hNM.P hP6 hS10, hNM.S hP6 hS10⟩
def spRE0 (t : Nat → Int32) (z P E : Nat) (x : dS) (i : Nat) : Sum Int32 (Nat × dS) :=
  rB (spNd t z (i + 1) (spPn x.2 1 P (tkK t z (i + 1)).2.2.2.1)) (fun a => rB (spNd t z (i + 1 + 1) (spPn x.2 1 P (tkK t z (i + 1 + 1)).2.2.2.1)) (fun c =>
    if a = c then .inl (flt t z (i + 1 + 1) 3) else if spHe0 x.1 (nI a) (nI c) E 0 = true then .inl (flt t z (i + 1 + 1) 3) else rB (spNum t z 0 10 (i + 1 + 1 + 1)) (fun e =>
      .inr (e.1, dA (dA (dA (dA x 22 (30 + E) (nI a)) 23 (30 + E) (nI c)) 24 (30 + E) e.2) 10 6 (nI (E + 1))))))
theorem spRE_0 (t : Nat → Int32) (z P E : Nat) (x : dS) (i : Nat) : spRE t z P E x i = rB (spRE0 t z P E x i) (fun a => rB (spClo t z a.1) (fun e => .inr (e, a.2))) := by
  unfold spRE spRE0
  rw [rB_as]
  congr 1
  funext a
  rw [rB_as]
  congr 1
  funext c
  split
  · rfl
  · split
    · rfl
    · rw [rB_as]
      congr 1
theorem spErr_0 {x : dS} {P S : Nat} {a c : Int32} : ∀ m k, k + m ≤ 30 → ((spErr (layA x.1) a c m k).isSome = spHe0 x.1 a c m k)
  | 0, _, _ => rfl
  | m + 1, k, h => by
    rw [spErr, spHe0, layA_e _ (by omega) (by omega), layA_e _ (by omega) (by omega)]
    split
    · rfl
    · exact spErr_0 (P := P) (S := S) m (k + 1) (by omega)
section MBG
variable {G : gxG} {d : Nat} {h : gxH} {hb r ta z n i P S E : Nat} {dp : Int32} {t : Nat → Int32} {x : dS} {w : Option gxEv}
/-- the ear is put down -/
theorem ear50 (nr : gxN G ≤ r) (hrb : r + 8 ≤ hb) (hd : 15 ≤ d) (R : RR G h r (.ref ta) dp t z n i) (hi0 : ¬ (tkK t z i).2.2.1 = 0) (D : DX G h hb ta x P S E w) (hE : E < 30) (a c : Nat) : gxV G mX2_ear d 3 138 50 [some (.ref r), some (.int (nI a)), some (.int (nI c))] [] h (gxQx (gxQv (fun h' => ∃ v, spNum t z 0 10 (i + 1) = .inr (i + 1 + 1, v) ∧ RR G h' r (.ref ta) dp t z n (i + 1 + 1) ∧ gE hb r h h' ∧ DX G h' hb ta (dA (dA (dA (dA x 22 (30 + E) (nI a)) 23 (30 + E) (nI c)) 24 (30 + E) v) 10 6 (nI (E + 1))) P S (E + 1) w)) (fun y h' => ∃ f, spNum t z 0 10 (i + 1) = .inl f ∧ xW hb r h f y h')) := by
  obtain ⟨fo, fa, la, le, lc, ln, lf, wv, nv, nc, elo, ehi, Y, hNM, n0, n1, n2, n3, n4, hP6, hS10, hE30, hwn⟩ := D
  have hhb := Y.2.2.2.2.2.2.1
  have nhb := Y.2.2.2.2.2.2.2
  have nz : gxN G ≤ h.2 := by omega
  obtain ⟨so, pl, va, ⟨hr, htp, hso, hva, hpl⟩, hin, hnz, hz, hend, hq, hst, hrz⟩ := id R
  refine gx_aload_n (pc := 50) dX2_ear_50 rfl ?_
  refine gx_dup (pc := 51) dX2_ear_51 rfl ?_
  refine gx_get (pc := 52) fX2_132 hr rfl dX2_ear_52 ?_
  refine gx_iconst (pc := 55) (v := 1) dX2_ear_55 (by decide) ?_
  refine gx_iadd (pc := 56) dX2_ear_56 ?_
  rw [nI_1]
  refine gx_put (pc := 57) fX2_132 hr nr (by first | exact Nat.le_of_ble_eq_true rfl | simp) tX2_9 rfl rfl dX2_ear_57 ?_
  change gxV _ _ _ _ _ _ _ _ (gxup h r (.inr (1, [.ref (r + 1), .ref (r + 2), .ref (r + 3), .ref ta, .ref (r + 4), .int 0, .ref (r + 5), .ref (r + 6), .ref (r + 7), .int (nI (i + 1)), .int dp]))) _
  obtain ⟨R1, E1⟩ := R.step hi0
  generalize gxup h r (.inr (1, [.ref (r + 1), .ref (r + 2), .ref (r + 3), .ref ta, .ref (r + 4), .int 0, .ref (r + 5), .ref (r + 6), .ref (r + 7), .int (nI (i + 1)), .int dp])) = h1 at *
  have Y1 := E1.dy hrb Y
  have hta := Y1.2.1.2.2.2.2.2.1
  have s1 := E1.1
  clear hr hso hva hpl htp hq hst
  obtain ⟨so, pl, va, ⟨hr, htp, hso, hva, hpl⟩, hin, hnz, hz, hend, hq, hst, hrz⟩ := id R1
  refine gx_aload_n (pc := 60) dX2_ear_60 rfl ?_
  refine gx_get (pc := 61) fX2_168 hr rfl dX2_ear_61 ?_
  refine gx_get (pc := 64) fX2_268 hta rfl dX2_ear_64 ?_
  refine gx_iconst (pc := 67) (v := 3) dX2_ear_67 (by decide) ?_
  refine gx_new_int (kc := 2) (ks := 135) (pc := 68) 3 rfl (by decide) dX2_ear_68 ?_
  have ha : (gxadd h1 (.inl (0, 3, .inl (fun _ => 0)))).1 h1.2 = some (.inl (0, 3, .inl (fun _ => 0))) := gxadd_self _ _
  have f2 : ∀ q, q ≠ h1.2 → (gxadd h1 (.inl (0, 3, .inl (fun _ => 0)))).1 q = h1.1 q := fun q hq => gxadd_ne hq
  have s2 : (gxadd h1 (.inl (0, 3, .inl (fun _ => 0)))).2 = h1.2 + 1 := rfl
  generalize gxadd h1 (.inl (0, 3, .inl (fun _ => 0))) = h2 at *
  have nea : gxN G ≤ h1.2 := by omega
  have hea := ha
  refine gx_dup (pc := 70) dX2_ear_70 rfl ?_
  refine gx_iconst (pc := 71) (v := 0) dX2_ear_71 (by decide) ?_
  refine gx_iload_n (pc := 72) dX2_ear_72 rfl ?_
  refine gx_iast (pc := 73) 0 hea nea rfl (by decide) (by decide) dX2_ear_73 ?_
  have ha3 : (gxup h2 h1.2 (.inl (0, 3, .inl (upd (fun _ => 0) 0 (nI a))))).1 h1.2 = some (.inl (0, 3, .inl (upd (fun _ => 0) 0 (nI a)))) := gxup_self _ _ _
  have f3 : ∀ q, q ≠ h1.2 → (gxup h2 h1.2 (.inl (0, 3, .inl (upd (fun _ => 0) 0 (nI a))))).1 q = h2.1 q := fun q hq => gxup_ne hq
  have s3 : (gxup h2 h1.2 (.inl (0, 3, .inl (upd (fun _ => 0) 0 (nI a))))).2 = h2.2 := rfl
  generalize gxup h2 h1.2 (.inl (0, 3, .inl (upd (fun _ => 0) 0 (nI a)))) = h3 at *
  refine gx_dup (pc := 74) dX2_ear_74 rfl ?_
  refine gx_iconst (pc := 75) (v := 1) dX2_ear_75 (by decide) ?_
  refine gx_iload_n (pc := 76) dX2_ear_76 rfl ?_
  refine gx_iast (pc := 77) 1 ha3 nea rfl (by decide) (by decide) dX2_ear_77 ?_
  have ha4 : (gxup h3 h1.2 (.inl (0, 3, .inl (upd (upd (fun _ => 0) 0 (nI a)) 1 (nI c))))).1 h1.2 = some (.inl (0, 3, .inl (upd (upd (fun _ => 0) 0 (nI a)) 1 (nI c)))) := gxup_self _ _ _
  have f4 : ∀ q, q ≠ h1.2 → (gxup h3 h1.2 (.inl (0, 3, .inl (upd (upd (fun _ => 0) 0 (nI a)) 1 (nI c))))).1 q = h3.1 q := fun q hq => gxup_ne hq
  have s4 : (gxup h3 h1.2 (.inl (0, 3, .inl (upd (upd (fun _ => 0) 0 (nI a)) 1 (nI c))))).2 = h3.2 := rfl
  generalize gxup h3 h1.2 (.inl (0, 3, .inl (upd (upd (fun _ => 0) 0 (nI a)) 1 (nI c)))) = h4 at *
  have f14 : ∀ q, q ≠ h1.2 → h4.1 q = h1.1 q := fun q hq => by rw [f4 q hq, f3 q hq, f2 q hq]
  have R4 := R1.gr (h' := h4) (by omega) (fun q _ b => f14 q (by omega))
  have g4 : gE hb r h h4 := ⟨by omega, fun q a b => by rw [f14 q (by omega), E1.2 q b]⟩
  clear hr hso hva hpl htp hq hst
  obtain ⟨so, pl, va, ⟨hr, htp, hso, hva, hpl⟩, hin, hnz, hz, hend, hq, hst, hrz⟩ := id R4
  refine gx_dup (pc := 78) dX2_ear_78 rfl ?_
  refine gx_iconst (pc := 79) (v := 2) dX2_ear_79 (by decide) ?_
  refine gx_aload_n (pc := 80) dX2_ear_80 rfl ?_
  refine gx_iconst (pc := 81) (v := 0) dX2_ear_81 (by decide) ?_
  refine gx_bipush (pc := 82) (v := 10) dX2_ear_82 (by decide) ?_
  refine kX2_189x (d' := d - 1) (kc := 1) (ks := 128) (mc := 1) (ms := 7) (pc := 84) rfl (c_Rnum (d := d - 1) nr (by omega) (by omega) R4 0 10) (gxRc.of rfl hr) (by omega) (Nat.le_of_ble_eq_true rfl) dX2_ear_84 (fun v h5 e5 => ?_) (fun y h' e => gxT_out (by decide +kernel) (Or.inr ⟨y, rfl, by obtain ⟨f, e3, e4⟩ := e; exact ⟨f, e3, (e4.mo (by omega)).tr g4⟩⟩))
  obtain ⟨e5, R5, E5⟩ := e5
  have nu := spNum_i e5
  have ha5 : h5.1 h1.2 = some (.inl (0, 3, .inl (upd (upd (fun _ => 0) 0 (nI a)) 1 (nI c)))) := by rw [E5.2 _ (by omega)]; exact ha4
  refine gx_iast (pc := 87) 2 ha5 nea rfl (by decide) (by decide) dX2_ear_87 ?_
  have ha6 : (gxup h5 h1.2 (.inl (0, 3, .inl (upd (upd (upd (fun _ => 0) 0 (nI a)) 1 (nI c)) 2 v)))).1 h1.2 = some (.inl (0, 3, .inl (upd (upd (upd (fun _ => 0) 0 (nI a)) 1 (nI c)) 2 v))) := gxup_self _ _ _
  have f6 : ∀ q, q ≠ h1.2 → (gxup h5 h1.2 (.inl (0, 3, .inl (upd (upd (upd (fun _ => 0) 0 (nI a)) 1 (nI c)) 2 v)))).1 q = h5.1 q := fun q hq => gxup_ne hq
  have s6 : (gxup h5 h1.2 (.inl (0, 3, .inl (upd (upd (upd (fun _ => 0) 0 (nI a)) 1 (nI c)) 2 v)))).2 = h5.2 := rfl
  generalize gxup h5 h1.2 (.inl (0, 3, .inl (upd (upd (upd (fun _ => 0) 0 (nI a)) 1 (nI c)) 2 v))) = h6 at *
  have s5 := E5.1
  have f16 : ∀ q, q < h1.2 → q ≠ r → h6.1 q = h1.1 q := fun q a b => by rw [f6 q (by omega), E5.2 q b, f14 q (by omega)]
  have Y6 := Y1.gr (h' := h6) (by omega) (fun q a b => f16 q b (by omega))
  have R6 := R5.gr (h' := h6) (by omega) (fun q a b => f6 q (by omega))
  generalize hx' : dA (dA (dA (dA x 22 (30 + E) (nI a)) 23 (30 + E) (nI c)) 24 (30 + E) v) 10 6 (nI (E + 1)) = x' at *
  have x1 : ∀ j k, ¬ (22 ≤ j ∧ j ≤ 24 ∧ k = 30 + E) → ¬ (j = 10 ∧ k = 6) → x'.1 j k = x.1 j k := fun j k a1 a2 => by
    rw [← hx', dA_at, if_neg a2, dA_at, if_neg (by omega), dA_at, if_neg (by omega), dA_at, if_neg (by omega)]
  have x22 : x'.1 22 (30 + E) = nI a := by rw [← hx']; simp [dA_at]
  have x23 : x'.1 23 (30 + E) = nI c := by rw [← hx']; simp [dA_at]
  have x24 : x'.1 24 (30 + E) = v := by rw [← hx']; simp [dA_at]
  have Y7 : DY G h6 hb ta fo fa la le lc ln lf x' wv nv nc elo ehi w := by
    refine Y6.cg (x1 10 7 (by omega) (by omega)) (fun j k a hj hk e => ?_)
    match j, hj, hk, e with
    | 0, _, _, e => exact e
    | 1, _, _, e => exact e
    | 2, _, _, e =>
      refine ⟨e.1, ?_⟩
      rw [x1 13 _ (by omega) (by omega), x1 14 _ (by omega) (by omega), x1 15 _ (by omega) (by omega)]
      exact e.2
    | 3, _, _, e =>
      refine ⟨e.1, ?_⟩
      rw [x1 16 _ (by omega) (by omega), x1 17 _ (by omega) (by omega), x1 18 _ (by omega) (by omega), x1 19 _ (by omega) (by omega), x1 20 _ (by omega) (by omega), x1 21 _ (by omega) (by omega)]
      exact e.2
    | 4, _, hk, e =>
      obtain ⟨e1, g, e2, e3, e4, e5⟩ := e
      rw [n4] at hk
      exact ⟨e1, g, e2, by rw [x1 22 _ (by omega) (by omega)]; exact e3, by rw [x1 23 _ (by omega) (by omega)]; exact e4, by rw [x1 24 _ (by omega) (by omega)]; exact e5⟩
  have el4 : El G h6 hb x' nv nc 4 (ln 4) h1.2 := by
    rw [n4]
    exact ⟨⟨by omega, by omega⟩, _, ha6, by rw [x22]; simp [upd], by rw [x23]; simp [upd], by rw [x24]; simp [upd]⟩
  obtain ⟨_, hl4⟩ := (Y7.1.1 4 (by decide)).2.2.2.ob
  refine gx_r0 ?_
  refine kX2_211 (kc := 0) (ks := 0) (mc := 1) (ms := 128) (pc := 88) rfl (c_Dadd (d := d - 1) (by omega) Y7 4 (by decide) (by omega) el4) (gxRc.of rfl hl4) (by omega) (Nat.le_of_ble_eq_true rfl) dX2_ear_88 (fun r8 h8 e8 => ?_)
  obtain ⟨e8a, c8a, Y8, s8, s8', f8⟩ := e8
  refine gx_pop (pc := 91) dX2_ear_91 rfl ?_
  have R8 := R6.gr s8' (fun q _ b => f8 q (by omega))
  refine gx_return (pc := 92) rfl dX2_ear_92 (Or.inl ⟨rfl, v, e5, R8, ⟨by omega, fun q a b => by rw [f8 q a, f16 q (by omega) b, E1.2 q b]⟩, ?_⟩)
  rw [hx']
  rw [n4] at Y8
  refine ⟨fo, fa, la, _, _, _, _, wv, nv, nc, elo, ehi, Y8, ?_, ?_, ?_, ?_, ?_, ?_, hP6, hS10, by omega, by rw [x1 25 1 (by omega) (by omega), x1 26 1 (by omega) (by omega)]; exact hwn.1, fun e he => ?_, fun j k hj hk hjk => by rw [va_n (show (3 : Nat) ≠ 4 by decide)]; exact hwn.2.2 j k hj hk hjk⟩
  · have : x'.2 = x.2 := by rw [← hx']; rfl
    unfold NMi at hNM ⊢
    rw [this]; exact hNM
  · rw [va_n (show (0 : Nat) ≠ 4 by decide), n0]
  · rw [va_n (show (1 : Nat) ≠ 4 by decide), n1]
  · rw [va_n (show (2 : Nat) ≠ 4 by decide), n2]
  · rw [va_n (show (3 : Nat) ≠ 4 by decide), n3]
  · rw [va_s]
  · by_cases ee : e = E
    · subst ee
      rw [x24]
      obtain ⟨j, hj, ej⟩ := nI_of2 (M := 10) (n := 10) (by decide) (Int32.not_lt.mpr nu.2.1) nu.2.2
      exact ⟨j, hj, ej⟩
    · rw [x1 24 _ (by omega) (by omega)]; exact hwn.2.1 e (by omega)
end MBG
