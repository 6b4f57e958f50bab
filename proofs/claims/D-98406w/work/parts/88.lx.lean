/-! ===== COMPONENT X: judged ===== -/
set_option maxRecDepth 100000
theorem i_lt1 {a : Int32} (h : a < 9) : a + 1 ≤ 9 := by
  rw [Int32.lt_iff_toInt_lt] at h
  rw [Int32.le_iff_toInt_le, Int32.toInt_add]
  have e9 : (9 : Int32).toInt = 9 := by decide
  have e1 : (1 : Int32).toInt = 1 := by decide
  have := Int32.le_toInt a
  have hm : Int32.minValue.toInt = -2147483648 := by decide
  rw [e9, e1, Int.bmod_eq_of_le (by omega) (by omega)]
  omega
/-- ranks are at most nine -/
def rk9 (P : Nat) (s : Nat → Int32) : Prop := ∀ p, p < P → s (70 + p) ≤ 9
theorem rk9.tell {A : Nat → Nat → Int32} {s : Nat → Int32} {P p q k : Nat} (x : rk9 P s) (hP : P ≤ 6) (hp : p < 6) (hq : q < 6) (hk : k < 10) : rk9 P (spTell (setS A s) p q k) := fun r hr => by
  have := x r hr
  simp only [spTell, setS_50]
  split <;> simp only [upd] <;> (repeat rw [if_neg (by omega)]) <;> exact this
theorem rk9.pay {s : Nat → Int32} {P p : Nat} {set : Int32} (x : rk9 P s) (hP : P ≤ 6) : rk9 P (spPay s p set) := fun r hr => by
  have := x r hr
  simp only [spPay, upd]
  repeat rw [if_neg (by omega)]
  exact this
theorem rk9.pass {A : Nat → Nat → Int32} {s : Nat → Int32} {P : Nat} (x : rk9 P s) (hP : P ≤ 6) : rk9 P (spPass (setS A s) P) := fun r hr => by
  have := x r hr
  simp only [spPass, upd]
  repeat rw [if_neg (by omega)]
  rw [spFines_lo _ _ (by omega) P hP, setS_50]
  exact this
theorem rk9.rise {s : Nat → Int32} {P p : Nat} (x : rk9 P s) (h : s (70 + p) < 9) : rk9 P (upd s (70 + p) (s (70 + p) + 1)) := fun r hr => by
  simp only [upd]
  split
  · exact i_lt1 h
  · exact x r hr
theorem rk9.go {w : Option gxEv} {A : Nat → Nat → Int32} {s : Nat → Int32} {P S k q : Nat} {h : gxH} (x : rk9 P s) (hP : P ≤ 6) (hS : S ≤ 10) (hl : LN h q A P S k) : rk9 P (spGo w (setS A s) P S k).2 := by
  rcases hl with ⟨y, p, o, c, h1, h2, h3, h4, h5, h6, h7, h8⟩ | ⟨y, p, h1, h2, h3, h4⟩ | ⟨y, p, h1, h2, h3⟩ | ⟨y, h1⟩
  · rw [spGo_0 y (by omega) (by omega) (by omega) h5 h6 h7]
    split
    · exact x.tell hP (by omega) (by omega) (by omega)
    · exact x
  · rw [spGo_1 y (by omega) h2]
    split
    · exact x.pay hP
    · exact x
  · rw [spGo_2 y (by omega) h2]
    split
    · rename_i hh; exact x.rise hh
    · exact x
  · rw [spGo_3 y]
    exact x.pass hP
theorem rk9.fresh {A : Nat → Nat → Int32} {P S : Nat} (hP : P ≤ 6) (hS : S ≤ 10) (x : ∀ p, p < P → A 14 p ≤ 9) : rk9 P (spFresh A P S) := fun r hr => by
  simp only [spFresh]
  rw [if_neg (by omega), if_neg (by omega), if_pos (by omega), show 70 + r - 70 = r by omega]
  exact x r hr
theorem TK.F0 {h : gxH} {a ta : Nat} {s : Nat → Int32} {b : Bool} (x : TK h a ta s b) : ∃ tv kn aw rk fi ne m p y l q, TF h a tv kn aw rk fi ne m p y l q := by
  obtain ⟨kn, aw, rk, fi, ne, hF, _⟩ := x.F
  exact ⟨_, _, _, _, _, _, _, _, _, _, _, hF⟩
/-- the component's object, all its fields -/
def XF (h : gxH) (x r tk tr gl sl bl py pt ng ft : Nat) (g : Int64) (mk : Nat) : Prop := h.1 x = some (.inr (0, [.ref r, .ref tk, .ref tr, .ref gl, .ref sl, .ref bl, .ref py, .ref pt, .ref ng, .ref ft, .long g, .ref mk]))
theorem XF.O {h : gxH} {x r tk tr gl sl bl py pt ng ft mk : Nat} {g : Int64} (y : XF h x r tk tr gl sl bl py pt ng ft g mk) : XO h x tk := ⟨r, tr, gl, sl, bl, py, pt, ng, ft, mk, g, y⟩
theorem XF.o {h h' : gxH} {x r tk tr gl sl bl py pt ng ft mk : Nat} {g : Int64} (y : XF h x r tk tr gl sl bl py pt ng ft g mk) (e : oE h h') : XF h' x r tk tr gl sl bl py pt ng ft g mk := e.2 _ _ y (fun v q => by cases q) (fun n f q => by cases q)
section LX
variable {G : gxG} {d : Nat} {h : gxH} {x r tk tr gl sl bl py pt ng ft mk lo hi ta fa P S E n : Nat} {g : Int64} {A : Nat → Nat → Int32} {s : Nat → Int32} {w : Option gxEv} {b : Bool}
theorem spFsum6 (s : Nat → Int32) : spFsum s 6 = s 79 + s 80 + s 81 + s 82 + s 83 + s 84 := by
  simp only [spFsum, Int32.zero_add]
theorem spJ_n {w : Option gxEv} {A : Nat → Nat → Int32} {P S : Nat} : ∀ k, k < 2 ^ 31 → (spJ w A P S k).1 = -1 ∨ ∃ j, j < k ∧ (spJ w A P S k).1 = nI j
  | 0, _ => Or.inl rfl
  | k + 1, hk => by
    rw [spJ]
    split
    · exact Or.inr ⟨k, by omega, rfl⟩
    · rcases spJ_n (w := w) (A := A) (P := P) (S := S) k (by omega) with e | ⟨j, hj, e⟩
      · exact Or.inl e
      · exact Or.inr ⟨j, by omega, e⟩
theorem c_Xjudged (hN : gxN G ≤ lo) (hn : gxN G ≤ tr) (hd : 98 ≤ d) (hf : fa < tr ∨ tr + 6 ≤ fa) (dj : tr + 6 ≤ lo ∨ hi ≤ tr) (hO : XF h x r tk tr gl sl bl py pt ng ft g mk) (hX : TT h lo hi tk ta fa A s P S E w b) {tv : Value} {kn aw rk fi ne : Nat → Int32} {m0 p0 y0 l0 q0 : Int32} (hF : TF h tr tv kn aw rk fi ne m0 p0 y0 l0 q0) (hG : GL h gl n A P S) (h16 : ∀ k, k < S → A 16 k = 0 ∨ A 16 k = 1) (h14 : ∀ p, p < P → A 14 p ≤ 9) (what : Int32) : gxM G mX1_judged d 0 0 [.ref x, .int what] h (gxQi (fun r h' => ((¬ (0 ≤ what ∧ what ≤ 2) ∧ r = -2 ∧ h' = h) ∨ ((0 ≤ what ∧ what ≤ 2) ∧ r = spJr w A P S n what)) ∧ tE tr fa h h')) := by
  have hX0 := hX
  have hM := hX.2.2
  have hP6 := hM.2.1
  have hS10 := hM.2.2.2.1
  have hfc := hX.1.2.2.1
  have hx := hO
  have htr := hF.1
  obtain ⟨hn30, gf, hgl0, hln⟩ := hG
  obtain ⟨_, _, _, _, hgl, _⟩ := id hgl0
  refine gxM_of rfl (Nat.le_of_ble_eq_true rfl) rfl ?_
  have K103 : ∀ v h1 v2 v3, (0 ≤ what ∧ what ≤ 2) → tE tr fa h h1 → v = spJr w A P S n what → gxV G mX1_judged d 0 0 103 [some (.ref x), some (.int what), v2, v3] [.int v] h1 (gxQi (fun r h' => ((¬ (0 ≤ what ∧ what ≤ 2) ∧ r = -2 ∧ h' = h) ∨ ((0 ≤ what ∧ what ≤ 2) ∧ r = spJr w A P S n what)) ∧ tE tr fa h h')) := by
    intro v h1 v2 v3 hw e1 e2
    exact gx_ireturn (pc := 103) rfl dX1_judged_103 (⟨_, rfl, ⟨Or.inr ⟨hw, e2⟩, e1⟩⟩)
  have fin : ∀ h1, (0 ≤ what ∧ what ≤ 2) → XF h1 x r tk tr gl sl bl py pt ng ft g mk → TT h1 lo hi tr ta fa A (spJ w A P S n).2 P S E w true → tE tr fa h h1 → gxV G mX1_judged d 0 0 73 [some (.ref x), some (.int what), some (.int (spJ w A P S n).1), some (.int (nI n))] [] h1 (gxQi (fun r h' => ((¬ (0 ≤ what ∧ what ≤ 2) ∧ r = -2 ∧ h' = h) ∨ ((0 ≤ what ∧ what ≤ 2) ∧ r = spJr w A P S n what)) ∧ tE tr fa h h')) := by
    intro h1 hw hx1 hX1 e1
    have hx := hx1
    obtain ⟨_, _, _, _, _, htr, _⟩ := hX1.2.1
    refine gx_iload_n (pc := 73) dX1_judged_73 rfl ?_
    refine gx_if_ne (pc := 74) 81 dX1_judged_74 (by decide) (fun c1 => ?_) (fun c1 => ?_)
    · refine gx_iload_n (pc := 81) dX1_judged_81 rfl ?_
      refine gx_iconst (pc := 82) (v := 1) dX1_judged_82 (by decide) ?_
      refine gx_icmp_ne (pc := 83) 96 dX1_judged_83 (by decide) (fun c2 => ?_) (fun c2 => ?_)
      · refine gx_aload_n (pc := 96) dX1_judged_96 rfl ?_
        refine gx_get (pc := 97) fX1_44 hx rfl dX1_judged_97 ?_
        refine kX1_284 (kc := 0) (ks := 0) (mc := 0) (ms := 0) (pc := 100) rfl (c_Tall (d := d - 1) hN (by omega) hX1) (gxRc.of rfl htr) (by omega) (Nat.le_of_ble_eq_true rfl) dX1_judged_100 (fun r2 h2 e2 => ?_)
        obtain ⟨rfl, e2⟩ := e2
        exact K103 _ _ _ _ hw (e1.tr e2.t) (by unfold spJr; rw [if_neg c1, if_neg c2, spAll_eq S (by omega)])
      · refine gx_aload_n (pc := 86) dX1_judged_86 rfl ?_
        refine gx_get (pc := 87) fX1_44 hx rfl dX1_judged_87 ?_
        refine kX1_281 (kc := 0) (ks := 0) (mc := 0) (ms := 0) (pc := 90) rfl (c_finedInAll (d := d - 1) hX1) (gxRc.of rfl htr) (by omega) (Nat.le_of_ble_eq_true rfl) dX1_judged_90 (fun r2 h2 e2 => ?_)
        obtain ⟨rfl, e2⟩ := e2
        subst h2
        refine gx_goto (pc := 93) 103 dX1_judged_93 (by decide) ?_
        have c2' : what = 1 := c2
        exact K103 _ _ _ _ hw e1 (by unfold spJr; rw [if_neg c1, if_pos c2', spFsum6])
    · have c1' : what = 0 := c1
      refine gx_iload_n (pc := 77) dX1_judged_77 rfl ?_
      refine gx_goto (pc := 78) 103 dX1_judged_78 (by decide) ?_
      exact K103 _ _ _ _ hw e1 (by unfold spJr; rw [if_pos c1'])
  have L : ∀ m k h1, m + k = n → (0 ≤ what ∧ what ≤ 2) → XF h1 x r tk tr gl sl bl py pt ng ft g mk → TT h1 lo hi tr ta fa A (spJ w A P S k).2 P S E w true → gxLs h1 gl n gf → (∀ k, k < n → LN h1 (gf k) A P S k) → rk9 P (spJ w A P S k).2 → tE tr fa h h1 → gxV G mX1_judged d 0 0 28 [some (.ref x), some (.int what), some (.int (spJ w A P S k).1), some (.int (nI k))] [] h1 (gxQi (fun r h' => ((¬ (0 ≤ what ∧ what ≤ 2) ∧ r = -2 ∧ h' = h) ∨ ((0 ≤ what ∧ what ≤ 2) ∧ r = spJr w A P S n what)) ∧ tE tr fa h h')) := by
    intro m
    induction m with
    | zero =>
      intro k h1 hk hw hx1 hX1 hgl1 hln1 hr1 e1
      have : k = n := by omega
      subst this
      have hx := hx1
      obtain ⟨_, _, _, _, hgl, _⟩ := id hgl1
      refine gx_iload_n (pc := 28) dX1_judged_28 rfl ?_
      refine gx_aload_n (pc := 29) dX1_judged_29 rfl ?_
      refine gx_get (pc := 30) fX1_52 hx rfl dX1_judged_30 ?_
      refine kX1_131 (kc := 0) (ks := 0) (mc := 0) (ms := 0) (pc := 33) rfl (c_size (d := d - 1) hgl1) (gxRc.of rfl hgl) (by omega) (Nat.le_of_ble_eq_true rfl) dX1_judged_33 (fun r2 h2 e2 => ?_)
      obtain ⟨rfl, e2⟩ := e2
      subst h2
      refine gx_icmp_ge (pc := 36) 73 dX1_judged_36 (by decide) (fun c1 => ?_) (fun c1 => ?_)
      · exact fin h1 hw hx1 hX1 e1
      · exact absurd (nI_le (Nat.le_refl _) (by omega)) c1
    | succ m ih =>
      intro k h1 hk hw hx1 hX1 hgl1 hln1 hr1 e1
      have hx := hx1
      obtain ⟨_, _, _, _, hgl, _⟩ := id hgl1
      obtain ⟨_, _, _, _, _, htr, _⟩ := hX1.2.1
      have ln1 := hln1 k (by omega)
      have K57 : ∀ v h2, v = zi (spGo w (setS A (spJ w A P S k).2) P S k).1 → TK h2 tr ta (spGo w (setS A (spJ w A P S k).2) P S k).2 true → tE tr fa h1 h2 → gxV G mX1_judged d 0 0 57 [some (.ref x), some (.int what), some (.int (spJ w A P S k).1), some (.int (nI k))] [.int v] h2 (gxQi (fun r h' => ((¬ (0 ≤ what ∧ what ≤ 2) ∧ r = -2 ∧ h' = h) ∨ ((0 ≤ what ∧ what ≤ 2) ∧ r = spJr w A P S n what)) ∧ tE tr fa h h')) := by
        intro v h2 hv hK2 e2
        have o2 := e2.o hX1.2.1 hX1.1.2.2.1
        have X2 : TT h2 lo hi tr ta fa A (spJ w A P S (k + 1)).2 P S E w true := ⟨hX1.1.tE e2 dj, hK2, hM⟩
        have K67 : ∀ u, u = (spJ w A P S (k + 1)).1 → gxV G mX1_judged d 0 0 67 [some (.ref x), some (.int what), some (.int u), some (.int (nI k))] [] h2 (gxQi (fun r h' => ((¬ (0 ≤ what ∧ what ≤ 2) ∧ r = -2 ∧ h' = h) ∨ ((0 ≤ what ∧ what ≤ 2) ∧ r = spJr w A P S n what)) ∧ tE tr fa h h')) := by
          intro u hu
          subst hu
          refine gx_iincc (pc := 67) (c := 1) dX1_judged_67 rfl (by decide) (by decide) rfl ?_
          refine gx_goto (pc := 70) 28 dX1_judged_70 (by decide) ?_
          rw [nI_1]
          exact ih (k + 1) h2 (by omega) hw (hx1.o o2) X2 (hgl1.o o2) (fun j hj => (hln1 j hj).o o2) (hr1.go hP6 hS10 ln1) (e1.tr e2)
        have sj : (spJ w A P S (k + 1)).1 = if (spGo w (setS A (spJ w A P S k).2) P S k).1 = false ∧ (spJ w A P S k).1 < 0 then nI k else (spJ w A P S k).1 := rfl
        subst hv
        refine gx_if_ne (pc := 57) 67 dX1_judged_57 (by decide) (fun c1 => ?_) (fun c1 => ?_)
        · exact K67 _ (by rw [sj, if_neg (fun z => by have := zi_ne0 c1; rw [z.1] at this; cases this)])
        · have z := zi_eq0 c1
          refine gx_iload_n (pc := 60) dX1_judged_60 rfl ?_
          refine gx_iconst (pc := 61) (v := (-1)) dX1_judged_61 (by decide) ?_
          refine gx_icmp_ne (pc := 62) 67 dX1_judged_62 (by decide) (fun c2 => ?_) (fun c2 => ?_)
          · refine K67 _ ?_
            rw [sj, if_neg]
            rintro ⟨_, z2⟩
            rcases spJ_n (w := w) (A := A) (P := P) (S := S) k (by omega) with y | ⟨j, hj, y⟩
            · exact c2 y
            · rw [y] at z2; exact nI_pos (by omega) z2
          · have c2' : (spJ w A P S k).1 = -1 := c2
            refine gx_iload_n (pc := 65) dX1_judged_65 rfl ?_
            refine gx_istore_n (pc := 66) dX1_judged_66 (by decide) rfl ?_
            exact K67 _ (by rw [sj, if_pos ⟨z, by rw [c2']; decide⟩])
      refine gx_iload_n (pc := 28) dX1_judged_28 rfl ?_
      refine gx_aload_n (pc := 29) dX1_judged_29 rfl ?_
      refine gx_get (pc := 30) fX1_52 hx rfl dX1_judged_30 ?_
      refine kX1_131 (kc := 0) (ks := 0) (mc := 0) (ms := 0) (pc := 33) rfl (c_size (d := d - 1) hgl1) (gxRc.of rfl hgl) (by omega) (Nat.le_of_ble_eq_true rfl) dX1_judged_33 (fun r2 h2 e2 => ?_)
      obtain ⟨rfl, e2⟩ := e2
      subst h2
      refine gx_icmp_ge (pc := 36) 73 dX1_judged_36 (by decide) (fun c1 => ?_) (fun c1 => ?_)
      · exact absurd c1 (nI_ge (by omega) (by omega))
      · refine gx_aload_n (pc := 39) dX1_judged_39 rfl ?_
        refine gx_get (pc := 40) fX1_52 hx rfl dX1_judged_40 ?_
        refine gx_iload_n (pc := 43) dX1_judged_43 rfl ?_
        refine kX1_153 (kc := 0) (ks := 0) (mc := 0) (ms := 0) (pc := 44) rfl (c_get (d := d - 1) (by omega) hgl1 k (by omega)) (gxRc.of rfl hgl) (by omega) (Nat.le_of_ble_eq_true rfl) dX1_judged_44 (fun r2 h2 e2 => ?_)
        obtain ⟨rfl, e2⟩ := e2
        subst h2
        rcases ln1 with ⟨y, p, o, c, g1, g2, g3, g4, g5, g6, g7, hl⟩ | ⟨y, p, g1, g2, g3, hl⟩ | ⟨y, p, g1, g2, hl⟩ | ⟨y, hl⟩
        · refine gx_castO (pc := 47) hl rfl q1548 q2530 dX1_judged_47 ?_
          refine gx_aload_n (pc := 50) dX1_judged_50 rfl ?_
          refine gx_get (pc := 51) fX1_44 hx rfl dX1_judged_51 ?_
          refine kX1_277_X31 (kc := 0) (ks := 0) (mc := 0) (ms := 0) (pc := 54) rfl (c_done0 (d := d - 1) hN hn (by omega) hf dj hX1 h16 y g1 g2 g3 g4 g5 g6 g7 hl) (gxRc.of rfl hl) (by omega) (Nat.le_of_ble_eq_true rfl) dX1_judged_54 (fun r2 h2 e2 => ?_)
          exact K57 r2 h2 e2.1 e2.2.1 e2.2.2
        · refine gx_castO (pc := 47) hl rfl q1548 q2527 dX1_judged_47 ?_
          refine gx_aload_n (pc := 50) dX1_judged_50 rfl ?_
          refine gx_get (pc := 51) fX1_44 hx rfl dX1_judged_51 ?_
          refine kX1_277_X32 (kc := 0) (ks := 0) (mc := 0) (ms := 0) (pc := 54) rfl (c_done1 (d := d - 1) hN hn (by omega) hf dj hX1 y g1 g2 g3 hl) (gxRc.of rfl hl) (by omega) (Nat.le_of_ble_eq_true rfl) dX1_judged_54 (fun r2 h2 e2 => ?_)
          exact K57 r2 h2 e2.1 e2.2.1 e2.2.2
        · refine gx_castO (pc := 47) hl rfl q1548 q2529 dX1_judged_47 ?_
          refine gx_aload_n (pc := 50) dX1_judged_50 rfl ?_
          refine gx_get (pc := 51) fX1_44 hx rfl dX1_judged_51 ?_
          refine kX1_277_X33 (kc := 0) (ks := 0) (mc := 0) (ms := 0) (pc := 54) rfl (c_done2 (d := d - 1) hn (by omega) hf hX1 hr1 y g1 g2 hl) (gxRc.of rfl hl) (by omega) (Nat.le_of_ble_eq_true rfl) dX1_judged_54 (fun r2 h2 e2 => ?_)
          exact K57 r2 h2 e2.1 e2.2.1 e2.2.2
        · refine gx_castO (pc := 47) hl rfl q1548 q2528 dX1_judged_47 ?_
          refine gx_aload_n (pc := 50) dX1_judged_50 rfl ?_
          refine gx_get (pc := 51) fX1_44 hx rfl dX1_judged_51 ?_
          refine kX1_277_X34 (kc := 0) (ks := 0) (mc := 0) (ms := 0) (pc := 54) rfl (c_done3 (d := d - 1) hn (by omega) hf dj hX1 y) (gxRc.of rfl hl) (by omega) (Nat.le_of_ble_eq_true rfl) dX1_judged_54 (fun r2 h2 e2 => ?_)
          exact K57 r2 h2 e2.1 e2.2.1 e2.2.2
  refine gx_iload_n (pc := 0) dX1_judged_0 rfl ?_
  refine gx_iconst (pc := 1) (v := 0) dX1_judged_1 (by decide) ?_
  refine gx_iconst (pc := 2) (v := 2) dX1_judged_2 (by decide) ?_
  refine kX1_140 (kc := 0) (ks := 0) (mc := 0) (ms := 0) (pc := 3) rfl (c_Xwithin (d := d - 1) what 0 2) (by omega) (Nat.le_of_ble_eq_true rfl) dX1_judged_3 (fun r1 h1 e1 => ?_)
  obtain ⟨rfl, e1⟩ := e1
  subst h1
  refine gx_if_ne (pc := 6) 12 dX1_judged_6 (by decide) (fun c1 => ?_) (fun c1 => ?_)
  · have z := zi_ne0 c1
    simp only [Bool.and_eq_true, decide_eq_true_eq] at z
    refine gx_aload_n (pc := 12) dX1_judged_12 rfl ?_
    refine gx_get (pc := 13) fX1_44 hx rfl dX1_judged_13 ?_
    refine gx_aload_n (pc := 16) dX1_judged_16 rfl ?_
    refine kX1_119 (kc := 0) (ks := 0) (mc := 0) (ms := 0) (pc := 17) rfl (c_now (d := d - 1) hO.O hX0) (gxRc.of rfl hx) (by omega) (Nat.le_of_ble_eq_true rfl) dX1_judged_17 (fun r1 h1 e1 => ?_)
    obtain ⟨rfl, e1⟩ := e1
    subst h1
    refine kX1_36 (kc := 0) (ks := 0) (mc := 0) (ms := 0) (pc := 20) rfl (c_begins (d := d - 1) hn (by omega) hf dj hX0.1 hP6 hS10 hF) (gxRc.of rfl htr) (by omega) (Nat.le_of_ble_eq_true rfl) dX1_judged_20 (fun r1 h1 e1 => ?_)
    obtain ⟨rfl, e1, e2⟩ := e1
    have o2 : oE h h1 := ⟨e2.1, fun z x hx n1 n2 => e2.at hF hfc hx n1 n2⟩
    refine gx_pop (pc := 23) dX1_judged_23 rfl ?_
    refine gx_iconst (pc := 24) (v := (-1)) dX1_judged_24 (by decide) ?_
    refine gx_istore_n (pc := 25) dX1_judged_25 (by decide) rfl ?_
    refine gx_iconst (pc := 26) (v := 0) dX1_judged_26 (by decide) ?_
    refine gx_istore_n (pc := 27) dX1_judged_27 (by decide) rfl ?_
    exact L n 0 h1 (by omega) z (hO.o o2) ⟨hX0.1.tE e2 dj, e1, hM⟩ (hgl0.o o2) (fun k hk => (hln k hk).o o2) (rk9.fresh hP6 hS10 h14) e2
  · have z := zi_eq0 c1
    refine gx_bipush (pc := 9) (v := (-2)) dX1_judged_9 (by decide) ?_
    exact gx_ireturn (pc := 11) rfl dX1_judged_11 (⟨_, rfl, ⟨Or.inl ⟨fun hh => (by rw [decide_eq_true hh.1, decide_eq_true hh.2] at z; cases z), rfl, rfl⟩, tE.rf _ _ _⟩⟩)
end LX
