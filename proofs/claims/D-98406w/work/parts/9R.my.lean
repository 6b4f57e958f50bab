/-! ===== COMPONENT AY: numbers, names ===== -/
set_option maxRecDepth 100000
theorem LBx.rc {G : gxG} {h : gxH} {a : Nat} {v : Int64} (x : LBx G h a v) : gxRc G h "java/lang/Long" a := by
  rcases x with x | x
  · exact gxRc.ofO x.1
  · exact gxRc.of (ci := 33) rfl x
/-- what a name stands for, by the row of names -/
def fdF (nv : Nat → Int64) (nc : Nat → Nat) (w : Int64) : Nat → Nat → Int32
  | 0, _ => -1
  | m + 1, k => if nv k = w then nI (nc k) else fdF nv nc w m (k + 1)
/-- the names of a town -/
def NF (G : gxG) (h : gxH) (ta m : Nat) (nv : Nat → Int64) (nc : Nat → Nat) : Prop := ∃ nl ol a b c x y z f1 f2, h.1 ta = some (.inr (3, [.ref nl, .ref ol, a, b, c, x, y, z])) ∧ gxLs h nl m f1 ∧ gxLs h ol m f2 ∧ (∀ k, k < m → LBx G h (f1 k) (nv k)) ∧ (∀ k, k < m → IB G (f2 k) (nI (nc k))) ∧ m < 2 ^ 31
theorem toInt64_le {a c : Int32} : a.toInt64 ≤ c.toInt64 ↔ a ≤ c := by
  rw [Int64.le_iff_toInt_le, Int32.le_iff_toInt_le, Int32.toInt_toInt64, Int32.toInt_toInt64]
theorem toInt64_lt {a c : Int32} : a.toInt64 < c.toInt64 ↔ a < c := by
  rw [Int64.lt_iff_toInt_lt, Int32.lt_iff_toInt_lt, Int32.toInt_toInt64, Int32.toInt_toInt64]
section MAY
variable {G : gxG} {d : Nat} {h : gxH} {r z n i : Nat} {dv : Value} {dp : Int32} {t : Nat → Int32}
theorem c_Rnum (nr : gxN G ≤ r) (nz : gxN G ≤ h.2) (hd : 9 ≤ d) (hR : (RR G h r dv dp t z n i)) (lo hi : Int32) : gxM G mX2_number_2 d 1 7 [.ref r, .int lo, .int hi] h (gxQx (gxQi (fun a h' => spNum t z lo hi i = .inr (i + 1, a) ∧ RR G h' r dv dp t z n (i + 1) ∧ aE r h h')) (fun y h' => ∃ f, spNum t z lo hi i = .inl f ∧ xW h.2 r h f y h')) := by
  obtain ⟨so, pl, va, ⟨hr, htp, hso, hva, hpl⟩, hin, hnz, hz, hend, hq, hst, hrz⟩ := id hR
  obtain ⟨q1, q2, q3, q4, q5⟩ := hq i hin
  refine gxM_of rfl (Nat.le_of_ble_eq_true rfl) rfl ?_
  refine gx_aload_n (pc := 0) dX2_number_2_0 rfl ?_
  refine gx_get (pc := 1) fX2_83 hr rfl dX2_number_2_1 ?_
  refine gx_aload_n (pc := 4) dX2_number_2_4 rfl ?_
  refine gx_get (pc := 5) fX2_132 hr rfl dX2_number_2_5 ?_
  refine gx_iald (pc := 8) (i) hso (by first | rfl | simp only [gx_lit, nI_add, pk_mul]) (by omega) (by decide) dX2_number_2_8 ?_
  refine gx_iconst (pc := 9) (v := 2) dX2_number_2_9 (by decide) ?_
  rw [q1]
  refine gx_icmp_eq (pc := 10) 19 dX2_number_2_10 (by decide) (fun c1 => ?_) (fun c1 => ?_)
  · have c1' : (tkK t z i).2.2.1 = 2 := c1
    have N : ¬ (lo ≤ (tkK t z i).2.2.2.2 ∧ (tkK t z i).2.2.2.2 ≤ hi) → gxV G mX2_number_2 d (0 + 1) (0 + 7) 49 [some (.ref r), some (.int lo), some (.int hi)] [] h (gxQx (gxQi (fun a h' => spNum t z lo hi i = .inr (i + 1, a) ∧ RR G h' r dv dp t z n (i + 1) ∧ aE r h h')) (fun y h' => ∃ f, spNum t z lo hi i = .inl f ∧ xW h.2 r h f y h')) := fun hh =>
      gx_wrong (kc := 0) (ks := 0) (pc := 49) (pc1 := 50) (pc2 := 51) (pc5 := 54) 4 rfl rfl rfl rfl (by omega) nz hR rfl dX2_number_2_49 dX2_number_2_50 (by decide) dX2_number_2_51 dX2_number_2_54 (by decide +kernel) (fun y h' e => ⟨_, by rw [spNum, if_neg (fun y => y c1'), if_pos hh], e⟩)
    refine gx_aload_n (pc := 19) dX2_number_2_19 rfl ?_
    refine gx_get (pc := 20) fX2_86 hr rfl dX2_number_2_20 ?_
    refine gx_aload_n (pc := 23) dX2_number_2_23 rfl ?_
    refine gx_get (pc := 24) fX2_132 hr rfl dX2_number_2_24 ?_
    refine gx_lald (pc := 27) (i) hva (by first | rfl | simp only [gx_lit, nI_add, pk_mul]) (by omega) (by decide) dX2_number_2_27 ?_
    refine gx_iload_n (pc := 28) dX2_number_2_28 rfl ?_
    refine gx_i2l (pc := 29) dX2_number_2_29 ?_
    rw [q4 c1']
    refine gx_lcmp (pc := 30) dX2_number_2_30 ?_
    refine gx_if_lt (pc := 31) 49 dX2_number_2_31 (by decide) (fun c2 => ?_) (fun c2 => ?_)
    · have := toInt64_lt.mp ((lg_cmp_lt _ _).mp c2)
      exact N (fun y => Int32.not_lt.mpr y.1 this)
    · have l1 : ¬ (tkK t z i).2.2.2.2 < lo := fun y => c2 ((lg_cmp_lt _ _).mpr (toInt64_lt.mpr y))
      refine gx_aload_n (pc := 34) dX2_number_2_34 rfl ?_
      refine gx_get (pc := 35) fX2_86 hr rfl dX2_number_2_35 ?_
      refine gx_aload_n (pc := 38) dX2_number_2_38 rfl ?_
      refine gx_get (pc := 39) fX2_132 hr rfl dX2_number_2_39 ?_
      refine gx_lald (pc := 42) (i) hva (by first | rfl | simp only [gx_lit, nI_add, pk_mul]) (by omega) (by decide) dX2_number_2_42 ?_
      refine gx_iload_n (pc := 43) dX2_number_2_43 rfl ?_
      refine gx_i2l (pc := 44) dX2_number_2_44 ?_
      rw [q4 c1']
      refine gx_lcmp (pc := 45) dX2_number_2_45 ?_
      refine gx_if_le (pc := 46) 55 dX2_number_2_46 (by decide) (fun c3 => ?_) (fun c3 => ?_)
      · have l2 := toInt64_le.mp ((lg_cmp_le _ _).mp c3)
        have n0 : ¬ (tkK t z i).2.2.1 = 0 := by rw [c1']; decide
        refine gx_aload_n (pc := 55) dX2_number_2_55 rfl ?_
        refine gx_dup (pc := 56) dX2_number_2_56 rfl ?_
        refine gx_get (pc := 57) fX2_132 hr rfl dX2_number_2_57 ?_
        refine gx_iconst (pc := 60) (v := 1) dX2_number_2_60 (by decide) ?_
        refine gx_iadd (pc := 61) dX2_number_2_61 ?_
        rw [nI_1]
        refine gx_put (pc := 62) fX2_132 hr nr (by first | exact Nat.le_of_ble_eq_true rfl | simp) tX2_9 rfl rfl dX2_number_2_62 ?_
        change gxV _ _ _ _ _ _ _ _ (gxup h r (.inr (1, [.ref (r + 1), .ref (r + 2), .ref (r + 3), dv, .ref (r + 4), .int 0, .ref (r + 5), .ref (r + 6), .ref (r + 7), .int (nI (i + 1)), .int dp]))) _
        obtain ⟨R2, E2⟩ := hR.step n0
        generalize gxup h r (.inr (1, [.ref (r + 1), .ref (r + 2), .ref (r + 3), dv, .ref (r + 4), .int 0, .ref (r + 5), .ref (r + 6), .ref (r + 7), .int (nI (i + 1)), .int dp])) = h2 at *
        obtain ⟨so2, pl2, va2, ⟨hr2, _, hso2, hva2, _⟩, _, _, _, _, hq2, _⟩ := id R2
        clear hr hva
        have hr := hr2
        have hva := hva2
        have q4' := (hq2 i (by have := hR.nx n0; omega)).2.2.2.1 c1'
        refine gx_aload_n (pc := 65) dX2_number_2_65 rfl ?_
        refine gx_get (pc := 66) fX2_86 hr rfl dX2_number_2_66 ?_
        refine gx_aload_n (pc := 69) dX2_number_2_69 rfl ?_
        refine gx_get (pc := 70) fX2_132 hr rfl dX2_number_2_70 ?_
        refine gx_iconst (pc := 73) (v := 1) dX2_number_2_73 (by decide) ?_
        refine gx_isub (pc := 74) dX2_number_2_74 ?_
        rw [nI_pred]
        refine gx_lald (pc := 75) (i) hva (by first | rfl | simp only [gx_lit, nI_add, pk_mul]) (by omega) (by decide) dX2_number_2_75 ?_
        rw [q4']
        refine gx_l2i (pc := 76) dX2_number_2_76 ?_
        exact gx_ireturn (pc := 77) rfl dX2_number_2_77 (Or.inl ⟨_, rfl, by rw [spNum, if_neg (fun y => y c1'), if_neg (fun y => y ⟨Int32.not_lt.mp l1, l2⟩), Int32.toInt32_toInt64], R2, E2⟩)
      · have l2 : ¬ (tkK t z i).2.2.2.2 ≤ hi := fun y => c3 ((lg_cmp_le _ _).mpr (toInt64_le.mpr y))
        exact N (fun y => l2 y.2)
  · have c1' : ¬ (tkK t z i).2.2.1 = 2 := c1
    exact gx_wrong (kc := 0) (ks := 0) (pc := 13) (pc1 := 14) (pc2 := 15) (pc5 := 18) 1 rfl rfl rfl rfl (by omega) nz hR rfl dX2_number_2_13 dX2_number_2_14 (by decide) dX2_number_2_15 dX2_number_2_18 (by decide +kernel) (fun y h' e => ⟨_, by rw [spNum, if_pos c1'], e⟩)
theorem c_Rboth (nr : gxN G ≤ r) (nz : gxN G ≤ h.2) (hd : 10 ≤ d) (hR : (RR G h r dv dp t z n i)) {sa : Nat} {bs : List Nat} (hS : SB G sa bs) (lo hi : Int32) : gxM G mX2_number d 2 14 [.ref r, .ref sa, .int lo, .int hi] h (gxQx (gxQi (fun a h' => spBoth t z (wdL bs 0) lo hi i = .inr (i + 2, a) ∧ RR G h' r dv dp t z n (i + 2) ∧ aE r h h')) (fun y h' => ∃ f, spBoth t z (wdL bs 0) lo hi i = .inl f ∧ xW h.2 r h f y h')) := by
  obtain ⟨so, pl, va, ⟨hr, htp, hso, hva, hpl⟩, hin, hnz, hz, hend, hq, hst, hrz⟩ := id hR
  refine gxM_of rfl (Nat.le_of_ble_eq_true rfl) rfl ?_
  refine gx_aload_n (pc := 0) dX2_number_0 rfl ?_
  refine gx_aload_n (pc := 1) dX2_number_1 rfl ?_
  refine kX2_185x (kc := 1) (ks := 7) (mc := 1) (ms := 7) (pc := 2) rfl (c_RtakeWord (d := d - 1) nr nz (by omega) hR hS) (gxRc.of rfl hr) (by omega) (Nat.le_of_ble_eq_true rfl) dX2_number_2 (fun h1 e1 => ?_) (fun y h' e => gxT_out (by decide +kernel) (Or.inr ⟨y, rfl, _, by rw [spBoth, spWord, e.1]; rfl, e.2⟩))
  obtain ⟨z1, R1, E1⟩ := e1
  have w1 : spWord t z (wdL bs 0) i = .inr (i + 1) := by rw [spWord, z1]; rfl
  obtain ⟨_, _, _, ⟨hr1, _⟩, _⟩ := id R1
  clear hr
  have hr := hr1
  refine gx_r0 ?_
  refine gx_aload_n (pc := 5) dX2_number_5 rfl ?_
  refine gx_iload_n (pc := 6) dX2_number_6 rfl ?_
  refine gx_iload_n (pc := 7) dX2_number_7 rfl ?_
  refine kX2_189x (kc := 0) (ks := 0) (mc := 1) (ms := 7) (pc := 8) rfl (c_Rnum (d := d - 1) nr (by rw [E1.1]; exact nz) (by omega) R1 lo hi) (gxRc.of rfl hr) (by omega) (Nat.le_of_ble_eq_true rfl) dX2_number_8 (fun a h2 e2 => ?_) (fun y h' e => gxT_out (by decide +kernel) (Or.inr ⟨y, rfl, by obtain ⟨f, e3, e4⟩ := e; refine ⟨f, by rw [spBoth, w1]; exact e3, ?_⟩; have e5 := e4.tr (E1.g (hb := h1.2)); rw [E1.1] at e5; exact e5⟩))
  obtain ⟨z2, R2, E2⟩ := e2
  exact gx_ireturn (pc := 11) rfl dX2_number_11 (Or.inl ⟨_, rfl, by rw [spBoth, w1]; exact z2, R2, E1.tr E2⟩)
theorem c_Tfind (hd : 3 ≤ d) {ta m : Nat} {nv : Nat → Int64} {nc : Nat → Nat} (hF : NF G h ta m nv nc) (w : Int64) : gxM G mX4_find d 0 0 [.ref ta, .long w] h (gxQi (fun a h' => a = fdF nv nc w m 0 ∧ h' = h)) := by
  obtain ⟨nl, ol, _, _, _, _, _, _, f1, f2, hta, l1, l2, hL, hI, hm31⟩ := hF
  have hnl := l1
  obtain ⟨_, _, _, _, hnl, _⟩ := hnl
  have hol := l2
  obtain ⟨_, _, _, _, hol, _⟩ := hol
  refine gxM_of rfl (Nat.le_of_ble_eq_true rfl) rfl ?_
  have L : ∀ j k, j + k = m → fdF nv nc w m 0 = fdF nv nc w j k → gxV G mX4_find d 0 0 2 [some (.ref ta), some (.long w), none, some (.int (nI k))] [] h (gxQi (fun a h' => a = fdF nv nc w m 0 ∧ h' = h)) := by
    intro j
    induction j with
    | zero =>
      intro k hk hX
      have : k = m := by omega
      subst this
      refine gx_iload_n (pc := 2) dX4_find_2 rfl ?_
      refine gx_aload_n (pc := 3) dX4_find_3 rfl ?_
      refine gx_get (pc := 4) fX4_14 hta rfl dX4_find_4 ?_
      refine kX4_39 (kc := 0) (ks := 0) (mc := 0) (ms := 0) (pc := 7) rfl (c_size (d := d - 1) l1) (gxRc.of rfl hnl) (by omega) (Nat.le_of_ble_eq_true rfl) dX4_find_7 (fun r1 h1 e1 => ?_)
      obtain ⟨rfl, e1⟩ := e1
      subst h1
      refine gx_icmp_ge (pc := 10) 53 dX4_find_10 (by decide) (fun c1 => ?_) (fun c1 => ?_)
      · refine gx_iconst (pc := 53) (v := (-1)) dX4_find_53 (by decide) ?_
        exact gx_ireturn (pc := 54) rfl dX4_find_54 (⟨_, rfl, ⟨by rw [hX]; rfl, rfl⟩⟩)
      · exact absurd (nI_le (Nat.le_refl _) hm31) c1
    | succ j ih =>
      intro k hk hX
      have hkm : k < m := by omega
      have hLk := hL k hkm
      have hIk := hI k hkm
      rw [fdF] at hX
      refine gx_iload_n (pc := 2) dX4_find_2 rfl ?_
      refine gx_aload_n (pc := 3) dX4_find_3 rfl ?_
      refine gx_get (pc := 4) fX4_14 hta rfl dX4_find_4 ?_
      refine kX4_39 (kc := 0) (ks := 0) (mc := 0) (ms := 0) (pc := 7) rfl (c_size (d := d - 1) l1) (gxRc.of rfl hnl) (by omega) (Nat.le_of_ble_eq_true rfl) dX4_find_7 (fun r1 h1 e1 => ?_)
      obtain ⟨rfl, e1⟩ := e1
      subst h1
      refine gx_icmp_ge (pc := 10) 53 dX4_find_10 (by decide) (fun c1 => ?_) (fun c1 => ?_)
      · exact absurd c1 (nI_ge hkm hm31)
      · refine gx_aload_n (pc := 13) dX4_find_13 rfl ?_
        refine gx_get (pc := 14) fX4_14 hta rfl dX4_find_14 ?_
        refine gx_iload_n (pc := 17) dX4_find_17 rfl ?_
        refine kX4_43 (kc := 0) (ks := 0) (mc := 0) (ms := 0) (pc := 18) rfl (c_get (d := d - 1) (by omega) l1 k hkm) (gxRc.of rfl hnl) (by omega) (Nat.le_of_ble_eq_true rfl) dX4_find_18 (fun r1 h1 e1 => ?_)
        obtain ⟨rfl, e1⟩ := e1
        subst h1
        have cast : ∀ {Q : Outcome → gxH → Prop}, gxV G mX4_find d 0 0 (21 + 3) [some (.ref ta), some (.long w), none, some (.int (nI k))] [.ref (f1 k)] h Q → gxV G mX4_find d 0 0 21 [some (.ref ta), some (.long w), none, some (.int (nI k))] [.ref (f1 k)] h Q := fun kk => by
          rcases hLk with y | y
          · exact gx_castE (pc := 21) y.1 q815 dX4_find_21 kk
          · exact gx_castS (pc := 21) (ci := 33) y rfl q815 dX4_find_21 kk
        refine cast ?_
        refine kX4_49 (kc := 0) (ks := 0) (mc := 0) (ms := 0) (pc := 24) rfl (c_LlongValue (d := d - 1) hLk) hLk.rc (by omega) (Nat.le_of_ble_eq_true rfl) dX4_find_24 (fun r1 h1 e1 => ?_)
        obtain ⟨rfl, e1⟩ := e1
        subst h1
        refine gx_lload_n (pc := 27) dX4_find_27 rfl ?_
        refine gx_lcmp (pc := 28) dX4_find_28 ?_
        refine gx_if_ne (pc := 29) 47 dX4_find_29 (by decide) (fun c2 => ?_) (fun c2 => ?_)
        · have c2' : ¬ nv k = w := fun e => c2 (lgc0.mpr e)
          rw [if_neg c2'] at hX
          refine gx_iincc (pc := 47) (c := 1) dX4_find_47 rfl (by decide) (by decide) rfl ?_
          refine gx_goto (pc := 50) 2 dX4_find_50 (by decide) ?_
          rw [nI_1]
          exact ih (k + 1) (by omega) hX
        · have c2' : nv k = w := lgc0.mp c2
          rw [if_pos c2'] at hX
          refine gx_aload_n (pc := 32) dX4_find_32 rfl ?_
          refine gx_get (pc := 33) fX4_20 hta rfl dX4_find_33 ?_
          refine gx_iload_n (pc := 36) dX4_find_36 rfl ?_
          refine kX4_43 (kc := 0) (ks := 0) (mc := 0) (ms := 0) (pc := 37) rfl (c_get (d := d - 1) (by omega) l2 k hkm) (gxRc.of rfl hol) (by omega) (Nat.le_of_ble_eq_true rfl) dX4_find_37 (fun r1 h1 e1 => ?_)
          obtain ⟨rfl, e1⟩ := e1
          subst h1
          refine gx_castE (pc := 40) hIk.1 q820 dX4_find_40 ?_
          refine kX4_55 (kc := 0) (ks := 0) (mc := 0) (ms := 0) (pc := 43) rfl (c_IintValue (d := d - 1) hIk) (gxRc.ofO hIk.1) (by omega) (Nat.le_of_ble_eq_true rfl) dX4_find_43 (fun r1 h1 e1 => ?_)
          obtain ⟨rfl, e1⟩ := e1
          subst h1
          exact gx_ireturn (pc := 46) rfl dX4_find_46 (⟨_, rfl, ⟨hX.symm, rfl⟩⟩)
  refine gx_iconst (pc := 0) (v := 0) dX4_find_0 (by decide) ?_
  refine gx_istore_n (pc := 1) dX4_find_1 (by decide) rfl ?_
  exact L m 0 (by omega) rfl
/-- the names as a map to some kind -/
def nmOk (F : Int64 → Int32) (nm : Int64 → Option Nat) (fr many : Nat) : Prop := ∀ w, (∀ k, nm w = some k → k < many ∧ F w - nI fr = nI k) ∧ (nm w = none → ¬ (0 ≤ F w - nI fr ∧ F w - nI fr ≤ nI many - 1))
theorem c_Rtold (nr : gxN G ≤ r) (nz : gxN G ≤ h.2) (hd : 9 ≤ d) {ta m : Nat} {nv : Nat → Int64} {nc : Nat → Nat} (hdv : dv = .ref ta) (hR : (RR G h r dv dp t z n i)) (hF : NF G h ta m nv nc) {nm : Int64 → Option Nat} {fr many : Nat} (hmy : many ≤ 10) (hm1 : 1 ≤ many) (hN : nmOk (fun w => fdF nv nc w m 0) nm fr many) : gxM G mX2_told d 1 7 [.ref r, .int (nI fr), .int (nI many)] h (gxQx (gxQi (fun a h' => ∃ k, spNd t z i (nm (tkK t z i).2.2.2.1) = .inr k ∧ a = nI k ∧ k < many ∧ h' = h)) (fun y h' => ∃ f, spNd t z i (nm (tkK t z i).2.2.2.1) = .inl f ∧ xW h.2 r h f y h')) := by
  subst hdv
  obtain ⟨so, pl, va, ⟨hr, htp, hso, hva, hpl⟩, hin, hnz, hz, hend, hq, hst, hrz⟩ := id hR
  obtain ⟨q1, q2, q3, q4, q5⟩ := hq i hin
  obtain ⟨nl, ol, _, _, _, _, _, _, f1, f2, hta, _⟩ := id hF
  refine gxM_of rfl (Nat.le_of_ble_eq_true rfl) rfl ?_
  refine gx_aload_n (pc := 0) dX2_told_0 rfl ?_
  refine kX2_193 (kc := 1) (ks := 7) (mc := 0) (ms := 0) (pc := 1) rfl (c_RisName (d := d - 1) (by omega) hR) (gxRc.of rfl hr) (by omega) (Nat.le_of_ble_eq_true rfl) dX2_told_1 (fun r1 h1 e1 => ?_)
  obtain ⟨rfl, e1⟩ := e1
  subst h1
  refine gx_if_ne (pc := 4) 13 dX2_told_4 (by decide) (fun c1 => ?_) (fun c1 => ?_)
  · have z1 := zi_ne0 c1
    have kp : tkKp (tkK t z i) = false := by cases e : tkKp (tkK t z i); rfl; rw [e] at z1; cases z1
    have s1 : (tkK t z i).2.2.1 = 1 := by
      unfold tkKp at kp
      rw [Bool.or_eq_false_iff] at kp
      simpa using kp.1
    refine gx_aload_n (pc := 13) dX2_told_13 rfl ?_
    refine gx_get (pc := 14) fX2_168 hr rfl dX2_told_14 ?_
    refine gx_aload_n (pc := 17) dX2_told_17 rfl ?_
    refine gx_get (pc := 18) fX2_86 hr rfl dX2_told_18 ?_
    refine gx_aload_n (pc := 21) dX2_told_21 rfl ?_
    refine gx_get (pc := 22) fX2_132 hr rfl dX2_told_22 ?_
    refine gx_lald (pc := 25) (i) hva (by first | rfl | simp only [gx_lit, nI_add, pk_mul]) (by omega) (by decide) dX2_told_25 ?_
    rw [q3 s1]
    refine kX2_197 (kc := 1) (ks := 7) (mc := 0) (ms := 0) (pc := 26) rfl (c_Tfind (d := d - 1) (by omega) hF _) (gxRc.of rfl hta) (by omega) (Nat.le_of_ble_eq_true rfl) dX2_told_26 (fun r1 h1 e1 => ?_)
    obtain ⟨rfl, e1⟩ := e1
    subst h1
    refine gx_iload_n (pc := 29) dX2_told_29 rfl ?_
    refine gx_isub (pc := 30) dX2_told_30 ?_
    refine gx_istore_n (pc := 31) dX2_told_31 (by decide) rfl ?_
    refine gx_iload_n (pc := 32) dX2_told_32 rfl ?_
    refine gx_iconst (pc := 33) (v := 0) dX2_told_33 (by decide) ?_
    refine gx_iload_n (pc := 34) dX2_told_34 rfl ?_
    refine gx_iconst (pc := 35) (v := 1) dX2_told_35 (by decide) ?_
    have hmm : nI many - 1 = nI (many - 1) := by have := nI_pred (many - 1); rw [Nat.sub_add_cancel hm1] at this; exact this
    refine gx_isub (pc := 36) dX2_told_36 ?_
    refine kX2_95 (kc := 1) (ks := 7) (mc := 0) (ms := 0) (pc := 37) rfl (c_Xwithin (d := d - 1) _ 0 (nI many - 1)) (by omega) (Nat.le_of_ble_eq_true rfl) dX2_told_37 (fun r1 h1 e1 => ?_)
    obtain ⟨rfl, e1⟩ := e1
    subst h1
    obtain ⟨n1, n2⟩ := hN (tkK t z i).2.2.2.1
    refine gx_if_ne (pc := 40) 49 dX2_told_40 (by decide) (fun c2 => ?_) (fun c2 => ?_)
    · have z2 := wi_in c2
      refine gx_iload_n (pc := 49) dX2_told_49 rfl ?_
      cases e : nm (tkK t z i).2.2.2.1 with
      | none => exact absurd z2 (n2 e)
      | some k =>
        obtain ⟨k1, k2⟩ := n1 k e
        exact gx_ireturn (pc := 50) rfl dX2_told_50 (Or.inl ⟨_, rfl, k, by rw [spNd, kp]; rfl, k2, k1, rfl⟩)
    · have z2 := wi_out c2
      cases e : nm (tkK t z i).2.2.2.1 with
      | none => exact gx_wrong (kc := 0) (ks := 0) (pc := 43) (pc1 := 44) (pc2 := 45) (pc5 := 48) 2 rfl rfl rfl rfl (by omega) nz hR rfl dX2_told_43 dX2_told_44 (by decide) dX2_told_45 dX2_told_48 (by decide +kernel) (fun y h' e2 => ⟨_, by rw [spNd, kp]; rfl, e2⟩)
      | some k =>
        obtain ⟨k1, k2⟩ := n1 k e
        dsimp only at k2
        exact absurd ⟨by rw [k2]; exact nI_le (a := 0) (by omega) (by omega), by rw [k2, hmm]; exact nI_le (by omega) (by omega)⟩ z2
  · have z1 := zi_eq0 c1
    have kp : tkKp (tkK t z i) = true := by cases e : tkKp (tkK t z i); rw [e] at z1; cases z1; rfl
    exact gx_wrong (kc := 0) (ks := 0) (pc := 7) (pc1 := 8) (pc2 := 9) (pc5 := 12) 1 rfl rfl rfl rfl (by omega) nz hR rfl dX2_told_7 dX2_told_8 (by decide) dX2_told_9 dX2_told_12 (by decide +kernel) (fun y h' e2 => ⟨_, by unfold spNd; rw [kp]; rfl, e2⟩)
theorem spNd_1 {x : Option Nat} {k : Nat} (hx : spNd t z i x = .inr k) : ¬ (tkK t z i).2.2.1 = 0 := spNd_n0 hx
theorem c_Rtake (nr : gxN G ≤ r) (nz : gxN G ≤ h.2) (hd : 10 ≤ d) {ta m : Nat} {nv : Nat → Int64} {nc : Nat → Nat} (hdv : dv = .ref ta) (hR : (RR G h r dv dp t z n i)) (hF : NF G h ta m nv nc) {nm : Int64 → Option Nat} {fr many : Nat} (hmy : many ≤ 10) (hm1 : 1 ≤ many) (hN : nmOk (fun w => fdF nv nc w m 0) nm fr many) : gxM G mX2_takeTold d 1 7 [.ref r, .int (nI fr), .int (nI many)] h (gxQx (gxQi (fun a h' => ∃ k, spNd t z i (nm (tkK t z i).2.2.2.1) = .inr k ∧ a = nI k ∧ k < many ∧ RR G h' r dv dp t z n (i + 1) ∧ aE r h h')) (fun y h' => ∃ f, spNd t z i (nm (tkK t z i).2.2.2.1) = .inl f ∧ xW h.2 r h f y h')) := by
  obtain ⟨so, pl, va, ⟨hr, htp, hso, hva, hpl⟩, hin, hnz, hz, hend, hq, hst, hrz⟩ := id hR
  refine gxM_of rfl (Nat.le_of_ble_eq_true rfl) rfl ?_
  refine gx_r0 ?_
  refine gx_aload_n (pc := 0) dX2_takeTold_0 rfl ?_
  refine gx_iload_n (pc := 1) dX2_takeTold_1 rfl ?_
  refine gx_iload_n (pc := 2) dX2_takeTold_2 rfl ?_
  refine kX2_225x (kc := 0) (ks := 0) (mc := 1) (ms := 7) (pc := 3) rfl (c_Rtold (d := d - 1) nr nz (by omega) hdv hR hF hmy hm1 hN) (gxRc.of rfl hr) (by omega) (Nat.le_of_ble_eq_true rfl) dX2_takeTold_3 (fun a h1 e1 => ?_) (fun y h' e => gxT_out (by decide +kernel) (Or.inr ⟨y, rfl, e⟩))
  obtain ⟨k, e1, rfl, hk, e2⟩ := e1
  subst h1
  refine gx_istore_n (pc := 6) dX2_takeTold_6 (by decide) rfl ?_
  refine gx_aload_n (pc := 7) dX2_takeTold_7 rfl ?_
  refine gx_dup (pc := 8) dX2_takeTold_8 rfl ?_
  refine gx_get (pc := 9) fX2_132 hr rfl dX2_takeTold_9 ?_
  refine gx_iconst (pc := 12) (v := 1) dX2_takeTold_12 (by decide) ?_
  refine gx_iadd (pc := 13) dX2_takeTold_13 ?_
  rw [nI_1]
  refine gx_put (pc := 14) fX2_132 hr nr (by first | exact Nat.le_of_ble_eq_true rfl | simp) tX2_9 rfl rfl dX2_takeTold_14 ?_
  change gxV _ _ _ _ _ _ _ _ (gxup h r (.inr (1, [.ref (r + 1), .ref (r + 2), .ref (r + 3), dv, .ref (r + 4), .int 0, .ref (r + 5), .ref (r + 6), .ref (r + 7), .int (nI (i + 1)), .int dp]))) _
  obtain ⟨R2, E2⟩ := hR.step (spNd_n0 e1)
  generalize gxup h r (.inr (1, [.ref (r + 1), .ref (r + 2), .ref (r + 3), dv, .ref (r + 4), .int 0, .ref (r + 5), .ref (r + 6), .ref (r + 7), .int (nI (i + 1)), .int dp])) = h2 at *
  refine gx_iload_n (pc := 17) dX2_takeTold_17 rfl ?_
  exact gx_ireturn (pc := 18) rfl dX2_takeTold_18 (Or.inl ⟨_, rfl, k, e1, rfl, hk, R2, E2⟩)
/-- some names, at least one, each once -/
def smC (t : Nat → Int32) (z : Nat) (nm : Int64 → Option Nat) : Nat → Int32 → Nat → Sum Int32 (Nat × Int32)
  | 0, _, _ => .inl 0
  | m + 1, set, i => rB (spNd t z i (nm (tkK t z i).2.2.2.1)) (fun k => if (set >>> (nI k &&& 31)) &&& 1 = 1 then .inl (flt t z i 3) else if tkKp (tkK t z (i + 1)) = true then .inr (i + 1, set ||| (1 <<< (nI k &&& 31))) else smC t z nm m (set ||| (1 <<< (nI k &&& 31))) (i + 1))
theorem RR.lt (hR : (RR G h r dv dp t z n i)) : i ≤ n ∧ n ≤ z ∧ z ≤ 1000 ∧ r + 8 ≤ h.2 := by
  obtain ⟨so, pl, va, ⟨hr, htp, hso, hva, hpl⟩, hin, hnz, hz, hend, hq, hst, hrz⟩ := id hR
  exact ⟨hin, hnz, hz, hrz⟩
theorem NF.aE {ta m : Nat} {nv : Nat → Int64} {nc : Nat → Nat} {h' : gxH} (x : NF G h ta m nv nc) (hR : (RR G h r dv dp t z n i)) (e : ∀ q v, h.1 q = some v → (∀ vs, v ≠ .inr (1, vs)) → h'.1 q = some v) : NF G h' ta m nv nc := by
  obtain ⟨nl, ol, a, b, c, x, y, z, f1, f2, h1, ⟨mc1, e1, c1, g1, a1, a2, a3⟩, ⟨mc2, e2, c2, g2, b1, b2, b3⟩, h4, h5, h6⟩ := x
  refine ⟨nl, ol, a, b, c, x, y, z, f1, f2, e _ _ h1 (fun vs q => by cases q), ⟨mc1, e1, c1, g1, e _ _ a1 (fun vs q => by cases q), e _ _ a2 (fun vs q => by simp [gxq] at q), a3⟩, ⟨mc2, e2, c2, g2, e _ _ b1 (fun vs q => by cases q), e _ _ b2 (fun vs q => by simp [gxq] at q), b3⟩, fun k hk => ?_, h5, h6⟩
  rcases h4 k hk with y | y
  · exact Or.inl y
  · exact Or.inr (e _ _ y (fun vs q => by cases q))
theorem aE.ty {h' : gxH} (e : aE r h h') (hR : (RR G h r dv dp t z n i)) : ∀ q v, h.1 q = some v → (∀ vs, v ≠ .inr (1, vs)) → h'.1 q = some v := by
  obtain ⟨_, _, _, ⟨hr, _⟩, _⟩ := id hR
  intro q v hv hn
  rw [e.2 q (fun y => by rw [y, show h.1 r = _ from hr] at hv; exact hn _ (Option.some.inj hv).symm)]
  exact hv
theorem c_Rsome (nr : gxN G ≤ r) (nz : gxN G ≤ h.2) (hd : 10 ≤ d) {ta m : Nat} {nv : Nat → Int64} {nc : Nat → Nat} (hdv : dv = .ref ta) (hR : (RR G h r dv dp t z n i)) (hF : NF G h ta m nv nc) {nm : Int64 → Option Nat} {fr many : Nat} (hmy : many ≤ 10) (hm1 : 1 ≤ many) (hN : nmOk (fun w => fdF nv nc w m 0) nm fr many) (F : Nat) (hFu : n + 1 - i ≤ F) : gxM G mX2_some d (n + 1 - i + 1) (7 * (n + 1 - i) + 7) [.ref r, .int (nI fr), .int (nI many)] h (gxQx (gxQi (fun a h' => ∃ j, smC t z nm F 0 i = .inr (j, a) ∧ RR G h' r dv dp t z n j ∧ aE r h h')) (fun y h' => ∃ f, smC t z nm F 0 i = .inl f ∧ xW h.2 r h f y h')) := by
  refine gxM_of rfl (Nat.le_of_ble_eq_true rfl) rfl ?_
  have L : ∀ f g j set h1 (x4 : Option Value), f + j = n + 1 → f ≤ g → i ≤ j → smC t z nm F 0 i = smC t z nm g set j → RR G h1 r dv dp t z n j → aE r h h1 → NF G h1 ta m nv nc → gxV G mX2_some d (f + 1) (7 * f + 7) 2 [some (.ref r), some (.int (nI fr)), some (.int (nI many)), some (.int set), x4] [] h1 (gxQx (gxQi (fun a h' => ∃ j, smC t z nm F 0 i = .inr (j, a) ∧ RR G h' r dv dp t z n j ∧ aE r h h')) (fun y h' => ∃ f, smC t z nm F 0 i = .inl f ∧ xW h.2 r h f y h')) := by
    intro f
    induction f with
    | zero => intro g j set h1 x4 hf _ _ _ R1; have := R1.lt; omega
    | succ f ih =>
      intro g j set h1 x4 hf hfg hij hX R1 E1 F1
      obtain ⟨g', rfl⟩ : ∃ g', g = g' + 1 := ⟨g - 1, by omega⟩
      obtain ⟨so, pl, va, ⟨hr, htp, hso, hva, hpl⟩, _⟩ := id R1
      have nz1 : gxN G ≤ h1.2 := by rw [E1.1]; exact nz
      have up : ∀ {f y h'}, xW h1.2 r h1 f y h' → xW h.2 r h f y h' := fun e => by have e5 := e.tr (E1.g (hb := h1.2)); rw [E1.1] at e5; exact e5
      rw [smC] at hX
      refine gx_aload_n (pc := 2) dX2_some_2 rfl ?_
      refine gx_iload_n (pc := 3) dX2_some_3 rfl ?_
      refine gx_iload_n (pc := 4) dX2_some_4 rfl ?_
      refine kX2_225x (kc := f + 1) (ks := 7 * f + 7) (mc := 1) (ms := 7) (pc := 5) rfl (c_Rtold (d := d - 1) nr nz1 (by omega) hdv R1 F1 hmy hm1 hN) (gxRc.of rfl hr) (by omega) (Nat.le_of_ble_eq_true rfl) dX2_some_5 (fun a h2 e1 => ?_) (fun y h' e => gxT_out (by decide +kernel) (Or.inr ⟨y, rfl, by obtain ⟨f, e3, e4⟩ := e; exact ⟨f, by rw [hX, e3]; rfl, up e4⟩⟩))
      obtain ⟨k, e1, rfl, hk, e2⟩ := e1
      subst h2
      rw [e1, rB_r] at hX
      refine gx_istore (pc := 8) dX2_some_8 (by decide) rfl ?_
      refine gx_iload_n (pc := 10) dX2_some_10 rfl ?_
      refine gx_iload (pc := 11) dX2_some_11 rfl ?_
      refine kX2_228 (kc := f + 1) (ks := 7 * f + 7) (mc := 0) (ms := 0) (pc := 13) rfl (c_has (d := d - 1) set (nI k)) (by omega) (Nat.le_of_ble_eq_true rfl) dX2_some_13 (fun r1 h2 e2 => ?_)
      obtain ⟨rfl, e2⟩ := e2
      subst h2
      refine gx_if_eq (pc := 16) 25 dX2_some_16 (by decide) (fun c1 => ?_) (fun c1 => ?_)
      · have z1 := zi_eq0 c1
        rw [hs, decide_eq_false_iff_not] at z1
        rw [if_neg z1] at hX
        refine gx_iload_n (pc := 25) dX2_some_25 rfl ?_
        refine gx_iconst (pc := 26) (v := 1) dX2_some_26 (by decide) ?_
        refine gx_iload (pc := 27) dX2_some_27 rfl ?_
        refine gx_ishl (pc := 29) dX2_some_29 ?_
        refine gx_ior (pc := 30) dX2_some_30 ?_
        refine gx_istore_n (pc := 31) dX2_some_31 (by decide) rfl ?_
        refine gx_aload_n (pc := 32) dX2_some_32 rfl ?_
        refine gx_dup (pc := 33) dX2_some_33 rfl ?_
        refine gx_get (pc := 34) fX2_132 hr rfl dX2_some_34 ?_
        refine gx_iconst (pc := 37) (v := 1) dX2_some_37 (by decide) ?_
        refine gx_iadd (pc := 38) dX2_some_38 ?_
        rw [nI_1]
        refine gx_put (pc := 39) fX2_132 hr nr (by first | exact Nat.le_of_ble_eq_true rfl | simp) tX2_9 rfl rfl dX2_some_39 ?_
        change gxV _ _ _ _ _ _ _ _ (gxup h1 r (.inr (1, [.ref (r + 1), .ref (r + 2), .ref (r + 3), dv, .ref (r + 4), .int 0, .ref (r + 5), .ref (r + 6), .ref (r + 7), .int (nI (j + 1)), .int dp]))) _
        obtain ⟨R2, E2⟩ := R1.step (spNd_n0 e1)
        generalize gxup h1 r (.inr (1, [.ref (r + 1), .ref (r + 2), .ref (r + 3), dv, .ref (r + 4), .int 0, .ref (r + 5), .ref (r + 6), .ref (r + 7), .int (nI (j + 1)), .int dp])) = h2 at *
        have F2 := F1.aE R1 (E2.ty R1)
        obtain ⟨_, _, _, ⟨hr2, _⟩, _⟩ := id R2
        clear hr
        have hr := hr2
        refine gx_aload_n (pc := 42) dX2_some_42 rfl ?_
        refine kX2_193 (kc := f + 1) (ks := 7 * f + 7) (mc := 0) (ms := 0) (pc := 43) rfl (c_RisName (d := d - 1) (by omega) R2) (gxRc.of rfl hr) (by omega) (Nat.le_of_ble_eq_true rfl) dX2_some_43 (fun r1 h3 e2 => ?_)
        obtain ⟨rfl, e2⟩ := e2
        subst h3
        refine gx_if_ne (pc := 46) 2 dX2_some_46 (by decide) (fun c2 => ?_) (fun c2 => ?_)
        · have z2 := zi_ne0 c2
          have kp : ¬ tkKp (tkK t z (j + 1)) = true := fun e => by rw [e] at z2; cases z2
          rw [if_neg kp] at hX
          exact ih g' (j + 1) _ h2 _ (by omega) (by omega) (by omega) hX R2 (E1.tr E2) F2
        · have z2 := zi_eq0 c2
          have kp : tkKp (tkK t z (j + 1)) = true := by cases e : tkKp (tkK t z (j + 1)); rw [e] at z2; cases z2; rfl
          rw [if_pos kp] at hX
          refine gx_iload_n (pc := 49) dX2_some_49 rfl ?_
          exact gx_ireturn (pc := 50) rfl dX2_some_50 (Or.inl ⟨_, rfl, j + 1, hX, R2, E1.tr E2⟩)
      · have z1 := zi_ne0 c1
        rw [hs, decide_eq_true_eq] at z1
        rw [if_pos z1] at hX
        exact gx_wrong (kc := f) (ks := 7 * f) (pc := 19) (pc1 := 20) (pc2 := 21) (pc5 := 24) 3 rfl rfl rfl rfl (by omega) nz1 R1 rfl dX2_some_19 dX2_some_20 (by decide) dX2_some_21 dX2_some_24 (by decide +kernel) (fun y h' e2 => ⟨_, hX, up e2⟩)
  have hl := hR.lt
  refine gx_iconst (pc := 0) (v := 0) dX2_some_0 (by decide) ?_
  refine gx_istore_n (pc := 1) dX2_some_1 (by decide) rfl ?_
  exact L (n + 1 - i) F i 0 h none (by omega) hFu (Nat.le_refl _) rfl hR (aE.rf _ _) hF
end MAY
