/-! ===== COMPONENT E: the worth of a secret for itself ===== -/
set_option maxRecDepth 100000
def spBs (w : Option gxEv) (A : Nat → Nat → Int32) (P k : Nat) (set age high : Int32) : Int32 :=
  match w with
  | none => if 4 < spKn (fun p => decide (¬ A 13 p = 3)) set P then 0 else A 18 k / spMax 1 (spKn (fun p => decide (¬ A 13 p = 3)) set P)
  | some ev => spBt (ev (A 18 k) (spKn (fun p => decide (¬ A 13 p = 3)) set P) age high) 0 999
theorem spBs_base (w : Option gxEv) (A : Nat → Nat → Int32) (P k : Nat) (set : Int32) : spBs w A P k set (A 50 85) (A 50 (70 + (A 17 k).toNatClampNeg)) = spBase w A P k set := by
  unfold spBs spBase; rfl
theorem bt_mm (x : Int32) : (if 0 < (if x < 999 then x else 999) then (if x < 999 then x else 999) else 0) = spBt x 0 999 := by
  unfold spBt
  by_cases h1 : x < 0
  · rw [if_pos h1]
    have : x < 999 := Int32.lt_trans h1 (by decide)
    rw [if_pos this, if_neg (Int32.not_lt.mpr (Int32.le_of_lt h1))]
  · rw [if_neg h1]
    by_cases h2 : x < 999
    · rw [if_pos h2, if_neg (Int32.not_lt.mpr (Int32.le_of_lt h2))]
      by_cases h3 : 0 < x
      · rw [if_pos h3]
      · rw [if_neg h3]
        exact (Int32.le_antisymm (Int32.not_lt.mp h3) (Int32.not_lt.mp h1)).symm
    · rw [if_neg h2, if_pos (by decide)]
      by_cases h3 : 999 < x
      · rw [if_pos h3]
      · rw [if_neg h3]
        exact Int32.le_antisymm (Int32.not_lt.mp h2) (Int32.not_lt.mp h3)
section LE
variable {G : gxG} {d : Nat} {h : gxH} {lo hi ta fa P S E : Nat} {A : Nat → Nat → Int32} {w : Option gxEv}
theorem c_bare (hN : gxN G ≤ lo) (hd : 78 ≤ d) (hT : TW h lo hi ta fa A P S E w) (hP6 : P ≤ 6) (hS10 : S ≤ 10) (k : Nat) (hk : k < S) (set age high : Int32) : gxM G mX4_bare d 0 0 [.ref ta, .int (nI k), .int set, .int age, .int high] h (gxQi (fun r h' => r = spBs w A P k set age high ∧ fE fa h h')) := by
  have hT0 := hT
  obtain ⟨i1, i2, hf, nl, ol, pl, sl, el, fo, wv, pa, sa, ea, i3, ht, hfo, hpl, hsl, hel, hpa, hsa, hea, hwv⟩ := hT
  have hsl0 := hsl.ls
  have hsl := hsl0
  obtain ⟨_, _, _, _, hsl, _⟩ := hsl
  obtain ⟨_, hse⟩ := hsa k hk
  refine gxM_of rfl (Nat.le_of_ble_eq_true rfl) rfl ?_
  refine gx_aload_n (pc := 0) dX4_bare_0 rfl ?_
  refine gx_iload_n (pc := 1) dX4_bare_1 rfl ?_
  refine kX4_83 (kc := 0) (ks := 0) (mc := 0) (ms := 0) (pc := 2) rfl (c_knowers (d := d - 1) (by omega) hT0 hP6 set) (gxRc.of rfl ht) (by omega) (Nat.le_of_ble_eq_true rfl) dX4_bare_2 (fun r1 h1 e1 => ?_)
  obtain ⟨rfl, e1⟩ := e1
  subst h1
  refine gx_istore (pc := 5) dX4_bare_5 (by decide) rfl ?_
  refine gx_aload_n (pc := 7) dX4_bare_7 rfl ?_
  refine gx_get (pc := 8) fX4_26 ht rfl dX4_bare_8 ?_
  refine gx_iload_n (pc := 11) dX4_bare_11 rfl ?_
  refine kX4_43 (kc := 0) (ks := 0) (mc := 0) (ms := 0) (pc := 12) rfl (c_get (d := d - 1) (by omega) hsl0 k hk) (gxRc.of rfl hsl) (by omega) (Nat.le_of_ble_eq_true rfl) dX4_bare_12 (fun r1 h1 e1 => ?_)
  obtain ⟨rfl, e1⟩ := e1
  subst h1
  generalize hn : spKn (fun p => decide (¬ A 13 p = 3)) set P = n
  refine gx_castS (pc := 15) hse rfl q1363 dX4_bare_15 ?_
  refine gx_get (pc := 18) fX4_88 hse rfl dX4_bare_18 ?_
  refine gx_istore (pc := 21) dX4_bare_21 (by decide) rfl ?_
  refine gx_aload_n (pc := 23) dX4_bare_23 rfl ?_
  refine gx_get (pc := 24) fX4_92 ht rfl dX4_bare_24 ?_
  cases w with
  | none =>
    have hwv : wv = .null := hwv
    subst hwv
    refine gx_ifnonnullN (pc := 27) dX4_bare_27 ?_
    refine gx_iload (pc := 30) dX4_bare_30 rfl ?_
    refine gx_iconst (pc := 32) (v := 5) dX4_bare_32 (by decide) ?_
    refine gx_icmp_lt (pc := 33) 40 dX4_bare_33 (by decide) (fun c1 => ?_) (fun c1 => ?_)
    · have c4 : ¬ 4 < n := by
        intro hh
        have : (5 : Int32) ≤ n := by
          rw [Int32.le_iff_toInt_le]; rw [Int32.lt_iff_toInt_lt] at hh
          have e4 : (4 : Int32).toInt = 4 := by decide
          have e5 : (5 : Int32).toInt = 5 := by decide
          omega
        exact absurd c1 (Int32.not_lt.mpr this)
      refine gx_iload (pc := 40) dX4_bare_40 rfl ?_
      refine gx_iconst (pc := 42) (v := 1) dX4_bare_42 (by decide) ?_
      refine gx_iload (pc := 43) dX4_bare_43 rfl ?_
      refine kX4_96 (kc := 0) (ks := 0) (mc := 0) (ms := 0) (pc := 45) rfl (c_Jmax (d := d - 1) 1 n) (by omega) (Nat.le_of_ble_eq_true rfl) dX4_bare_45 (fun r1 h1 e1 => ?_)
      obtain ⟨rfl, e1⟩ := e1
      subst h1
      have hne : ¬ (if 1 < n then n else 1) = 0 := by
        split
        · rename_i hh; intro e; rw [e] at hh; exact absurd hh (by decide)
        · decide
      refine gx_idiv (pc := 48) dX4_bare_48 (hne) ?_
      exact gx_ireturn (pc := 49) rfl dX4_bare_49 (⟨_, rfl, ⟨by show _ = (if 4 < spKn (fun p => decide (¬ A 13 p = 3)) set P then 0 else A 18 k / spMax 1 (spKn (fun p => decide (¬ A 13 p = 3)) set P)); rw [hn, if_neg c4]; rfl, fE.rf _ _⟩⟩)
    · have c4 : 4 < n := by
        have := Int32.not_lt.mp c1
        rw [Int32.lt_iff_toInt_lt]; rw [Int32.le_iff_toInt_le] at this
        have e4 : (4 : Int32).toInt = 4 := by decide
        have e5 : (5 : Int32).toInt = 5 := by decide
        omega
      refine gx_iconst (pc := 36) (v := 0) dX4_bare_36 (by decide) ?_
      refine gx_goto (pc := 37) 49 dX4_bare_37 (by decide) ?_
      exact gx_ireturn (pc := 49) rfl dX4_bare_49 (⟨_, rfl, ⟨by show _ = (if 4 < spKn (fun p => decide (¬ A 13 p = 3)) set P then 0 else A 18 k / spMax 1 (spKn (fun p => decide (¬ A 13 p = 3)) set P)); rw [hn, if_pos c4], fE.rf _ _⟩⟩)
  | some ev =>
    obtain ⟨r, m, hm, rfl, hx⟩ := hwv
    obtain ⟨f, hfa⟩ := hf
    have nfa : gxN G ≤ fa := Nat.le_trans hN i2.1
    have tne : ta ≠ fa := fun e => by rw [e, hfa] at ht; cases ht
    have fne : fo ≠ fa := fun e => by rw [e, hfa] at hfo; cases hfo
    refine gx_ifnonnull (pc := 27) 50 dX4_bare_27 (by decide) ?_
    refine gx_aload_n (pc := 50) dX4_bare_50 rfl ?_
    refine gx_get (pc := 51) fX4_35 ht rfl dX4_bare_51 ?_
    refine gx_get (pc := 54) fX4_99 hfo rfl dX4_bare_54 ?_
    refine gx_iconst (pc := 57) (v := 0) dX4_bare_57 (by decide) ?_
    refine gx_iload (pc := 58) dX4_bare_58 rfl ?_
    refine gx_iast (pc := 60) (0) hfa nfa (by first | rfl | simp only [gx_lit, nI_add, pk_mul]) (by omega) (by decide) dX4_bare_60 ?_
    have E1 := fE.up (fa := fa) h (upd f 0 (A 18 k))
    have hfa1 := gxup_self h fa (.inl (0, 4, .inl (upd f 0 (A 18 k))))
    have ht1 := (E1.2.1 ta tne).trans ht
    have ho1 := (E1.2.1 fo fne).trans hfo
    have x1 := hx.fr (fun q _ _ hq => E1.2.1 q hq) ⟨f, hfa⟩
    generalize gxup h fa (.inl (0, 4, .inl (upd f 0 (A 18 k)))) = h1 at *
    clear ht hfo hfa
    have ht := ht1
    have hfo := ho1
    have hfa := hfa1
    refine gx_aload_n (pc := 61) dX4_bare_61 rfl ?_
    refine gx_get (pc := 62) fX4_35 ht rfl dX4_bare_62 ?_
    refine gx_get (pc := 65) fX4_99 hfo rfl dX4_bare_65 ?_
    refine gx_iconst (pc := 68) (v := 1) dX4_bare_68 (by decide) ?_
    refine gx_iload (pc := 69) dX4_bare_69 rfl ?_
    refine gx_iast (pc := 71) (1) hfa nfa (by first | rfl | simp only [gx_lit, nI_add, pk_mul]) (by omega) (by decide) dX4_bare_71 ?_
    have E2 := fE.up (fa := fa) h1 (upd (upd f 0 (A 18 k)) 1 n)
    have hfa2 := gxup_self h1 fa (.inl (0, 4, .inl (upd (upd f 0 (A 18 k)) 1 n)))
    have ht2 := (E2.2.1 ta tne).trans ht
    have ho2 := (E2.2.1 fo fne).trans hfo
    have x2 := x1.fr (fun q _ _ hq => E2.2.1 q hq) ⟨_, hfa⟩
    have E2 := E1.tr E2
    generalize gxup h1 fa (.inl (0, 4, .inl (upd (upd f 0 (A 18 k)) 1 n))) = h2 at *
    clear ht hfo hfa ht1 ho1 hfa1 x1 E1
    have ht := ht2
    have hfo := ho2
    have hfa := hfa2
    refine gx_aload_n (pc := 72) dX4_bare_72 rfl ?_
    refine gx_get (pc := 73) fX4_35 ht rfl dX4_bare_73 ?_
    refine gx_get (pc := 76) fX4_99 hfo rfl dX4_bare_76 ?_
    refine gx_iconst (pc := 79) (v := 2) dX4_bare_79 (by decide) ?_
    refine gx_iload_n (pc := 80) dX4_bare_80 rfl ?_
    refine gx_iast (pc := 81) (2) hfa nfa (by first | rfl | simp only [gx_lit, nI_add, pk_mul]) (by omega) (by decide) dX4_bare_81 ?_
    have E3 := fE.up (fa := fa) h2 (upd (upd (upd f 0 (A 18 k)) 1 n) 2 age)
    have hfa3 := gxup_self h2 fa (.inl (0, 4, .inl (upd (upd (upd f 0 (A 18 k)) 1 n) 2 age)))
    have ht3 := (E3.2.1 ta tne).trans ht
    have ho3 := (E3.2.1 fo fne).trans hfo
    have x3 := x2.fr (fun q _ _ hq => E3.2.1 q hq) ⟨_, hfa⟩
    have E3 := E2.tr E3
    generalize gxup h2 fa (.inl (0, 4, .inl (upd (upd (upd f 0 (A 18 k)) 1 n) 2 age))) = h3 at *
    clear ht hfo hfa ht2 ho2 hfa2 x2 E2
    have ht := ht3
    have hfo := ho3
    have hfa := hfa3
    refine gx_aload_n (pc := 82) dX4_bare_82 rfl ?_
    refine gx_get (pc := 83) fX4_35 ht rfl dX4_bare_83 ?_
    refine gx_get (pc := 86) fX4_99 hfo rfl dX4_bare_86 ?_
    refine gx_iconst (pc := 89) (v := 3) dX4_bare_89 (by decide) ?_
    refine gx_iload (pc := 90) dX4_bare_90 rfl ?_
    refine gx_iast (pc := 92) (3) hfa nfa (by first | rfl | simp only [gx_lit, nI_add, pk_mul]) (by omega) (by decide) dX4_bare_92 ?_
    have E4 := fE.up (fa := fa) h3 (upd (upd (upd (upd f 0 (A 18 k)) 1 n) 2 age) 3 high)
    have hfa4 := gxup_self h3 fa (.inl (0, 4, .inl (upd (upd (upd (upd f 0 (A 18 k)) 1 n) 2 age) 3 high)))
    have ht4 := (E4.2.1 ta tne).trans ht
    have ho4 := (E4.2.1 fo fne).trans hfo
    have x4 := x3.fr (fun q _ _ hq => E4.2.1 q hq) ⟨_, hfa⟩
    have E4 := E3.tr E4
    generalize gxup h3 fa (.inl (0, 4, .inl (upd (upd (upd (upd f 0 (A 18 k)) 1 n) 2 age) 3 high))) = h4 at *
    clear ht hfo hfa ht3 ho3 hfa3 x3 E3
    have ht := ht4
    have hfo := ho4
    have hfa := hfa4
    refine gx_iconst (pc := 93) (v := 0) dX4_bare_93 (by decide) ?_
    refine gx_sipush (pc := 94) (v := 999) dX4_bare_94 (by decide) ?_
    refine gx_aload_n (pc := 97) dX4_bare_97 rfl ?_
    refine gx_get (pc := 98) fX4_92 ht rfl dX4_bare_98 ?_
    refine gx_aload_n (pc := 101) dX4_bare_101 rfl ?_
    refine gx_get (pc := 102) fX4_35 ht rfl dX4_bare_102 ?_
    have hX := ex_of (G := G) hfo hfa m r ev (d - 1) x4 (by omega)
    refine kEX4_102 (pc := 105) hX rfl (by omega) (Nat.le_of_ble_eq_true rfl) dX4_bare_105 ?_
    have e : ev (upd (upd (upd (upd f 0 (A 18 k)) 1 n) 2 age) 3 high 0) (upd (upd (upd (upd f 0 (A 18 k)) 1 n) 2 age) 3 high 1) (upd (upd (upd (upd f 0 (A 18 k)) 1 n) 2 age) 3 high 2) (upd (upd (upd (upd f 0 (A 18 k)) 1 n) 2 age) 3 high 3) = ev (A 18 k) n age high := by simp [upd]
    rw [e]
    refine kX4_69 (kc := 0) (ks := 0) (mc := 0) (ms := 0) (pc := 108) rfl (c_Jmin (d := d - 1) 999 _) (by omega) (Nat.le_of_ble_eq_true rfl) dX4_bare_108 (fun r1 h5 e5 => ?_)
    obtain ⟨rfl, e5⟩ := e5
    subst h5
    refine kX4_96 (kc := 0) (ks := 0) (mc := 0) (ms := 0) (pc := 111) rfl (c_Jmax (d := d - 1) 0 _) (by omega) (Nat.le_of_ble_eq_true rfl) dX4_bare_111 (fun r1 h5 e5 => ?_)
    obtain ⟨rfl, e5⟩ := e5
    subst h5
    exact gx_ireturn (pc := 114) rfl dX4_bare_114 (⟨_, rfl, ⟨by rw [bt_mm]; show _ = spBt (ev (A 18 k) (spKn (fun p => decide (¬ A 13 p = 3)) set P) age high) 0 999; rw [hn], E4⟩⟩)
end LE
