/-! ===== COMPONENT AU: nights go on ===== -/
set_option maxRecDepth 100000
theorem tN_no {A : Nat → Nat → Int32} {P E : Nat} {o : Nat → Nat} {t now : Nat} (hn : now < 2 ^ P) (np : ¬ prt now t) : tN A P E o t now = 0 := by
  unfold tN
  rcases Decidable.em (∃ i, i < P ∧ now.testBit i = true ∧ t.testBit i = false) with ⟨i, h1, h2, h3⟩ | z
  · rw [gN_no h2 h3 P h1]; simp
  · exact absurd (fun i hi => by
      rcases Nat.lt_or_ge i P with y | y
      · cases e : t.testBit i with
        | true => rfl
        | false => exact absurd ⟨i, y, hi, e⟩ z
      · rw [lt_bit6 hn y] at hi; cases hi) np
theorem dif_or {set mo : Nat} (h1 : set ||| mo < 2 ^ 32) (hd : ∀ i, mo.testBit i = true → set.testBit i = false) : dif (set ||| mo) set = mo := by
  apply Nat.eq_of_testBit_eq
  intro i
  rw [dif_bit set i h1, Nat.testBit_or]
  cases e : mo.testBit i with
  | true => rw [hd i e]; rfl
  | false => cases set.testBit i <;> rfl
theorem or_dif {set t : Nat} (h1 : t < 2 ^ 32) (hp : prt set t) : set ||| dif t set = t := by
  apply Nat.eq_of_testBit_eq
  intro i
  rw [Nat.testBit_or, dif_bit set i h1]
  cases e : set.testBit i with
  | true => rw [hp i e]; rfl
  | false => simp
theorem full_bit {P i : Nat} : (2 ^ P - 1).testBit i = decide (i < P) := Nat.testBit_two_pow_sub_one P i
section MAU
variable {G : gxG} {d : Nat} {h : gxH} {x r tk tr gl sl bl py pt ng ft mk lo hi ta fa P S E u v : Nat} {gg : Int64} {A : Nat → Nat → Int32} {s : Nat → Int32} {w : Option gxEv} {b : Bool} {of ne hr : Nat → Int32}
theorem c_Nspreads (dx : x < ng) (dk : tk + 6 ≤ ng ∨ ng + 4 ≤ tk) (dl : hi ≤ ng ∨ ng + 4 ≤ lo) (df : fa < ng ∨ ng + 4 ≤ fa) (hn : gxN G ≤ x) (hd : 7 ≤ d) (hS : (XS x r tk tr gl sl bl py pt ng ft mk lo hi ta fa P S E gg A s w b) h) (hG : NG h ng x u v of ne hr) (hE : eaOk A E) (set : Nat) (hs : set < 2 ^ P) {o acc : Nat → Nat} (hofs : of set = nI (o set)) (hol : o set ≤ 1000000) (hac : ∀ t, t < 64 → ne t = nI (acc t)) : gxM G mX8_spreads d 0 0 [.ref ng, .int (nI set)] h (gxQv (fun h' => (XS x r tk tr gl sl bl py pt ng ft mk lo hi ta fa P S E gg A s w b) h' ∧ zE ng 4 fa h h' ∧ ∃ ne' hr', NG h' ng x u v of ne' hr' ∧ ∀ t, t < 64 → ne' t = nI (acc t + if t < 2 ^ P then tN A P E o t set else 0))) := by
  have hP6 := hS.2.2.2.2.1
  obtain ⟨hsh, h64⟩ := shl_P hP6
  have hpos : 0 < 2 ^ P := Nat.pow_pos (by decide)
  have nhr : gxN G ≤ ng + 3 := by omega
  have nne : gxN G ≤ v := by have := hG.2.1; omega
  have hot : dif (2 ^ P - 1) set < 64 := by have := dif_le (2 ^ P - 1) set; omega
  have otb : ∀ i, (dif (2 ^ P - 1) set).testBit i = (decide (i < P) && !set.testBit i) := fun i => by rw [dif_bit set i (by omega), full_bit]
  refine gxM_of rfl (Nat.le_of_ble_eq_true rfl) rfl ?_
  have L2 : ∀ n mo c ne1 hr1 h1, mo < n → prt mo (dif (2 ^ P - 1) set) → (∀ m, prt m (dif (2 ^ P - 1) set) → (c ≤ m ↔ mo < m)) → (XS x r tk tr gl sl bl py pt ng ft mk lo hi ta fa P S E gg A s w b) h1 → NG h1 ng x u v of ne1 hr1 → (∀ q, q < P → set.testBit q = false → hr1 q = nI (hN A P E set q)) → (∀ t, t < 64 → ne1 t = nI (acc t + if t < 2 ^ P ∧ c ≤ dif t set then tN A P E o t set else 0)) → zE ng 4 fa h h1 → gxV G mX8_spreads d 0 0 57 [some (.ref ng), some (.int (nI set)), some (.int (nI (dif (2 ^ P - 1) set))), some (.int (nI mo))] [] h1 (gxQv (fun h' => (XS x r tk tr gl sl bl py pt ng ft mk lo hi ta fa P S E gg A s w b) h' ∧ zE ng 4 fa h h' ∧ ∃ ne' hr', NG h' ng x u v of ne' hr' ∧ ∀ t, t < 64 → ne' t = nI (acc t + if t < 2 ^ P then tN A P E o t set else 0))) := by
    intro n
    induction n with
    | zero => intro mo c ne1 hr1 h1 hm; omega
    | succ n ih =>
      intro mo c ne1 hr1 h1 hm pm hc S1 G1 hhr hinv E1
      have mo_le := prt_le pm
      have hmo : mo < 2 ^ P := by have := dif_le (2 ^ P - 1) set; omega
      have ht0 : set ||| mo < 2 ^ P := Nat.or_lt_two_pow hs hmo
      have dis : ∀ i, mo.testBit i = true → set.testBit i = false := fun i hi => by
        have := pm i hi
        rw [otb i, Bool.and_eq_true] at this
        cases e : set.testBit i with
        | false => rfl
        | true => rw [e] at this; cases this.2
      have d0 : dif (set ||| mo) set = mo := dif_or (by omega) dis
      obtain ⟨hng, hdd, hof1, hne1, hhr1⟩ := id G1
      have hx := S1.1
      have hof := hof1
      have hne := hne1
      have gl := gN_le (hN_le A P E set) set (set ||| mo) P
      have hch := c_Nchance (G := G) (d := d - 1) (by omega) S1 G1 (hN_le A P E set) set (dif (2 ^ P - 1) set) mo hot (by omega) (by omega) (fun q hq => by rw [otb q, decide_eq_true hq]; rfl) hhr
      have hor := or_nI2 (a := set) (c := mo) (by omega) (by omega)
      have hse : ∀ t, prt set t → dif t set = mo → t < 2 ^ 32 → t = set ||| mo := fun t pr y z => by rw [← y, or_dif z pr]
      generalize hT0 : set ||| mo = t0 at *
      refine gx_aload_n (pc := 57) dX8_spreads_57 rfl ?_
      refine gx_get (pc := 58) fX8_19 hng rfl dX8_spreads_58 ?_
      refine gx_iload_n (pc := 61) dX8_spreads_61 rfl ?_
      refine gx_iload_n (pc := 62) dX8_spreads_62 rfl ?_
      refine gx_ior (pc := 63) dX8_spreads_63 ?_
      rw [hor]
      refine gx_dup2 (pc := 64) dX8_spreads_64 rfl rfl ?_
      refine gx_iald (pc := 65) (t0) hne (by first | rfl | simp only [gx_lit, nI_add, pk_mul]) (by omega) (by decide) dX8_spreads_65 ?_
      refine gx_aload_n (pc := 66) dX8_spreads_66 rfl ?_
      refine gx_get (pc := 67) fX8_15 hng rfl dX8_spreads_67 ?_
      refine gx_iload_n (pc := 70) dX8_spreads_70 rfl ?_
      refine gx_iald (pc := 71) (set) hof (by first | rfl | simp only [gx_lit, nI_add, pk_mul]) (by omega) (by decide) dX8_spreads_71 ?_
      rw [hofs]
      refine gx_i2l (pc := 72) dX8_spreads_72 ?_
      refine gx_aload_n (pc := 73) dX8_spreads_73 rfl ?_
      refine gx_iload_n (pc := 74) dX8_spreads_74 rfl ?_
      refine gx_iload_n (pc := 75) dX8_spreads_75 rfl ?_
      refine kX8_50 (kc := 0) (ks := 0) (mc := 0) (ms := 0) (pc := 76) rfl (hch) (gxRc.of rfl hng) (by omega) (Nat.le_of_ble_eq_true rfl) dX8_spreads_76 (fun r1 h2 e1 => ?_)
      obtain ⟨rfl, e1⟩ := e1
      subst h2
      refine gx_i2l (pc := 79) dX8_spreads_79 ?_
      refine gx_lmul (pc := 80) dX8_spreads_80 ?_
      refine gx_ldc2 (pc := 81) q1671 dX8_spreads_81 ?_
      rw [nI_l (by omega), nI_l (by omega), lN_mul, show (1000000 : Int64) = lN 1000000 from rfl]
      refine gx_ldiv (pc := 84) dX8_spreads_84 ((by decide)) ?_
      rw [lN_dv (Nat.lt_of_le_of_lt (Nat.mul_le_mul hol gl) (by decide)) (by decide)]
      refine gx_l2i (pc := 85) dX8_spreads_85 ?_
      rw [lN_i]
      refine gx_iadd (pc := 86) dX8_spreads_86 ?_
      refine gx_iast (pc := 87) (t0) hne nne (by first | rfl | simp only [gx_lit, nI_add, pk_mul]) (by omega) (by decide) dX8_spreads_87 ?_
      have G2 := G1.une (upd ne1 t0 (ne1 t0 + nI (o set * gN (hN A P E set) set P t0 / 1000000)))
      have E2 := G1.ez (fa := fa) (.inl (0, 64, .inl (upd ne1 t0 (ne1 t0 + nI (o set * gN (hN A P E set) set P t0 / 1000000))))) df (q := v) (by omega)
      have S2 := S1.zE E2 (Or.inl dx) dk dl
      generalize hh2 : gxup h1 v (.inl (0, 64, .inl (upd ne1 t0 (ne1 t0 + nI (o set * gN (hN A P E set) set P t0 / 1000000))))) = h2 at *
      generalize hne2 : upd ne1 t0 (ne1 t0 + nI (o set * gN (hN A P E set) set P t0 / 1000000)) = ne2 at *
      have inv2 : ∀ t, t < 64 → ne2 t = nI (acc t + if t < 2 ^ P ∧ mo ≤ dif t set then tN A P E o t set else 0) := by
        intro t ht
        rw [← hne2]
        simp only [upd]
        by_cases e : t = t0
        · subst e
          rw [if_pos rfl, hinv _ ht, d0, if_neg (fun y => Nat.lt_irrefl mo ((hc mo pm).mp y.2)), if_pos ⟨ht0, Nat.le_refl _⟩, nI_add]
          rfl
        · rw [if_neg e, hinv t ht]
          by_cases z : t < 2 ^ P
          · by_cases pr : prt set t
            · have pd : prt (dif t set) (dif (2 ^ P - 1) set) := fun i hi => by
                rw [dif_bit set i (by omega), Bool.and_eq_true] at hi
                rw [otb i, hi.2, decide_eq_true (by
                  rcases Nat.lt_or_ge i P with y | y
                  · exact y
                  · rw [lt_bit6 z y] at hi; cases hi.1)]
                rfl
              have nm : dif t set ≠ mo := fun y => e (hse t pr y (by omega))
              have iff1 := hc _ pd
              congr 2
              by_cases y : mo < dif t set
              · rw [if_pos ⟨z, iff1.mpr y⟩, if_pos ⟨z, by omega⟩]
              · rw [if_neg (fun q => y (iff1.mp q.2)), if_neg (fun q => by have := q.2; omega)]
            · rw [tN_no hs pr]; congr 2; split <;> split <;> rfl
          · rw [if_neg (fun y => z y.1), if_neg (fun y => z y.1)]
      refine gx_iload_n (pc := 88) dX8_spreads_88 rfl ?_
      refine gx_if_ne (pc := 89) 93 dX8_spreads_89 (by decide) (fun c1 => ?_) (fun c1 => ?_)
      · have hmo0 : mo ≠ 0 := fun y => c1 (by rw [y]; rfl)
        refine gx_iload_n (pc := 93) dX8_spreads_93 rfl ?_
        refine gx_iconst (pc := 94) (v := 1) dX8_spreads_94 (by decide) ?_
        refine gx_isub (pc := 95) dX8_spreads_95 ?_
        rw [show nI mo - 1 = nI (mo - 1) by have := nI_pred (mo - 1); rw [Nat.sub_add_cancel (by omega)] at this; exact this]
        refine gx_iload_n (pc := 96) dX8_spreads_96 rfl ?_
        refine gx_iand (pc := 97) dX8_spreads_97 ?_
        rw [and_nI2 (by omega) (by omega)]
        refine gx_istore_n (pc := 98) dX8_spreads_98 (by decide) rfl ?_
        refine gx_goto (pc := 99) 57 dX8_spreads_99 (by decide) ?_
        have hle : (mo - 1) &&& (dif (2 ^ P - 1) set) ≤ mo - 1 := Nat.and_le_left
        refine ih ((mo - 1) &&& (dif (2 ^ P - 1) set)) mo ne2 hr1 h2 (by omega) (fun i hi => ?_) (fun m pmm => ?_) S2 G2 hhr inv2 (E1.tr E2)
        · rw [Nat.testBit_and, Bool.and_eq_true] at hi
          exact hi.2
        · constructor
          · intro y; omega
          · intro y
            rcases Nat.lt_or_ge m mo with q | q
            · have := sm_le 6 (dif (2 ^ P - 1) set) mo m (by omega) (prt_and.mpr pm) (prt_and.mpr pmm) q
              omega
            · exact q
      · have hmo0 : mo = 0 := (nI_eq (b := 0) (by omega) (by decide)).mp c1
        subst hmo0
        exact gx_return (pc := 92) rfl dX8_spreads_92 (⟨rfl, ⟨S2, E1.tr E2, ne2, hr1, G2, fun t ht => by rw [inv2 t ht]; congr 2; by_cases z : t < 2 ^ P; rw [if_pos z, if_pos ⟨z, Nat.zero_le _⟩]; rw [if_neg z, if_neg (fun y => z y.1)]⟩⟩)
  have L1 : ∀ m q hr1 h1, m + q = P → (XS x r tk tr gl sl bl py pt ng ft mk lo hi ta fa P S E gg A s w b) h1 → NG h1 ng x u v of ne hr1 → (∀ j, j < q → set.testBit j = false → hr1 j = nI (hN A P E set j)) → zE ng 4 fa h h1 → gxV G mX8_spreads d 0 0 18 [some (.ref ng), some (.int (nI set)), some (.int (nI (dif (2 ^ P - 1) set))), some (.int (nI q))] [] h1 (gxQv (fun h' => (XS x r tk tr gl sl bl py pt ng ft mk lo hi ta fa P S E gg A s w b) h' ∧ zE ng 4 fa h h' ∧ ∃ ne' hr', NG h' ng x u v of ne' hr' ∧ ∀ t, t < 64 → ne' t = nI (acc t + if t < 2 ^ P then tN A P E o t set else 0))) := by
    intro m
    induction m with
    | zero =>
      intro q hr1 h1 hm S1 G1 hhr E1
      have : q = P := by omega
      subst this
      obtain ⟨hng, hdd, hof1, hne1, hhr1⟩ := id G1
      have hx := S1.1
      refine gx_iload_n (pc := 18) dX8_spreads_18 rfl ?_
      refine gx_aload_n (pc := 19) dX8_spreads_19 rfl ?_
      refine gx_get (pc := 20) fX8_3 hng rfl dX8_spreads_20 ?_
      refine kX8_35 (kc := 0) (ks := 0) (mc := 0) (ms := 0) (pc := 23) rfl (c_people (d := d - 1) (by omega) S1.1.O S1.2) (gxRc.of rfl hx) (by omega) (Nat.le_of_ble_eq_true rfl) dX8_spreads_23 (fun r1 h2 e1 => ?_)
      obtain ⟨rfl, e1⟩ := e1
      subst h2
      refine gx_icmp_ge (pc := 26) 55 dX8_spreads_26 (by decide) (fun c1 => ?_) (fun c1 => ?_)
      · refine gx_iload_n (pc := 55) dX8_spreads_55 rfl ?_
        refine gx_istore_n (pc := 56) dX8_spreads_56 (by decide) rfl ?_
        refine L2 (dif (2 ^ q - 1) set + 1) (dif (2 ^ q - 1) set) (dif (2 ^ q - 1) set + 1) ne hr1 h1 (by omega) (fun _ h => h) (fun m pm => ?_) S1 G1 hhr (fun t ht => ?_) E1
        · have := prt_le pm; omega
        · rw [hac t ht]
          congr 1
          by_cases z : t < 2 ^ q
          · have pd : prt (dif t set) (dif (2 ^ q - 1) set) := fun i hi => by
              rw [dif_bit set i (by omega), Bool.and_eq_true] at hi
              rw [otb i, hi.2, decide_eq_true (by
                rcases Nat.lt_or_ge i q with y | y
                · exact y
                · rw [lt_bit6 z y] at hi; cases hi.1)]
              rfl
            have := prt_le pd
            rw [if_neg (fun y => by have := y.2; omega)]; rfl
          · rw [if_neg (fun y => z y.1)]; rfl
      · exact absurd (nI_le (Nat.le_refl _) (by omega)) c1
    | succ m ih =>
      intro q hr1 h1 hm S1 G1 hhrJ E1
      have hqP : q < P := by omega
      obtain ⟨hng, hdd, hof1, hne1, hhr1⟩ := id G1
      have hx := S1.1
      have hhr0 := hhr1
      refine gx_iload_n (pc := 18) dX8_spreads_18 rfl ?_
      refine gx_aload_n (pc := 19) dX8_spreads_19 rfl ?_
      refine gx_get (pc := 20) fX8_3 hng rfl dX8_spreads_20 ?_
      refine kX8_35 (kc := 0) (ks := 0) (mc := 0) (ms := 0) (pc := 23) rfl (c_people (d := d - 1) (by omega) S1.1.O S1.2) (gxRc.of rfl hx) (by omega) (Nat.le_of_ble_eq_true rfl) dX8_spreads_23 (fun r1 h2 e1 => ?_)
      obtain ⟨rfl, e1⟩ := e1
      subst h2
      refine gx_icmp_ge (pc := 26) 55 dX8_spreads_26 (by decide) (fun c1 => ?_) (fun c1 => ?_)
      · exact absurd c1 (nI_ge hqP (by omega))
      · refine gx_iload_n (pc := 29) dX8_spreads_29 rfl ?_
        refine gx_iload_n (pc := 30) dX8_spreads_30 rfl ?_
        refine kX8_43 (kc := 0) (ks := 0) (mc := 0) (ms := 0) (pc := 31) rfl (c_has (d := d - 1) (nI (dif (2 ^ P - 1) set)) (nI q)) (by omega) (Nat.le_of_ble_eq_true rfl) dX8_spreads_31 (fun r1 h2 e1 => ?_)
        obtain ⟨rfl, e1⟩ := e1
        subst h2
        refine gx_if_eq (pc := 34) 49 dX8_spreads_34 (by decide) (fun c2 => ?_) (fun c2 => ?_)
        · have z := zi_eq0 c2
          rw [Jvm.Pilot.CPaidSecretsLaw_law_r4827_afc432.hs, decide_eq_false_iff_not, bit64 hot (by omega), otb q, decide_eq_true hqP] at z
          refine gx_iincc (pc := 49) (c := 1) dX8_spreads_49 rfl (by decide) (by decide) rfl ?_
          refine gx_goto (pc := 52) 18 dX8_spreads_52 (by decide) ?_
          rw [nI_1]
          refine ih (q + 1) hr1 h1 (by omega) S1 G1 (fun j hj y => ?_) E1
          by_cases e : j = q
          · subst e; rw [y] at z; exact absurd rfl z
          · exact hhrJ j (by omega) y
        · refine gx_aload_n (pc := 37) dX8_spreads_37 rfl ?_
          refine gx_get (pc := 38) fX8_22 hng rfl dX8_spreads_38 ?_
          refine gx_iload_n (pc := 41) dX8_spreads_41 rfl ?_
          refine gx_aload_n (pc := 42) dX8_spreads_42 rfl ?_
          refine gx_iload_n (pc := 43) dX8_spreads_43 rfl ?_
          refine gx_iload_n (pc := 44) dX8_spreads_44 rfl ?_
          refine kX8_47 (kc := 0) (ks := 0) (mc := 0) (ms := 0) (pc := 45) rfl (c_Nhears (d := d - 1) (by omega) S1 G1 hE set q (by omega) (by omega)) (gxRc.of rfl hng) (by omega) (Nat.le_of_ble_eq_true rfl) dX8_spreads_45 (fun r1 h2 e1 => ?_)
          obtain ⟨rfl, e1⟩ := e1
          subst h2
          have hhr := hhr0
          refine gx_iast (pc := 48) (q) hhr nhr (by first | rfl | simp only [gx_lit, nI_add, pk_mul]) (by omega) (by decide) dX8_spreads_48 ?_
          have G2 := G1.uhr (upd hr1 q (nI (hN A P E set q)))
          have E2 := G1.ez (fa := fa) (.inl (0, 6, .inl (upd hr1 q (nI (hN A P E set q))))) df (q := ng + 3) (by omega)
          have S2 := S1.zE E2 (Or.inl dx) dk dl
          generalize gxup h1 (ng + 3) (.inl (0, 6, .inl (upd hr1 q (nI (hN A P E set q))))) = h2 at *
          refine gx_iincc (pc := 49) (c := 1) dX8_spreads_49 rfl (by decide) (by decide) rfl ?_
          refine gx_goto (pc := 52) 18 dX8_spreads_52 (by decide) ?_
          rw [nI_1]
          refine ih (q + 1) _ h2 (by omega) S2 G2 (fun j hj y => ?_) (E1.tr E2)
          simp only [upd]
          by_cases e : j = q
          · subst e; rw [if_pos rfl]
          · rw [if_neg e]
            exact hhrJ j (by omega) y
  obtain ⟨hng, hdd, hof1, hne1, hhr1⟩ := id hG
  have hx := hS.1
  refine gx_iconst (pc := 0) (v := 1) dX8_spreads_0 (by decide) ?_
  refine gx_aload_n (pc := 1) dX8_spreads_1 rfl ?_
  refine gx_get (pc := 2) fX8_3 hng rfl dX8_spreads_2 ?_
  refine kX8_35 (kc := 0) (ks := 0) (mc := 0) (ms := 0) (pc := 5) rfl (c_people (d := d - 1) (by omega) hS.1.O hS.2) (gxRc.of rfl hx) (by omega) (Nat.le_of_ble_eq_true rfl) dX8_spreads_5 (fun r1 h1 e1 => ?_)
  obtain ⟨rfl, e1⟩ := e1
  subst h1
  refine gx_ishl (pc := 8) dX8_spreads_8 ?_
  rw [hsh]
  refine gx_iconst (pc := 9) (v := 1) dX8_spreads_9 (by decide) ?_
  refine gx_isub (pc := 10) dX8_spreads_10 ?_
  rw [show nI (2 ^ P) - 1 = nI (2 ^ P - 1) by have := nI_pred (2 ^ P - 1); rw [Nat.sub_add_cancel (by omega)] at this; exact this]
  refine gx_iload_n (pc := 11) dX8_spreads_11 rfl ?_
  refine gx_iconst (pc := 12) (v := (-1)) dX8_spreads_12 (by decide) ?_
  refine gx_ixor (pc := 13) dX8_spreads_13 ?_
  refine gx_iand (pc := 14) dX8_spreads_14 ?_
  rw [dif_eq set (by omega)]
  refine gx_istore_n (pc := 15) dX8_spreads_15 (by decide) rfl ?_
  refine gx_iconst (pc := 16) (v := 0) dX8_spreads_16 (by decide) ?_
  refine gx_istore_n (pc := 17) dX8_spreads_17 (by decide) rfl ?_
  exact L1 P 0 hr h (by omega) hS hG (fun j hj => by omega) (zE.rf _ _ _ _)
end MAU
