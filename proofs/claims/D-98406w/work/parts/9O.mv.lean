/-! ===== COMPONENT AV: nights gone, mean, holds ===== -/
set_option maxRecDepth 100000
section MAV
variable {G : gxG} {d : Nat} {h : gxH} {x r tk tr gl sl bl py pt ng ft mk lo hi ta fa P S E u v : Nat} {gg : Int64} {A : Nat → Nat → Int32} {s : Nat → Int32} {w : Option gxEv} {b : Bool} {of ne hr : Nat → Int32}
theorem c_Ngoes (dx : x < ng) (dk : tk + 6 ≤ ng ∨ ng + 4 ≤ tk) (dl : hi ≤ ng ∨ ng + 4 ≤ lo) (df : fa < ng ∨ ng + 4 ≤ fa) (hn : gxN G ≤ x) (hd : 9 ≤ d) (hS : (XS x r tk tr gl sl bl py pt ng ft mk lo hi ta fa P S E gg A s w b) h) (hG : NG h ng x u v of ne hr) (hE : eaOk A E) (k x0 n : Nat) (hk : k < S) (hx0 : x0 < 64) (hkx : s k = nI x0) (hn30 : n ≤ 30) : gxM G mX8_goes d 0 0 [.ref ng, .int (nI k), .int (nI n)] h (gxQv (fun h' => (XS x r tk tr gl sl bl py pt ng ft mk lo hi ta fa P S E gg A s w b) h' ∧ zE ng 4 fa h h' ∧ ∃ u' v' of' ne' hr', NG h' ng x u' v' of' ne' hr' ∧ ∀ i, i < 64 → of' i = nI (nD A P E x0 n i))) := by
  have hP6 := hS.2.2.2.2.1
  have hS10 := hS.2.2.2.2.2.2.1
  obtain ⟨hsh, h64⟩ := shl_P hP6
  have hpos : 0 < 2 ^ P := Nat.pow_pos (by decide)
  have nng : gxN G ≤ ng := by omega
  refine gxM_of rfl (Nat.le_of_ble_eq_true rfl) rfl ?_
  have LB : ∀ m j u v of1 ne1 hr1 h1 (x4 : Option Value), m + j = n → (XS x r tk tr gl sl bl py pt ng ft mk lo hi ta fa P S E gg A s w b) h1 → NG h1 ng x u v of1 ne1 hr1 → (∀ i, i < 64 → of1 i = nI (nD A P E x0 j i)) → zE ng 4 fa h h1 → gxV G mX8_goes d 0 0 44 [some (.ref ng), some (.int (nI k)), some (.int (nI n)), some (.int (nI j)), x4] [] h1 (gxQv (fun h' => (XS x r tk tr gl sl bl py pt ng ft mk lo hi ta fa P S E gg A s w b) h' ∧ zE ng 4 fa h h' ∧ ∃ u' v' of' ne' hr', NG h' ng x u' v' of' ne' hr' ∧ ∀ i, i < 64 → of' i = nI (nD A P E x0 n i))) := by
    intro m
    induction m with
    | zero =>
      intro j u v of1 ne1 hr1 h1 x4 hm S1 G1 hof1 E1
      have : j = n := by omega
      subst this
      refine gx_iload_n (pc := 44) dX8_goes_44 rfl ?_
      refine gx_iload_n (pc := 45) dX8_goes_45 rfl ?_
      refine gx_icmp_ge (pc := 46) 138 dX8_goes_46 (by decide) (fun c1 => ?_) (fun c1 => ?_)
      · exact gx_return (pc := 138) rfl dX8_goes_138 (⟨rfl, ⟨S1, E1, u, v, of1, ne1, hr1, G1, hof1⟩⟩)
      · exact absurd (nI_le (Nat.le_refl _) (by omega)) c1
    | succ m ihB =>
      intro j u v of1 ne1 hr1 h1 x4 hm S1 G1 hof1 E1
      have hol : ∀ i, i < 64 → nD A P E x0 j i ≤ 1000000 := fun i hi => nD_le A hP6 E x0 j hi
      have LD : ∀ m set ne2 hr2 h2, m + set = 2 ^ P → (XS x r tk tr gl sl bl py pt ng ft mk lo hi ta fa P S E gg A s w b) h2 → NG h2 ng x u v of1 ne2 hr2 → (∀ t, t < 64 → ne2 t = nI (if t < 2 ^ P then sN (tN A P E (nD A P E x0 j) t) set else 0)) → zE ng 4 fa h h2 → gxV G mX8_goes d 0 0 76 [some (.ref ng), some (.int (nI k)), some (.int (nI n)), some (.int (nI j)), some (.int (nI set))] [] h2 (gxQv (fun h' => (XS x r tk tr gl sl bl py pt ng ft mk lo hi ta fa P S E gg A s w b) h' ∧ zE ng 4 fa h h' ∧ ∃ u' v' of' ne' hr', NG h' ng x u' v' of' ne' hr' ∧ ∀ i, i < 64 → of' i = nI (nD A P E x0 n i))) := by
        intro m2
        induction m2 with
        | zero =>
          intro set ne2 hr2 h2 hm2 S2 G2 hne2 E2
          have : set = 2 ^ P := by omega
          subst this
          obtain ⟨hng, hdd, hof, hne, hhr⟩ := id G2
          have hx := S2.1
          refine gx_iload (pc := 76) dX8_goes_76 rfl ?_
          refine gx_iconst (pc := 78) (v := 1) dX8_goes_78 (by decide) ?_
          refine gx_aload_n (pc := 79) dX8_goes_79 rfl ?_
          refine gx_get (pc := 80) fX8_3 hng rfl dX8_goes_80 ?_
          refine kX8_35 (kc := 0) (ks := 0) (mc := 0) (ms := 0) (pc := 83) rfl (c_people (d := d - 1) (by omega) S2.1.O S2.2) (gxRc.of rfl hx) (by omega) (Nat.le_of_ble_eq_true rfl) dX8_goes_83 (fun r1 h3 e1 => ?_)
          obtain ⟨rfl, e1⟩ := e1
          subst h3
          refine gx_ishl (pc := 86) dX8_goes_86 ?_
          rw [hsh]
          refine gx_icmp_ge (pc := 87) 112 dX8_goes_87 (by decide) (fun c1 => ?_) (fun c1 => ?_)
          · refine gx_aload_n (pc := 112) dX8_goes_112 rfl ?_
            refine gx_get (pc := 113) fX8_15 hng rfl dX8_goes_113 ?_
            refine gx_astore (pc := 116) dX8_goes_116 (by decide) rfl ?_
            refine gx_aload_n (pc := 118) dX8_goes_118 rfl ?_
            refine gx_aload_n (pc := 119) dX8_goes_119 rfl ?_
            refine gx_get (pc := 120) fX8_19 hng rfl dX8_goes_120 ?_
            refine gx_put (pc := 123) fX8_15 hng nng (by first | exact Nat.le_of_ble_eq_true rfl | simp) tX8_0 rfl rfl dX8_goes_123 ?_
            change gxV _ _ _ _ _ _ _ _ (gxup h2 ng (.inr (7, [.ref v, .ref v, .ref (ng + 3), .ref x]))) _
            have hng2 : (gxup h2 ng (.inr (7, [.ref v, .ref v, .ref (ng + 3), .ref x]))).1 ng = some (.inr (7, [.ref v, .ref v, .ref (ng + 3), .ref x])) := gxup_self _ _ _
            have E3 := G2.ez (fa := fa) (.inr (7, [.ref v, .ref v, .ref (ng + 3), .ref x])) df (q := ng) (by omega)
            have S3 := S2.zE E3 (Or.inl dx) dk dl
            have f3 : ∀ q, q ≠ ng → (gxup h2 ng (.inr (7, [.ref v, .ref v, .ref (ng + 3), .ref x]))).1 q = h2.1 q := fun q hq => gxup_ne hq
            generalize gxup h2 ng (.inr (7, [.ref v, .ref v, .ref (ng + 3), .ref x])) = h3 at *
            have hng := hng2
            refine gx_aload_n (pc := 126) dX8_goes_126 rfl ?_
            refine gx_aload (pc := 127) dX8_goes_127 rfl ?_
            refine gx_put (pc := 129) fX8_19 hng nng (by first | exact Nat.le_of_ble_eq_true rfl | simp) tX8_1 rfl rfl dX8_goes_129 ?_
            change gxV _ _ _ _ _ _ _ _ (gxup h3 ng (.inr (7, [.ref v, .ref u, .ref (ng + 3), .ref x]))) _
            have G4 : NG (gxup h3 ng (.inr (7, [.ref v, .ref u, .ref (ng + 3), .ref x]))) ng x v u ne2 of1 hr2 := ⟨gxup_self _ _ _, by omega, by rw [gxup_ne (by omega), f3 v (by omega)]; exact hne, by rw [gxup_ne (by omega), f3 u (by omega)]; exact hof, by rw [gxup_ne (by omega), f3 _ (by omega)]; exact hhr⟩
            have E4 : zE ng 4 fa h3 (gxup h3 ng (.inr (7, [.ref v, .ref u, .ref (ng + 3), .ref x]))) := zE.up (i := 0) h3 _ (by omega) df
            have S4 := S3.zE E4 (Or.inl dx) dk dl
            generalize gxup h3 ng (.inr (7, [.ref v, .ref u, .ref (ng + 3), .ref x])) = h4 at *
            refine gx_iincc (pc := 132) (c := 1) dX8_goes_132 rfl (by decide) (by decide) rfl ?_
            refine gx_goto (pc := 135) 44 dX8_goes_135 (by decide) ?_
            rw [nI_1]
            refine ihB (j + 1) v u ne2 of1 hr2 h4 _ (by omega) S4 G4 (fun i hi => ?_) ((E2.tr E3).tr E4)
            rw [hne2 i hi]; rfl
          · exact absurd (nI_le (Nat.le_refl _) (by omega)) c1
        | succ m2 ihD =>
          intro set ne2 hr2 h2 hm2 S2 G2 hne2 E2
          have hsP : set < 2 ^ P := by omega
          have hl := hol set (by omega)
          obtain ⟨hng, hdd, hof, hne, hhr⟩ := id G2
          have hx := S2.1
          refine gx_iload (pc := 76) dX8_goes_76 rfl ?_
          refine gx_iconst (pc := 78) (v := 1) dX8_goes_78 (by decide) ?_
          refine gx_aload_n (pc := 79) dX8_goes_79 rfl ?_
          refine gx_get (pc := 80) fX8_3 hng rfl dX8_goes_80 ?_
          refine kX8_35 (kc := 0) (ks := 0) (mc := 0) (ms := 0) (pc := 83) rfl (c_people (d := d - 1) (by omega) S2.1.O S2.2) (gxRc.of rfl hx) (by omega) (Nat.le_of_ble_eq_true rfl) dX8_goes_83 (fun r1 h3 e1 => ?_)
          obtain ⟨rfl, e1⟩ := e1
          subst h3
          refine gx_ishl (pc := 86) dX8_goes_86 ?_
          rw [hsh]
          refine gx_icmp_ge (pc := 87) 112 dX8_goes_87 (by decide) (fun c1 => ?_) (fun c1 => ?_)
          · exact absurd c1 (nI_ge hsP (by omega))
          · refine gx_aload_n (pc := 90) dX8_goes_90 rfl ?_
            refine gx_get (pc := 91) fX8_15 hng rfl dX8_goes_91 ?_
            refine gx_iload (pc := 94) dX8_goes_94 rfl ?_
            refine gx_iald (pc := 96) (set) hof (by first | rfl | simp only [gx_lit, nI_add, pk_mul]) (by omega) (by decide) dX8_goes_96 ?_
            rw [hof1 set (by omega)]
            refine gx_if_le (pc := 97) 106 dX8_goes_97 (by decide) (fun c2 => ?_) (fun c2 => ?_)
            · have z : nD A P E x0 j set = 0 := by
                rcases Nat.eq_zero_or_pos (nD A P E x0 j set) with z | z
                · exact z
                · exact absurd c2 (nI_ge (a := 0) z (by omega))
              refine gx_iincc (pc := 106) (c := 1) dX8_goes_106 rfl (by decide) (by decide) rfl ?_
              refine gx_goto (pc := 109) 76 dX8_goes_109 (by decide) ?_
              rw [nI_1]
              refine ihD (set + 1) ne2 hr2 h2 (by omega) S2 G2 (fun t ht => ?_) E2
              rw [hne2 t ht]
              congr 1
              split
              · rw [sN]; unfold tN; rw [z]; simp
              · rfl
            · refine gx_aload_n (pc := 100) dX8_goes_100 rfl ?_
              refine gx_iload (pc := 101) dX8_goes_101 rfl ?_
              refine kX8_39 (kc := 0) (ks := 0) (mc := 0) (ms := 0) (pc := 103) rfl (c_Nspreads (d := d - 1) dx dk dl df hn (by omega) S2 G2 hE set hsP (o := nD A P E x0 j) (acc := fun t => if t < 2 ^ P then sN (tN A P E (nD A P E x0 j) t) set else 0) (hof1 set (by omega)) hl hne2) (gxRc.of rfl hng) (by omega) (Nat.le_of_ble_eq_true rfl) dX8_goes_103 (fun h3 e1 => ?_)
              obtain ⟨S3, E3, ne3, hr3, G3, hne3⟩ := e1
              refine gx_iincc (pc := 106) (c := 1) dX8_goes_106 rfl (by decide) (by decide) rfl ?_
              refine gx_goto (pc := 109) 76 dX8_goes_109 (by decide) ?_
              rw [nI_1]
              refine ihD (set + 1) ne3 hr3 h3 (by omega) S3 G3 (fun t ht => ?_) (E2.tr E3)
              rw [hne3 t ht]
              congr 1
              by_cases z : t < 2 ^ P
              · rw [if_pos z, if_pos z, if_pos z]; rfl
              · rw [if_neg z, if_neg z, if_neg z]
      have LC : ∀ m i ne2 h2, m + i = 64 → (XS x r tk tr gl sl bl py pt ng ft mk lo hi ta fa P S E gg A s w b) h2 → NG h2 ng x u v of1 ne2 hr1 → (∀ t, t < i → ne2 t = 0) → zE ng 4 fa h h2 → gxV G mX8_goes d 0 0 52 [some (.ref ng), some (.int (nI k)), some (.int (nI n)), some (.int (nI j)), some (.int (nI i))] [] h2 (gxQv (fun h' => (XS x r tk tr gl sl bl py pt ng ft mk lo hi ta fa P S E gg A s w b) h' ∧ zE ng 4 fa h h' ∧ ∃ u' v' of' ne' hr', NG h' ng x u' v' of' ne' hr' ∧ ∀ i, i < 64 → of' i = nI (nD A P E x0 n i))) := by
        intro m2
        induction m2 with
        | zero =>
          intro i ne2 h2 hm2 S2 G2 hne2 E2
          have : i = 64 := by omega
          subst this
          refine gx_iload (pc := 52) dX8_goes_52 rfl ?_
          refine gx_bipush (pc := 54) (v := 64) dX8_goes_54 (by decide) ?_
          refine gx_icmp_ge (pc := 56) 73 dX8_goes_56 (by decide) (fun c1 => ?_) (fun c1 => ?_)
          · refine gx_iconst (pc := 73) (v := 0) dX8_goes_73 (by decide) ?_
            refine gx_istore (pc := 74) dX8_goes_74 (by decide) rfl ?_
            exact LD (2 ^ P) 0 ne2 hr1 h2 (by omega) S2 G2 (fun t ht => by rw [hne2 t ht]; simp only [sN]; split <;> rfl) E2
          · exact absurd (show (64 : Int32) ≤ nI 64 by decide) c1
        | succ m2 ihC =>
          intro i ne2 h2 hm2 S2 G2 hne2 E2
          obtain ⟨hng, hdd, hof, hne, hhr⟩ := id G2
          have nne : gxN G ≤ v := by omega
          refine gx_iload (pc := 52) dX8_goes_52 rfl ?_
          refine gx_bipush (pc := 54) (v := 64) dX8_goes_54 (by decide) ?_
          refine gx_icmp_ge (pc := 56) 73 dX8_goes_56 (by decide) (fun c1 => ?_) (fun c1 => ?_)
          · exact absurd c1 (nI_ge (b := 64) (by omega) (by omega))
          · refine gx_aload_n (pc := 59) dX8_goes_59 rfl ?_
            refine gx_get (pc := 60) fX8_19 hng rfl dX8_goes_60 ?_
            refine gx_iload (pc := 63) dX8_goes_63 rfl ?_
            refine gx_iconst (pc := 65) (v := 0) dX8_goes_65 (by decide) ?_
            refine gx_iast (pc := 66) (i) hne nne (by first | rfl | simp only [gx_lit, nI_add, pk_mul]) (by omega) (by decide) dX8_goes_66 ?_
            have G3 := G2.une (upd ne2 i 0)
            have E3 := G2.ez (fa := fa) (.inl (0, 64, .inl (upd ne2 i 0))) df (q := v) (by omega)
            have S3 := S2.zE E3 (Or.inl dx) dk dl
            generalize gxup h2 v (.inl (0, 64, .inl (upd ne2 i 0))) = h3 at *
            refine gx_iincc (pc := 67) (c := 1) dX8_goes_67 rfl (by decide) (by decide) rfl ?_
            refine gx_goto (pc := 70) 52 dX8_goes_70 (by decide) ?_
            rw [nI_1]
            refine ihC (i + 1) _ h3 (by omega) S3 G3 (fun t ht => ?_) (E2.tr E3)
            simp only [upd]
            by_cases e : t = i
            · rw [if_pos e]
            · rw [if_neg e]; exact hne2 t (by omega)
      refine gx_iload_n (pc := 44) dX8_goes_44 rfl ?_
      refine gx_iload_n (pc := 45) dX8_goes_45 rfl ?_
      refine gx_icmp_ge (pc := 46) 138 dX8_goes_46 (by decide) (fun c1 => ?_) (fun c1 => ?_)
      · exact absurd c1 (nI_ge (by omega) (by omega))
      · refine gx_iconst (pc := 49) (v := 0) dX8_goes_49 (by decide) ?_
        refine gx_istore (pc := 50) dX8_goes_50 (by decide) rfl ?_
        exact LC 64 0 ne1 h1 (by omega) S1 G1 (fun t ht => by omega) E1
  have LA : ∀ m i of1 h1, m + i = 64 → (XS x r tk tr gl sl bl py pt ng ft mk lo hi ta fa P S E gg A s w b) h1 → NG h1 ng x u v of1 ne hr → (∀ t, t < i → of1 t = nI (nD A P E x0 0 t)) → zE ng 4 fa h h1 → gxV G mX8_goes d 0 0 2 [some (.ref ng), some (.int (nI k)), some (.int (nI n)), some (.int (nI i)), none] [] h1 (gxQv (fun h' => (XS x r tk tr gl sl bl py pt ng ft mk lo hi ta fa P S E gg A s w b) h' ∧ zE ng 4 fa h h' ∧ ∃ u' v' of' ne' hr', NG h' ng x u' v' of' ne' hr' ∧ ∀ i, i < 64 → of' i = nI (nD A P E x0 n i))) := by
    intro m
    induction m with
    | zero =>
      intro i of1 h1 hm S1 G1 hof1 E1
      have : i = 64 := by omega
      subst this
      refine gx_iload_n (pc := 2) dX8_goes_2 rfl ?_
      refine gx_bipush (pc := 3) (v := 64) dX8_goes_3 (by decide) ?_
      refine gx_icmp_ge (pc := 5) 42 dX8_goes_5 (by decide) (fun c1 => ?_) (fun c1 => ?_)
      · refine gx_iconst (pc := 42) (v := 0) dX8_goes_42 (by decide) ?_
        refine gx_istore_n (pc := 43) dX8_goes_43 (by decide) rfl ?_
        exact LB n 0 u v of1 ne hr h1 none (by omega) S1 G1 hof1 E1
      · exact absurd (show (64 : Int32) ≤ nI 64 by decide) c1
    | succ m ih =>
      intro i of1 h1 hm S1 G1 hof1 E1
      obtain ⟨hng, hdd, hof, hne, hhr⟩ := id G1
      have nof : gxN G ≤ u := by omega
      have hx := S1.1
      obtain ⟨kn, aw, rk, fi, ne2, htk, hkn, haw, hrk, hfi, hne2, ekn, _⟩ := id S1.2.2.1
      have K35 : ∀ a, a = nI (nD A P E x0 0 i) → gxV G mX8_goes d 0 0 35 [some (.ref ng), some (.int (nI k)), some (.int (nI n)), some (.int (nI i)), none] [.int a, .int (nI i), .ref u] h1 (gxQv (fun h' => (XS x r tk tr gl sl bl py pt ng ft mk lo hi ta fa P S E gg A s w b) h' ∧ zE ng 4 fa h h' ∧ ∃ u' v' of' ne' hr', NG h' ng x u' v' of' ne' hr' ∧ ∀ i, i < 64 → of' i = nI (nD A P E x0 n i))) := by
        intro a ha
        refine gx_iast (pc := 35) (i) hof nof (by first | rfl | simp only [gx_lit, nI_add, pk_mul]) (by omega) (by decide) dX8_goes_35 ?_
        have G3 := G1.uof (upd of1 i a)
        have E3 := G1.ez (fa := fa) (.inl (0, 64, .inl (upd of1 i a))) df (q := u) (by omega)
        have S3 := S1.zE E3 (Or.inl dx) dk dl
        generalize gxup h1 u (.inl (0, 64, .inl (upd of1 i a))) = h3 at *
        refine gx_iincc (pc := 36) (c := 1) dX8_goes_36 rfl (by decide) (by decide) rfl ?_
        refine gx_goto (pc := 39) 2 dX8_goes_39 (by decide) ?_
        rw [nI_1]
        refine ih (i + 1) _ h3 (by omega) S3 G3 (fun t ht => ?_) (E1.tr E3)
        simp only [upd]
        by_cases e : t = i
        · rw [if_pos e, e, ha]
        · rw [if_neg e]; exact hof1 t (by omega)
      refine gx_iload_n (pc := 2) dX8_goes_2 rfl ?_
      refine gx_bipush (pc := 3) (v := 64) dX8_goes_3 (by decide) ?_
      refine gx_icmp_ge (pc := 5) 42 dX8_goes_5 (by decide) (fun c1 => ?_) (fun c1 => ?_)
      · exact absurd c1 (nI_ge (b := 64) (by omega) (by omega))
      · refine gx_aload_n (pc := 8) dX8_goes_8 rfl ?_
        refine gx_get (pc := 9) fX8_15 hng rfl dX8_goes_9 ?_
        refine gx_iload_n (pc := 12) dX8_goes_12 rfl ?_
        refine gx_iload_n (pc := 13) dX8_goes_13 rfl ?_
        refine gx_aload_n (pc := 14) dX8_goes_14 rfl ?_
        refine gx_get (pc := 15) fX8_3 hng rfl dX8_goes_15 ?_
        refine gx_getN (pc := 18) fX8_25 hx rfl dX8_goes_18 ?_
        refine gx_get (pc := 21) fX8_29 htk rfl dX8_goes_21 ?_
        refine gx_iload_n (pc := 24) dX8_goes_24 rfl ?_
        refine gx_iald (pc := 25) (k) hkn (by first | rfl | simp only [gx_lit, nI_add, pk_mul]) (by omega) (by decide) dX8_goes_25 ?_
        rw [ekn k (by omega), hkx]
        refine gx_icmp_ne (pc := 26) 34 dX8_goes_26 (by decide) (fun c2 => ?_) (fun c2 => ?_)
        · have c2' : ¬ i = x0 := fun e => c2 (by rw [e])
          refine gx_iconst (pc := 34) (v := 0) dX8_goes_34 (by decide) ?_
          exact K35 _ (by show _ = nI (if i = x0 then 1000000 else 0); rw [if_neg c2']; rfl)
        · have c2' : i = x0 := (nI_eq (by omega) (by omega)).mp c2
          refine gx_ldc (pc := 29) q1651 dX8_goes_29 ?_
          refine gx_goto (pc := 31) 35 dX8_goes_31 (by decide) ?_
          exact K35 _ (by show _ = nI (if i = x0 then 1000000 else 0); rw [if_pos c2']; rfl)
  refine gx_iconst (pc := 0) (v := 0) dX8_goes_0 (by decide) ?_
  refine gx_istore_n (pc := 1) dX8_goes_1 (by decide) rfl ?_
  exact LA 64 0 of h (by omega) hS hG (fun t ht => by omega) (zE.rf _ _ _ _)
theorem c_Xmean (dx : x < ng) (dk : tk + 6 ≤ ng ∨ ng + 4 ≤ tk) (dl : hi ≤ ng ∨ ng + 4 ≤ lo) (df : fa < ng ∨ ng + 4 ≤ fa) (hn : gxN G ≤ x) (hN : gxN G ≤ lo) (hd : 86 ≤ d) (hS : (XS x r tk tr gl sl bl py pt ng ft mk lo hi ta fa P S E gg A s w b) h) (hG : NG h ng x u v of ne hr) (hE : eaOk A E) (hK : ∀ k, k < S → ∃ x, x < 64 ∧ s k = nI x) (k n : Int32) : gxM G mX1_mean d 0 0 [.ref x, .int k, .int n] h (gxQi (fun a h' => ((¬ (inN k S ∧ (0 ≤ n ∧ n ≤ 30)) ∧ a = -1) ∨ ∃ k' n' x0, k' < S ∧ k = nI k' ∧ n' ≤ 30 ∧ n = nI n' ∧ x0 < 64 ∧ s k' = nI x0 ∧ a = (spMn w (setS A s) P k' (fun i => nI (nD A P E x0 n' i)) 64 / 1000).toInt32) ∧ (XS x r tk tr gl sl bl py pt ng ft mk lo hi ta fa P S E gg A s w b) h' ∧ zE ng 4 fa h h' ∧ (∃ u' v' of' ne' hr', NG h' ng x u' v' of' ne' hr'))) := by
  have hx := hS.1
  have hO := hS.1
  have hX := hS.2
  have hS10 := hS.2.2.2.2.2.2.1
  refine gxM_of rfl (Nat.le_of_ble_eq_true rfl) rfl ?_
  have N : ¬ (inN k S ∧ (0 ≤ n ∧ n ≤ 30)) → gxV G mX1_mean d 0 0 18 [some (.ref x), some (.int k), some (.int n), none, none, none] [] h (gxQi (fun a h' => ((¬ (inN k S ∧ (0 ≤ n ∧ n ≤ 30)) ∧ a = -1) ∨ ∃ k' n' x0, k' < S ∧ k = nI k' ∧ n' ≤ 30 ∧ n = nI n' ∧ x0 < 64 ∧ s k' = nI x0 ∧ a = (spMn w (setS A s) P k' (fun i => nI (nD A P E x0 n' i)) 64 / 1000).toInt32) ∧ (XS x r tk tr gl sl bl py pt ng ft mk lo hi ta fa P S E gg A s w b) h' ∧ zE ng 4 fa h h' ∧ (∃ u' v' of' ne' hr', NG h' ng x u' v' of' ne' hr'))) := by
    intro hh
    refine gx_iconst (pc := 18) (v := (-1)) dX1_mean_18 (by decide) ?_
    exact gx_ireturn (pc := 19) rfl dX1_mean_19 (⟨_, rfl, ⟨Or.inl ⟨hh, rfl⟩, hS, zE.rf _ _ _ _, _, _, _, _, _, hG⟩⟩)
  refine gx_aload_n (pc := 0) dX1_mean_0 rfl ?_
  refine gx_iload_n (pc := 1) dX1_mean_1 rfl ?_
  refine kX1_186 (kc := 0) (ks := 0) (mc := 0) (ms := 0) (pc := 2) rfl (c_XisSecret (d := d - 1) (by omega) hO.O hX k) (gxRc.of rfl hx) (by omega) (Nat.le_of_ble_eq_true rfl) dX1_mean_2 (fun r1 h1 e1 => ?_)
  obtain ⟨e1, e2⟩ := e1
  subst h1
  refine gx_if_eq (pc := 5) 18 dX1_mean_5 (by decide) (fun c1 => ?_) (fun c1 => ?_)
  · rcases e1 with ⟨z, rfl⟩ | ⟨z, rfl⟩
    · exact absurd c1 (by decide)
    · exact N (fun hh => z hh.1)
  · rcases e1 with ⟨⟨k', hk', ek⟩, rfl⟩ | ⟨z, rfl⟩
    · refine gx_iload_n (pc := 8) dX1_mean_8 rfl ?_
      refine gx_iconst (pc := 9) (v := 0) dX1_mean_9 (by decide) ?_
      refine gx_bipush (pc := 10) (v := 30) dX1_mean_10 (by decide) ?_
      refine kX1_140 (kc := 0) (ks := 0) (mc := 0) (ms := 0) (pc := 12) rfl (c_Xwithin (d := d - 1) n 0 30) (by omega) (Nat.le_of_ble_eq_true rfl) dX1_mean_12 (fun r1 h1 e1 => ?_)
      obtain ⟨rfl, e1⟩ := e1
      subst h1
      refine gx_if_ne (pc := 15) 20 dX1_mean_15 (by decide) (fun c2 => ?_) (fun c2 => ?_)
      · have hw := wi_in c2
        obtain ⟨n', hn', en⟩ := nI_of2 (M := 30) (n := 30) (by decide) (Int32.not_lt.mpr hw.1) hw.2
        obtain ⟨x0, hx0, ex0⟩ := hK k' hk'
        subst ek
        subst en
        have hng := hG.1
        refine gx_aload_n (pc := 20) dX1_mean_20 rfl ?_
        refine gx_get (pc := 21) fX1_82 hx rfl dX1_mean_21 ?_
        refine gx_iload_n (pc := 24) dX1_mean_24 rfl ?_
        refine gx_iload_n (pc := 25) dX1_mean_25 rfl ?_
        refine kX1_326 (kc := 0) (ks := 0) (mc := 0) (ms := 0) (pc := 26) rfl (c_Ngoes (d := d - 1) dx dk dl df hn (by omega) hS hG hE k' x0 n' hk' hx0 ex0 hn') (gxRc.of rfl hng) (by omega) (Nat.le_of_ble_eq_true rfl) dX1_mean_26 (fun h1 e1 => ?_)
        obtain ⟨S1, E1, u1, v1, of1, ne1, hr1, G1, hof1⟩ := e1
        have L : ∀ m i h2, m + i = 64 → (XS x r tk tr gl sl bl py pt ng ft mk lo hi ta fa P S E gg A s w b) h2 → NG h2 ng x u1 v1 of1 ne1 hr1 → zE ng 4 fa h h2 → gxV G mX1_mean d 0 0 34 [some (.ref x), some (.int (nI k')), some (.int (nI n')), some (.long (spMn w (setS A s) P k' (fun i => nI (nD A P E x0 n' i)) i)), none, some (.int (nI i))] [] h2 (gxQi (fun a h' => ((¬ (inN (nI k') S ∧ (0 ≤ nI n' ∧ nI n' ≤ 30)) ∧ a = -1) ∨ ∃ k2 n2 x0, k2 < S ∧ nI k' = nI k2 ∧ n2 ≤ 30 ∧ nI n' = nI n2 ∧ x0 < 64 ∧ s k2 = nI x0 ∧ a = (spMn w (setS A s) P k2 (fun i => nI (nD A P E x0 n2 i)) 64 / 1000).toInt32) ∧ (XS x r tk tr gl sl bl py pt ng ft mk lo hi ta fa P S E gg A s w b) h' ∧ zE ng 4 fa h h' ∧ (∃ u' v' of' ne' hr', NG h' ng x u' v' of' ne' hr'))) := by
          intro m
          induction m with
          | zero =>
            intro i h2 hm S2 G2 E2
            have : i = 64 := by omega
            subst this
            refine gx_iload (pc := 34) dX1_mean_34 rfl ?_
            refine gx_bipush (pc := 36) (v := 64) dX1_mean_36 (by decide) ?_
            refine gx_icmp_ge (pc := 38) 86 dX1_mean_38 (by decide) (fun c3 => ?_) (fun c3 => ?_)
            · refine gx_lload_n (pc := 86) dX1_mean_86 rfl ?_
              refine gx_ldc2 (pc := 87) q1673 dX1_mean_87 ?_
              refine gx_ldiv (pc := 90) dX1_mean_90 ((by decide)) ?_
              refine gx_l2i (pc := 91) dX1_mean_91 ?_
              exact gx_ireturn (pc := 92) rfl dX1_mean_92 (⟨_, rfl, ⟨Or.inr ⟨k', n', x0, hk', rfl, hn', rfl, hx0, ex0, rfl⟩, S2, E2, _, _, _, _, _, G2⟩⟩)
            · exact absurd (show (64 : Int32) ≤ nI 64 by decide) c3
          | succ m ih =>
            intro i h2 hm S2 G2 E2
            have hi64 : i < 64 := by omega
            obtain ⟨hng, hdd, hof, hne, hhr⟩ := id G2
            have hx := S2.1
            obtain ⟨_, _, _, _, _, htk, _⟩ := id S2.2.2.1
            have stp : spMn w (setS A s) P k' (fun i => nI (nD A P E x0 n' i)) (i + 1) = if nI (nD A P E x0 n' i) ≤ 0 then spMn w (setS A s) P k' (fun i => nI (nD A P E x0 n' i)) i else spMn w (setS A s) P k' (fun i => nI (nD A P E x0 n' i)) i + (nI (nD A P E x0 n' i)).toInt64 * (spBase w (setS A s) P k' (nI i)).toInt64 := rfl
            refine gx_iload (pc := 34) dX1_mean_34 rfl ?_
            refine gx_bipush (pc := 36) (v := 64) dX1_mean_36 (by decide) ?_
            refine gx_icmp_ge (pc := 38) 86 dX1_mean_38 (by decide) (fun c3 => ?_) (fun c3 => ?_)
            · exact absurd c3 (nI_ge (b := 64) (by omega) (by omega))
            · refine gx_aload_n (pc := 41) dX1_mean_41 rfl ?_
              refine gx_get (pc := 42) fX1_82 hx rfl dX1_mean_42 ?_
              refine gx_getN (pc := 45) fX1_329 hng rfl dX1_mean_45 ?_
              refine gx_iload (pc := 48) dX1_mean_48 rfl ?_
              refine gx_iald (pc := 50) (i) hof (by first | rfl | simp only [gx_lit, nI_add, pk_mul]) (by omega) (by decide) dX1_mean_50 ?_
              rw [hof1 i hi64]
              refine gx_if_le (pc := 51) 80 dX1_mean_51 (by decide) (fun c4 => ?_) (fun c4 => ?_)
              · rw [if_pos c4] at stp
                refine gx_iincc (pc := 80) (c := 1) dX1_mean_80 rfl (by decide) (by decide) rfl ?_
                refine gx_goto (pc := 83) 34 dX1_mean_83 (by decide) ?_
                rw [nI_1, ← stp]
                exact ih (i + 1) h2 (by omega) S2 G2 E2
              · rw [if_neg c4] at stp
                refine gx_lload_n (pc := 54) dX1_mean_54 rfl ?_
                refine gx_aload_n (pc := 55) dX1_mean_55 rfl ?_
                refine gx_get (pc := 56) fX1_40 hx rfl dX1_mean_56 ?_
                refine gx_iload_n (pc := 59) dX1_mean_59 rfl ?_
                refine gx_iload (pc := 60) dX1_mean_60 rfl ?_
                refine kX1_331 (kc := 0) (ks := 0) (mc := 0) (ms := 0) (pc := 62) rfl (c_Tbare (d := d - 1) hN (by omega) S2.2 k' hk' (nI i)) (gxRc.of rfl htk) (by omega) (Nat.le_of_ble_eq_true rfl) dX1_mean_62 (fun r1 h3 e3 => ?_)
                obtain ⟨rfl, e3⟩ := e3
                have S3 := S2.fE e3
                have G3 := G2.fE S2.2.1.2.2.1 e3
                clear hng hof hx
                obtain ⟨hng, hdd, hof, hne, hhr⟩ := id G3
                have hx := S3.1
                refine gx_i2l (pc := 65) dX1_mean_65 ?_
                refine gx_aload_n (pc := 66) dX1_mean_66 rfl ?_
                refine gx_get (pc := 67) fX1_82 hx rfl dX1_mean_67 ?_
                refine gx_getN (pc := 70) fX1_329 hng rfl dX1_mean_70 ?_
                refine gx_iload (pc := 73) dX1_mean_73 rfl ?_
                refine gx_iald (pc := 75) (i) hof (by first | rfl | simp only [gx_lit, nI_add, pk_mul]) (by omega) (by decide) dX1_mean_75 ?_
                rw [hof1 i hi64]
                refine gx_i2l (pc := 76) dX1_mean_76 ?_
                refine gx_lmul (pc := 77) dX1_mean_77 ?_
                refine gx_ladd (pc := 78) dX1_mean_78 ?_
                rw [Int64.mul_comm, ← stp]
                refine gx_lstore_n (pc := 79) dX1_mean_79 (by decide) rfl ?_
                refine gx_iincc (pc := 80) (c := 1) dX1_mean_80 rfl (by decide) (by decide) rfl ?_
                refine gx_goto (pc := 83) 34 dX1_mean_83 (by decide) ?_
                rw [nI_1]
                exact ih (i + 1) h3 (by omega) S3 G3 (E2.tr e3.r)
        refine gx_lconst (pc := 29) (v := 0) dX1_mean_29 (by decide) ?_
        refine gx_lstore_n (pc := 30) dX1_mean_30 (by decide) rfl ?_
        refine gx_iconst (pc := 31) (v := 0) dX1_mean_31 (by decide) ?_
        refine gx_istore (pc := 32) dX1_mean_32 (by decide) rfl ?_
        exact L 64 0 h1 (by omega) S1 G1 E1
      · exact N (fun hh => wi_out c2 hh.2)
    · exact absurd rfl c1
theorem c_Xholds (dx : x < ng) (dk : tk + 6 ≤ ng ∨ ng + 4 ≤ tk) (dl : hi ≤ ng ∨ ng + 4 ≤ lo) (df : fa < ng ∨ ng + 4 ≤ fa) (hn : gxN G ≤ x) (hN : gxN G ≤ lo) (hd : 86 ≤ d) (hS : (XS x r tk tr gl sl bl py pt ng ft mk lo hi ta fa P S E gg A s w b) h) (hG : NG h ng x u v of ne hr) (hE : eaOk A E) (hK : ∀ k, k < S → ∃ x, x < 64 ∧ s k = nI x) (k n : Int32) : gxM G mX1_holds d 0 0 [.ref x, .int k, .int n] h (gxQi (fun a h' => ((¬ (inN k S ∧ (0 ≤ n ∧ n ≤ 30)) ∧ a = -1) ∨ ∃ k' n' x0, k' < S ∧ k = nI k' ∧ n' ≤ 30 ∧ n = nI n' ∧ x0 < 64 ∧ s k' = nI x0 ∧ a = spHo w (setS A s) P k' (fun i => nI (nD A P E x0 n' i)) (spBase w (setS A s) P k' (nI x0)) 64) ∧ (XS x r tk tr gl sl bl py pt ng ft mk lo hi ta fa P S E gg A s w b) h' ∧ zE ng 4 fa h h' ∧ (∃ u' v' of' ne' hr', NG h' ng x u' v' of' ne' hr'))) := by
  have hx := hS.1
  have hO := hS.1
  have hX := hS.2
  have hS10 := hS.2.2.2.2.2.2.1
  refine gxM_of rfl (Nat.le_of_ble_eq_true rfl) rfl ?_
  have N : ¬ (inN k S ∧ (0 ≤ n ∧ n ≤ 30)) → gxV G mX1_holds d 0 0 18 [some (.ref x), some (.int k), some (.int n), none, none, none] [] h (gxQi (fun a h' => ((¬ (inN k S ∧ (0 ≤ n ∧ n ≤ 30)) ∧ a = -1) ∨ ∃ k' n' x0, k' < S ∧ k = nI k' ∧ n' ≤ 30 ∧ n = nI n' ∧ x0 < 64 ∧ s k' = nI x0 ∧ a = spHo w (setS A s) P k' (fun i => nI (nD A P E x0 n' i)) (spBase w (setS A s) P k' (nI x0)) 64) ∧ (XS x r tk tr gl sl bl py pt ng ft mk lo hi ta fa P S E gg A s w b) h' ∧ zE ng 4 fa h h' ∧ (∃ u' v' of' ne' hr', NG h' ng x u' v' of' ne' hr'))) := by
    intro hh
    refine gx_iconst (pc := 18) (v := (-1)) dX1_holds_18 (by decide) ?_
    exact gx_ireturn (pc := 19) rfl dX1_holds_19 (⟨_, rfl, ⟨Or.inl ⟨hh, rfl⟩, hS, zE.rf _ _ _ _, _, _, _, _, _, hG⟩⟩)
  refine gx_aload_n (pc := 0) dX1_holds_0 rfl ?_
  refine gx_iload_n (pc := 1) dX1_holds_1 rfl ?_
  refine kX1_186 (kc := 0) (ks := 0) (mc := 0) (ms := 0) (pc := 2) rfl (c_XisSecret (d := d - 1) (by omega) hO.O hX k) (gxRc.of rfl hx) (by omega) (Nat.le_of_ble_eq_true rfl) dX1_holds_2 (fun r1 h1 e1 => ?_)
  obtain ⟨e1, e2⟩ := e1
  subst h1
  refine gx_if_eq (pc := 5) 18 dX1_holds_5 (by decide) (fun c1 => ?_) (fun c1 => ?_)
  · rcases e1 with ⟨z, rfl⟩ | ⟨z, rfl⟩
    · exact absurd c1 (by decide)
    · exact N (fun hh => z hh.1)
  · rcases e1 with ⟨⟨k', hk', ek⟩, rfl⟩ | ⟨z, rfl⟩
    · refine gx_iload_n (pc := 8) dX1_holds_8 rfl ?_
      refine gx_iconst (pc := 9) (v := 0) dX1_holds_9 (by decide) ?_
      refine gx_bipush (pc := 10) (v := 30) dX1_holds_10 (by decide) ?_
      refine kX1_140 (kc := 0) (ks := 0) (mc := 0) (ms := 0) (pc := 12) rfl (c_Xwithin (d := d - 1) n 0 30) (by omega) (Nat.le_of_ble_eq_true rfl) dX1_holds_12 (fun r1 h1 e1 => ?_)
      obtain ⟨rfl, e1⟩ := e1
      subst h1
      refine gx_if_ne (pc := 15) 20 dX1_holds_15 (by decide) (fun c2 => ?_) (fun c2 => ?_)
      · have hw := wi_in c2
        obtain ⟨n', hn', en⟩ := nI_of2 (M := 30) (n := 30) (by decide) (Int32.not_lt.mpr hw.1) hw.2
        obtain ⟨x0, hx0, ex0⟩ := hK k' hk'
        subst ek
        subst en
        have hng := hG.1
        refine gx_aload_n (pc := 20) dX1_holds_20 rfl ?_
        refine gx_get (pc := 21) fX1_82 hx rfl dX1_holds_21 ?_
        refine gx_iload_n (pc := 24) dX1_holds_24 rfl ?_
        refine gx_iload_n (pc := 25) dX1_holds_25 rfl ?_
        refine kX1_326 (kc := 0) (ks := 0) (mc := 0) (ms := 0) (pc := 26) rfl (c_Ngoes (d := d - 1) dx dk dl df hn (by omega) hS hG hE k' x0 n' hk' hx0 ex0 hn') (gxRc.of rfl hng) (by omega) (Nat.le_of_ble_eq_true rfl) dX1_holds_26 (fun h1 e1 => ?_)
        obtain ⟨S1, E1, u1, v1, of1, ne1, hr1, G1, hof1⟩ := e1
        have L : ∀ m i h2, m + i = 64 → (XS x r tk tr gl sl bl py pt ng ft mk lo hi ta fa P S E gg A s w b) h2 → NG h2 ng x u1 v1 of1 ne1 hr1 → zE ng 4 fa h h2 → gxV G mX1_holds d 0 0 53 [some (.ref x), some (.int (nI k')), some (.int (nI n')), some (.int (spBase w (setS A s) P k' (nI x0))), some (.int (spHo w (setS A s) P k' (fun i => nI (nD A P E x0 n' i)) (spBase w (setS A s) P k' (nI x0)) i)), some (.int (nI i))] [] h2 (gxQi (fun a h' => ((¬ (inN (nI k') S ∧ (0 ≤ nI n' ∧ nI n' ≤ 30)) ∧ a = -1) ∨ ∃ k2 n2 x0, k2 < S ∧ nI k' = nI k2 ∧ n2 ≤ 30 ∧ nI n' = nI n2 ∧ x0 < 64 ∧ s k2 = nI x0 ∧ a = spHo w (setS A s) P k2 (fun i => nI (nD A P E x0 n2 i)) (spBase w (setS A s) P k2 (nI x0)) 64) ∧ (XS x r tk tr gl sl bl py pt ng ft mk lo hi ta fa P S E gg A s w b) h' ∧ zE ng 4 fa h h' ∧ (∃ u' v' of' ne' hr', NG h' ng x u' v' of' ne' hr'))) := by
          intro m
          induction m with
          | zero =>
            intro i h2 hm S2 G2 E2
            have : i = 64 := by omega
            subst this
            refine gx_iload (pc := 53) dX1_holds_53 rfl ?_
            refine gx_bipush (pc := 55) (v := 64) dX1_holds_55 (by decide) ?_
            refine gx_icmp_ge (pc := 57) 108 dX1_holds_57 (by decide) (fun c3 => ?_) (fun c3 => ?_)
            · refine gx_iload (pc := 108) dX1_holds_108 rfl ?_
              exact gx_ireturn (pc := 110) rfl dX1_holds_110 (⟨_, rfl, ⟨Or.inr ⟨k', n', x0, hk', rfl, hn', rfl, hx0, ex0, rfl⟩, S2, E2, _, _, _, _, _, G2⟩⟩)
            · exact absurd (show (64 : Int32) ≤ nI 64 by decide) c3
          | succ m ih =>
            intro i h2 hm S2 G2 E2
            have hi64 : i < 64 := by omega
            obtain ⟨hng, hdd, hof, hne, hhr⟩ := id G2
            have hx := S2.1
            obtain ⟨_, _, _, _, _, htk, _⟩ := id S2.2.2.1
            have stp : spHo w (setS A s) P k' (fun i => nI (nD A P E x0 n' i)) (spBase w (setS A s) P k' (nI x0)) (i + 1) = if nI (nD A P E x0 n' i) ≤ 0 then spHo w (setS A s) P k' (fun i => nI (nD A P E x0 n' i)) (spBase w (setS A s) P k' (nI x0)) i else (if spBase w (setS A s) P k' (nI i) < (spBase w (setS A s) P k' (nI x0)) then spHo w (setS A s) P k' (fun i => nI (nD A P E x0 n' i)) (spBase w (setS A s) P k' (nI x0)) i else spHo w (setS A s) P k' (fun i => nI (nD A P E x0 n' i)) (spBase w (setS A s) P k' (nI x0)) i + nI (nD A P E x0 n' i)) := rfl
            refine gx_iload (pc := 53) dX1_holds_53 rfl ?_
            refine gx_bipush (pc := 55) (v := 64) dX1_holds_55 (by decide) ?_
            refine gx_icmp_ge (pc := 57) 108 dX1_holds_57 (by decide) (fun c3 => ?_) (fun c3 => ?_)
            · exact absurd c3 (nI_ge (b := 64) (by omega) (by omega))
            · refine gx_aload_n (pc := 60) dX1_holds_60 rfl ?_
              refine gx_get (pc := 61) fX1_82 hx rfl dX1_holds_61 ?_
              refine gx_getN (pc := 64) fX1_329 hng rfl dX1_holds_64 ?_
              refine gx_iload (pc := 67) dX1_holds_67 rfl ?_
              refine gx_iald (pc := 69) (i) hof (by first | rfl | simp only [gx_lit, nI_add, pk_mul]) (by omega) (by decide) dX1_holds_69 ?_
              rw [hof1 i hi64]
              refine gx_if_le (pc := 70) 102 dX1_holds_70 (by decide) (fun c4 => ?_) (fun c4 => ?_)
              · rw [if_pos c4] at stp
                refine gx_iincc (pc := 102) (c := 1) dX1_holds_102 rfl (by decide) (by decide) rfl ?_
                refine gx_goto (pc := 105) 53 dX1_holds_105 (by decide) ?_
                rw [nI_1, ← stp]
                exact ih (i + 1) h2 (by omega) S2 G2 E2
              · rw [if_neg c4] at stp
                refine gx_aload_n (pc := 73) dX1_holds_73 rfl ?_
                refine gx_get (pc := 74) fX1_40 hx rfl dX1_holds_74 ?_
                refine gx_iload_n (pc := 77) dX1_holds_77 rfl ?_
                refine gx_iload (pc := 78) dX1_holds_78 rfl ?_
                refine kX1_331 (kc := 0) (ks := 0) (mc := 0) (ms := 0) (pc := 80) rfl (c_Tbare (d := d - 1) hN (by omega) S2.2 k' hk' (nI i)) (gxRc.of rfl htk) (by omega) (Nat.le_of_ble_eq_true rfl) dX1_holds_80 (fun r1 h3 e3 => ?_)
                obtain ⟨rfl, e3⟩ := e3
                have S3 := S2.fE e3
                have G3 := G2.fE S2.2.1.2.2.1 e3
                clear hng hof hx
                obtain ⟨hng, hdd, hof, hne, hhr⟩ := id G3
                have hx := S3.1
                refine gx_iload_n (pc := 83) dX1_holds_83 rfl ?_
                refine gx_icmp_lt (pc := 84) 102 dX1_holds_84 (by decide) (fun c5 => ?_) (fun c5 => ?_)
                · rw [if_pos c5] at stp
                  refine gx_iincc (pc := 102) (c := 1) dX1_holds_102 rfl (by decide) (by decide) rfl ?_
                  refine gx_goto (pc := 105) 53 dX1_holds_105 (by decide) ?_
                  rw [nI_1, ← stp]
                  exact ih (i + 1) h3 (by omega) S3 G3 (E2.tr e3.r)
                · rw [if_neg c5] at stp
                  refine gx_iload (pc := 87) dX1_holds_87 rfl ?_
                  refine gx_aload_n (pc := 89) dX1_holds_89 rfl ?_
                  refine gx_get (pc := 90) fX1_82 hx rfl dX1_holds_90 ?_
                  refine gx_getN (pc := 93) fX1_329 hng rfl dX1_holds_93 ?_
                  refine gx_iload (pc := 96) dX1_holds_96 rfl ?_
                  refine gx_iald (pc := 98) (i) hof (by first | rfl | simp only [gx_lit, nI_add, pk_mul]) (by omega) (by decide) dX1_holds_98 ?_
                  rw [hof1 i hi64]
                  refine gx_iadd (pc := 99) dX1_holds_99 ?_
                  rw [← stp]
                  refine gx_istore (pc := 100) dX1_holds_100 (by decide) rfl ?_
                  refine gx_iincc (pc := 102) (c := 1) dX1_holds_102 rfl (by decide) (by decide) rfl ?_
                  refine gx_goto (pc := 105) 53 dX1_holds_105 (by decide) ?_
                  rw [nI_1]
                  exact ih (i + 1) h3 (by omega) S3 G3 (E2.tr e3.r)
        have hx := S1.1
        obtain ⟨kn, aw, rk, fi, ne2, htk, hkn, haw, hrk, hfi, hne2, ekn, _⟩ := id S1.2.2.1
        refine gx_aload_n (pc := 29) dX1_holds_29 rfl ?_
        refine gx_get (pc := 30) fX1_40 hx rfl dX1_holds_30 ?_
        refine gx_iload_n (pc := 33) dX1_holds_33 rfl ?_
        refine gx_aload_n (pc := 34) dX1_holds_34 rfl ?_
        refine gx_get (pc := 35) fX1_40 hx rfl dX1_holds_35 ?_
        refine gx_get (pc := 38) fX1_204 htk rfl dX1_holds_38 ?_
        refine gx_iload_n (pc := 41) dX1_holds_41 rfl ?_
        refine gx_iald (pc := 42) (k') hkn (by first | rfl | simp only [gx_lit, nI_add, pk_mul]) (by omega) (by decide) dX1_holds_42 ?_
        rw [ekn k' (by omega), ex0]
        refine kX1_331 (kc := 0) (ks := 0) (mc := 0) (ms := 0) (pc := 43) rfl (c_Tbare (d := d - 1) hN (by omega) S1.2 k' hk' (nI x0)) (gxRc.of rfl htk) (by omega) (Nat.le_of_ble_eq_true rfl) dX1_holds_43 (fun r1 h3 e3 => ?_)
        obtain ⟨rfl, e3⟩ := e3
        refine gx_istore_n (pc := 46) dX1_holds_46 (by decide) rfl ?_
        refine gx_iconst (pc := 47) (v := 0) dX1_holds_47 (by decide) ?_
        refine gx_istore (pc := 48) dX1_holds_48 (by decide) rfl ?_
        refine gx_iconst (pc := 50) (v := 0) dX1_holds_50 (by decide) ?_
        refine gx_istore (pc := 51) dX1_holds_51 (by decide) rfl ?_
        exact L 64 0 h3 (by omega) (S1.fE e3) (G1.fE S1.2.1.2.2.1 e3) (E1.tr e3.r)
      · exact N (fun hh => wi_out c2 hh.2)
    · exact absurd rfl c1
end MAV
