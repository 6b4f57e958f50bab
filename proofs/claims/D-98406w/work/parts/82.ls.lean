/-! ===== COMPONENT S: groups, settle ===== -/
set_option maxRecDepth 100000
section LS
variable {G : gxG} {d : Nat} {h : gxH} {x tk lo hi ta fa P S E : Nat} {A : Nat → Nat → Int32} {s : Nat → Int32} {w : Option gxEv}
theorem c_groups (hO : XO h x tk) (hX : TT h lo hi tk ta fa A s P S E w true) : ∀ q, q < 2 ^ P → ∀ d, 4 + q ≤ d → gxM G mX1_groups d 0 0 [.ref x, .int (nI q)] h (gxQi (fun r h' => r = gC (fun p => spNtS s p 6) (q + 1) q ∧ h' = h)) := by
  have hX0 := hX
  obtain ⟨hT, hK, hM⟩ := hX; have hT0 := hT; obtain ⟨i1, i2, hf, nl, ol, pl, sl, el, fo, wv, pa, sa, ea, i3, ht, hfo, hpl, hsl, hel, hpa, hsa, hea, hwv⟩ := hT; have hpl0 := hpl.ls; have hsl0 := hsl.ls; have hel0 := hel.ls; have hpl := hpl0; have hsl := hsl0; have hel := hel0; obtain ⟨_, _, _, _, hpl, _⟩ := hpl; obtain ⟨_, _, _, _, hsl, _⟩ := hsl; obtain ⟨_, _, _, _, hel, _⟩ := hel; obtain ⟨kn, aw, rk, fi, ne, ha, hkn, haw, hrk, hfi, hne, ekn, eaw, erk, efi, ene⟩ := hK; obtain ⟨_, _, _, _, _, _, _, _, _, _, _, hx⟩ := id hO
  have hP6 := hM.2.1
  obtain ⟨hsh, h64⟩ := shl_P hP6
  intro q
  induction q using Nat.strongRecOn with
  | ind q IH =>
    intro hq d hd
    generalize hnt : (fun p => spNtS s p 6) = nt at *
    have hn : ∀ p, p < 6 → ne p = nt p := fun p hp => by rw [ene p hp rfl, ← hnt]
    have hq64 : q < 64 := by omega
    refine gxM_of rfl (Nat.le_of_ble_eq_true rfl) rfl ?_
    generalize hR : gC nt (q + 1) q = R
    have L : ∀ m sub v (x4 x5 : Option Value), sub ≤ m → sub ≤ q → sub &&& q = sub → gIn nt (gC nt q) q m sub v = R → gxV G mX1_groups d 0 0 4 [some (.ref x), some (.int (nI q)), some (.int v), some (.int (nI sub)), x4, x5] [] h (gxQi (fun r h' => r = R ∧ h' = h)) := by
      have Z : ∀ v (x4 x5 : Option Value), v = R → gxV G mX1_groups d 0 0 4 [some (.ref x), some (.int (nI q)), some (.int v), some (.int (nI 0)), x4, x5] [] h (gxQi (fun r h' => r = R ∧ h' = h)) := by
        intro v x4 x5 hv
        refine gx_iload_n (pc := 4) dX1_groups_4 rfl ?_
        refine gx_if_le (pc := 5) 83 dX1_groups_5 (by decide) (fun c1 => ?_) (fun c1 => ?_)
        · refine gx_iload_n (pc := 83) dX1_groups_83 rfl ?_
          exact gx_ireturn (pc := 84) rfl dX1_groups_84 (⟨_, rfl, ⟨hv, rfl⟩⟩)
        · exact absurd (by decide) c1
      intro m
      induction m with
      | zero =>
        intro sub v x4 x5 h1 _ _ h2
        have : sub = 0 := by omega
        subst this
        exact Z v x4 x5 h2
      | succ m ih =>
        intro sub v x4 x5 h1 h1q hsq h2
        by_cases s0 : sub = 0
        · subst s0
          rw [gIn, if_pos rfl] at h2
          exact Z v x4 x5 h2
        · rw [gIn, if_neg s0] at h2
          obtain ⟨n1, n2⟩ := sub_nx q hq64 sub (by omega) s0
          have hsm : spSm nt (nI sub) 6 = spSm nt (nI sub) P := spSm_P nt hP6 (by omega)
          have K74 : ∀ v2 (x4 x5 : Option Value), v2 = (if spSm nt (nI sub) 6 = 0 then spMax v (1 + gC nt q (q &&& (63 - sub))) else v) → gxV G mX1_groups d 0 0 74 [some (.ref x), some (.int (nI q)), some (.int v2), some (.int (nI sub)), x4, x5] [] h (gxQi (fun r h' => r = R ∧ h' = h)) := by
            intro v2 x4 x5 hv
            refine gx_iload_n (pc := 74) dX1_groups_74 rfl ?_
            refine gx_iconst (pc := 75) (v := 1) dX1_groups_75 (by decide) ?_
            refine gx_isub (pc := 76) dX1_groups_76 ?_
            refine gx_iload_n (pc := 77) dX1_groups_77 rfl ?_
            refine gx_iand (pc := 78) dX1_groups_78 ?_
            obtain ⟨j, hj⟩ : ∃ j, sub = j + 1 := ⟨sub - 1, by omega⟩
            rw [hj, pre_and q hq64 j (by omega)]
            refine gx_istore_n (pc := 79) dX1_groups_79 (by decide) rfl ?_
            refine gx_goto (pc := 80) 4 dX1_groups_80 (by decide) ?_
            have e : sub - 1 = j := by omega
            rw [e] at h2 n1 n2
            exact ih (j &&& q) v2 x4 x5 (by omega) (by omega) n1 (by rw [hv]; exact h2)
          have L5 : ∀ m5 p, m5 + p = P → gxV G mX1_groups d 0 0 14 [some (.ref x), some (.int (nI q)), some (.int v), some (.int (nI sub)), some (.int (spSm nt (nI sub) p)), some (.int (nI p))] [] h (gxQi (fun r h' => r = R ∧ h' = h)) := by
            intro m5
            induction m5 with
            | zero =>
              intro p hp
              have : p = P := by omega
              subst this
              refine gx_iload (pc := 14) dX1_groups_14 rfl ?_
              refine gx_aload_n (pc := 16) dX1_groups_16 rfl ?_
              refine kX1_138 (kc := 0) (ks := 0) (mc := 0) (ms := 0) (pc := 17) rfl (c_people (d := d - 1) (by omega) hO hX0) (gxRc.of rfl hx) (by omega) (Nat.le_of_ble_eq_true rfl) dX1_groups_17 (fun r1 h3 e1 => ?_)
              obtain ⟨rfl, e1⟩ := e1
              subst h3
              refine gx_icmp_ge (pc := 20) 53 dX1_groups_20 (by decide) (fun c1 => ?_) (fun c1 => ?_)
              · refine gx_iload (pc := 53) dX1_groups_53 rfl ?_
                refine gx_if_ne (pc := 55) 74 dX1_groups_55 (by decide) (fun c2 => ?_) (fun c2 => ?_)
                · refine K74 v _ _ ?_
                  rw [hsm, if_neg c2]
                · have c2' : spSm nt (nI sub) 6 = 0 := by rw [hsm]; exact c2
                  have hl := sub_lt q hq64 sub (by omega) s0 hsq
                  refine gx_iload_n (pc := 58) dX1_groups_58 rfl ?_
                  refine gx_iconst (pc := 59) (v := 1) dX1_groups_59 (by decide) ?_
                  refine gx_aload_n (pc := 60) dX1_groups_60 rfl ?_
                  refine gx_iload_n (pc := 61) dX1_groups_61 rfl ?_
                  refine gx_iload_n (pc := 62) dX1_groups_62 rfl ?_
                  refine gx_iconst (pc := 63) (v := (-1)) dX1_groups_63 (by decide) ?_
                  refine gx_ixor (pc := 64) dX1_groups_64 ?_
                  refine gx_iand (pc := 65) dX1_groups_65 ?_
                  rw [sub_and q hq64 sub (by omega)]
                  refine kX1_336 (kc := 0) (ks := 0) (mc := 0) (ms := 0) (pc := 66) rfl (IH (q &&& (63 - sub)) hl (by omega) (d - 1) (by omega)) (gxRc.of rfl hx) (by omega) (Nat.le_of_ble_eq_true rfl) dX1_groups_66 (fun r1 h3 e1 => ?_)
                  obtain ⟨rfl, e1⟩ := e1
                  subst h3
                  refine gx_iadd (pc := 69) dX1_groups_69 ?_
                  refine kX1_339 (kc := 0) (ks := 0) (mc := 0) (ms := 0) (pc := 70) rfl (c_Jmax (d := d - 1) v _) (by omega) (Nat.le_of_ble_eq_true rfl) dX1_groups_70 (fun r1 h3 e1 => ?_)
                  obtain ⟨rfl, e1⟩ := e1
                  subst h3
                  refine gx_istore_n (pc := 73) dX1_groups_73 (by decide) rfl ?_
                  refine K74 _ _ _ ?_
                  rw [if_pos c2', gC_fuel nt q _ (by omega) hl]
                  rfl
              · exact absurd (nI_le (Nat.le_refl _) (by omega)) c1
            | succ m5 ih5 =>
              intro p hp
              have K47 : ∀ v4, v4 = spSm nt (nI sub) (p + 1) → gxV G mX1_groups d 0 0 47 [some (.ref x), some (.int (nI q)), some (.int v), some (.int (nI sub)), some (.int v4), some (.int (nI p))] [] h (gxQi (fun r h' => r = R ∧ h' = h)) := by
                intro v4 hv
                subst hv
                refine gx_iincc (pc := 47) (c := 1) dX1_groups_47 rfl (by decide) (by decide) rfl ?_
                refine gx_goto (pc := 50) 14 dX1_groups_50 (by decide) ?_
                rw [nI_1]
                exact ih5 (p + 1) (by omega)
              refine gx_iload (pc := 14) dX1_groups_14 rfl ?_
              refine gx_aload_n (pc := 16) dX1_groups_16 rfl ?_
              refine kX1_138 (kc := 0) (ks := 0) (mc := 0) (ms := 0) (pc := 17) rfl (c_people (d := d - 1) (by omega) hO hX0) (gxRc.of rfl hx) (by omega) (Nat.le_of_ble_eq_true rfl) dX1_groups_17 (fun r1 h3 e1 => ?_)
              obtain ⟨rfl, e1⟩ := e1
              subst h3
              refine gx_icmp_ge (pc := 20) 53 dX1_groups_20 (by decide) (fun c1 => ?_) (fun c1 => ?_)
              · exact absurd c1 (nI_ge (by omega) (by omega))
              · refine gx_iload_n (pc := 23) dX1_groups_23 rfl ?_
                refine gx_iload (pc := 24) dX1_groups_24 rfl ?_
                refine kX1_176 (kc := 0) (ks := 0) (mc := 0) (ms := 0) (pc := 26) rfl (c_has (d := d - 1) (nI sub) (nI p)) (by omega) (Nat.le_of_ble_eq_true rfl) dX1_groups_26 (fun r1 h3 e1 => ?_)
                obtain ⟨rfl, e1⟩ := e1
                subst h3
                refine gx_if_eq (pc := 29) 47 dX1_groups_29 (by decide) (fun c2 => ?_) (fun c2 => ?_)
                · have z := zi_eq0 c2
                  rw [hs, decide_eq_false_iff_not] at z
                  exact K47 _ (by rw [spSm, if_neg z, Int32.add_zero])
                · have z := zi_ne0 c2
                  rw [hs, decide_eq_true_eq] at z
                  refine gx_iload (pc := 32) dX1_groups_32 rfl ?_
                  refine gx_aload_n (pc := 34) dX1_groups_34 rfl ?_
                  refine gx_get (pc := 35) fX1_40 hx rfl dX1_groups_35 ?_
                  refine gx_get (pc := 38) fX1_183 ha rfl dX1_groups_38 ?_
                  refine gx_iload (pc := 41) dX1_groups_41 rfl ?_
                  refine gx_iald (pc := 43) (p) hne (by first | rfl | simp only [gx_lit, nI_add, pk_mul]) (by omega) (by decide) dX1_groups_43 ?_
                  rw [hn p (by omega)]
                  refine gx_iadd (pc := 44) dX1_groups_44 ?_
                  refine gx_istore (pc := 45) dX1_groups_45 (by decide) rfl ?_
                  exact K47 _ (by rw [spSm, if_pos z])
          refine gx_iload_n (pc := 4) dX1_groups_4 rfl ?_
          refine gx_if_le (pc := 5) 83 dX1_groups_5 (by decide) (fun c1 => ?_) (fun c1 => ?_)
          · exact absurd c1 (nI_ge (a := 0) (b := sub) (by omega) (by omega))
          · refine gx_iconst (pc := 8) (v := 0) dX1_groups_8 (by decide) ?_
            refine gx_istore (pc := 9) dX1_groups_9 (by decide) rfl ?_
            refine gx_iconst (pc := 11) (v := 0) dX1_groups_11 (by decide) ?_
            refine gx_istore (pc := 12) dX1_groups_12 (by decide) rfl ?_
            exact L5 P 0 (by omega)
    refine gx_iconst (pc := 0) (v := 0) dX1_groups_0 (by decide) ?_
    refine gx_istore_n (pc := 1) dX1_groups_1 (by decide) rfl ?_
    refine gx_iload_n (pc := 2) dX1_groups_2 rfl ?_
    refine gx_istore_n (pc := 3) dX1_groups_3 (by decide) rfl ?_
    exact L q q 0 _ _ (Nat.le_refl _) (Nat.le_refl _) (Nat.and_self q) hR
theorem c_Xsettle (hd : 70 ≤ d) (hO : XO h x tk) (hX : TT h lo hi tk ta fa A s P S E w true) : gxM G mX1_settle d 0 0 [.ref x] h (gxQi (fun r h' => r = spBits (nI (spOw (fun p => spNtS s p 6) P)) 10 - gC (fun p => spNtS s p 6) (spOw (fun p => spNtS s p 6) P + 1) (spOw (fun p => spNtS s p 6) P) ∧ h' = h)) := by
  have hX0 := hX
  obtain ⟨hT, hK, hM⟩ := hX; have hT0 := hT; obtain ⟨i1, i2, hf, nl, ol, pl, sl, el, fo, wv, pa, sa, ea, i3, ht, hfo, hpl, hsl, hel, hpa, hsa, hea, hwv⟩ := hT; have hpl0 := hpl.ls; have hsl0 := hsl.ls; have hel0 := hel.ls; have hpl := hpl0; have hsl := hsl0; have hel := hel0; obtain ⟨_, _, _, _, hpl, _⟩ := hpl; obtain ⟨_, _, _, _, hsl, _⟩ := hsl; obtain ⟨_, _, _, _, hel, _⟩ := hel; obtain ⟨kn, aw, rk, fi, ne, ha, hkn, haw, hrk, hfi, hne, ekn, eaw, erk, efi, ene⟩ := hK; obtain ⟨_, _, _, _, _, _, _, _, _, _, _, hx⟩ := id hO
  have hP6 := hM.2.1
  obtain ⟨hsh, h64⟩ := shl_P hP6
  have cg := c_groups (G := G) hO hX0
  generalize hnt : (fun p => spNtS s p 6) = nt at *
  have hn : ∀ p, p < 6 → ne p = nt p := fun p hp => by rw [ene p hp rfl, ← hnt]
  have ho := spOw_lt nt P
  refine gxM_of rfl (Nat.le_of_ble_eq_true rfl) rfl ?_
  have L : ∀ m p, m + p = P → gxV G mX1_settle d 0 0 4 [some (.ref x), some (.int (nI (spOw nt p))), some (.int (nI p))] [] h (gxQi (fun r h' => r = spBits (nI (spOw nt P)) 10 - gC nt (spOw nt P + 1) (spOw nt P) ∧ h' = h)) := by
    intro m
    induction m with
    | zero =>
      intro p hp
      have : p = P := by omega
      subst this
      refine gx_iload_n (pc := 4) dX1_settle_4 rfl ?_
      refine gx_aload_n (pc := 5) dX1_settle_5 rfl ?_
      refine kX1_138 (kc := 0) (ks := 0) (mc := 0) (ms := 0) (pc := 6) rfl (c_people (d := d - 1) (by omega) hO hX0) (gxRc.of rfl hx) (by omega) (Nat.le_of_ble_eq_true rfl) dX1_settle_6 (fun r1 h3 e1 => ?_)
      obtain ⟨rfl, e1⟩ := e1
      subst h3
      refine gx_icmp_ge (pc := 9) 36 dX1_settle_9 (by decide) (fun c1 => ?_) (fun c1 => ?_)
      · refine gx_iload_n (pc := 36) dX1_settle_36 rfl ?_
        refine kX1_293 (kc := 0) (ks := 0) (mc := 0) (ms := 0) (pc := 37) rfl (c_Xbits (d := d - 1) (spOw nt p) (by omega)) (by omega) (Nat.le_of_ble_eq_true rfl) dX1_settle_37 (fun r1 h3 e1 => ?_)
        obtain ⟨rfl, e1⟩ := e1
        subst h3
        refine gx_aload_n (pc := 40) dX1_settle_40 rfl ?_
        refine gx_iload_n (pc := 41) dX1_settle_41 rfl ?_
        refine kX1_336 (kc := 0) (ks := 0) (mc := 0) (ms := 0) (pc := 42) rfl (cg (spOw nt p) ho (d - 1) (by omega)) (gxRc.of rfl hx) (by omega) (Nat.le_of_ble_eq_true rfl) dX1_settle_42 (fun r1 h3 e1 => ?_)
        obtain ⟨rfl, e1⟩ := e1
        subst h3
        refine gx_isub (pc := 45) dX1_settle_45 ?_
        exact gx_ireturn (pc := 46) rfl dX1_settle_46 (⟨_, rfl, ⟨rfl, rfl⟩⟩)
      · exact absurd (nI_le (Nat.le_refl _) (by omega)) c1
    | succ m ih =>
      intro p hp
      have hop := spOw_lt nt p
      have h32 : 2 ^ p ≤ 32 := by
        have : ∀ p, p < 6 → 2 ^ p ≤ 32 := by decide
        exact this p (by omega)
      have K30 : ∀ v, v = nI (spOw nt (p + 1)) → gxV G mX1_settle d 0 0 30 [some (.ref x), some (.int v), some (.int (nI p))] [] h (gxQi (fun r h' => r = spBits (nI (spOw nt P)) 10 - gC nt (spOw nt P + 1) (spOw nt P) ∧ h' = h)) := by
        intro v hv
        subst hv
        refine gx_iincc (pc := 30) (c := 1) dX1_settle_30 rfl (by decide) (by decide) rfl ?_
        refine gx_goto (pc := 33) 4 dX1_settle_33 (by decide) ?_
        rw [nI_1]
        exact ih (p + 1) (by omega)
      refine gx_iload_n (pc := 4) dX1_settle_4 rfl ?_
      refine gx_aload_n (pc := 5) dX1_settle_5 rfl ?_
      refine kX1_138 (kc := 0) (ks := 0) (mc := 0) (ms := 0) (pc := 6) rfl (c_people (d := d - 1) (by omega) hO hX0) (gxRc.of rfl hx) (by omega) (Nat.le_of_ble_eq_true rfl) dX1_settle_6 (fun r1 h3 e1 => ?_)
      obtain ⟨rfl, e1⟩ := e1
      subst h3
      refine gx_icmp_ge (pc := 9) 36 dX1_settle_9 (by decide) (fun c1 => ?_) (fun c1 => ?_)
      · exact absurd c1 (nI_ge (by omega) (by omega))
      · refine gx_aload_n (pc := 12) dX1_settle_12 rfl ?_
        refine gx_get (pc := 13) fX1_40 hx rfl dX1_settle_13 ?_
        refine gx_get (pc := 16) fX1_183 ha rfl dX1_settle_16 ?_
        refine gx_iload_n (pc := 19) dX1_settle_19 rfl ?_
        refine gx_iald (pc := 20) (p) hne (by first | rfl | simp only [gx_lit, nI_add, pk_mul]) (by omega) (by decide) dX1_settle_20 ?_
        rw [hn p (by omega)]
        refine gx_if_eq (pc := 21) 30 dX1_settle_21 (by decide) (fun c2 => ?_) (fun c2 => ?_)
        · exact K30 _ (by rw [spOw, if_pos c2])
        · refine gx_iload_n (pc := 24) dX1_settle_24 rfl ?_
          refine gx_iconst (pc := 25) (v := 1) dX1_settle_25 (by decide) ?_
          refine gx_iload_n (pc := 26) dX1_settle_26 rfl ?_
          refine gx_ishl (pc := 27) dX1_settle_27 ?_
          refine gx_ior (pc := 28) dX1_settle_28 ?_
          rw [or_hi p (by omega) (spOw nt p) (by omega) hop]
          refine gx_istore_n (pc := 29) dX1_settle_29 (by decide) rfl ?_
          exact K30 _ (by rw [spOw, if_neg c2])
  refine gx_iconst (pc := 0) (v := 0) dX1_settle_0 (by decide) ?_
  refine gx_istore_n (pc := 1) dX1_settle_1 (by decide) rfl ?_
  refine gx_iconst (pc := 2) (v := 0) dX1_settle_2 (by decide) ?_
  refine gx_istore_n (pc := 3) dX1_settle_3 (by decide) rfl ?_
  exact L P 0 (by omega)
end LS
