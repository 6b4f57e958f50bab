/-! ===== COMPONENT Q: lies ===== -/
set_option maxRecDepth 100000
theorem and0 (x : Int32) : x &&& 0 = 0 := by
  apply Int32.toBitVec_inj.mp
  rw [Int32.toBitVec_and]
  simp
theorem spCl_0 (A : Nat → Nat → Int32) : ∀ S, spCl A 0 S = false
  | 0 => rfl
  | S + 1 => by rw [spCl, spCl_0 A S, clStep, hs_0]; rfl
theorem spLi_b (A : Nat → Nat → Int32) (S : Nat) : ∀ m, (spLi A S m).1 = -1 ∨ ∃ b, b < m ∧ (spLi A S m).1 = nI b
  | 0 => Or.inl rfl
  | m + 1 => by
    rw [spLi, liStep]
    split
    · rcases spLi_b A S m with e | ⟨b, hb, e⟩
      · exact Or.inl e
      · exact Or.inr ⟨b, by omega, e⟩
    · split
      · exact Or.inr ⟨m, by omega, rfl⟩
      · rcases spLi_b A S m with e | ⟨b, hb, e⟩
        · exact Or.inl e
        · exact Or.inr ⟨b, by omega, e⟩
theorem all_self : ∀ S, S < 11 → spAll S &&& (nI (2 ^ S - 1) ^^^ -1) = 0 := by decide +kernel
theorem spLi_last (A : Nat → Nat → Int32) {S : Nat} (hS : S ≤ 10) : ∃ b, b < 2 ^ S ∧ (spLi A S (2 ^ S)).1 = nI b := by
  obtain ⟨hp1, hp2⟩ := pow_S hS
  obtain ⟨m, hm⟩ : ∃ m, 2 ^ S = m + 1 := ⟨2 ^ S - 1, by omega⟩
  rcases spLi_b A S (2 ^ S) with e | e
  · exfalso
    rw [hm, spLi, liStep] at e
    have hm2 : m = 2 ^ S - 1 := by omega
    rw [show spAll S &&& (nI m ^^^ -1) = 0 by rw [hm2]; exact all_self S (by omega), spCl_0] at e
    split at e
    · rename_i hh
      rcases hh with z | z
      · rw [e] at z; exact absurd z.1 (by decide)
      · cases z
    · split at e
      · exact absurd e (fun q => by
          have : nI m = -1 := q
          have h1 := nI_pos' (show m < 2 ^ 31 by omega)
          rw [this] at h1
          exact absurd h1 (by decide))
      · rename_i h1 h2
        exact h2 (Or.inl (by rw [show (spLi A S m).1 = -1 from e]; decide))
  · exact e
section LQ
variable {G : gxG} {d : Nat} {h : gxH} {x tk lo hi ta fa P S E : Nat} {A : Nat → Nat → Int32} {s : Nat → Int32} {w : Option gxEv} {b : Bool}
theorem spCl_or (A : Nat → Nat → Int32) (set : Int32) : ∀ m k, spCl A set k = true → spCl A set (k + m) = true
  | 0, k, h => h
  | m + 1, k, h => by
    rw [show k + (m + 1) = (k + m) + 1 by omega, spCl, spCl_or A set m k h]; rfl
theorem c_areTrue (hd : 3 ≤ d) (hO : XO h x tk) (hX : TT h lo hi tk ta fa A s P S E w b) (set : Int32) : gxM G mX1_areTrue d 0 0 [.ref x, .int set] h (gxQi (fun r h' => r = zi (!spCl A set S) ∧ h' = h)) := by
  have hX0 := hX
  obtain ⟨hT, hK, hM⟩ := hX; have hT0 := hT; obtain ⟨i1, i2, hf, nl, ol, pl, sl, el, fo, wv, pa, sa, ea, i3, ht, hfo, hpl, hsl, hel, hpa, hsa, hea, hwv⟩ := hT; have hpl0 := hpl.ls; have hsl0 := hsl.ls; have hel0 := hel.ls; have hpl := hpl0; have hsl := hsl0; have hel := hel0; obtain ⟨_, _, _, _, hpl, _⟩ := hpl; obtain ⟨_, _, _, _, hsl, _⟩ := hsl; obtain ⟨_, _, _, _, hel, _⟩ := hel; obtain ⟨kn, aw, rk, fi, ne, ha, hkn, haw, hrk, hfi, hne, ekn, eaw, erk, efi, ene⟩ := hK; obtain ⟨_, _, _, _, _, _, _, _, _, _, _, hx⟩ := id hO
  have hS10 := hM.2.2.2.1
  refine gxM_of rfl (Nat.le_of_ble_eq_true rfl) rfl ?_
  have L : ∀ m k, m + k = S → spCl A set k = false → gxV G mX1_areTrue d 0 0 2 [some (.ref x), some (.int set), some (.int (nI k))] [] h (gxQi (fun r h' => r = zi (!spCl A set S) ∧ h' = h)) := by
    intro m
    induction m with
    | zero =>
      intro k hk hc
      have : k = S := by omega
      subst this
      refine gx_iload_n (pc := 2) dX1_areTrue_2 rfl ?_
      refine gx_aload_n (pc := 3) dX1_areTrue_3 rfl ?_
      refine kX1_144 (kc := 0) (ks := 0) (mc := 0) (ms := 0) (pc := 4) rfl (c_secrets (d := d - 1) (by omega) hO hX0) (gxRc.of rfl hx) (by omega) (Nat.le_of_ble_eq_true rfl) dX1_areTrue_4 (fun r1 h1 e1 => ?_)
      obtain ⟨rfl, e1⟩ := e1
      subst h1
      refine gx_icmp_ge (pc := 7) 48 dX1_areTrue_7 (by decide) (fun c1 => ?_) (fun c1 => ?_)
      · refine gx_iconst (pc := 48) (v := 1) dX1_areTrue_48 (by decide) ?_
        exact gx_zreturn (pc := 49) rfl (by decide) dX1_areTrue_49 (⟨_, rfl, ⟨by rw [hc]; rfl, rfl⟩⟩)
      · exact absurd (nI_le (Nat.le_refl _) (by omega)) c1
    | succ m ih =>
      intro k hk hc
      obtain ⟨_, hse⟩ := hsa k (by omega)
      have K42 : clStep A set k = false → gxV G mX1_areTrue d 0 0 42 [some (.ref x), some (.int set), some (.int (nI k))] [] h (gxQi (fun r h' => r = zi (!spCl A set S) ∧ h' = h)) := by
        intro hh
        refine gx_iincc (pc := 42) (c := 1) dX1_areTrue_42 rfl (by decide) (by decide) rfl ?_
        refine gx_goto (pc := 45) 2 dX1_areTrue_45 (by decide) ?_
        rw [nI_1]
        exact ih (k + 1) (by omega) (by rw [spCl, hc, hh]; rfl)
      refine gx_iload_n (pc := 2) dX1_areTrue_2 rfl ?_
      refine gx_aload_n (pc := 3) dX1_areTrue_3 rfl ?_
      refine kX1_144 (kc := 0) (ks := 0) (mc := 0) (ms := 0) (pc := 4) rfl (c_secrets (d := d - 1) (by omega) hO hX0) (gxRc.of rfl hx) (by omega) (Nat.le_of_ble_eq_true rfl) dX1_areTrue_4 (fun r1 h1 e1 => ?_)
      obtain ⟨rfl, e1⟩ := e1
      subst h1
      refine gx_icmp_ge (pc := 7) 48 dX1_areTrue_7 (by decide) (fun c1 => ?_) (fun c1 => ?_)
      · exact absurd c1 (nI_ge (by omega) (by omega))
      · refine gx_iload_n (pc := 10) dX1_areTrue_10 rfl ?_
        refine gx_iload_n (pc := 11) dX1_areTrue_11 rfl ?_
        refine kX1_176 (kc := 0) (ks := 0) (mc := 0) (ms := 0) (pc := 12) rfl (c_has (d := d - 1) set (nI k)) (by omega) (Nat.le_of_ble_eq_true rfl) dX1_areTrue_12 (fun r1 h1 e1 => ?_)
        obtain ⟨rfl, e1⟩ := e1
        subst h1
        refine gx_if_eq (pc := 15) 42 dX1_areTrue_15 (by decide) (fun c2 => ?_) (fun c2 => ?_)
        · exact K42 (by rw [clStep, zi_eq0 c2]; rfl)
        · refine gx_aload_n (pc := 18) dX1_areTrue_18 rfl ?_
          refine kX1_119 (kc := 0) (ks := 0) (mc := 0) (ms := 0) (pc := 19) rfl (c_now (d := d - 1) hO hX0) (gxRc.of rfl hx) (by omega) (Nat.le_of_ble_eq_true rfl) dX1_areTrue_19 (fun r1 h1 e3 => ?_)
          obtain ⟨rfl, e3⟩ := e3
          subst h1
          refine gx_get (pc := 22) fX1_135 ht rfl dX1_areTrue_22 ?_
          refine gx_iload_n (pc := 25) dX1_areTrue_25 rfl ?_
          refine kX1_153 (kc := 0) (ks := 0) (mc := 0) (ms := 0) (pc := 26) rfl (c_get (d := d - 1) (by omega) hsl0 k (by omega)) (gxRc.of rfl hsl) (by omega) (Nat.le_of_ble_eq_true rfl) dX1_areTrue_26 (fun r1 h1 e3 => ?_)
          obtain ⟨rfl, e3⟩ := e3
          subst h1
          refine gx_castS (pc := 29) hse rfl q1329 dX1_areTrue_29 ?_
          refine gx_get (pc := 32) fX1_219 hse rfl dX1_areTrue_32 ?_
          refine gx_iload_n (pc := 35) dX1_areTrue_35 rfl ?_
          refine gx_iand (pc := 36) dX1_areTrue_36 ?_
          refine gx_if_eq (pc := 37) 42 dX1_areTrue_37 (by decide) (fun c3 => ?_) (fun c3 => ?_)
          · exact K42 (by rw [clStep, c3]; simp)
          · refine gx_iconst (pc := 40) (v := 0) dX1_areTrue_40 (by decide) ?_
            have : spCl A set S = true := by
              have h1 : spCl A set (k + 1) = true := by rw [spCl, clStep, zi_ne0 c2, decide_eq_false c3]; simp
              have h2 := spCl_or A set m (k + 1) h1
              rwa [show k + 1 + m = S by omega] at h2
            exact gx_zreturn (pc := 41) rfl (by decide) dX1_areTrue_41 (⟨_, rfl, ⟨by rw [this]; rfl, rfl⟩⟩)
  refine gx_iconst (pc := 0) (v := 0) dX1_areTrue_0 (by decide) ?_
  refine gx_istore_n (pc := 1) dX1_areTrue_1 (by decide) rfl ?_
  exact L S 0 (by omega) rfl
theorem c_Xlies (hd : 5 ≤ d) (hO : XO h x tk) (hX : TT h lo hi tk ta fa A s P S E w b) (what : Int32) : gxM G mX1_lies d 0 0 [.ref x, .int what] h (gxQi (fun r h' => ((¬ (0 ≤ what ∧ what ≤ 3) ∧ r = -1) ∨ ((0 ≤ what ∧ what ≤ 3) ∧ r = spLir (spLi A S (2 ^ S)) what)) ∧ h' = h)) := by
  have hX0 := hX
  obtain ⟨hT, hK, hM⟩ := hX; have hT0 := hT; obtain ⟨i1, i2, hf, nl, ol, pl, sl, el, fo, wv, pa, sa, ea, i3, ht, hfo, hpl, hsl, hel, hpa, hsa, hea, hwv⟩ := hT; have hpl0 := hpl.ls; have hsl0 := hsl.ls; have hel0 := hel.ls; have hpl := hpl0; have hsl := hsl0; have hel := hel0; obtain ⟨_, _, _, _, hpl, _⟩ := hpl; obtain ⟨_, _, _, _, hsl, _⟩ := hsl; obtain ⟨_, _, _, _, hel, _⟩ := hel; obtain ⟨kn, aw, rk, fi, ne, ha, hkn, haw, hrk, hfi, hne, ekn, eaw, erk, efi, ene⟩ := hK; obtain ⟨_, _, _, _, _, _, _, _, _, _, _, hx⟩ := id hO
  have hS10 := hM.2.2.2.1
  obtain ⟨hp1, hp2⟩ := pow_S hS10
  have hall := spAll_eq S (by omega)
  refine gxM_of rfl (Nat.le_of_ble_eq_true rfl) rfl ?_
  refine gx_iload_n (pc := 0) dX1_lies_0 rfl ?_
  refine gx_iconst (pc := 1) (v := 0) dX1_lies_1 (by decide) ?_
  refine gx_iconst (pc := 2) (v := 3) dX1_lies_2 (by decide) ?_
  refine kX1_140 (kc := 0) (ks := 0) (mc := 0) (ms := 0) (pc := 3) rfl (c_Xwithin (d := d - 1) what 0 3) (by omega) (Nat.le_of_ble_eq_true rfl) dX1_lies_3 (fun r1 h1 e1 => ?_)
  obtain ⟨rfl, e1⟩ := e1
  subst h1
  refine gx_if_ne (pc := 6) 11 dX1_lies_6 (by decide) (fun c1 => ?_) (fun c1 => ?_)
  · have hw := wi_in c1
    have L : ∀ m k, m + k = 2 ^ S → gxV G mX1_lies d 0 0 21 [some (.ref x), some (.int what), some (.int (spLi A S k).1), some (.int (spLi A S k).2.1), some (.int (spLi A S k).2.2), some (.int (nI k))] [] h (gxQi (fun r h' => ((¬ (0 ≤ what ∧ what ≤ 3) ∧ r = -1) ∨ ((0 ≤ what ∧ what ≤ 3) ∧ r = spLir (spLi A S (2 ^ S)) what)) ∧ h' = h)) := by
      intro m
      induction m with
      | zero =>
        intro k hk
        have hk2 : k = 2 ^ S := by omega
        obtain ⟨b1, hb1, eb1⟩ := spLi_last A hS10
        rw [← hk2] at hb1 eb1
        refine gx_iload (pc := 21) dX1_lies_21 rfl ?_
        refine gx_aload_n (pc := 23) dX1_lies_23 rfl ?_
        refine kX1_250 (kc := 0) (ks := 0) (mc := 0) (ms := 0) (pc := 24) rfl (c_every (d := d - 1) (by omega) hO hX0) (gxRc.of rfl hx) (by omega) (Nat.le_of_ble_eq_true rfl) dX1_lies_24 (fun r1 h1 e1 => ?_)
        obtain ⟨rfl, e1⟩ := e1
        subst h1
        refine gx_icmp_gt (pc := 27) 110 dX1_lies_27 (by decide) (fun c2 => ?_) (fun c2 => ?_)
        · refine gx_iload_n (pc := 110) dX1_lies_110 rfl ?_
          refine gx_if_ne (pc := 111) 121 dX1_lies_111 (by decide) (fun c3 => ?_) (fun c3 => ?_)
          · refine gx_iload_n (pc := 121) dX1_lies_121 rfl ?_
            refine gx_iconst (pc := 122) (v := 1) dX1_lies_122 (by decide) ?_
            refine gx_icmp_ne (pc := 123) 130 dX1_lies_123 (by decide) (fun c4 => ?_) (fun c4 => ?_)
            · refine gx_iload_n (pc := 130) dX1_lies_130 rfl ?_
              refine gx_iconst (pc := 131) (v := 2) dX1_lies_131 (by decide) ?_
              refine gx_icmp_ne (pc := 132) 139 dX1_lies_132 (by decide) (fun c5 => ?_) (fun c5 => ?_)
              · refine gx_iload (pc := 139) dX1_lies_139 rfl ?_
                exact gx_ireturn (pc := 141) rfl dX1_lies_141 (⟨_, rfl, ⟨Or.inr ⟨hw, by rw [← hk2, spLir, if_neg c3, if_neg c4, if_neg c5]⟩, rfl⟩⟩)
              · refine gx_iload_n (pc := 135) dX1_lies_135 rfl ?_
                refine gx_goto (pc := 136) 141 dX1_lies_136 (by decide) ?_
                exact gx_ireturn (pc := 141) rfl dX1_lies_141 (⟨_, rfl, ⟨Or.inr ⟨hw, by rw [← hk2, spLir, if_neg c3, if_neg c4, if_pos c5]⟩, rfl⟩⟩)
            · refine gx_iload_n (pc := 126) dX1_lies_126 rfl ?_
              refine gx_goto (pc := 127) 141 dX1_lies_127 (by decide) ?_
              exact gx_ireturn (pc := 141) rfl dX1_lies_141 (⟨_, rfl, ⟨Or.inr ⟨hw, by rw [← hk2, spLir, if_neg c3, if_pos c4]⟩, rfl⟩⟩)
          · refine gx_iload_n (pc := 114) dX1_lies_114 rfl ?_
            rw [eb1]
            refine kX1_293 (kc := 0) (ks := 0) (mc := 0) (ms := 0) (pc := 115) rfl (c_Xbits (d := d - 1) b1 (by omega)) (by omega) (Nat.le_of_ble_eq_true rfl) dX1_lies_115 (fun r1 h1 e1 => ?_)
            obtain ⟨rfl, e1⟩ := e1
            subst h1
            refine gx_goto (pc := 118) 141 dX1_lies_118 (by decide) ?_
            exact gx_ireturn (pc := 141) rfl dX1_lies_141 (⟨_, rfl, ⟨Or.inr ⟨hw, by rw [← hk2, spLir, if_pos c3, eb1]⟩, rfl⟩⟩)
        · exact absurd (nI_lt (by omega) (by omega)) c2
      | succ m ih =>
        intro k hk
        have hs1 : spLi A S (k + 1) = liStep A S (spLi A S k) (nI k) := rfl
        have hqb := spLi_b A S k
        generalize hq : spLi A S k = q at *
        have hq1 : q.1 < 0 ↔ q.1 = -1 := by
          constructor
          · intro hh
            rcases hqb with e | ⟨b1, hb1, e⟩
            · exact e
            · rw [e] at hh; exact absurd hh (nI_pos (by omega))
          · intro e; rw [e]; decide
        have K104 : ∀ v : liT, v = spLi A S (k + 1) → gxV G mX1_lies d 0 0 104 [some (.ref x), some (.int what), some (.int v.1), some (.int v.2.1), some (.int v.2.2), some (.int (nI k))] [] h (gxQi (fun r h' => ((¬ (0 ≤ what ∧ what ≤ 3) ∧ r = -1) ∨ ((0 ≤ what ∧ what ≤ 3) ∧ r = spLir (spLi A S (2 ^ S)) what)) ∧ h' = h)) := by
          intro v hv
          subst hv
          refine gx_iincc (pc := 104) (c := 1) dX1_lies_104 rfl (by decide) (by decide) rfl ?_
          refine gx_goto (pc := 107) 21 dX1_lies_107 (by decide) ?_
          rw [nI_1]
          exact ih (k + 1) (by omega)
        have K47 : ¬ (0 ≤ q.1 ∧ spBits q.1 10 < spBits (nI k) 10) → gxV G mX1_lies d 0 0 47 [some (.ref x), some (.int what), some (.int q.1), some (.int q.2.1), some (.int q.2.2), some (.int (nI k))] [] h (gxQi (fun r h' => ((¬ (0 ≤ what ∧ what ≤ 3) ∧ r = -1) ∨ ((0 ≤ what ∧ what ≤ 3) ∧ r = spLir (spLi A S (2 ^ S)) what)) ∧ h' = h)) := by
          intro hg
          refine gx_aload_n (pc := 47) dX1_lies_47 rfl ?_
          refine gx_aload_n (pc := 48) dX1_lies_48 rfl ?_
          refine kX1_250 (kc := 0) (ks := 0) (mc := 0) (ms := 0) (pc := 49) rfl (c_every (d := d - 1) (by omega) hO hX0) (gxRc.of rfl hx) (by omega) (Nat.le_of_ble_eq_true rfl) dX1_lies_49 (fun r1 h1 e1 => ?_)
          obtain ⟨rfl, e1⟩ := e1
          subst h1
          refine gx_iload (pc := 52) dX1_lies_52 rfl ?_
          refine gx_iconst (pc := 54) (v := (-1)) dX1_lies_54 (by decide) ?_
          refine gx_ixor (pc := 55) dX1_lies_55 ?_
          refine gx_iand (pc := 56) dX1_lies_56 ?_
          rw [← hall]
          refine kX1_323 (kc := 0) (ks := 0) (mc := 0) (ms := 0) (pc := 57) rfl (c_areTrue (d := d - 1) (by omega) hO hX0 _) (gxRc.of rfl hx) (by omega) (Nat.le_of_ble_eq_true rfl) dX1_lies_57 (fun r1 h1 e1 => ?_)
          obtain ⟨rfl, e1⟩ := e1
          subst h1
          refine gx_if_ne (pc := 60) 66 dX1_lies_60 (by decide) (fun c2 => ?_) (fun c2 => ?_)
          · have ht := zi_ne0 c2
            have hcl : ¬ spCl A (spAll S &&& (nI k ^^^ -1)) S = true := fun e => by rw [e] at ht; cases ht
            have hst : ¬ ((0 ≤ q.1 ∧ spBits q.1 10 < spBits (nI k) 10) ∨ spCl A (spAll S &&& (nI k ^^^ -1)) S = true) := fun hh => by rcases hh with z | z; exact hg z; exact hcl z
            have K94 : ∀ q0 n a0, (q0, n + 1, a0 &&& nI k) = spLi A S (k + 1) → gxV G mX1_lies d 0 0 94 [some (.ref x), some (.int what), some (.int q0), some (.int n), some (.int a0), some (.int (nI k))] [] h (gxQi (fun r h' => ((¬ (0 ≤ what ∧ what ≤ 3) ∧ r = -1) ∨ ((0 ≤ what ∧ what ≤ 3) ∧ r = spLir (spLi A S (2 ^ S)) what)) ∧ h' = h)) := by
              intro q0 n a0 hv
              refine gx_iincc (pc := 94) (c := 1) dX1_lies_94 rfl (by decide) (by decide) rfl ?_
              refine gx_iload (pc := 97) dX1_lies_97 rfl ?_
              refine gx_iload (pc := 99) dX1_lies_99 rfl ?_
              refine gx_iand (pc := 101) dX1_lies_101 ?_
              refine gx_istore (pc := 102) dX1_lies_102 (by decide) rfl ?_
              exact K104 (q0, n + 1, a0 &&& nI k) hv
            have K83 : (q.1 < 0 ∨ spBits (nI k) 10 < spBits q.1 10) → gxV G mX1_lies d 0 0 83 [some (.ref x), some (.int what), some (.int q.1), some (.int q.2.1), some (.int q.2.2), some (.int (nI k))] [] h (gxQi (fun r h' => ((¬ (0 ≤ what ∧ what ≤ 3) ∧ r = -1) ∨ ((0 ≤ what ∧ what ≤ 3) ∧ r = spLir (spLi A S (2 ^ S)) what)) ∧ h' = h)) := by
              intro hh
              refine gx_iload (pc := 83) dX1_lies_83 rfl ?_
              refine gx_istore_n (pc := 85) dX1_lies_85 (by decide) rfl ?_
              refine gx_iconst (pc := 86) (v := 0) dX1_lies_86 (by decide) ?_
              refine gx_istore_n (pc := 87) dX1_lies_87 (by decide) rfl ?_
              refine gx_aload_n (pc := 88) dX1_lies_88 rfl ?_
              refine kX1_250 (kc := 0) (ks := 0) (mc := 0) (ms := 0) (pc := 89) rfl (c_every (d := d - 1) (by omega) hO hX0) (gxRc.of rfl hx) (by omega) (Nat.le_of_ble_eq_true rfl) dX1_lies_89 (fun r1 h1 e1 => ?_)
              obtain ⟨rfl, e1⟩ := e1
              subst h1
              refine gx_istore (pc := 92) dX1_lies_92 (by decide) rfl ?_
              exact K94 _ _ _ (by rw [hs1, liStep, if_neg hst, if_pos hh, hall]; rfl)
            refine gx_iload_n (pc := 66) dX1_lies_66 rfl ?_
            refine gx_iconst (pc := 67) (v := (-1)) dX1_lies_67 (by decide) ?_
            refine gx_icmp_eq (pc := 68) 83 dX1_lies_68 (by decide) (fun c3 => ?_) (fun c3 => ?_)
            · exact K83 (Or.inl (hq1.mpr c3))
            · rcases hqb with e | ⟨b1, hb1, e⟩
              · exact absurd e c3
              · refine gx_iload (pc := 71) dX1_lies_71 rfl ?_
                refine kX1_293 (kc := 0) (ks := 0) (mc := 0) (ms := 0) (pc := 73) rfl (c_Xbits (d := d - 1) k (by omega)) (by omega) (Nat.le_of_ble_eq_true rfl) dX1_lies_73 (fun r1 h1 e1 => ?_)
                obtain ⟨rfl, e1⟩ := e1
                subst h1
                refine gx_iload_n (pc := 76) dX1_lies_76 rfl ?_
                rw [e]
                refine kX1_293 (kc := 0) (ks := 0) (mc := 0) (ms := 0) (pc := 77) rfl (c_Xbits (d := d - 1) b1 (by omega)) (by omega) (Nat.le_of_ble_eq_true rfl) dX1_lies_77 (fun r1 h1 e1 => ?_)
                obtain ⟨rfl, e1⟩ := e1
                subst h1
                rw [← e]
                refine gx_icmp_ge (pc := 80) 94 dX1_lies_80 (by decide) (fun c4 => ?_) (fun c4 => ?_)
                · refine K94 _ _ _ ?_
                  rw [hs1, liStep, if_neg hst, if_neg (fun hh => by rcases hh with z | z; exact c3 (hq1.mp z); exact absurd z (Int32.not_lt.mpr c4))]
                · exact K83 (Or.inr (Int32.not_le.mp c4))
          · have ht := zi_eq0 c2
            have hcl : spCl A (spAll S &&& (nI k ^^^ -1)) S = true := by
              cases e : spCl A (spAll S &&& (nI k ^^^ -1)) S with
              | true => rfl
              | false => rw [e] at ht; cases ht
            refine gx_goto (pc := 63) 104 dX1_lies_63 (by decide) ?_
            exact K104 q (by rw [hs1, liStep, if_pos (Or.inr hcl)])
        refine gx_iload (pc := 21) dX1_lies_21 rfl ?_
        refine gx_aload_n (pc := 23) dX1_lies_23 rfl ?_
        refine kX1_250 (kc := 0) (ks := 0) (mc := 0) (ms := 0) (pc := 24) rfl (c_every (d := d - 1) (by omega) hO hX0) (gxRc.of rfl hx) (by omega) (Nat.le_of_ble_eq_true rfl) dX1_lies_24 (fun r1 h1 e1 => ?_)
        obtain ⟨rfl, e1⟩ := e1
        subst h1
        refine gx_icmp_gt (pc := 27) 110 dX1_lies_27 (by decide) (fun c2 => ?_) (fun c2 => ?_)
        · exact absurd c2 (nI_nlt (by omega) (by omega))
        · refine gx_iload_n (pc := 30) dX1_lies_30 rfl ?_
          refine gx_iconst (pc := 31) (v := (-1)) dX1_lies_31 (by decide) ?_
          refine gx_icmp_eq (pc := 32) 47 dX1_lies_32 (by decide) (fun c3 => ?_) (fun c3 => ?_)
          · exact K47 (fun hh => by rw [show q.1 = -1 from c3] at hh; exact absurd hh.1 (by decide))
          · rcases hqb with e | ⟨b1, hb1, e⟩
            · exact absurd e c3
            · refine gx_iload (pc := 35) dX1_lies_35 rfl ?_
              refine kX1_293 (kc := 0) (ks := 0) (mc := 0) (ms := 0) (pc := 37) rfl (c_Xbits (d := d - 1) k (by omega)) (by omega) (Nat.le_of_ble_eq_true rfl) dX1_lies_37 (fun r1 h1 e1 => ?_)
              obtain ⟨rfl, e1⟩ := e1
              subst h1
              refine gx_iload_n (pc := 40) dX1_lies_40 rfl ?_
              rw [e]
              refine kX1_293 (kc := 0) (ks := 0) (mc := 0) (ms := 0) (pc := 41) rfl (c_Xbits (d := d - 1) b1 (by omega)) (by omega) (Nat.le_of_ble_eq_true rfl) dX1_lies_41 (fun r1 h1 e1 => ?_)
              obtain ⟨rfl, e1⟩ := e1
              subst h1
              rw [← e]
              refine gx_icmp_gt (pc := 44) 104 dX1_lies_44 (by decide) (fun c4 => ?_) (fun c4 => ?_)
              · refine K104 q ?_
                rw [hs1, liStep, if_pos (Or.inl ⟨by rw [e]; exact nI_pos' (by omega), c4⟩)]
              · exact K47 (fun hh => c4 hh.2)
    refine gx_iconst (pc := 11) (v := (-1)) dX1_lies_11 (by decide) ?_
    refine gx_istore_n (pc := 12) dX1_lies_12 (by decide) rfl ?_
    refine gx_iconst (pc := 13) (v := 0) dX1_lies_13 (by decide) ?_
    refine gx_istore_n (pc := 14) dX1_lies_14 (by decide) rfl ?_
    refine gx_iconst (pc := 15) (v := 0) dX1_lies_15 (by decide) ?_
    refine gx_istore (pc := 16) dX1_lies_16 (by decide) rfl ?_
    refine gx_iconst (pc := 18) (v := 0) dX1_lies_18 (by decide) ?_
    refine gx_istore (pc := 19) dX1_lies_19 (by decide) rfl ?_
    exact L (2 ^ S) 0 (by omega)
  · have hw := wi_out c1
    refine gx_iconst (pc := 9) (v := (-1)) dX1_lies_9 (by decide) ?_
    exact gx_ireturn (pc := 10) rfl dX1_lies_10 (⟨_, rfl, ⟨Or.inl ⟨hw, rfl⟩, rfl⟩⟩)
end LQ
