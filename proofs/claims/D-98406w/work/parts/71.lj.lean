/-! ===== COMPONENT J: lends, least ===== -/
set_option maxRecDepth 100000
theorem spNtS_ld {s : Nat → Int32} {p q : Nat} (hp : p < 6) (hq : q < 6) (hpq : p ≠ q) (n : Int32) {x : Nat} (hx : x < 6) : ∀ o, o ≤ 6 → spNtS (upd s (86 + 6 * q + p) (s (86 + 6 * q + p) + n)) x o = spNtS s x o + (if x = p ∧ q < o then n else 0) - (if x = q ∧ p < o then n else 0)
  | 0, _ => by simp [spNtS]
  | o + 1, ho => by
    rw [spNtS, spNtS, spNtS_ld hp hq hpq n hx o (by omega)]
    simp only [upd]
    by_cases e1 : x = p
    · have e2 : ¬ x = q := fun e => hpq (e1.symm.trans e)
      rw [if_neg (show ¬ (x = q ∧ p < o) from fun hh => e2 hh.1), if_neg (show ¬ (x = q ∧ p < o + 1) from fun hh => e2 hh.1), if_neg (show ¬ 86 + 6 * x + o = 86 + 6 * q + p by omega)]
      by_cases e3 : o = q
      · rw [if_pos (show 86 + 6 * o + x = 86 + 6 * q + p by omega), if_neg (show ¬ (x = p ∧ q < o) by omega), if_pos (show x = p ∧ q < o + 1 by omega), e1, e3]
        grind
      · rw [if_neg (show ¬ 86 + 6 * o + x = 86 + 6 * q + p by omega)]
        by_cases e4 : q < o
        · rw [if_pos (show x = p ∧ q < o from ⟨e1, e4⟩), if_pos (show x = p ∧ q < o + 1 by omega)]; grind
        · rw [if_neg (show ¬ (x = p ∧ q < o) by omega), if_neg (show ¬ (x = p ∧ q < o + 1) by omega)]; grind
    · rw [if_neg (show ¬ (x = p ∧ q < o) from fun hh => e1 hh.1), if_neg (show ¬ (x = p ∧ q < o + 1) from fun hh => e1 hh.1), if_neg (show ¬ 86 + 6 * o + x = 86 + 6 * q + p by omega)]
      by_cases e2 : x = q
      · by_cases e3 : o = p
        · rw [if_pos (show 86 + 6 * x + o = 86 + 6 * q + p by omega), if_neg (show ¬ (x = q ∧ p < o) by omega), if_pos (show x = q ∧ p < o + 1 by omega), e2, e3]
          grind
        · rw [if_neg (show ¬ 86 + 6 * x + o = 86 + 6 * q + p by omega)]
          by_cases e4 : p < o
          · rw [if_pos (show x = q ∧ p < o from ⟨e2, e4⟩), if_pos (show x = q ∧ p < o + 1 by omega)]; grind
          · rw [if_neg (show ¬ (x = q ∧ p < o) by omega), if_neg (show ¬ (x = q ∧ p < o + 1) by omega)]; grind
      · rw [if_neg (show ¬ 86 + 6 * x + o = 86 + 6 * q + p by omega), if_neg (show ¬ (x = q ∧ p < o) from fun hh => e2 hh.1), if_neg (show ¬ (x = q ∧ p < o + 1) from fun hh => e2 hh.1)]
        grind
section LJ
variable {G : gxG} {d : Nat} {h : gxH} {lo hi a ta fa P S E : Nat} {A : Nat → Nat → Int32} {s : Nat → Int32} {w : Option gxEv} {b : Bool}
theorem TK.un {h : gxH} {a ta : Nat} {s kn aw rk fi ne : Nat → Int32} {b : Bool} (x : TF h a (.ref ta) kn aw rk fi ne (s 76) (s 77) (s 78) (s 122) (s 85)) {ne' : Nat → Int32} (r : TR s kn aw rk fi ne' b) : TK h a ta s false := TK.of x ⟨r.1, r.2.1, r.2.2.1, r.2.2.2.1, fun _ _ hb => by cases hb⟩
theorem c_Xlends (hN : gxN G ≤ lo) (hn : gxN G ≤ a) (hd : 93 ≤ d) (hf : fa < a ∨ a + 6 ≤ fa) (dj : a + 6 ≤ lo ∨ hi ≤ a) (hX : TT h lo hi a ta fa A s P S E w true) (p q k : Nat) (hp : p < P) (hq : q < P) (hk : k < S) : gxM G mX3_lends d 0 0 [.ref a, .int (nI p), .int (nI q), .int (nI k)] h (gxQi (fun r h' => (¬ (p ≠ q ∧ A 17 k = nI q ∧ ¬ (s k >>> (nI p &&& 31)) &&& 1 = 0 ∧ ¬ s 122 = 12) ∧ r = 0 ∧ h' = h) ∨ ((p ≠ q ∧ A 17 k = nI q ∧ ¬ (s k >>> (nI p &&& 31)) &&& 1 = 0 ∧ ¬ s 122 = 12) ∧ r = 1 ∧ TK h' a ta (spLend s p q (spW w (setS A s) P k)) true ∧ tE a fa h h'))) := by
  have hM := hX.2.2
  have hP6 := hM.2.1
  have hS10 := hM.2.2.2.1
  have hX0 := hX
  obtain ⟨kn, aw, rk, fi, ne, hF, hR⟩ := hX.2.1.F
  have na := hn
  have nne : gxN G ≤ a + 5 := by omega
  refine gxM_of rfl (Nat.le_of_ble_eq_true rfl) rfl ?_
  have hF0 := hF
  obtain ⟨ha, hkn, haw, hrk, hfi, hne⟩ := hF
  have N : ¬ (p ≠ q ∧ A 17 k = nI q ∧ ¬ (s k >>> (nI p &&& 31)) &&& 1 = 0 ∧ ¬ s 122 = 12) → gxV G mX3_lends d 0 0 39 [some (.ref a), some (.int (nI p)), some (.int (nI q)), some (.int (nI k))] [] h (gxQi (fun r h' => (¬ (p ≠ q ∧ A 17 k = nI q ∧ ¬ (s k >>> (nI p &&& 31)) &&& 1 = 0 ∧ ¬ s 122 = 12) ∧ r = 0 ∧ h' = h) ∨ ((p ≠ q ∧ A 17 k = nI q ∧ ¬ (s k >>> (nI p &&& 31)) &&& 1 = 0 ∧ ¬ s 122 = 12) ∧ r = 1 ∧ TK h' a ta (spLend s p q (spW w (setS A s) P k)) true ∧ tE a fa h h'))) := by
    intro hh
    refine gx_iconst (pc := 39) (v := 0) dX3_lends_39 (by decide) ?_
    exact gx_zreturn (pc := 40) rfl (by decide) dX3_lends_40 (⟨_, rfl, Or.inl ⟨hh, rfl, rfl⟩⟩)
  refine gx_iload_n (pc := 0) dX3_lends_0 rfl ?_
  refine gx_iload_n (pc := 1) dX3_lends_1 rfl ?_
  refine gx_icmp_eq (pc := 2) 39 dX3_lends_2 (by decide) (fun c1 => ?_) (fun c1 => ?_)
  · exact N (fun hh => hh.1 ((nI_eq (by omega) (by omega)).mp c1))
  · have hpq : p ≠ q := fun e => c1 (by rw [e])
    refine gx_aload_n (pc := 5) dX3_lends_5 rfl ?_
    refine gx_iload_n (pc := 6) dX3_lends_6 rfl ?_
    refine kX3_86 (kc := 0) (ks := 0) (mc := 0) (ms := 0) (pc := 7) rfl (c_Tsecret (d := d - 1) (by omega) hX0 k hk) (gxRc.of rfl ha) (by omega) (Nat.le_of_ble_eq_true rfl) dX3_lends_7 (fun r1 h1 e1 => ?_)
    obtain ⟨e1, hse⟩ := e1
    subst h1
    refine gx_get (pc := 10) fX3_90 hse rfl dX3_lends_10 ?_
    refine gx_iload_n (pc := 13) dX3_lends_13 rfl ?_
    refine gx_icmp_ne (pc := 14) 39 dX3_lends_14 (by decide) (fun c2 => ?_) (fun c2 => ?_)
    · exact N (fun hh => c2 hh.2.1)
    · refine gx_aload_n (pc := 17) dX3_lends_17 rfl ?_
      refine gx_get (pc := 18) fX3_9 ha rfl dX3_lends_18 ?_
      refine gx_iload_n (pc := 21) dX3_lends_21 rfl ?_
      refine gx_iald (pc := 22) (k) hkn (by first | rfl | simp only [gx_lit, nI_add, pk_mul]) (by omega) (by decide) dX3_lends_22 ?_
      rw [hR.1 k (by omega)]
      refine gx_iload_n (pc := 23) dX3_lends_23 rfl ?_
      refine kX3_97 (kc := 0) (ks := 0) (mc := 0) (ms := 0) (pc := 24) rfl (c_has (d := d - 1) (s k) (nI p)) (by omega) (Nat.le_of_ble_eq_true rfl) dX3_lends_24 (fun r1 h1 e1 => ?_)
      obtain ⟨rfl, e1⟩ := e1
      subst h1
      refine gx_if_eq (pc := 27) 39 dX3_lends_27 (by decide) (fun c3 => ?_) (fun c3 => ?_)
      · have z := zi_eq0 c3
        rw [hs, decide_eq_false_iff_not] at z
        exact N (fun hh => hh.2.2.1 ((bit01 _).resolve_right z))
      · have z := zi_ne0 c3
        rw [hs, decide_eq_true_eq] at z
        have z0 : ¬ (s k >>> (nI p &&& 31)) &&& 1 = 0 := fun e => by rw [e] at z; exact absurd z (by decide)
        refine gx_aload_n (pc := 30) dX3_lends_30 rfl ?_
        refine gx_get (pc := 31) fX3_69 ha rfl dX3_lends_31 ?_
        refine gx_bipush (pc := 34) (v := 12) dX3_lends_34 (by decide) ?_
        refine gx_icmp_ne (pc := 36) 41 dX3_lends_36 (by decide) (fun c4 => ?_) (fun c4 => ?_)
        · generalize hW : spW w (setS A s) P k = W
          refine gx_aload_n (pc := 41) dX3_lends_41 rfl ?_
          refine gx_get (pc := 42) fX3_24 ha rfl dX3_lends_42 ?_
          refine gx_iload_n (pc := 45) dX3_lends_45 rfl ?_
          refine gx_dup2 (pc := 46) dX3_lends_46 rfl rfl ?_
          refine gx_iald (pc := 47) (p) hne (by first | rfl | simp only [gx_lit, nI_add, pk_mul]) (by omega) (by decide) dX3_lends_47 ?_
          refine gx_aload_n (pc := 48) dX3_lends_48 rfl ?_
          refine gx_iload_n (pc := 49) dX3_lends_49 rfl ?_
          refine kX3_107 (kc := 0) (ks := 0) (mc := 0) (ms := 0) (pc := 50) rfl (c_Tworth hN k hk (d - 1) h (by omega) hX0) (gxRc.of rfl ha) (by omega) (Nat.le_of_ble_eq_true rfl) dX3_lends_50 (fun r1 h1 e1 => ?_)
          obtain ⟨rfl, e1⟩ := e1
          rw [hW]
          have K1 := hX0.2.1.fE hX0.1.2.2.1 e1
          have hF1 : TF h1 a (.ref ta) kn aw rk fi ne (s 76) (s 77) (s 78) (s 122) (s 85) := by
            have hfc := hX0.1.2.2.1
            exact ⟨e1.at hfc ha (fun f q => by cases q), e1.at hfc hkn (fun f q => by simp at q), e1.at hfc haw (fun f q => by simp at q), e1.at hfc hrk (fun f q => by simp at q), e1.at hfc hfi (fun f q => by simp at q), e1.at hfc hne (fun f q => by simp at q)⟩
          have T1 := hX0.1.fE e1
          have E1 : tE a fa h h1 := e1.t
          clear ha hkn haw hrk hfi hne
          obtain ⟨ha, hkn, haw, hrk, hfi, hne⟩ := id hF1
          refine gx_iadd (pc := 53) dX3_lends_53 ?_
          refine gx_iast (pc := 54) (p) hne nne (by first | rfl | simp only [gx_lit, nI_add, pk_mul]) (by omega) (by decide) dX3_lends_54 ?_
          generalize hv2 : ne p + W = v2
          have hF2 := hF1.une (upd ne p v2)
          have E2 := tE.up (a := a) (fa := fa) (i := 5) h1 (.inl (0, 6, .inl (upd ne p v2))) (by decide) hf
          generalize gxup h1 (a + 5) (.inl (0, 6, .inl (upd ne p v2))) = h2 at *
          have T2 := T1.tE E2 dj
          have E2 := E1.tr E2
          have X2 : TT h2 lo hi a ta fa A s P S E w false := ⟨T2, TK.un hF2 hR, hM⟩
          clear ha hkn haw hrk hfi hne
          obtain ⟨ha, hkn, haw, hrk, hfi, hne⟩ := id hF2
          refine gx_aload_n (pc := 55) dX3_lends_55 rfl ?_
          refine gx_get (pc := 56) fX3_24 ha rfl dX3_lends_56 ?_
          refine gx_iload_n (pc := 59) dX3_lends_59 rfl ?_
          refine gx_dup2 (pc := 60) dX3_lends_60 rfl rfl ?_
          refine gx_iald (pc := 61) (q) hne (by first | rfl | simp only [gx_lit, nI_add, pk_mul]) (by omega) (by decide) dX3_lends_61 ?_
          refine gx_aload_n (pc := 62) dX3_lends_62 rfl ?_
          refine gx_iload_n (pc := 63) dX3_lends_63 rfl ?_
          refine kX3_107 (kc := 0) (ks := 0) (mc := 0) (ms := 0) (pc := 64) rfl (c_Tworth hN k hk (d - 1) h2 (by omega) X2) (gxRc.of rfl ha) (by omega) (Nat.le_of_ble_eq_true rfl) dX3_lends_64 (fun r1 h3 e3 => ?_)
          obtain ⟨rfl, e3⟩ := e3
          rw [hW]
          have hF3 : TF h3 a (.ref ta) kn aw rk fi (upd ne p v2) (s 76) (s 77) (s 78) (s 122) (s 85) := by
            have hfc := T2.2.2.1
            exact ⟨e3.at hfc ha (fun f q => by cases q), e3.at hfc hkn (fun f q => by simp at q), e3.at hfc haw (fun f q => by simp at q), e3.at hfc hrk (fun f q => by simp at q), e3.at hfc hfi (fun f q => by simp at q), e3.at hfc hne (fun f q => by simp at q)⟩
          have E3 : tE a fa h h3 := E2.tr e3.t
          clear ha hkn haw hrk hfi hne
          obtain ⟨ha, hkn, haw, hrk, hfi, hne⟩ := id hF3
          refine gx_isub (pc := 67) dX3_lends_67 ?_
          refine gx_iast (pc := 68) (q) hne nne (by first | rfl | simp only [gx_lit, nI_add, pk_mul]) (by omega) (by decide) dX3_lends_68 ?_
          generalize hv4 : upd ne p v2 q - W = v4
          have hF4 := hF3.une (upd (upd ne p v2) q v4)
          have E4 := tE.up (a := a) (fa := fa) (i := 5) h3 (.inl (0, 6, .inl (upd (upd ne p v2) q v4))) (by decide) hf
          generalize gxup h3 (a + 5) (.inl (0, 6, .inl (upd (upd ne p v2) q v4))) = h4 at *
          have E4 := E3.tr E4
          clear ha hkn haw hrk hfi hne
          obtain ⟨ha, hkn, haw, hrk, hfi, hne⟩ := id hF4
          refine gx_aload_n (pc := 69) dX3_lends_69 rfl ?_
          refine gx_dup (pc := 70) dX3_lends_70 rfl ?_
          refine gx_get (pc := 71) fX3_69 ha rfl dX3_lends_71 ?_
          refine gx_iconst (pc := 74) (v := 1) dX3_lends_74 (by decide) ?_
          refine gx_iadd (pc := 75) dX3_lends_75 ?_
          refine gx_put (pc := 76) fX3_69 ha na (by first | exact Nat.le_of_ble_eq_true rfl | simp) tX3_9 rfl rfl dX3_lends_76 ?_
          refine gx_iconst (pc := 79) (v := 1) dX3_lends_79 (by decide) ?_
          have hF5 := hF4.ob (.ref ta) (s 76) (s 77) (s 78) (s 122 + 1) (s 85)
          have E5 := tE.up (a := a) (fa := fa) (i := 0) h4 (.inr (2, [.ref ta, .ref (a + 1), .ref (a + 2), .ref (a + 3), .ref (a + 4), .ref (a + 5), .int (s 76), .int (s 77), .int (s 78), .int (s 122 + 1), .int (s 85)])) (by decide) hf
          have hR5 : TR (spLend s p q W) kn aw rk fi (upd (upd ne p v2) q v4) true := by
            obtain ⟨r1, r2, r3, r4, r5⟩ := hR
            have le : ∀ j, j < 86 → spLend s p q W j = s j := fun j hj => by simp only [spLend, upd]; rw [if_neg (by omega), if_neg (by omega)]
            refine ⟨fun k' hk' => ?_, fun p' q' k' hp' hq' hk' => ?_, fun p' hp' => ?_, fun p' hp' => ?_, fun x hx _ => ?_⟩
            · rw [le _ (by omega)]; exact r1 k' hk'
            · rw [le _ (by omega)]; exact r2 p' q' k' hp' hq' hk'
            · rw [le _ (by omega)]; exact r3 p' hp'
            · rw [le _ (by omega)]; exact r4 p' hp'
            · rw [spLend, spNtS_irr hx (by omega) 6 (by omega), spNtS_ld (by omega) (by omega) hpq W hx 6 (by omega), ← hv4, ← hv2]
              have rx := r5 x hx rfl
              by_cases e1 : x = q
              · have : ¬ x = p := fun e => hpq (e.symm.trans e1)
                subst e1
                rw [if_neg (fun hh => this hh.1), if_pos ⟨rfl, by omega⟩]
                simp only [upd, if_true]
                rw [if_neg this, rx]; grind
              · rw [if_neg (show ¬ (x = q ∧ p < 6) from fun hh => e1 hh.1)]
                by_cases e2 : x = p
                · subst e2
                  rw [if_pos ⟨rfl, by omega⟩]
                  simp only [upd, if_true]
                  rw [if_neg e1, rx]; grind
                · rw [if_neg (show ¬ (x = p ∧ q < 6) from fun hh => e2 hh.1)]
                  simp only [upd]
                  rw [if_neg e1, if_neg e2, rx]; grind
          have hF6 : TF (gxup h4 a (.inr (2, [.ref ta, .ref (a + 1), .ref (a + 2), .ref (a + 3), .ref (a + 4), .ref (a + 5), .int (s 76), .int (s 77), .int (s 78), .int (s 122 + 1), .int (s 85)]))) a (.ref ta) kn aw rk fi (upd (upd ne p v2) q v4) (spLend s p q W 76) (spLend s p q W 77) (spLend s p q W 78) (spLend s p q W 122) (spLend s p q W 85) := by
            have e : ∀ j, j = 76 ∨ j = 77 ∨ j = 78 ∨ j = 85 → spLend s p q W j = s j := fun j hj => by simp only [spLend, upd]; rw [if_neg (by omega), if_neg (by omega)]
            rw [e 76 (by omega), e 77 (by omega), e 78 (by omega), e 85 (by omega), show spLend s p q W 122 = s 122 + 1 by simp [spLend, upd]]
            exact hF5
          exact gx_zreturn (pc := 80) rfl (by decide) dX3_lends_80 (⟨_, rfl, Or.inr ⟨⟨hpq, c2, z0, c4⟩, rfl, TK.of hF6 hR5, E4.tr E5⟩⟩)
        · exact N (fun hh => hh.2.2.2 c4)
end LJ
