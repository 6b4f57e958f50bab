/-! ===== COMPONENT C: towns asked ===== -/
set_option maxRecDepth 100000
section LC
variable {G : gxG} {d : Nat} {h : gxH} {lo hi ta fa P S E : Nat} {A : Nat → Nat → Int32} {w : Option gxEv}
theorem c_knowers (hd : 3 ≤ d) (hT : TW h lo hi ta fa A P S E w) (hP6 : P ≤ 6) (set : Int32) : gxM G mX4_knowers d 0 0 [.ref ta, .int set] h (gxQi (fun r h' => r = spKn (fun p => decide (¬ A 13 p = 3)) set P ∧ h' = h)) := by
  obtain ⟨i1, i2, hf, nl, ol, pl, sl, el, fo, wv, pa, sa, ea, i3, ht, ho, hpl, hsl, hel, hpa, hsa, hea, hwv⟩ := hT
  have hpl := hpl.ls
  refine gxM_of rfl (Nat.le_of_ble_eq_true rfl) rfl ?_
  have hpl0 := hpl
  obtain ⟨lm, le, lc, lg, hpl, _⟩ := hpl
  have L : ∀ m p, m + p = P → gxV G mX4_knowers d 0 0 4 [some (.ref ta), some (.int set), some (.int (spKn (fun p => decide (¬ A 13 p = 3)) set p)), some (.int (nI p))] [] h (gxQi (fun r h' => r = spKn (fun p => decide (¬ A 13 p = 3)) set P ∧ h' = h)) := by
    intro m
    induction m with
    | zero =>
      intro p hp
      have : p = P := by omega
      subst this
      refine gx_iload_n (pc := 4) dX4_knowers_4 rfl ?_
      refine gx_aload_n (pc := 5) dX4_knowers_5 rfl ?_
      refine gx_get (pc := 6) fX4_23 ht rfl dX4_knowers_6 ?_
      refine kX4_39 (kc := 0) (ks := 0) (mc := 0) (ms := 0) (pc := 9) rfl (c_size (d := d - 1) hpl0) (gxRc.of rfl hpl) (by omega) (Nat.le_of_ble_eq_true rfl) dX4_knowers_9 (fun r1 h1 e1 => ?_)
      obtain ⟨rfl, e1⟩ := e1
      subst e1
      refine gx_icmp_ge (pc := 12) 49 dX4_knowers_12 (by decide) (fun c1 => ?_) (fun c1 => ?_)
      · refine gx_iload_n (pc := 49) dX4_knowers_49 rfl ?_
        exact gx_ireturn (pc := 50) rfl dX4_knowers_50 (⟨_, rfl, ⟨rfl, rfl⟩⟩)
      · exact absurd (nI_le (Nat.le_refl _) (by omega)) c1
    | succ m ih =>
      intro p hp
      obtain ⟨_, hpe⟩ := hpa p (by omega)
      have K43 : ∀ v, v = spKn (fun p => decide (¬ A 13 p = 3)) set (p + 1) → gxV G mX4_knowers d 0 0 43 [some (.ref ta), some (.int set), some (.int v), some (.int (nI p))] [] h (gxQi (fun r h' => r = spKn (fun p => decide (¬ A 13 p = 3)) set P ∧ h' = h)) := by
        intro v hv
        subst hv
        refine gx_iincc (pc := 43) (c := 1) dX4_knowers_43 rfl (by decide) (by decide) rfl ?_
        refine gx_goto (pc := 46) 4 dX4_knowers_46 (by decide) ?_
        rw [nI_1]
        exact ih (p + 1) (by omega)
      refine gx_iload_n (pc := 4) dX4_knowers_4 rfl ?_
      refine gx_aload_n (pc := 5) dX4_knowers_5 rfl ?_
      refine gx_get (pc := 6) fX4_23 ht rfl dX4_knowers_6 ?_
      refine kX4_39 (kc := 0) (ks := 0) (mc := 0) (ms := 0) (pc := 9) rfl (c_size (d := d - 1) hpl0) (gxRc.of rfl hpl) (by omega) (Nat.le_of_ble_eq_true rfl) dX4_knowers_9 (fun r1 h1 e1 => ?_)
      obtain ⟨rfl, e1⟩ := e1
      subst e1
      refine gx_icmp_ge (pc := 12) 49 dX4_knowers_12 (by decide) (fun c1 => ?_) (fun c1 => ?_)
      · exact absurd c1 (nI_ge (by omega) (by omega))
      · refine gx_iload_n (pc := 15) dX4_knowers_15 rfl ?_
        refine gx_iload_n (pc := 16) dX4_knowers_16 rfl ?_
        refine kX4_75 (kc := 0) (ks := 0) (mc := 0) (ms := 0) (pc := 17) rfl (c_has (d := d - 1) set (nI p)) (by omega) (Nat.le_of_ble_eq_true rfl) dX4_knowers_17 (fun r1 h1 e1 => ?_)
        obtain ⟨rfl, e1⟩ := e1
        subst e1
        refine gx_if_eq (pc := 20) 43 dX4_knowers_20 (by decide) (fun c2 => ?_) (fun c2 => ?_)
        · exact K43 _ (by rw [spKn, zi_eq0 c2]; simp [zi])
        · refine gx_aload_n (pc := 23) dX4_knowers_23 rfl ?_
          refine gx_get (pc := 24) fX4_23 ht rfl dX4_knowers_24 ?_
          refine gx_iload_n (pc := 27) dX4_knowers_27 rfl ?_
          refine kX4_43 (kc := 0) (ks := 0) (mc := 0) (ms := 0) (pc := 28) rfl (c_get (d := d - 1) (by omega) hpl0 p (by omega)) (gxRc.of rfl hpl) (by omega) (Nat.le_of_ble_eq_true rfl) dX4_knowers_28 (fun r1 h1 e1 => ?_)
          obtain ⟨rfl, e1⟩ := e1
          subst e1
          refine gx_castP (pc := 31) hpe q1069 dX4_knowers_31 ?_
          refine kPX4_79 (pc := 34) hpe rfl (by omega) (Nat.le_of_ble_eq_true rfl) dX4_knowers_34 ?_
          refine gx_if_eq (pc := 37) 43 dX4_knowers_37 (by decide) (fun c3 => ?_) (fun c3 => ?_)
          · exact K43 _ (by rw [spKn, zi_ne0 c2, zi_eq0 c3]; simp [zi])
          · refine gx_iincc (pc := 40) (c := 1) dX4_knowers_40 rfl (by decide) (by decide) rfl ?_
            exact K43 _ (by rw [spKn, zi_ne0 c2, zi_ne0 c3]; simp [zi])
  refine gx_iconst (pc := 0) (v := 0) dX4_knowers_0 (by decide) ?_
  refine gx_istore_n (pc := 1) dX4_knowers_1 (by decide) rfl ?_
  refine gx_iconst (pc := 2) (v := 0) dX4_knowers_2 (by decide) ?_
  refine gx_istore_n (pc := 3) dX4_knowers_3 (by decide) rfl ?_
  exact L P 0 (by omega)
/-- the chance of an ear -/
def spChc (A : Nat → Nat → Int32) (e p : Nat) : Int32 := if A 24 e + (if A 13 p = 1 then 1 else 0) < 10 then A 24 e + (if A 13 p = 1 then 1 else 0) else 10
theorem c_chance (hd : 3 ≤ d) (hT : TW h lo hi ta fa A P S E w) (hP6 : P ≤ 6) (hE : E ≤ 30) (e : Nat) (he : e < E) (p : Nat) (hp : p < P) (hep : A 22 e = nI p) : gxM G mX4_chance d 0 0 [.ref ta, .int (nI e)] h (gxQi (fun r h' => r = spChc A e p ∧ h' = h)) := by
  obtain ⟨i1, i2, hf, nl, ol, pl, sl, el, fo, wv, pa, sa, ea, i3, ht, ho, hpl, hsl, hel, hpa, hsa, hea, hwv⟩ := hT
  have hpl0 := hpl.ls
  have hel0 := hel.ls
  have hpl := hpl0
  have hel := hel0
  obtain ⟨_, _, _, _, hpl, _⟩ := hpl
  obtain ⟨_, _, _, _, hel, _⟩ := hel
  obtain ⟨_, g, hee, g0, g1, g2⟩ := hea e he
  obtain ⟨_, hpe⟩ := hpa p hp
  refine gxM_of rfl (Nat.le_of_ble_eq_true rfl) rfl ?_
  refine gx_bipush (pc := 0) (v := 10) dX4_chance_0 (by decide) ?_
  refine gx_aload_n (pc := 2) dX4_chance_2 rfl ?_
  refine gx_get (pc := 3) fX4_29 ht rfl dX4_chance_3 ?_
  refine gx_iload_n (pc := 6) dX4_chance_6 rfl ?_
  refine kX4_43 (kc := 0) (ks := 0) (mc := 0) (ms := 0) (pc := 7) rfl (c_get (d := d - 1) (by omega) hel0 e he) (gxRc.of rfl hel) (by omega) (Nat.le_of_ble_eq_true rfl) dX4_chance_7 (fun r1 h1 e1 => ?_)
  obtain ⟨rfl, e1⟩ := e1
  subst e1
  refine gx_castI (pc := 10) hee q1064 dX4_chance_10 ?_
  refine gx_iconst (pc := 13) (v := 2) dX4_chance_13 (by decide) ?_
  refine gx_iald (pc := 14) (2) hee (by first | rfl | simp only [gx_lit, nI_add, pk_mul]) (by omega) (by decide) dX4_chance_14 ?_
  refine gx_aload_n (pc := 15) dX4_chance_15 rfl ?_
  refine gx_get (pc := 16) fX4_23 ht rfl dX4_chance_16 ?_
  refine gx_aload_n (pc := 19) dX4_chance_19 rfl ?_
  refine gx_get (pc := 20) fX4_29 ht rfl dX4_chance_20 ?_
  refine gx_iload_n (pc := 23) dX4_chance_23 rfl ?_
  refine kX4_43 (kc := 0) (ks := 0) (mc := 0) (ms := 0) (pc := 24) rfl (c_get (d := d - 1) (by omega) hel0 e he) (gxRc.of rfl hel) (by omega) (Nat.le_of_ble_eq_true rfl) dX4_chance_24 (fun r1 h1 e1 => ?_)
  obtain ⟨rfl, e1⟩ := e1
  subst e1
  refine gx_castI (pc := 27) hee q1064 dX4_chance_27 ?_
  refine gx_iconst (pc := 30) (v := 0) dX4_chance_30 (by decide) ?_
  refine gx_iald (pc := 31) (0) hee (by first | rfl | simp only [gx_lit, nI_add, pk_mul]) (by omega) (by decide) dX4_chance_31 ?_
  rw [g0, g2, hep]
  refine kX4_43 (kc := 0) (ks := 0) (mc := 0) (ms := 0) (pc := 32) rfl (c_get (d := d - 1) (by omega) hpl0 p hp) (gxRc.of rfl hpl) (by omega) (Nat.le_of_ble_eq_true rfl) dX4_chance_32 (fun r1 h1 e1 => ?_)
  obtain ⟨rfl, e1⟩ := e1
  subst e1
  refine gx_castP (pc := 35) hpe q1069 dX4_chance_35 ?_
  refine kPX4_66 (pc := 38) hpe rfl (by omega) (Nat.le_of_ble_eq_true rfl) dX4_chance_38 ?_
  refine gx_iadd (pc := 41) dX4_chance_41 ?_
  refine kX4_69 (kc := 0) (ks := 0) (mc := 0) (ms := 0) (pc := 42) rfl (c_Jmin (d := d - 1) _ _) (by omega) (Nat.le_of_ble_eq_true rfl) dX4_chance_42 (fun r1 h1 e1 => ?_)
  obtain ⟨rfl, e1⟩ := e1
  subst e1
  exact gx_ireturn (pc := 45) rfl dX4_chance_45 (⟨_, rfl, ⟨rfl, rfl⟩⟩)
/-- an ear of one for another one -/
def spErr (A : Nat → Nat → Int32) (p q : Int32) : Nat → Nat → Option Nat
  | 0, _ => none
  | m + 1, e => if A 22 e = p ∧ A 23 e = q then some e else spErr A p q m (e + 1)
theorem spErr_lt {A : Nat → Nat → Int32} {p q : Int32} : ∀ {m e k}, spErr A p q m e = some k → e ≤ k ∧ k < e + m ∧ A 22 k = p ∧ A 23 k = q
  | 0, _, _, h => by cases h
  | m + 1, e, k, h => by
    rw [spErr] at h
    split at h
    · rename_i hh; cases h; exact ⟨by omega, by omega, hh.1, hh.2⟩
    · have := spErr_lt h; exact ⟨by omega, by omega, this.2.2⟩
def oChc (A : Nat → Nat → Int32) (p : Nat) (x : Option Nat) : Int32 := match x with
  | none => -1
  | some e => spChc A e p
theorem c_Tear (hd : 4 ≤ d) (hT : TW h lo hi ta fa A P S E w) (hP6 : P ≤ 6) (hE : E ≤ 30) (p : Nat) (hp : p < P) (q : Int32) : gxM G mX4_ear d 0 0 [.ref ta, .int (nI p), .int q] h (gxQi (fun r h' => r = oChc A p (spErr A (nI p) q E 0) ∧ h' = h)) := by
  have hT0 := hT
  obtain ⟨i1, i2, hf, nl, ol, pl, sl, el, fo, wv, pa, sa, ea, i3, ht, ho, hpl, hsl, hel, hpa, hsa, hea, hwv⟩ := hT
  have hel0 := hel.ls
  have hel := hel0
  obtain ⟨_, _, _, _, hel, _⟩ := hel
  refine gxM_of rfl (Nat.le_of_ble_eq_true rfl) rfl ?_
  generalize hX : spErr A (nI p) q E 0 = X
  have L : ∀ m e, m + e = E → spErr A (nI p) q m e = X → gxV G mX4_ear d 0 0 2 [some (.ref ta), some (.int (nI p)), some (.int q), some (.int (nI e))] [] h (gxQi (fun r h' => r = oChc A p X ∧ h' = h)) := by
    intro m
    induction m with
    | zero =>
      intro e he hs
      have : e = E := by omega
      subst this
      refine gx_iload_n (pc := 2) dX4_ear_2 rfl ?_
      refine gx_aload_n (pc := 3) dX4_ear_3 rfl ?_
      refine gx_get (pc := 4) fX4_29 ht rfl dX4_ear_4 ?_
      refine kX4_39 (kc := 0) (ks := 0) (mc := 0) (ms := 0) (pc := 7) rfl (c_size (d := d - 1) hel0) (gxRc.of rfl hel) (by omega) (Nat.le_of_ble_eq_true rfl) dX4_ear_7 (fun r1 h1 e1 => ?_)
      obtain ⟨rfl, e1⟩ := e1
      subst e1
      refine gx_icmp_ge (pc := 10) 59 dX4_ear_10 (by decide) (fun c1 => ?_) (fun c1 => ?_)
      · refine gx_iconst (pc := 59) (v := (-1)) dX4_ear_59 (by decide) ?_
        exact gx_ireturn (pc := 60) rfl dX4_ear_60 (⟨_, rfl, ⟨by rw [← hs]; rfl, rfl⟩⟩)
      · exact absurd (nI_le (Nat.le_refl _) (by omega)) c1
    | succ m ih =>
      intro e he hs
      rw [spErr] at hs
      obtain ⟨_, g, hee, g0, g1, g2⟩ := hea e (by omega)
      have K53 : ¬ (A 22 e = nI p ∧ A 23 e = q) → gxV G mX4_ear d 0 0 53 [some (.ref ta), some (.int (nI p)), some (.int q), some (.int (nI e))] [] h (gxQi (fun r h' => r = oChc A p X ∧ h' = h)) := by
        intro hh
        rw [if_neg hh] at hs
        refine gx_iincc (pc := 53) (c := 1) dX4_ear_53 rfl (by decide) (by decide) rfl ?_
        refine gx_goto (pc := 56) 2 dX4_ear_56 (by decide) ?_
        rw [nI_1]
        exact ih (e + 1) (by omega) hs
      refine gx_iload_n (pc := 2) dX4_ear_2 rfl ?_
      refine gx_aload_n (pc := 3) dX4_ear_3 rfl ?_
      refine gx_get (pc := 4) fX4_29 ht rfl dX4_ear_4 ?_
      refine kX4_39 (kc := 0) (ks := 0) (mc := 0) (ms := 0) (pc := 7) rfl (c_size (d := d - 1) hel0) (gxRc.of rfl hel) (by omega) (Nat.le_of_ble_eq_true rfl) dX4_ear_7 (fun r1 h1 e1 => ?_)
      obtain ⟨rfl, e1⟩ := e1
      subst e1
      refine gx_icmp_ge (pc := 10) 59 dX4_ear_10 (by decide) (fun c1 => ?_) (fun c1 => ?_)
      · exact absurd c1 (nI_ge (by omega) (by omega))
      · refine gx_aload_n (pc := 13) dX4_ear_13 rfl ?_
        refine gx_get (pc := 14) fX4_29 ht rfl dX4_ear_14 ?_
        refine gx_iload_n (pc := 17) dX4_ear_17 rfl ?_
        refine kX4_43 (kc := 0) (ks := 0) (mc := 0) (ms := 0) (pc := 18) rfl (c_get (d := d - 1) (by omega) hel0 e (by omega)) (gxRc.of rfl hel) (by omega) (Nat.le_of_ble_eq_true rfl) dX4_ear_18 (fun r1 h1 e1 => ?_)
        obtain ⟨rfl, e1⟩ := e1
        subst e1
        refine gx_castI (pc := 21) hee q1064 dX4_ear_21 ?_
        refine gx_iconst (pc := 24) (v := 0) dX4_ear_24 (by decide) ?_
        refine gx_iald (pc := 25) (0) hee (by first | rfl | simp only [gx_lit, nI_add, pk_mul]) (by omega) (by decide) dX4_ear_25 ?_
        rw [g0]
        refine gx_iload_n (pc := 26) dX4_ear_26 rfl ?_
        refine gx_icmp_ne (pc := 27) 53 dX4_ear_27 (by decide) (fun c2 => ?_) (fun c2 => ?_)
        · exact K53 (fun hh => c2 hh.1)
        · refine gx_aload_n (pc := 30) dX4_ear_30 rfl ?_
          refine gx_get (pc := 31) fX4_29 ht rfl dX4_ear_31 ?_
          refine gx_iload_n (pc := 34) dX4_ear_34 rfl ?_
          refine kX4_43 (kc := 0) (ks := 0) (mc := 0) (ms := 0) (pc := 35) rfl (c_get (d := d - 1) (by omega) hel0 e (by omega)) (gxRc.of rfl hel) (by omega) (Nat.le_of_ble_eq_true rfl) dX4_ear_35 (fun r1 h1 e1 => ?_)
          obtain ⟨rfl, e1⟩ := e1
          subst e1
          refine gx_castI (pc := 38) hee q1064 dX4_ear_38 ?_
          refine gx_iconst (pc := 41) (v := 1) dX4_ear_41 (by decide) ?_
          refine gx_iald (pc := 42) (1) hee (by first | rfl | simp only [gx_lit, nI_add, pk_mul]) (by omega) (by decide) dX4_ear_42 ?_
          rw [g1]
          refine gx_iload_n (pc := 43) dX4_ear_43 rfl ?_
          refine gx_icmp_ne (pc := 44) 53 dX4_ear_44 (by decide) (fun c3 => ?_) (fun c3 => ?_)
          · exact K53 (fun hh => c3 hh.2)
          · rw [if_pos ⟨c2, c3⟩] at hs
            refine gx_aload_n (pc := 47) dX4_ear_47 rfl ?_
            refine gx_iload_n (pc := 48) dX4_ear_48 rfl ?_
            refine kX4_60 (kc := 0) (ks := 0) (mc := 0) (ms := 0) (pc := 49) rfl (c_chance (d := d - 1) (by omega) hT0 hP6 hE e (by omega) p hp c2) (gxRc.of rfl ht) (by omega) (Nat.le_of_ble_eq_true rfl) dX4_ear_49 (fun r1 h1 e1 => ?_)
            obtain ⟨rfl, e1⟩ := e1
            subst e1
            exact gx_ireturn (pc := 52) rfl dX4_ear_52 (⟨_, rfl, ⟨by rw [← hs]; rfl, rfl⟩⟩)
  refine gx_iconst (pc := 0) (v := 0) dX4_ear_0 (by decide) ?_
  refine gx_istore_n (pc := 1) dX4_ear_1 (by decide) rfl ?_
  exact L E 0 (by omega) hX
end LC
