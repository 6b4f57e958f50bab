/-! ===== COMPONENT AB: rests ===== -/
set_option maxRecDepth 100000
theorem FF.zE {h h' : gxH} {ft x fa a n : Nat} {gu ch : Nat → Int32} {g : Int32} (y : FF h ft x gu ch g) (hf : fcA h fa) (e : zE a n fa h h') (dj : ft + 3 ≤ a ∨ a + n ≤ ft) : FF h' ft x gu ch g := ⟨e.at hf (by omega) y.1 (fun f q => by cases q), e.at hf (by omega) y.2.1 (fun f q => by simp at q), e.at hf (by omega) y.2.2 (fun f q => by simp at q)⟩
theorem chOk_up {ch : Nat → Int32} {S g i c : Nat} (h : chOk ch S g) (hc : c ≤ S) : chOk (upd ch i (nI c)) S g := by
  intro k hk
  by_cases hki : k = i
  · subst hki
    exact ⟨c, hc, by simp [upd]⟩
  · obtain ⟨c', h1, h2⟩ := h k hk
    exact ⟨c', h1, by simp [upd, hki, h2]⟩
theorem spGu_eq (f f' : Nat → Int32) (pe : Int32) : ∀ p, (spGu f pe p).1 = (spGu f' pe p).1 ∧ (spGu f pe p).2.2 = (spGu f' pe p).2.2 ∧ ∀ i, i < (spGu f pe p).1 → (spGu f pe p).2.1 i = (spGu f' pe p).2.1 i
  | 0 => ⟨rfl, rfl, fun i hi => by cases hi⟩
  | p + 1 => by
    obtain ⟨h1, h2, h3⟩ := spGu_eq f f' pe p
    rw [spGu, spGu]
    split
    · exact ⟨h1, h2, h3⟩
    · refine ⟨by dsimp only; rw [h1], by dsimp only; rw [h2], fun i hi => ?_⟩
      dsimp only at *
      rw [h1]
      simp only [upd]
      split
      · rfl
      · exact h3 i (by omega)
theorem spMore_gu {w : Option gxEv} {A : Nat → Nat → Int32} {P S : Nat} {gu gu' ch : Nat → Int32} {g i : Nat} (h : gu' i = gu i) : ∀ c, spMore w A P S gu' ch g i c = spMore w A P S gu ch g i c
  | 0 => rfl
  | c + 1 => by rw [spMore, spMore, spMore_gu h c, h]
theorem spRest_gu {w : Option gxEv} {A : Nat → Nat → Int32} {P S : Nat} {gu gu' ch : Nat → Int32} {g : Nat} : ∀ n, (∀ i, i < n → gu' i = gu i) → spRest w A P S gu' ch g n = spRest w A P S gu ch g n
  | 0, _ => rfl
  | n + 1, h => by rw [spRest, spRest, spRest_gu n (fun i hi => h i (by omega)), spMore_gu (h n (by omega))]
theorem spIs_gu {A : Nat → Nat → Int32} {S : Nat} {gu gu' : Nat → Int32} {g c : Nat} (h : ∀ i, i < g → gu' i = gu i) : ∀ k, k ≤ g → spIs A S gu' g c k = spIs A S gu g c k
  | 0, _ => rfl
  | k + 1, hk => by rw [spIs, spIs, spIs_gu h k (by omega), h _ (by omega)]
theorem spOk_gu {w : Option gxEv} {A : Nat → Nat → Int32} {P S : Nat} {gu gu' : Nat → Int32} {g : Nat} (h : ∀ i, i < g → gu' i = gu i) : spOk w A P S gu' g = spOk w A P S gu g := by
  funext c
  rw [spOk, spOk, spIs_gu h g (Nat.le_refl _), spRest_gu g h]
theorem spGu_hi (f : Nat → Int32) {q P : Nat} (hP : P ≤ 6) (hq : q < 2 ^ P) : ∀ m, P + m ≤ 6 → spGu f (nI q) (P + m) = spGu f (nI q) P
  | 0, _ => rfl
  | m + 1, hm => by
    rw [← Nat.add_assoc, spGu, if_pos, spGu_hi f hP hq m (by omega)]
    have : 2 ^ P ≤ 2 ^ 6 := Nat.pow_le_pow_right (by decide) hP
    rw [pk_shrN (by omega) _ (P + m) (sh_lt (P + m) (by omega)), Nat.div_eq_of_lt (Nat.lt_of_lt_of_le hq (Nat.pow_le_pow_right (by decide) (by omega)))]
    decide
section MAB
variable {G : gxG} {d : Nat} {h : gxH} {x r tk tr gl sl bl py pt ng ft mk lo hi ta fa P S E : Nat} {gg : Int64} {A : Nat → Nat → Int32} {s : Nat → Int32} {w : Option gxEv} {b : Bool} {gu ch : Nat → Int32}
theorem c_FisRest (dx : x < ft) (dk : tk + 6 ≤ ft ∨ ft + 3 ≤ tk) (dl : hi ≤ ft ∨ ft + 3 ≤ lo) (df : fa < ft ∨ ft + 3 ≤ fa) (hn : gxN G ≤ x) (hN : gxN G ≤ lo) (hd : 94 ≤ d) (hS : (XS x r tk tr gl sl bl py pt ng ft mk lo hi ta fa P S E gg A s w b) h) (g : Nat) (hg : g ≤ 3) (hF : FF h ft x gu ch (nI g)) (c : Nat) (hc : c < 1332) : gxM G mX9_isRest d 0 0 [.ref ft, .int (nI c)] h (gxQi (fun v h' => v = zi (spOk w (setS A s) P S gu g c) ∧ (XS x r tk tr gl sl bl py pt ng ft mk lo hi ta fa P S E gg A s w b) h' ∧ zE ft 3 fa h h' ∧ ∃ ch', FF h' ft x gu ch' (nI g))) := by
  have hS10 := hS.2.2.2.2.2.2.1
  have nch : gxN G ≤ ft + 2 := by omega
  refine gxM_of rfl (Nat.le_of_ble_eq_true rfl) rfl ?_
  have rest : ∀ cc h1, spIs (setS A s) S gu g c g = true → (∀ i, i < g → cc i = spChf (fun _ => 0) g c g i) → (XS x r tk tr gl sl bl py pt ng ft mk lo hi ta fa P S E gg A s w b) h1 → FF h1 ft x gu cc (nI g) → zE ft 3 fa h h1 → gxV G mX9_isRest d 0 0 10 [some (.ref ft), some (.int (nI c)), none, none, none, none, none] [] h1 (gxQi (fun v h' => v = zi (spOk w (setS A s) P S gu g c) ∧ (XS x r tk tr gl sl bl py pt ng ft mk lo hi ta fa P S E gg A s w b) h' ∧ zE ft 3 fa h h' ∧ ∃ ch', FF h' ft x gu ch' (nI g))) := by
    intro cc h1 hI hcc S1 F1 E1
    have hch0 : chOk cc S g := by
      intro i hi
      refine ⟨spDig g c i, ?_, ?_⟩
      · have := spIs_may g hI (g - 1 - i) (by omega)
        rw [show g - 1 - (g - 1 - i) = i by omega] at this
        exact spMay_le this
      · rw [hcc i hi]
        simp only [spChf]
        rw [if_pos (by omega)]
    have ok : spOk w (setS A s) P S gu g c = spRest w (setS A s) P S gu cc g g := by
      rw [spOk, hI, Bool.true_and]
      exact (spRest_ch hcc g (Nat.le_refl _)).symm
    rw [ok]
    have F : ∀ k, spRest w (setS A s) P S gu cc g k = false → ∀ m, spRest w (setS A s) P S gu cc g (k + m) = false := by
      intro k hk m
      induction m with
      | zero => exact hk
      | succ m ih => show (spRest w (setS A s) P S gu cc g (k + m) && _) = false; rw [ih]; rfl
    have L : ∀ m i, m + i = g → spRest w (setS A s) P S gu cc g i = true → ∀ h1 (x3 x4 x5 x6 : Option Value), (XS x r tk tr gl sl bl py pt ng ft mk lo hi ta fa P S E gg A s w b) h1 → FF h1 ft x gu cc (nI g) → zE ft 3 fa h h1 → gxV G mX9_isRest d 0 0 12 [some (.ref ft), some (.int (nI c)), some (.int (nI i)), x3, x4, x5, x6] [] h1 (gxQi (fun v h' => v = zi (spRest w (setS A s) P S gu cc g g) ∧ (XS x r tk tr gl sl bl py pt ng ft mk lo hi ta fa P S E gg A s w b) h' ∧ zE ft 3 fa h h' ∧ ∃ ch', FF h' ft x gu ch' (nI g))) := by
      intro m
      induction m with
      | zero =>
        intro i hig ht h1 x3 x4 x5 x6 S1 F1 E1
        have : i = g := by omega
        subst this
        obtain ⟨hft, hwh, hch⟩ := id F1
        refine gx_iload_n (pc := 12) dX9_isRest_12 rfl ?_
        refine gx_aload_n (pc := 13) dX9_isRest_13 rfl ?_
        refine gx_get (pc := 14) fX9_22 hft rfl dX9_isRest_14 ?_
        refine gx_icmp_ge (pc := 17) 121 dX9_isRest_17 (by decide) (fun c1 => ?_) (fun c1 => ?_)
        · refine gx_iconst (pc := 121) (v := 1) dX9_isRest_121 (by decide) ?_
          exact gx_zreturn (pc := 122) rfl (by decide) dX9_isRest_122 (⟨_, rfl, ⟨by rw [ht]; rfl, S1, E1, _, F1⟩⟩)
        · exact absurd (nI_le (by omega) (by omega)) c1
      | succ m ih =>
        intro i hig ht h1 x3 x4 x5 x6 S1 F1 E1
        obtain ⟨hft, hwh, hch⟩ := id F1
        refine gx_iload_n (pc := 12) dX9_isRest_12 rfl ?_
        refine gx_aload_n (pc := 13) dX9_isRest_13 rfl ?_
        refine gx_get (pc := 14) fX9_22 hft rfl dX9_isRest_14 ?_
        refine gx_icmp_ge (pc := 17) 121 dX9_isRest_17 (by decide) (fun c1 => ?_) (fun c1 => ?_)
        · exact absurd c1 (nI_ge (by omega) (by omega))
        · refine gx_aload_n (pc := 20) dX9_isRest_20 rfl ?_
          refine gx_get (pc := 21) fX9_19 hft rfl dX9_isRest_21 ?_
          refine gx_iload_n (pc := 24) dX9_isRest_24 rfl ?_
          refine gx_iald (pc := 25) (i) hch (by first | rfl | simp only [gx_lit, nI_add, pk_mul]) (by omega) (by decide) dX9_isRest_25 ?_
          refine gx_istore_n (pc := 26) dX9_isRest_26 (by decide) rfl ?_
          refine gx_aload_n (pc := 27) dX9_isRest_27 rfl ?_
          refine gx_iload_n (pc := 28) dX9_isRest_28 rfl ?_
          refine kX9_57 (kc := 0) (ks := 0) (mc := 0) (ms := 0) (pc := 29) rfl (c_Fgets (d := d - 1) hN (by omega) S1 g i hg F1 (by omega) hch0) (gxRc.of rfl hft) (by omega) (Nat.le_of_ble_eq_true rfl) dX9_isRest_29 (fun r1 h2 e1 => ?_)
          obtain ⟨rfl, e1⟩ := e1
          have F2 := F1.fE S1.2.1.2.2.1 e1
          have S2 := S1.fE e1
          have E2 := E1.tr (e1.r (a := ft) (n := 3))
          refine gx_istore (pc := 32) dX9_isRest_32 (by decide) rfl ?_
          refine gx_iconst (pc := 34) (v := 0) dX9_isRest_34 (by decide) ?_
          refine gx_istore (pc := 35) dX9_isRest_35 (by decide) rfl ?_
          refine gx_iconst (pc := 37) (v := 0) dX9_isRest_37 (by decide) ?_
          refine gx_istore (pc := 38) dX9_isRest_38 (by decide) rfl ?_
          have K101 : ∀ c6 h3 y, (c6 ≤ S + 1 ∧ spMore w (setS A s) P S gu cc g i c6 = spMore w (setS A s) P S gu cc g i (S + 1)) → (XS x r tk tr gl sl bl py pt ng ft mk lo hi ta fa P S E gg A s w b) h3 → FF h3 ft x gu (upd cc i y) (nI g) → zE ft 3 fa h h3 → gxV G mX9_isRest d 0 0 101 [some (.ref ft), some (.int (nI c)), some (.int (nI i)), some (.int (cc i)), some (.int (spHas w (setS A s) P cc g i)), some (.int (zi (spMore w (setS A s) P S gu cc g i c6))), some (.int (nI c6))] [] h3 (gxQi (fun v h' => v = zi (spRest w (setS A s) P S gu cc g g) ∧ (XS x r tk tr gl sl bl py pt ng ft mk lo hi ta fa P S E gg A s w b) h' ∧ zE ft 3 fa h h' ∧ ∃ ch', FF h' ft x gu ch' (nI g))) := by
            intro c6 h3 y hc6 S3 F3 E3
            obtain ⟨hft, hwh, hch⟩ := id F3
            refine gx_aload_n (pc := 101) dX9_isRest_101 rfl ?_
            refine gx_get (pc := 102) fX9_19 hft rfl dX9_isRest_102 ?_
            refine gx_iload_n (pc := 105) dX9_isRest_105 rfl ?_
            refine gx_iload_n (pc := 106) dX9_isRest_106 rfl ?_
            refine gx_iast (pc := 107) (i) hch nch (by first | rfl | simp only [gx_lit, nI_add, pk_mul]) (by omega) (by decide) dX9_isRest_107 ?_
            rw [upd_upd, upd_self, hc6.2]
            have F4 := F3.uch cc
            have E4 := zE.up (fa := fa) (a := ft) (n := 3) (i := 2) h3 (.inl (0, 3, .inl cc)) (by decide) df
            have S4 := S3.zE E4 (Or.inl dx) dk dl
            generalize gxup h3 (ft + 2) (.inl (0, 3, .inl cc)) = h4 at *
            refine gx_iload (pc := 108) dX9_isRest_108 rfl ?_
            refine gx_if_eq (pc := 110) 115 dX9_isRest_110 (by decide) (fun c3 => ?_) (fun c3 => ?_)
            · have hm := zi_eq0 c3
              refine gx_iincc (pc := 115) (c := 1) dX9_isRest_115 rfl (by decide) (by decide) rfl ?_
              refine gx_goto (pc := 118) 12 dX9_isRest_118 (by decide) ?_
              rw [nI_1]
              refine ih (i + 1) (by omega) ?_ h4 _ _ _ _ S4 F4 (E3.tr E4)
              show (spRest w (setS A s) P S gu cc g i && !spMore w (setS A s) P S gu cc g i (S + 1)) = true
              rw [ht, hm]; rfl
            · have hm := zi_ne0 c3
              have := F (i + 1) (by show (spRest w (setS A s) P S gu cc g i && !spMore w (setS A s) P S gu cc g i (S + 1)) = false; rw [hm, Bool.not_true, Bool.and_false]) m
              rw [show i + 1 + m = g by omega] at this
              refine gx_iconst (pc := 113) (v := 0) dX9_isRest_113 (by decide) ?_
              exact gx_zreturn (pc := 114) rfl (by decide) dX9_isRest_114 (⟨_, rfl, ⟨by rw [this]; rfl, S4, E3.tr E4, _, F4⟩⟩)
          have FM : ∀ k, spMore w (setS A s) P S gu cc g i k = true → ∀ m, spMore w (setS A s) P S gu cc g i (k + m) = true := by
            intro k hk m
            induction m with
            | zero => exact hk
            | succ m ih => show (spMore w (setS A s) P S gu cc g i (k + m) || _) = true; rw [ih]; rfl
          have L2 : ∀ m2 c6, m2 + c6 = S + 1 → ∀ h3 y, (XS x r tk tr gl sl bl py pt ng ft mk lo hi ta fa P S E gg A s w b) h3 → FF h3 ft x gu (upd cc i y) (nI g) → zE ft 3 fa h h3 → gxV G mX9_isRest d 0 0 40 [some (.ref ft), some (.int (nI c)), some (.int (nI i)), some (.int (cc i)), some (.int (spHas w (setS A s) P cc g i)), some (.int (zi (spMore w (setS A s) P S gu cc g i c6))), some (.int (nI c6))] [] h3 (gxQi (fun v h' => v = zi (spRest w (setS A s) P S gu cc g g) ∧ (XS x r tk tr gl sl bl py pt ng ft mk lo hi ta fa P S E gg A s w b) h' ∧ zE ft 3 fa h h' ∧ ∃ ch', FF h' ft x gu ch' (nI g))) := by
            intro m2
            induction m2 with
            | zero =>
              intro c6 hcc6 h3 y S3 F3 E3
              obtain ⟨hft, hwh, hch⟩ := id F3
              have hx := S3.1
              refine gx_iload (pc := 40) dX9_isRest_40 rfl ?_
              refine gx_aload_n (pc := 42) dX9_isRest_42 rfl ?_
              refine gx_get (pc := 43) fX9_3 hft rfl dX9_isRest_43 ?_
              refine kX9_34 (kc := 0) (ks := 0) (mc := 0) (ms := 0) (pc := 46) rfl (c_secrets (d := d - 1) (by omega) S3.1.O S3.2) (gxRc.of rfl hx) (by omega) (Nat.le_of_ble_eq_true rfl) dX9_isRest_46 (fun r1 h4 e2 => ?_)
              obtain ⟨rfl, e2⟩ := e2
              subst h4
              refine gx_icmp_gt (pc := 49) 101 dX9_isRest_49 (by decide) (fun c2 => ?_) (fun c2 => ?_)
              · exact K101 c6 h3 y ⟨by omega, by rw [show c6 = S + 1 by omega]⟩ S3 F3 E3
              · exact absurd (nI_lt (by omega) (by omega)) c2
            | succ m2 ih2 =>
              intro c6 hcc6 h3 y S3 F3 E3
              obtain ⟨hft, hwh, hch⟩ := id F3
              have hx := S3.1
              have K95 : ∀ h4 y v, v = zi (spMore w (setS A s) P S gu cc g i (c6 + 1)) → (XS x r tk tr gl sl bl py pt ng ft mk lo hi ta fa P S E gg A s w b) h4 → FF h4 ft x gu (upd cc i y) (nI g) → zE ft 3 fa h h4 → gxV G mX9_isRest d 0 0 95 [some (.ref ft), some (.int (nI c)), some (.int (nI i)), some (.int (cc i)), some (.int (spHas w (setS A s) P cc g i)), some (.int v), some (.int (nI c6))] [] h4 (gxQi (fun v h' => v = zi (spRest w (setS A s) P S gu cc g g) ∧ (XS x r tk tr gl sl bl py pt ng ft mk lo hi ta fa P S E gg A s w b) h' ∧ zE ft 3 fa h h' ∧ ∃ ch', FF h' ft x gu ch' (nI g))) := by
                intro h4 y v hv S4 F4 E4
                subst hv
                refine gx_iincc (pc := 95) (c := 1) dX9_isRest_95 rfl (by decide) (by decide) rfl ?_
                refine gx_goto (pc := 98) 40 dX9_isRest_98 (by decide) ?_
                rw [nI_1]
                exact ih2 (c6 + 1) (by omega) h4 y S4 F4 E4
              refine gx_iload (pc := 40) dX9_isRest_40 rfl ?_
              refine gx_aload_n (pc := 42) dX9_isRest_42 rfl ?_
              refine gx_get (pc := 43) fX9_3 hft rfl dX9_isRest_43 ?_
              refine kX9_34 (kc := 0) (ks := 0) (mc := 0) (ms := 0) (pc := 46) rfl (c_secrets (d := d - 1) (by omega) S3.1.O S3.2) (gxRc.of rfl hx) (by omega) (Nat.le_of_ble_eq_true rfl) dX9_isRest_46 (fun r1 h4 e2 => ?_)
              obtain ⟨rfl, e2⟩ := e2
              subst h4
              refine gx_icmp_gt (pc := 49) 101 dX9_isRest_49 (by decide) (fun c2 => ?_) (fun c2 => ?_)
              · exact absurd c2 (nI_nlt (by omega) (by omega))
              · refine gx_iload (pc := 52) dX9_isRest_52 rfl ?_
                refine gx_if_ne (pc := 54) 101 dX9_isRest_54 (by decide) (fun c3 => ?_) (fun c3 => ?_)
                · have z := zi_ne0 c3
                  have := FM c6 z (m2 + 1)
                  rw [show c6 + (m2 + 1) = S + 1 by omega] at this
                  exact K101 c6 h3 y ⟨by omega, by rw [z, this]⟩ S3 F3 E3
                · have z := zi_eq0 c3
                  rw [z]
                  refine gx_aload_n (pc := 57) dX9_isRest_57 rfl ?_
                  refine gx_iload_n (pc := 58) dX9_isRest_58 rfl ?_
                  refine gx_iload (pc := 59) dX9_isRest_59 rfl ?_
                  refine kX9_46 (kc := 0) (ks := 0) (mc := 0) (ms := 0) (pc := 61) rfl (c_Fmay (d := d - 1) (by omega) S3 F3 i c6 (by omega) (by omega)) (gxRc.of rfl hft) (by omega) (Nat.le_of_ble_eq_true rfl) dX9_isRest_61 (fun r1 h4 e2 => ?_)
                  obtain ⟨rfl, e2⟩ := e2
                  subst h4
                  have mo1 : spMore w (setS A s) P S gu cc g i (c6 + 1) = (spMay (setS A s) S (gu i) c6 && decide (spHas w (setS A s) P cc g i < spHas w (setS A s) P (upd cc i (nI c6)) g i)) := by rw [spMore, z, Bool.false_or]
                  refine gx_if_ne (pc := 64) 70 dX9_isRest_64 (by decide) (fun c4 => ?_) (fun c4 => ?_)
                  · have z4 := zi_ne0 c4
                    rw [z4, Bool.true_and] at mo1
                    refine gx_aload_n (pc := 70) dX9_isRest_70 rfl ?_
                    refine gx_get (pc := 71) fX9_19 hft rfl dX9_isRest_71 ?_
                    refine gx_iload_n (pc := 74) dX9_isRest_74 rfl ?_
                    refine gx_iload (pc := 75) dX9_isRest_75 rfl ?_
                    refine gx_iast (pc := 77) (i) hch nch (by first | rfl | simp only [gx_lit, nI_add, pk_mul]) (by omega) (by decide) dX9_isRest_77 ?_
                    rw [upd_upd]
                    have F4 := F3.uch (upd cc i (nI c6))
                    have E4 := zE.up (fa := fa) (a := ft) (n := 3) (i := 2) h3 (.inl (0, 3, .inl (upd cc i (nI c6)))) (by decide) df
                    have S4 := S3.zE E4 (Or.inl dx) dk dl
                    generalize gxup h3 (ft + 2) (.inl (0, 3, .inl (upd cc i (nI c6)))) = h4 at *
                    obtain ⟨hft, hwh, hch⟩ := id F4
                    refine gx_aload_n (pc := 78) dX9_isRest_78 rfl ?_
                    refine gx_iload_n (pc := 79) dX9_isRest_79 rfl ?_
                    refine kX9_57 (kc := 0) (ks := 0) (mc := 0) (ms := 0) (pc := 80) rfl (c_Fgets (d := d - 1) hN (by omega) S4 g i hg F4 (by omega) (chOk_up hch0 (by omega))) (gxRc.of rfl hft) (by omega) (Nat.le_of_ble_eq_true rfl) dX9_isRest_80 (fun r1 h5 e3 => ?_)
                    obtain ⟨rfl, e3⟩ := e3
                    have F5 := F4.fE S4.2.1.2.2.1 e3
                    have S5 := S4.fE e3
                    have E5 := (E3.tr E4).tr (e3.r (a := ft) (n := 3))
                    refine gx_iload (pc := 83) dX9_isRest_83 rfl ?_
                    refine gx_icmp_le (pc := 85) 92 dX9_isRest_85 (by decide) (fun c5 => ?_) (fun c5 => ?_)
                    · refine gx_iconst (pc := 92) (v := 0) dX9_isRest_92 (by decide) ?_
                      refine gx_istore (pc := 93) dX9_isRest_93 (by decide) rfl ?_
                      exact K95 h5 _ _ (by rw [mo1, decide_eq_false (Int32.not_lt.mpr c5)]; rfl) S5 F5 E5
                    · refine gx_iconst (pc := 88) (v := 1) dX9_isRest_88 (by decide) ?_
                      refine gx_goto (pc := 89) 93 dX9_isRest_89 (by decide) ?_
                      refine gx_istore (pc := 93) dX9_isRest_93 (by decide) rfl ?_
                      exact K95 h5 _ _ (by rw [mo1, decide_eq_true (Int32.not_le.mp c5)]; rfl) S5 F5 E5
                  · have z4 := zi_eq0 c4
                    rw [z4, Bool.false_and] at mo1
                    refine gx_goto (pc := 67) 95 dX9_isRest_67 (by decide) ?_
                    exact K95 h3 _ _ (by rw [mo1]) S3 F3 E3
          exact L2 (S + 1) 0 (by omega) h2 (cc i) S2 (by rw [upd_self]; exact F2) E2
    refine gx_iconst (pc := 10) (v := 0) dX9_isRest_10 (by decide) ?_
    refine gx_istore_n (pc := 11) dX9_isRest_11 (by decide) rfl ?_
    exact L g 0 (by omega) rfl h1 _ _ _ _ S1 F1 E1
  obtain ⟨hft, hwh, hch⟩ := id hF
  refine gx_aload_n (pc := 0) dX9_isRest_0 rfl ?_
  refine gx_iload_n (pc := 1) dX9_isRest_1 rfl ?_
  refine kX9_53 (kc := 0) (ks := 0) (mc := 0) (ms := 0) (pc := 2) rfl (c_Freads (d := d - 1) dx dk dl df hn (by omega) hS g hg hF c hc) (gxRc.of rfl hft) (by omega) (Nat.le_of_ble_eq_true rfl) dX9_isRest_2 (fun r1 h2 e1 => ?_)
  obtain ⟨rfl, S2, E2, ch2, F2, hch2⟩ := e1
  refine gx_if_ne (pc := 5) 10 dX9_isRest_5 (by decide) (fun c1 => ?_) (fun c1 => ?_)
  · have z := zi_ne0 c1
    refine rest ch2 h2 z (fun i hi => ?_) S2 F2 E2
    rw [hch2 z]
    simp only [spChf]
    rw [if_pos (by omega), if_pos (by omega)]
  · have z := zi_eq0 c1
    refine gx_iconst (pc := 8) (v := 0) dX9_isRest_8 (by decide) ?_
    exact gx_zreturn (pc := 9) rfl (by decide) dX9_isRest_9 (⟨_, rfl, ⟨by rw [spOk, z]; rfl, S2, E2, _, F2⟩⟩)
theorem c_Xrests (dx : x < ft) (dk : tk + 6 ≤ ft ∨ ft + 3 ≤ tk) (dl : hi ≤ ft ∨ ft + 3 ≤ lo) (df : fa < ft ∨ ft + 3 ≤ fa) (hn : gxN G ≤ x) (hN : gxN G ≤ lo) (hd : 95 ≤ d) (hS : (XS x r tk tr gl sl bl py pt ng ft mk lo hi ta fa P S E gg A s w b) h) {g0 : Int32} (hF : FF h ft x gu ch g0) (f : Nat → Int32) (pe what : Int32) : gxM G mX1_rests d 0 0 [.ref x, .int pe, .int what] h (gxQi (fun v h' => ((¬ (∃ q, q < 2 ^ P ∧ pe = nI q ∧ -1 ≤ what ∧ 2 ≤ (spGu f (nI q) 6).1 ∧ (spGu f (nI q) 6).1 ≤ 3) ∧ v = -1) ∨ ∃ q, q < 2 ^ P ∧ pe = nI q ∧ -1 ≤ what ∧ 2 ≤ (spGu f (nI q) 6).1 ∧ (spGu f (nI q) 6).1 ≤ 3 ∧ v = spRr (spOk w (setS A s) P S (spGu f (nI q) 6).2.1 (spGu f (nI q) 6).1) what (spGu f (nI q) 6).2.2 0 0) ∧ (XS x r tk tr gl sl bl py pt ng ft mk lo hi ta fa P S E gg A s w b) h' ∧ zE ft 3 fa h h' ∧ ∃ gu' ch' g', FF h' ft x gu' ch' g')) := by
  have hP6 := hS.2.2.2.2.1
  have hS10 := hS.2.2.2.2.2.2.1
  obtain ⟨hsh, h64⟩ := shl_P hP6
  have hx := hS.1
  unfold XF at hx
  obtain ⟨hft, hwh, hch⟩ := id hF
  refine gxM_of rfl (Nat.le_of_ble_eq_true rfl) rfl ?_
  have N : ¬ (∃ q, q < 2 ^ P ∧ pe = nI q ∧ -1 ≤ what ∧ 2 ≤ (spGu f (nI q) 6).1 ∧ (spGu f (nI q) 6).1 ≤ 3) → gxV G mX1_rests d 0 0 33 [some (.ref x), some (.int pe), some (.int what), none, none, none] [] h (gxQi (fun v h' => ((¬ (∃ q, q < 2 ^ P ∧ pe = nI q ∧ -1 ≤ what ∧ 2 ≤ (spGu f (nI q) 6).1 ∧ (spGu f (nI q) 6).1 ≤ 3) ∧ v = -1) ∨ ∃ q, q < 2 ^ P ∧ pe = nI q ∧ -1 ≤ what ∧ 2 ≤ (spGu f (nI q) 6).1 ∧ (spGu f (nI q) 6).1 ≤ 3 ∧ v = spRr (spOk w (setS A s) P S (spGu f (nI q) 6).2.1 (spGu f (nI q) 6).1) what (spGu f (nI q) 6).2.2 0 0) ∧ (XS x r tk tr gl sl bl py pt ng ft mk lo hi ta fa P S E gg A s w b) h' ∧ zE ft 3 fa h h' ∧ ∃ gu' ch' g', FF h' ft x gu' ch' g')) := by
    intro hno
    refine gx_iconst (pc := 33) (v := (-1)) dX1_rests_33 (by decide) ?_
    exact gx_ireturn (pc := 34) rfl dX1_rests_34 (⟨_, rfl, ⟨Or.inl ⟨hno, rfl⟩, hS, zE.rf _ _ _ _, _, _, _, hF⟩⟩)
  have main : ∀ q, q < 2 ^ P → pe = nI q → -1 ≤ what → 2 ≤ (spGu f (nI q) 6).1 → (spGu f (nI q) 6).1 ≤ 3 → gxV G mX1_rests d 0 0 35 [some (.ref x), some (.int pe), some (.int what), none, none, none] [] h (gxQi (fun v h' => ((¬ (∃ q, q < 2 ^ P ∧ pe = nI q ∧ -1 ≤ what ∧ 2 ≤ (spGu f (nI q) 6).1 ∧ (spGu f (nI q) 6).1 ≤ 3) ∧ v = -1) ∨ ∃ q, q < 2 ^ P ∧ pe = nI q ∧ -1 ≤ what ∧ 2 ≤ (spGu f (nI q) 6).1 ∧ (spGu f (nI q) 6).1 ≤ 3 ∧ v = spRr (spOk w (setS A s) P S (spGu f (nI q) 6).2.1 (spGu f (nI q) 6).1) what (spGu f (nI q) 6).2.2 0 0) ∧ (XS x r tk tr gl sl bl py pt ng ft mk lo hi ta fa P S E gg A s w b) h' ∧ zE ft 3 fa h h' ∧ ∃ gu' ch' g', FF h' ft x gu' ch' g')) := by
    intro q hq hpe hw hg2 hg3
    have u6 : spGu gu pe P = spGu gu (nI q) 6 := by
      have := spGu_hi gu hP6 hq (6 - P) (by omega)
      rw [show P + (6 - P) = 6 by omega] at this
      rw [hpe, this]
    obtain ⟨eq1, eq2, eq3⟩ := spGu_eq gu f (nI q) 6
    have hall := spGu_all f (nI q) 6
    have fin : ∀ v h1 gu' ch' g', v = spRr (spOk w (setS A s) P S (spGu f (nI q) 6).2.1 (spGu f (nI q) 6).1) what (spGu f (nI q) 6).2.2 0 0 → (XS x r tk tr gl sl bl py pt ng ft mk lo hi ta fa P S E gg A s w b) h1 → zE ft 3 fa h h1 → FF h1 ft x gu' ch' g' → (fun v h' => ((¬ (∃ q, q < 2 ^ P ∧ pe = nI q ∧ -1 ≤ what ∧ 2 ≤ (spGu f (nI q) 6).1 ∧ (spGu f (nI q) 6).1 ≤ 3) ∧ v = -1) ∨ ∃ q, q < 2 ^ P ∧ pe = nI q ∧ -1 ≤ what ∧ 2 ≤ (spGu f (nI q) 6).1 ∧ (spGu f (nI q) 6).1 ≤ 3 ∧ v = spRr (spOk w (setS A s) P S (spGu f (nI q) 6).2.1 (spGu f (nI q) 6).1) what (spGu f (nI q) 6).2.2 0 0) ∧ (XS x r tk tr gl sl bl py pt ng ft mk lo hi ta fa P S E gg A s w b) h' ∧ zE ft 3 fa h h' ∧ ∃ gu' ch' g', FF h' ft x gu' ch' g') v h1 := by
      intro v h1 gu' ch' g' hv S1 E1 F1
      exact ⟨Or.inr ⟨q, hq, hpe, hw, hg2, hg3, hv⟩, S1, E1, _, _, _, F1⟩
    rw [← spOk_gu (gu' := (spGu gu (nI q) 6).2.1) (fun i hi => eq3 i (by omega))] at fin
    refine gx_aload_n (pc := 35) dX1_rests_35 rfl ?_
    refine gx_get (pc := 36) fX1_89 hx rfl dX1_rests_36 ?_
    refine gx_iload_n (pc := 39) dX1_rests_39 rfl ?_
    refine kX1_344 (kc := 0) (ks := 0) (mc := 0) (ms := 0) (pc := 40) rfl (c_Flays (d := d - 1) dx dk dl df hn (by omega) hS hF pe (by rw [u6]; omega)) (gxRc.of rfl hft) (by omega) (Nat.le_of_ble_eq_true rfl) dX1_rests_40 (fun r1 h1 e1 => ?_)
    obtain ⟨rfl, S1, F1, E1⟩ := e1
    rw [u6] at F1
    rw [u6, eq2]
    rw [eq1] at F1
    generalize hg : (spGu f (nI q) 6).1 = g at *
    generalize hal : (spGu f (nI q) 6).2.2 = al at *
    generalize (spGu gu (nI q) 6).2.1 = gv at *
    have hal : al ≤ 1331 := by
      rw [hall]
      exact Nat.pow_le_pow_right (n := 11) (by decide) hg3
    refine gx_istore_n (pc := 43) dX1_rests_43 (by decide) rfl ?_
    refine gx_iconst (pc := 44) (v := 0) dX1_rests_44 (by decide) ?_
    refine gx_istore (pc := 45) dX1_rests_45 (by decide) rfl ?_
    refine gx_iconst (pc := 47) (v := 0) dX1_rests_47 (by decide) ?_
    refine gx_istore (pc := 48) dX1_rests_48 (by decide) rfl ?_
    have L2 : ∀ m c n, m + c = al → n ≤ c → spRr (spOk w (setS A s) P S gv g) what m c n = spRr (spOk w (setS A s) P S gv g) what al 0 0 → ∀ h1 ch', (XS x r tk tr gl sl bl py pt ng ft mk lo hi ta fa P S E gg A s w b) h1 → zE ft 3 fa h h1 → FF h1 ft x gv ch' (nI g) → gxV G mX1_rests d 0 0 50 [some (.ref x), some (.int pe), some (.int what), some (.int (nI al)), some (.int (nI n)), some (.int (nI c))] [] h1 (gxQi (fun v h' => ((¬ (∃ q, q < 2 ^ P ∧ pe = nI q ∧ -1 ≤ what ∧ 2 ≤ (spGu f (nI q) 6).1 ∧ (spGu f (nI q) 6).1 ≤ 3) ∧ v = -1) ∨ ∃ q, q < 2 ^ P ∧ pe = nI q ∧ -1 ≤ what ∧ 2 ≤ (spGu f (nI q) 6).1 ∧ (spGu f (nI q) 6).1 ≤ 3 ∧ v = spRr (spOk w (setS A s) P S (spGu f (nI q) 6).2.1 (spGu f (nI q) 6).1) what (spGu f (nI q) 6).2.2 0 0) ∧ (XS x r tk tr gl sl bl py pt ng ft mk lo hi ta fa P S E gg A s w b) h' ∧ zE ft 3 fa h h' ∧ ∃ gu' ch' g', FF h' ft x gu' ch' g')) := by
      intro m
      induction m with
      | zero =>
        intro c n hc hnc hr h1 ch' S1 E1 F1
        refine gx_iload (pc := 50) dX1_rests_50 rfl ?_
        refine gx_iload_n (pc := 52) dX1_rests_52 rfl ?_
        refine gx_icmp_ge (pc := 53) 89 dX1_rests_53 (by decide) (fun c6 => ?_) (fun c6 => ?_)
        · refine gx_iload_n (pc := 89) dX1_rests_89 rfl ?_
          refine gx_iconst (pc := 90) (v := (-1)) dX1_rests_90 (by decide) ?_
          refine gx_icmp_ne (pc := 91) 99 dX1_rests_91 (by decide) (fun c7 => ?_) (fun c7 => ?_)
          · refine gx_iconst (pc := 99) (v := (-1)) dX1_rests_99 (by decide) ?_
            exact gx_ireturn (pc := 100) rfl dX1_rests_100 (⟨_, rfl, fin _ _ _ _ _ (by rw [← hr, spRr, if_neg c7]) S1 E1 F1⟩)
          · have c7' : what = -1 := c7
            refine gx_iload (pc := 94) dX1_rests_94 rfl ?_
            refine gx_goto (pc := 96) 100 dX1_rests_96 (by decide) ?_
            exact gx_ireturn (pc := 100) rfl dX1_rests_100 (⟨_, rfl, fin _ _ _ _ _ (by rw [← hr, spRr, if_pos c7']) S1 E1 F1⟩)
        · exact absurd (nI_le (by omega) (by omega)) c6
      | succ m ih =>
        intro c n hc hnc hr h1 ch' S1 E1 F1
        obtain ⟨hft, hwh, hch⟩ := id F1
        have hx := S1.1
        unfold XF at hx
        have K83 : ∀ n' h2 ch2, n' ≤ c + 1 → spRr (spOk w (setS A s) P S gv g) what m (c + 1) n' = spRr (spOk w (setS A s) P S gv g) what al 0 0 → (XS x r tk tr gl sl bl py pt ng ft mk lo hi ta fa P S E gg A s w b) h2 → zE ft 3 fa h h2 → FF h2 ft x gv ch2 (nI g) → gxV G mX1_rests d 0 0 83 [some (.ref x), some (.int pe), some (.int what), some (.int (nI al)), some (.int (nI n')), some (.int (nI c))] [] h2 (gxQi (fun v h' => ((¬ (∃ q, q < 2 ^ P ∧ pe = nI q ∧ -1 ≤ what ∧ 2 ≤ (spGu f (nI q) 6).1 ∧ (spGu f (nI q) 6).1 ≤ 3) ∧ v = -1) ∨ ∃ q, q < 2 ^ P ∧ pe = nI q ∧ -1 ≤ what ∧ 2 ≤ (spGu f (nI q) 6).1 ∧ (spGu f (nI q) 6).1 ≤ 3 ∧ v = spRr (spOk w (setS A s) P S (spGu f (nI q) 6).2.1 (spGu f (nI q) 6).1) what (spGu f (nI q) 6).2.2 0 0) ∧ (XS x r tk tr gl sl bl py pt ng ft mk lo hi ta fa P S E gg A s w b) h' ∧ zE ft 3 fa h h' ∧ ∃ gu' ch' g', FF h' ft x gu' ch' g')) := by
          intro n' h2 ch2 hn' hr' S2 E2 F2
          refine gx_iincc (pc := 83) (c := 1) dX1_rests_83 rfl (by decide) (by decide) rfl ?_
          refine gx_goto (pc := 86) 50 dX1_rests_86 (by decide) ?_
          rw [nI_1]
          exact ih (c + 1) n' (by omega) hn' hr' h2 ch2 S2 E2 F2
        refine gx_iload (pc := 50) dX1_rests_50 rfl ?_
        refine gx_iload_n (pc := 52) dX1_rests_52 rfl ?_
        refine gx_icmp_ge (pc := 53) 89 dX1_rests_53 (by decide) (fun c6 => ?_) (fun c6 => ?_)
        · exact absurd c6 (nI_ge (by omega) (by omega))
        · refine gx_aload_n (pc := 56) dX1_rests_56 rfl ?_
          refine gx_get (pc := 57) fX1_89 hx rfl dX1_rests_57 ?_
          refine gx_iload (pc := 60) dX1_rests_60 rfl ?_
          refine kX1_346 (kc := 0) (ks := 0) (mc := 0) (ms := 0) (pc := 62) rfl (c_FisRest (d := d - 1) dx dk dl df hn hN (by omega) S1 g (by omega) F1 c (by omega)) (gxRc.of rfl hft) (by omega) (Nat.le_of_ble_eq_true rfl) dX1_rests_62 (fun r1 h2 e1 => ?_)
          obtain ⟨rfl, S2, E2, ch2, F2⟩ := e1
          rw [spRr] at hr
          refine gx_if_ne (pc := 65) 71 dX1_rests_65 (by decide) (fun c7 => ?_) (fun c7 => ?_)
          · have z := zi_ne0 c7
            rw [if_pos z] at hr
            refine gx_iload (pc := 71) dX1_rests_71 rfl ?_
            refine gx_iload_n (pc := 73) dX1_rests_73 rfl ?_
            refine gx_icmp_ne (pc := 74) 80 dX1_rests_74 (by decide) (fun c8 => ?_) (fun c8 => ?_)
            · rw [if_neg c8] at hr
              refine gx_iincc (pc := 80) (c := 1) dX1_rests_80 rfl (by decide) (by decide) rfl ?_
              rw [nI_1]
              exact K83 (n + 1) h2 ch2 (by omega) hr S2 (E1.tr E2) F2
            · have c8' : nI n = what := c8
              rw [if_pos c8'] at hr
              refine gx_iload (pc := 77) dX1_rests_77 rfl ?_
              exact gx_ireturn (pc := 79) rfl dX1_rests_79 (⟨_, rfl, fin _ _ _ _ _ hr S2 (E1.tr E2) F2⟩)
          · have z := zi_eq0 c7
            rw [if_neg (by rw [z]; decide)] at hr
            refine gx_goto (pc := 68) 83 dX1_rests_68 (by decide) ?_
            exact K83 n h2 ch2 (by omega) hr S2 (E1.tr E2) F2
    exact L2 al 0 0 (by omega) (Nat.le_refl _) rfl h1 _ S1 E1 F1
  refine gx_iload_n (pc := 0) dX1_rests_0 rfl ?_
  refine gx_iconst (pc := 1) (v := 0) dX1_rests_1 (by decide) ?_
  refine gx_iconst (pc := 2) (v := 1) dX1_rests_2 (by decide) ?_
  refine gx_aload_n (pc := 3) dX1_rests_3 rfl ?_
  refine kX1_138 (kc := 0) (ks := 0) (mc := 0) (ms := 0) (pc := 4) rfl (c_people (d := d - 1) (by omega) hS.1.O hS.2) (gxRc.of rfl hx) (by omega) (Nat.le_of_ble_eq_true rfl) dX1_rests_4 (fun r1 h1 e1 => ?_)
  obtain ⟨rfl, e1⟩ := e1
  subst h1
  refine gx_ishl (pc := 7) dX1_rests_7 ?_
  rw [hsh]
  refine gx_iconst (pc := 8) (v := 1) dX1_rests_8 (by decide) ?_
  refine gx_isub (pc := 9) dX1_rests_9 ?_
  rw [show nI (2 ^ P) - 1 = nI (2 ^ P - 1) from pk_sub (b := 1) (Nat.one_le_two_pow)]
  refine kX1_140 (kc := 0) (ks := 0) (mc := 0) (ms := 0) (pc := 10) rfl (c_Xwithin (d := d - 1) pe 0 (nI (2 ^ P - 1))) (by omega) (Nat.le_of_ble_eq_true rfl) dX1_rests_10 (fun r1 h1 e1 => ?_)
  obtain ⟨rfl, e1⟩ := e1
  subst h1
  have p1 : 1 ≤ 2 ^ P := Nat.one_le_two_pow
  refine gx_if_eq (pc := 13) 33 dX1_rests_13 (by decide) (fun c1 => ?_) (fun c1 => ?_)
  · have z := zi_eq0 c1
    refine N (fun ⟨q, a1, a2, _⟩ => ?_)
    rw [a2, decide_eq_true (nI_pos' (by omega)), decide_eq_true (nI_le (by omega) (by omega))] at z
    cases z
  · have z := wi_in c1
    obtain ⟨q, hq31, hqe⟩ := nI_of (Int32.not_lt.mpr z.1)
    have hq : q < 2 ^ P := by
      have := z.2
      rw [hqe] at this
      have := (nI_leI hq31 (by omega)).mp this
      omega
    have inj : ∀ {q2 : Nat}, q2 < 2 ^ P → pe = nI q2 → q2 = q := fun a1 a2 => ((nI_eq (by omega) (by omega)).mp (hqe.symm.trans a2)).symm
    have hbits : spBits (nI q) 10 = nI (spGu f (nI q) 6).1 := by rw [spBits_6 q (by omega), spGu_bits]
    have hg6 : (spGu f (nI q) 6).1 ≤ 6 := by
      have : ∀ p, (spGu f (nI q) p).1 ≤ p := by
        intro p
        induction p with
        | zero => exact Nat.le_refl _
        | succ p ih => rw [spGu]; split; omega; exact Nat.succ_le_succ ih
      exact this 6
    obtain ⟨gz, hgz⟩ : ∃ gz, (spGu f (nI q) 6).1 = gz := ⟨_, rfl⟩
    rw [hgz] at hbits hg6
    rw [hqe]
    refine gx_iload_n (pc := 16) dX1_rests_16 rfl ?_
    refine kX1_293 (kc := 0) (ks := 0) (mc := 0) (ms := 0) (pc := 17) rfl (c_Xbits (d := d - 1) q (by omega)) (by omega) (Nat.le_of_ble_eq_true rfl) dX1_rests_17 (fun r1 h1 e1 => ?_)
    obtain ⟨rfl, e1⟩ := e1
    subst h1
    rw [hbits, ← hqe]
    refine gx_iconst (pc := 20) (v := 2) dX1_rests_20 (by decide) ?_
    refine gx_iconst (pc := 21) (v := 3) dX1_rests_21 (by decide) ?_
    refine kX1_140 (kc := 0) (ks := 0) (mc := 0) (ms := 0) (pc := 22) rfl (c_Xwithin (d := d - 1) (nI gz) 2 3) (by omega) (Nat.le_of_ble_eq_true rfl) dX1_rests_22 (fun r1 h1 e1 => ?_)
    obtain ⟨rfl, e1⟩ := e1
    subst h1
    refine gx_if_eq (pc := 25) 33 dX1_rests_25 (by decide) (fun c4 => ?_) (fun c4 => ?_)
    · have z4 := zi_eq0 c4
      refine N (fun ⟨q2, a1, a2, a3, a4, a5⟩ => ?_)
      rw [inj a1 a2, hgz] at a4 a5
      rw [decide_eq_true (show (2 : Int32) ≤ nI gz from nI_le (a := 2) a4 (by omega)), decide_eq_true (show nI gz ≤ (3 : Int32) from nI_le (b := 3) a5 (by decide))] at z4
      cases z4
    · have hg := wi_in c4
      have hg2 : 2 ≤ gz := (nI_leI (a := 2) (by decide) (by omega)).mp hg.1
      have hg3 : gz ≤ 3 := (nI_leI (b := 3) (by omega) (by decide)).mp hg.2
      rw [← hgz] at hg2 hg3
      refine gx_iload_n (pc := 28) dX1_rests_28 rfl ?_
      refine gx_iconst (pc := 29) (v := (-1)) dX1_rests_29 (by decide) ?_
      refine gx_icmp_ge (pc := 30) 35 dX1_rests_30 (by decide) (fun c5 => ?_) (fun c5 => ?_)
      · exact main q hq hqe c5 hg2 hg3
      · exact N (fun ⟨q2, a1, a2, a3, _⟩ => c5 a3)
end MAB
