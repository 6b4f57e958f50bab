/-! ===== MODEL NC: plot ===== -/
set_option maxRecDepth 100000
def spPlr (x : plT) (wh : Nat) : Int32 := if wh = 0 then x.1.1 else if wh = 1 then x.1.2.1 else x.1.2.2 (wh - 2)
def plS1 (σ : mS) (x : plT) (ρ : mS) : Prop := sE (mI (mI (mI σ 0 0) 60 x.1.1) 61 x.1.2.1) ρ ∧ ρ.2.2.1 58 = x.2 ∧ ρ.2.2.1 59 = x.1.2.2
section NC
variable {G : gxG} {d : Nat} {h : gxH} {b : Nat} {σ : mS} {P S E : Nat} {w : Option gxEv}
theorem c_plot (hb : gxN G ≤ b) (hd : 20 ≤ d) (hT : mT σ.2.2.1 P S E w) (p q lim wh : Int32) : mMi G mX10_plot d [.ref b, .int p, .int q, .int lim, .int wh] h b σ (fun r σ' => (¬ (two p q P ∧ (0 ≤ lim ∧ lim ≤ 2) ∧ (0 ≤ wh ∧ wh ≤ 3)) ∧ r = 0 ∧ σ' = mI σ 0 1) ∨ ∃ p' q' l' w' x, p' < P ∧ p = nI p' ∧ q' < P ∧ q = nI q' ∧ p' ≠ q' ∧ l' ≤ 2 ∧ lim = nI l' ∧ w' ≤ 3 ∧ wh = nI w' ∧ x = spPl w P S p' q' l' σ.2.2.1 0 ((σ.1 60, -1, σ.2.2.1 59), σ.2.2.1 58) ∧ r = spPlr x w' ∧ plS1 σ x σ') := by
  have hP := hT.1
  have hP6 := hT.2.1
  refine gxM_of rfl (Nat.le_of_ble_eq_true rfl) rfl ?_
  have N : ¬ (two p q P ∧ (0 ≤ lim ∧ lim ≤ 2) ∧ (0 ≤ wh ∧ wh ≤ 3)) → gxV G mX10_plot d 0 0 33 [some (.ref b), some (.int p), some (.int q), some (.int lim), some (.int wh)] [.ref b] (mput h b σ) (mQi h b (fun r σ' => (¬ (two p q P ∧ (0 ≤ lim ∧ lim ≤ 2) ∧ (0 ≤ wh ∧ wh ≤ 3)) ∧ r = 0 ∧ σ' = mI σ 0 1) ∨ ∃ p' q' l' w' x, p' < P ∧ p = nI p' ∧ q' < P ∧ q = nI q' ∧ p' ≠ q' ∧ l' ≤ 2 ∧ lim = nI l' ∧ w' ≤ 3 ∧ wh = nI w' ∧ x = spPl w P S p' q' l' σ.2.2.1 0 ((σ.1 60, -1, σ.2.2.1 59), σ.2.2.1 58) ∧ r = spPlr x w' ∧ plS1 σ x σ')) := by
    intro hno
    refine gx_iconst (pc := 33) (v := 1) dX10_plot_33 (by decide) ?_
    refine m_putI (pc := 34) rfl hb fX10_175 rfl (by decide) tX10_0 dX10_plot_34 ?_
    refine gx_aload_n (pc := 37) dX10_plot_37 rfl ?_
    refine m_getI (pc := 38) rfl fX10_175 rfl (by decide) dX10_plot_38 ?_
    refine gx_iconst (pc := 41) (v := 1) dX10_plot_41 (by decide) ?_
    rw [mI_eq]
    refine gx_icmp_ne (pc := 42) 47 dX10_plot_42 (by decide) (fun c1 => ?_) (fun c1 => ?_)
    · exact absurd rfl c1
    · refine gx_iconst (pc := 45) (v := 0) dX10_plot_45 (by decide) ?_
      exact m_ret (pc := 46) rfl dX10_plot_46 (Or.inl ⟨hno, rfl, rfl⟩)
  refine gx_aload_n (pc := 0) dX10_plot_0 rfl ?_
  refine gx_aload_n (pc := 1) dX10_plot_1 rfl ?_
  refine gx_iload_n (pc := 2) dX10_plot_2 rfl ?_
  refine gx_iload_n (pc := 3) dX10_plot_3 rfl ?_
  refine kX10_448 (pc := 4) rfl (c_are2 (d := d - 1) (by omega) p q hT) (by omega) (Nat.le_of_ble_eq_true rfl) dX10_plot_4 (fun r1 σ1 e1 => ?_)
  obtain ⟨e1, hσ⟩ := e1
  subst σ1
  refine gx_if_eq (pc := 7) 33 dX10_plot_7 (by decide) (fun c1 => ?_) (fun c1 => ?_)
  · rcases e1 with ⟨h1, rfl⟩ | ⟨h1, rfl⟩
    · exact absurd c1 (by decide)
    · exact N (fun hh => h1 hh.1)
  · rcases e1 with ⟨h1, rfl⟩ | ⟨h1, rfl⟩
    · refine gx_iload_n (pc := 10) dX10_plot_10 rfl ?_
      refine gx_iconst (pc := 11) (v := 0) dX10_plot_11 (by decide) ?_
      refine gx_iconst (pc := 12) (v := 2) dX10_plot_12 (by decide) ?_
      refine kX10_308 (pc := 13) rfl (c_within (d := d - 1) lim 0 2) (by omega) (Nat.le_of_ble_eq_true rfl) dX10_plot_13 (fun r1 σ1 e1 => ?_)
      obtain ⟨rfl, hσ⟩ := e1
      subst σ1
      refine gx_if_eq (pc := 16) 33 dX10_plot_16 (by decide) (fun c2 => ?_) (fun c2 => ?_)
      · exact N (fun hh => wi_out c2 hh.2.1)
      · have hl := wi_in c2
        refine gx_iload (pc := 19) dX10_plot_19 rfl ?_
        refine gx_iconst (pc := 21) (v := 0) dX10_plot_21 (by decide) ?_
        refine gx_iconst (pc := 22) (v := 3) dX10_plot_22 (by decide) ?_
        refine kX10_308 (pc := 23) rfl (c_within (d := d - 1) wh 0 3) (by omega) (Nat.le_of_ble_eq_true rfl) dX10_plot_23 (fun r1 σ1 e1 => ?_)
        obtain ⟨rfl, hσ⟩ := e1
        subst σ1
        refine gx_if_eq (pc := 26) 33 dX10_plot_26 (by decide) (fun c3 => ?_) (fun c3 => ?_)
        · exact N (fun hh => wi_out c3 hh.2.2)
        · have hw := wi_in c3
          obtain ⟨⟨p', hp, rfl⟩, ⟨q', hq, rfl⟩, hpq⟩ := h1
          obtain ⟨l', hl', rfl⟩ := nI_of2 (M := 2) (n := 2) (by decide) (Int32.not_lt.mpr hl.1) hl.2
          obtain ⟨w', hw', rfl⟩ := nI_of2 (M := 3) (n := 3) (by decide) (Int32.not_lt.mpr hw.1) hw.2
          have hne : p' ≠ q' := fun e => hpq (by rw [e])
          have hT1 : mT (mI (mI σ 0 0) 61 (-1)).2.2.1 P S E w := hT
          refine gx_iconst (pc := 29) (v := 0) dX10_plot_29 (by decide) ?_
          refine gx_goto (pc := 30) 34 dX10_plot_30 (by decide) ?_
          refine m_putI (pc := 34) rfl hb fX10_175 rfl (by decide) tX10_0 dX10_plot_34 ?_
          refine gx_aload_n (pc := 37) dX10_plot_37 rfl ?_
          refine m_getI (pc := 38) rfl fX10_175 rfl (by decide) dX10_plot_38 ?_
          refine gx_iconst (pc := 41) (v := 1) dX10_plot_41 (by decide) ?_
          rw [mI_eq]
          refine gx_icmp_ne (pc := 42) 47 dX10_plot_42 (by decide) (fun c4 => ?_) (fun c4 => ?_)
          · refine gx_aload_n (pc := 47) dX10_plot_47 rfl ?_
            refine gx_iconst (pc := 48) (v := (-1)) dX10_plot_48 (by decide) ?_
            refine m_putI (pc := 49) rfl hb fX10_501 rfl (by decide) tX10_61 dX10_plot_49 ?_
            refine gx_aload_n (pc := 52) dX10_plot_52 rfl ?_
            refine gx_iload_n (pc := 53) dX10_plot_53 rfl ?_
            refine gx_iload_n (pc := 54) dX10_plot_54 rfl ?_
            refine gx_iconst (pc := 55) (v := 0) dX10_plot_55 (by decide) ?_
            refine gx_iload_n (pc := 56) dX10_plot_56 rfl ?_
            have cp := c_plots (h := h) hb p' q' l' hp hq (by omega) l' 0 (d - 1) _ (by omega) (by omega) hT1
            refine kX10_507 (pc := 57) rfl (cp) (by omega) (Nat.le_of_ble_eq_true rfl) dX10_plot_57 (fun ρ e => ?_)
            have hX : plX (mI (mI σ 0 0) 61 (-1)) = ((σ.1 60, -1, σ.2.2.1 59), σ.2.2.1 58) := by
              simp [plX, mI, upd]
            rw [hX] at e
            have e61 := e.x61
            have e60 := e.x60
            generalize hx : spPl w P S p' q' l' (mI (mI σ 0 0) 61 (-1)).2.2.1 0 ((σ.1 60, -1, σ.2.2.1 59), σ.2.2.1 58) = x at *
            have hx' : x = spPl w P S p' q' l' σ.2.2.1 0 ((σ.1 60, -1, σ.2.2.1 59), σ.2.2.1 58) := hx.symm
            have e1 : plS1 σ x ρ := by
              refine ⟨⟨?_, e.1.2.1, e.1.2.2.1, e.1.2.2.2⟩, e.2.1, e.2.2⟩
              rw [e.1.1]
              funext z
              by_cases h0 : z = 60 <;> by_cases h1 : z = 61 <;> simp [mI, upd, h0, h1]
            have F : ∀ v, v = spPlr x w' → gxV G mX10_plot d 0 0 94 [some (.ref b), some (.int (nI p')), some (.int (nI q')), some (.int (nI l')), some (.int (nI w'))] [.int v] (mput h b ρ) (mQi h b (fun r σ' => (¬ (two (nI p') (nI q') P ∧ (0 ≤ nI l' ∧ nI l' ≤ 2) ∧ (0 ≤ nI w' ∧ nI w' ≤ 3)) ∧ r = 0 ∧ σ' = mI σ 0 1) ∨ ∃ p2 q2 l2 w2 x, p2 < P ∧ nI p' = nI p2 ∧ q2 < P ∧ nI q' = nI q2 ∧ p2 ≠ q2 ∧ l2 ≤ 2 ∧ nI l' = nI l2 ∧ w2 ≤ 3 ∧ nI w' = nI w2 ∧ x = spPl w P S p2 q2 l2 σ.2.2.1 0 ((σ.1 60, -1, σ.2.2.1 59), σ.2.2.1 58) ∧ r = spPlr x w2 ∧ plS1 σ x σ')) := by
              intro v hv
              subst hv
              exact m_ret (pc := 94) rfl dX10_plot_94 (Or.inr ⟨p', q', l', w', x, hp, rfl, hq, rfl, hne, by omega, rfl, by omega, rfl, hx', rfl, e1⟩)
            refine gx_iload (pc := 60) dX10_plot_60 rfl ?_
            refine gx_if_ne (pc := 62) 72 dX10_plot_62 (by decide) (fun c5 => ?_) (fun c5 => ?_)
            · have hw0 : w' ≠ 0 := fun e => c5 (by rw [e]; rfl)
              refine gx_iload (pc := 72) dX10_plot_72 rfl ?_
              refine gx_iconst (pc := 74) (v := 1) dX10_plot_74 (by decide) ?_
              refine gx_icmp_ne (pc := 75) 85 dX10_plot_75 (by decide) (fun c6 => ?_) (fun c6 => ?_)
              · have hw1 : w' ≠ 1 := fun e => c6 (by rw [e]; rfl)
                refine gx_aload_n (pc := 85) dX10_plot_85 rfl ?_
                refine m_getA (pc := 86) rfl fX10_154 rfl (by decide) dX10_plot_86 ?_
                refine gx_iload (pc := 89) dX10_plot_89 rfl ?_
                refine gx_iconst (pc := 91) (v := 2) dX10_plot_91 (by decide) ?_
                refine gx_isub (pc := 92) dX10_plot_92 ?_
                rw [show nI w' - 2 = nI (w' - 2) by
                  obtain ⟨m, rfl⟩ : ∃ m, w' = m + 2 := ⟨w' - 2, by omega⟩
                  rw [← nI_add, show nI 2 = 2 from rfl, Int32.add_sub_cancel]; rfl]
                refine m_iald (pc := 93) 59 ((w'-2)) 2 rfl (by decide) rfl (by first | rfl | simp only [gx_lit, nI_add, pk_mul]) (by omega) (by decide) dX10_plot_93 ?_
                exact F _ (by rw [e.2.2, spPlr, if_neg hw0, if_neg hw1])
              · have hw1 : w' = 1 := (nI_eq (b := 1) (by omega) (by decide)).mp c6
                refine gx_aload_n (pc := 78) dX10_plot_78 rfl ?_
                refine m_getI (pc := 79) rfl fX10_501 rfl (by decide) dX10_plot_79 ?_
                refine gx_goto (pc := 82) 94 dX10_plot_82 (by decide) ?_
                exact F _ (by rw [e61, spPlr, if_neg hw0, if_pos hw1])
            · have hw0 : w' = 0 := (nI_eq (b := 0) (by omega) (by decide)).mp c5
              refine gx_aload_n (pc := 65) dX10_plot_65 rfl ?_
              refine m_getI (pc := 66) rfl fX10_504 rfl (by decide) dX10_plot_66 ?_
              refine gx_goto (pc := 69) 94 dX10_plot_69 (by decide) ?_
              exact F _ (by rw [e60, spPlr, if_pos hw0])
          · exact absurd c4 (by decide)
    · exact absurd rfl c1
end NC
