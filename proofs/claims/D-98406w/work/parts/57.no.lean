/-! ===== MODEL NO: a line, gossip ===== -/
set_option maxRecDepth 100000
section NO
variable {G : gxG} {d : Nat} {h : gxH} {b : Nat} {σ : mS} {t : Nat → Int32} {z i : Nat}
theorem c_readsLine (hb : gxN G ≤ b) (hd : 5 ≤ d) (hS : tS t z i σ) (P S n : Nat) (hP : σ.2.2.1 10 0 = nI P) (hP6 : P ≤ 6) (hSS : σ.2.2.1 10 1 = nI S) (hS10 : S ≤ 10) (hn : σ.2.2.1 42 5 = nI n) (hn30 : n ≤ 30) : mMi G mX10_readsLine d [.ref b] h b σ (fun r σ' => rG σ σ' ∧ rR (spGL t z P S n σ.2.2 i) r σ' (fun a => tS t z a.1 σ' ∧ σ'.2.2 = a.2)) := by
  refine gxM_of rfl (Nat.le_of_ble_eq_true rfl) rfl ?_
  generalize hX : spGL t z P S n σ.2.2 i = X
  rw [spGL] at hX
  have K57 : ∀ v, v = spWhat (tkK t z i) → gxV G mX10_readsLine d 0 0 57 [some (.ref b), none, none] [.int v] (mput h b σ) (mQi h b (fun r σ' => rG σ σ' ∧ rR X r σ' (fun a => tS t z a.1 σ' ∧ σ'.2.2 = a.2))) := by
    intro v hv
    have hv5 := spWhat_v (tkK t z i)
    rw [← hv] at hX hv5
    refine gx_istore_n (pc := 57) dX10_readsLine_57 (by decide) rfl ?_
    refine gx_iload_n (pc := 58) dX10_readsLine_58 rfl ?_
    refine gx_if_ge (pc := 59) 68 dX10_readsLine_59 (by decide) (fun c1 => ?_) (fun c1 => ?_)
    · have n1 : ¬ v < 0 := Int32.not_lt.mpr c1
      rw [if_neg n1] at hX
      refine gx_aload_n (pc := 68) dX10_readsLine_68 rfl ?_
      refine m_getA (pc := 69) rfl fX10_105 rfl (by decide) dX10_readsLine_69 ?_
      refine gx_iconst (pc := 72) (v := 5) dX10_readsLine_72 (by decide) ?_
      refine m_iald (pc := 73) 42 (5) 6 rfl (by decide) rfl (by first | rfl | simp only [gx_lit, nI_add, pk_mul]) (by omega) (by decide) dX10_readsLine_73 ?_
      rw [hn]
      refine gx_bipush (pc := 74) (v := 30) dX10_readsLine_74 (by decide) ?_
      refine gx_icmp_ne (pc := 76) 85 dX10_readsLine_76 (by decide) (fun c2 => ?_) (fun c2 => ?_)
      · have n2 : ¬ n = 30 := fun e => c2 (by rw [e]; rfl)
        rw [if_neg n2] at hX
        obtain ⟨w, hw⟩ : ∃ w, w = 150 + n := ⟨_, rfl⟩
        rw [← hw] at hX
        refine gx_aload_n (pc := 85) dX10_readsLine_85 rfl ?_
        refine kX10_246 (pc := 86) rfl (c_next (d := d - 1) hb (by omega) hS) (by omega) (Nat.le_of_ble_eq_true rfl) dX10_readsLine_86 (fun σ1 e1 => ?_)
        subst σ1
        have S1 := hS.nx
        have K1 : rK σ (tkP σ (tkK t z (i + 1))) := rK.tk _ _
        generalize tkP σ (tkK t z (i + 1)) = τ1 at *
        refine gx_sipush (pc := 89) (v := 150) dX10_readsLine_89 (by decide) ?_
        refine gx_aload_n (pc := 92) dX10_readsLine_92 rfl ?_
        refine m_getA (pc := 93) rfl fX10_105 rfl (by decide) dX10_readsLine_93 ?_
        refine gx_iconst (pc := 96) (v := 5) dX10_readsLine_96 (by decide) ?_
        refine m_iald (pc := 97) 42 (5) 6 rfl (by decide) rfl (by first | rfl | simp only [gx_lit, nI_add, pk_mul]) (by omega) (by decide) dX10_readsLine_97 ?_
        rw [K1.T, hn]
        refine gx_iadd (pc := 98) dX10_readsLine_98 ?_
        rw [show (150 : Int32) + nI n = nI w by rw [hw]; exact nI_add 150 n]
        refine gx_istore_n (pc := 99) dX10_readsLine_99 (by decide) rfl ?_
        refine gx_aload_n (pc := 100) dX10_readsLine_100 rfl ?_
        refine m_getA (pc := 101) rfl fX10_108 rfl (by decide) dX10_readsLine_101 ?_
        refine gx_iload_n (pc := 104) dX10_readsLine_104 rfl ?_
        refine gx_iload_n (pc := 105) dX10_readsLine_105 rfl ?_
        refine m_iast (pc := 106) hb 43 (w) 180 rfl (by decide) rfl (by first | rfl | simp only [gx_lit, nI_add, pk_mul]) (by omega) (by decide) dX10_readsLine_106 ?_
        have S2 := S1.mA (j := 43) (by decide) w v
        have D2 : rG σ (mA τ1 43 w v) := K1.G.tr (rG.A _ (ownG4 (by decide) (by decide) (by omega)) _)
        have A2 := mA_22 τ1 43 w v
        rw [K1.2.2] at A2
        generalize mA τ1 43 w v = τ2 at *
        have K153 : ∀ (a : Nat × dS) τ, rB (spClo t z a.1) (fun e => (.inr (e, dA a.2 42 5 (nI (n + 1))) : Sum Int32 (Nat × dS))) = X → tS t z a.1 τ → rG σ τ → τ.2.2 = a.2 → τ.2.2.1 42 5 = nI n → gxV G mX10_readsLine d 0 0 153 [some (.ref b), some (.int v), some (.int (nI w))] [] (mput h b τ) (mQi h b (fun r σ' => rG σ σ' ∧ rR X r σ' (fun a => tS t z a.1 σ' ∧ σ'.2.2 = a.2))) := by
          intro a τ hX S3 D3 A3 n3
          refine gx_aload_n (pc := 153) dX10_readsLine_153 rfl ?_
          refine m_getA (pc := 154) rfl fX10_105 rfl (by decide) dX10_readsLine_154 ?_
          refine gx_iconst (pc := 157) (v := 5) dX10_readsLine_157 (by decide) ?_
          refine gx_dup2 (pc := 158) dX10_readsLine_158 rfl rfl ?_
          refine m_iald (pc := 159) 42 (5) 6 rfl (by decide) rfl (by first | rfl | simp only [gx_lit, nI_add, pk_mul]) (by omega) (by decide) dX10_readsLine_159 ?_
          rw [n3]
          refine gx_iconst (pc := 160) (v := 1) dX10_readsLine_160 (by decide) ?_
          refine gx_iadd (pc := 161) dX10_readsLine_161 ?_
          rw [nI_1]
          refine m_iast (pc := 162) hb 42 (5) 6 rfl (by decide) rfl (by first | rfl | simp only [gx_lit, nI_add, pk_mul]) (by omega) (by decide) dX10_readsLine_162 ?_
          have S4 := S3.mA (j := 42) (by decide) 5 (nI (n + 1))
          have D4 : rG σ (mA τ 42 5 (nI (n + 1))) := D3.tr (rG.A _ (by decide) _)
          have A4 := mA_22 τ 42 5 (nI (n + 1))
          rw [A3] at A4
          generalize mA τ 42 5 (nI (n + 1)) = τ4 at *
          refine gx_aload_n (pc := 163) dX10_readsLine_163 rfl ?_
          refine kX10_339 (pc := 164) rfl (c_closes (d := d - 1) hb (by omega) S4) (by omega) (Nat.le_of_ble_eq_true rfl) dX10_readsLine_164 (fun r5 σ5 e5 => ?_)
          obtain ⟨K5, e5⟩ := e5
          cases h5 : spClo t z a.1 with
          | inl f =>
            rw [h5] at e5 hX
            obtain ⟨rfl, hw⟩ := e5
            exact m_retz (pc := 167) rfl (by decide) dX10_readsLine_167 (⟨D4.K K5, by rw [← hX]; exact ⟨rfl, hw⟩⟩)
          | inr e =>
            rw [h5] at e5 hX
            obtain ⟨rfl, S5⟩ := e5
            exact m_retz (pc := 167) rfl (by decide) dX10_readsLine_167 (⟨D4.K K5, by rw [← hX]; exact ⟨rfl, S5, by rw [K5.2.2, A4]⟩⟩)
        have K151 : ∀ τ f, (.inl f : Sum Int32 (Nat × dS)) = X → rG σ τ → τ.1 9 = f → gxV G mX10_readsLine d 0 0 151 [some (.ref b), some (.int v), some (.int (nI w))] [] (mput h b τ) (mQi h b (fun r σ' => rG σ σ' ∧ rR X r σ' (fun a => tS t z a.1 σ' ∧ σ'.2.2 = a.2))) := by
          intro τ f hX D3 hw
          refine gx_iconst (pc := 151) (v := 0) dX10_readsLine_151 (by decide) ?_
          exact m_retz (pc := 152) rfl (by decide) dX10_readsLine_152 (⟨D3, by rw [← hX]; exact ⟨rfl, hw⟩⟩)
        have hP2 : τ2.2.2.1 10 0 = nI P := by rw [A2, dA_at, if_neg (by omega)]; exact hP
        have hS2 : τ2.2.2.1 10 1 = nI S := by rw [A2, dA_at, if_neg (by omega)]; exact hSS
        have hn2' : τ2.2.2.1 42 5 = nI n := by rw [A2, dA_at, if_neg (by omega)]; exact hn
        have P3 : ∀ r3 σ3 (sp : Sum Int32 (Nat × dS)), rG τ2 σ3 → rR sp r3 σ3 (fun a => tS t z a.1 σ3 ∧ σ3.2.2 = a.2) → (∀ a, sp = .inr a → a.2.1 42 5 = nI n) → rB sp (fun a => rB (spClo t z a.1) (fun e => (.inr (e, dA a.2 42 5 (nI (n + 1))) : Sum Int32 (Nat × dS)))) = X → (¬ r3 = 0 → gxV G mX10_readsLine d 0 0 153 [some (.ref b), some (.int v), some (.int (nI w))] [] (mput h b σ3) (mQi h b (fun r σ' => rG σ σ' ∧ rR X r σ' (fun a => tS t z a.1 σ' ∧ σ'.2.2 = a.2)))) ∧ (r3 = 0 → gxV G mX10_readsLine d 0 0 151 [some (.ref b), some (.int v), some (.int (nI w))] [] (mput h b σ3) (mQi h b (fun r σ' => rG σ σ' ∧ rR X r σ' (fun a => tS t z a.1 σ' ∧ σ'.2.2 = a.2)))) := by
          intro r3 σ3 sp D3 hr h42 hX
          cases hs : sp with
          | inl f =>
            rw [hs] at hr hX
            exact ⟨fun hh => absurd hr.1 hh, fun _ => K151 σ3 f hX (D2.tr D3) hr.2⟩
          | inr a =>
            rw [hs] at hr hX
            refine ⟨fun _ => K153 a σ3 hX hr.2.1 (D2.tr D3) hr.2.2 (by rw [hr.2.2]; exact h42 a hs), fun hh => ?_⟩
            rw [hr.1] at hh
            exact absurd hh (by decide)
        refine gx_iload_n (pc := 107) dX10_readsLine_107 rfl ?_
        refine gx_if_ne (pc := 108) 122 dX10_readsLine_108 (by decide) (fun k1 => ?_) (fun k1 => ?_)
        · rw [if_neg k1] at hX
          refine gx_iload_n (pc := 122) dX10_readsLine_122 rfl ?_
          refine gx_iconst (pc := 123) (v := 1) dX10_readsLine_123 (by decide) ?_
          refine gx_icmp_ne (pc := 124) 138 dX10_readsLine_124 (by decide) (fun k2 => ?_) (fun k2 => ?_)
          · rw [if_neg k2] at hX
            refine gx_iload_n (pc := 138) dX10_readsLine_138 rfl ?_
            refine gx_iconst (pc := 139) (v := 2) dX10_readsLine_139 (by decide) ?_
            refine gx_icmp_ne (pc := 140) 153 dX10_readsLine_140 (by decide) (fun k3 => ?_) (fun k3 => ?_)
            · rw [if_neg k3] at hX
              exact K153 (i + 1, dA σ.2.2 43 w v) _ hX S2 D2 A2 hn2'
            · rw [if_pos k3] at hX
              refine gx_aload_n (pc := 143) dX10_readsLine_143 rfl ?_
              refine gx_iload_n (pc := 144) dX10_readsLine_144 rfl ?_
              refine kX10_386 (pc := 145) rfl (c_readsRise (d := d - 1) hb (by omega) S2 P w hP2 hP6 (by omega) (by omega)) (by omega) (Nat.le_of_ble_eq_true rfl) dX10_readsLine_145 (fun r3 σ3 e3 => ?_)
              obtain ⟨D3, e3⟩ := e3
              rw [A2] at e3
              have := P3 r3 σ3 _ D3 e3 (fun a ha => by
                unfold spGR at ha
                obtain ⟨_, _, ha⟩ := rB_inv ha
                cases ha
                simp only [dA_at]
                rw [if_neg (by omega), if_neg (by omega)]; exact hn) hX
              refine gx_if_ne (pc := 148) 153 dX10_readsLine_148 (by decide) (fun k4 => ?_) (fun k4 => ?_)
              · exact this.1 k4
              · exact this.2 k4
          · rw [if_pos k2] at hX
            refine gx_aload_n (pc := 127) dX10_readsLine_127 rfl ?_
            refine gx_iload_n (pc := 128) dX10_readsLine_128 rfl ?_
            refine kX10_383 (pc := 129) rfl (c_readsPayment (d := d - 1) hb (by omega) S2 P S w hP2 hP6 hS2 hS10 (by omega) (by omega)) (by omega) (Nat.le_of_ble_eq_true rfl) dX10_readsLine_129 (fun r3 σ3 e3 => ?_)
            obtain ⟨D3, e3⟩ := e3
            rw [A2] at e3
            have := P3 r3 σ3 _ D3 e3 (fun a ha => by
              unfold spGP at ha
              obtain ⟨_, _, ha⟩ := rB_inv ha
              obtain ⟨_, _, ha⟩ := rB_inv ha
              cases ha
              simp only [dA_at]
              rw [if_neg (by omega), if_neg (by omega), if_neg (by omega)]; exact hn) hX
            refine gx_if_ne (pc := 132) 153 dX10_readsLine_132 (by decide) (fun k4 => ?_) (fun k4 => ?_)
            · exact this.1 k4
            · refine gx_goto (pc := 135) 151 dX10_readsLine_135 (by decide) ?_
              exact this.2 k4
        · rw [if_pos k1] at hX
          refine gx_aload_n (pc := 111) dX10_readsLine_111 rfl ?_
          refine gx_iload_n (pc := 112) dX10_readsLine_112 rfl ?_
          refine kX10_380 (pc := 113) rfl (c_readsTelling (d := d - 1) hb (by omega) S2 P S w hP2 hP6 hS2 hS10 (by omega) (by omega)) (by omega) (Nat.le_of_ble_eq_true rfl) dX10_readsLine_113 (fun r3 σ3 e3 => ?_)
          obtain ⟨D3, e3⟩ := e3
          rw [A2] at e3
          have := P3 r3 σ3 _ D3 e3 (fun a ha => by
            unfold spGT at ha
            obtain ⟨_, _, ha⟩ := rB_inv ha
            obtain ⟨_, _, ha⟩ := rB_inv ha
            split at ha
            · cases ha
            obtain ⟨_, _, ha⟩ := rB_inv ha
            cases ha
            simp only [dA_at]
            rw [if_neg (by omega), if_neg (by omega), if_neg (by omega), if_neg (by omega)]; exact hn) hX
          refine gx_if_ne (pc := 116) 153 dX10_readsLine_116 (by decide) (fun k4 => ?_) (fun k4 => ?_)
          · exact this.1 k4
          · refine gx_goto (pc := 119) 151 dX10_readsLine_119 (by decide) ?_
            exact this.2 k4
      · have n2 : n = 30 := (nI_eq (b := 30) (by omega) (by decide)).mp c2
        rw [if_pos n2] at hX
        refine gx_aload_n (pc := 79) dX10_readsLine_79 rfl ?_
        refine gx_iconst (pc := 80) (v := 5) dX10_readsLine_80 (by decide) ?_
        refine kX10_239 (pc := 81) rfl (c_fails (d := d - 1) hb hS 5) (by omega) (Nat.le_of_ble_eq_true rfl) dX10_readsLine_81 (fun r1 σ1 e1 => ?_)
        obtain ⟨rfl, hσ⟩ := e1
        subst σ1
        exact m_retz (pc := 84) rfl (by decide) dX10_readsLine_84 (⟨(rK.I _ rfl (by decide) _).G, by rw [← hX]; exact ⟨rfl, mI_eq _ _ _⟩⟩)
    · have n1 : v < 0 := Int32.not_le.mp c1
      rw [if_pos n1] at hX
      refine gx_aload_n (pc := 62) dX10_readsLine_62 rfl ?_
      refine gx_iconst (pc := 63) (v := 1) dX10_readsLine_63 (by decide) ?_
      refine kX10_239 (pc := 64) rfl (c_fails (d := d - 1) hb hS 1) (by omega) (Nat.le_of_ble_eq_true rfl) dX10_readsLine_64 (fun r1 σ1 e1 => ?_)
      obtain ⟨rfl, hσ⟩ := e1
      subst σ1
      exact m_retz (pc := 67) rfl (by decide) dX10_readsLine_67 (⟨(rK.I _ rfl (by decide) _).G, by rw [← hX]; exact ⟨rfl, mI_eq _ _ _⟩⟩)
  refine gx_aload_n (pc := 0) dX10_readsLine_0 rfl ?_
  refine gx_ldc2 (pc := 1) q2116 dX10_readsLine_1 ?_
  refine kX10_231 (pc := 4) rfl (c_isWord (d := d - 1) hS 397641) (by omega) (Nat.le_of_ble_eq_true rfl) dX10_readsLine_4 (fun r1 σ1 e1 => ?_)
  obtain ⟨rfl, hσ⟩ := e1
  subst σ1
  refine gx_if_eq (pc := 7) 14 dX10_readsLine_7 (by decide) (fun k1 => ?_) (fun k1 => ?_)
  · refine gx_aload_n (pc := 14) dX10_readsLine_14 rfl ?_
    refine gx_ldc2 (pc := 15) q2117 dX10_readsLine_15 ?_
    refine kX10_231 (pc := 18) rfl (c_isWord (d := d - 1) hS 11716) (by omega) (Nat.le_of_ble_eq_true rfl) dX10_readsLine_18 (fun r1 σ1 e1 => ?_)
    obtain ⟨rfl, hσ⟩ := e1
    subst σ1
    refine gx_if_eq (pc := 21) 28 dX10_readsLine_21 (by decide) (fun k2 => ?_) (fun k2 => ?_)
    · refine gx_aload_n (pc := 28) dX10_readsLine_28 rfl ?_
      refine gx_ldc2 (pc := 29) q2118 dX10_readsLine_29 ?_
      refine kX10_231 (pc := 32) rfl (c_isWord (d := d - 1) hS 361373) (by omega) (Nat.le_of_ble_eq_true rfl) dX10_readsLine_32 (fun r1 σ1 e1 => ?_)
      obtain ⟨rfl, hσ⟩ := e1
      subst σ1
      refine gx_if_eq (pc := 35) 42 dX10_readsLine_35 (by decide) (fun k3 => ?_) (fun k3 => ?_)
      · refine gx_aload_n (pc := 42) dX10_readsLine_42 rfl ?_
        refine gx_ldc2 (pc := 43) q2119 dX10_readsLine_43 ?_
        refine kX10_231 (pc := 46) rfl (c_isWord (d := d - 1) hS 6888375828) (by omega) (Nat.le_of_ble_eq_true rfl) dX10_readsLine_46 (fun r1 σ1 e1 => ?_)
        obtain ⟨rfl, hσ⟩ := e1
        subst σ1
        refine gx_if_eq (pc := 49) 56 dX10_readsLine_49 (by decide) (fun k4 => ?_) (fun k4 => ?_)
        · refine gx_iconst (pc := 56) (v := (-1)) dX10_readsLine_56 (by decide) ?_
          exact K57 _ (by rw [spWhat, zi_eq0 k1, zi_eq0 k2, zi_eq0 k3, zi_eq0 k4]; rfl)
        · refine gx_iconst (pc := 52) (v := 3) dX10_readsLine_52 (by decide) ?_
          refine gx_goto (pc := 53) 57 dX10_readsLine_53 (by decide) ?_
          exact K57 _ (by rw [spWhat, zi_eq0 k1, zi_eq0 k2, zi_eq0 k3, zi_ne0 k4]; rfl)
      · refine gx_iconst (pc := 38) (v := 2) dX10_readsLine_38 (by decide) ?_
        refine gx_goto (pc := 39) 57 dX10_readsLine_39 (by decide) ?_
        exact K57 _ (by rw [spWhat, zi_eq0 k1, zi_eq0 k2, zi_ne0 k3]; rfl)
    · refine gx_iconst (pc := 24) (v := 1) dX10_readsLine_24 (by decide) ?_
      refine gx_goto (pc := 25) 57 dX10_readsLine_25 (by decide) ?_
      exact K57 _ (by rw [spWhat, zi_eq0 k1, zi_ne0 k2]; rfl)
  · refine gx_iconst (pc := 10) (v := 0) dX10_readsLine_10 (by decide) ?_
    refine gx_goto (pc := 11) 57 dX10_readsLine_11 (by decide) ?_
    exact K57 _ (by rw [spWhat, zi_ne0 k1]; rfl)
theorem c_gossip (hb : gxN G ≤ b) (hd : 6 ≤ d) (hz : σ.1 1 = nI z) (hz1 : z ≤ 1000) (ht : σ.2.2.1 2 = t) (P S : Nat) (hP : σ.2.2.1 10 0 = nI P) (hP6 : P ≤ 6) (hSS : σ.2.2.1 10 1 = nI S) (hS10 : S ≤ 10) : mMi G mX10_gossip d [.ref b] h b σ (fun r σ' => σ'.1 1 = 0 ∧ σ'.2.1.2 = σ.2.1.2 ∧ (∀ k, k ≠ 0 → k ≠ 1 → k ≠ 3 → rky k = false → σ'.1 k = σ.1 k) ∧ σ'.1 0 = 0 ∧
    ((∃ f, spGos t z P S (z + 1) 0 (dA σ.2.2 42 5 0) 0 = .inl f ∧ r = f ∧ frG σ.2.2 σ'.2.2) ∨ (∃ x n, spGos t z P S (z + 1) 0 (dA σ.2.2 42 5 0) 0 = .inr x ∧ r = 0 ∧ n ≤ 30 ∧ x.1 42 5 = nI n ∧ (∀ k, k < n → lnAt x.1 P S 150 k) ∧ frG σ.2.2 x ∧ σ'.2.2 = (lnS x.1 5 0 30 30, x.2)))) := by
  refine gxM_of rfl (Nat.le_of_ble_eq_true rfl) rfl ?_
  generalize hX : spGos t z P S (z + 1) 0 (dA σ.2.2 42 5 0) 0 = X
  have L : ∀ m n x i τ, spGos t z P S m n x i = X → z + 1 ≤ m + (tkK t z i).2.1 → n ≤ 30 → tS t z i τ → τ.2.2 = x → x.1 42 5 = nI n → (∀ k, k < n → lnAt x.1 P S 150 k) → frG σ.2.2 x → τ.1 1 = 0 → τ.2.1.2 = σ.2.1.2 → (∀ k, k ≠ 0 → k ≠ 1 → k ≠ 3 → rky k = false → τ.1 k = σ.1 k) → τ.1 0 = 0 → gxV G mX10_gossip d 0 0 16 [some (.ref b)] [] (mput h b τ) (mQi h b (fun r σ' => σ'.1 1 = 0 ∧ σ'.2.1.2 = σ.2.1.2 ∧ (∀ k, k ≠ 0 → k ≠ 1 → k ≠ 3 → rky k = false → σ'.1 k = σ.1 k) ∧ σ'.1 0 = 0 ∧ ((∃ f, X = .inl f ∧ r = f ∧ frG σ.2.2 σ'.2.2) ∨ (∃ x n, X = .inr x ∧ r = 0 ∧ n ≤ 30 ∧ x.1 42 5 = nI n ∧ (∀ k, k < n → lnAt x.1 P S 150 k) ∧ frG σ.2.2 x ∧ σ'.2.2 = (lnS x.1 5 0 30 30, x.2))))) := by
    intro m
    induction m with
    | zero =>
      intro n x i τ _ hm
      have := tkK_le t z i
      omega
    | succ m ih =>
      intro n x i τ hX hm hn hS hA h42 hl hF h1 hg hk h0
      rw [spGos] at hX
      refine gx_aload_n (pc := 16) dX10_gossip_16 rfl ?_
      refine m_getI (pc := 17) rfl fX10_200 rfl (by decide) dX10_gossip_17 ?_
      rw [hS.i6]
      refine gx_if_eq (pc := 20) 35 dX10_gossip_20 (by decide) (fun c0 => ?_) (fun c0 => ?_)
      · rw [if_pos c0] at hX
        refine gx_aload_n (pc := 35) dX10_gossip_35 rfl ?_
        refine gx_iconst (pc := 36) (v := 5) dX10_gossip_36 (by decide) ?_
        refine gx_iconst (pc := 37) (v := 0) dX10_gossip_37 (by decide) ?_
        refine kX10_404 (pc := 38) rfl (c_laysLines (d := d - 1) hb 5 0 (by decide) (by decide) (by decide)) (by omega) (Nat.le_of_ble_eq_true rfl) dX10_gossip_38 (fun σ1 e1 => ?_)
        subst σ1
        refine gx_iconst (pc := 41) (v := 0) dX10_gossip_41 (by decide) ?_
        exact m_ret (pc := 42) rfl dX10_gossip_42 (⟨h1, hg, hk, h0, Or.inr ⟨x, n, hX.symm, rfl, hn, h42, hl, hF, by show (lnS τ.2.2.1 5 0 30 30, τ.2.2.2) = _; rw [hA]⟩⟩)
      · rw [if_neg c0] at hX
        refine gx_aload_n (pc := 23) dX10_gossip_23 rfl ?_
        refine kX10_401 (pc := 24) rfl (c_readsLine (d := d - 1) hb (by omega) hS P S n (by rw [hA, hF.t10]; exact hP) hP6 (by rw [hA, hF.t10]; exact hSS) hS10 (by rw [hA]; exact h42) hn) (by omega) (Nat.le_of_ble_eq_true rfl) dX10_gossip_24 (fun r1 σ1 e1 => ?_)
        obtain ⟨D1, e1⟩ := e1
        rw [hA] at e1
        have k1 : σ1.1 1 = 0 := (D1.1.1 1 rfl).trans h1
        have k0 : σ1.1 0 = 0 := (D1.1.1 0 rfl).trans h0
        have kg : σ1.2.1.2 = σ.2.1.2 := D1.1.2.trans hg
        have kk : ∀ k, k ≠ 0 → k ≠ 1 → k ≠ 3 → rky k = false → σ1.1 k = σ.1 k := fun k a c e g => (D1.1.1 k g).trans (hk k a c e g)
        have fF : frG σ.2.2 σ1.2.2 := hF.tr (by have := D1.2.2; rw [hA] at this; exact this)
        cases hs : spGL t z P S n x i with
        | inl f =>
          rw [hs] at e1 hX
          obtain ⟨rfl, hw⟩ := e1
          refine gx_if_ne (pc := 27) 16 dX10_gossip_27 (by decide) (fun c1 => ?_) (fun c1 => ?_)
          · exact absurd rfl c1
          · refine gx_aload_n (pc := 30) dX10_gossip_30 rfl ?_
            refine m_getI (pc := 31) rfl fX10_211 rfl (by decide) dX10_gossip_31 ?_
            rw [hw]
            exact m_ret (pc := 34) rfl dX10_gossip_34 (⟨k1, kg, kk, k0, Or.inl ⟨f, hX.symm, rfl, fF⟩⟩)
        | inr a =>
          rw [hs] at e1 hX
          obtain ⟨rfl, S1, A1⟩ := e1
          rcases spGL_ok hs hl with ok | ok
          · obtain ⟨o1, o2, o3, o4, o5, o6⟩ := ok
            have adv := tkK_lt c0
            have mono := tkK_mono t z (i + 1) (a.1 - (i + 1))
            rw [show i + 1 + (a.1 - (i + 1)) = a.1 by omega] at mono
            refine gx_if_ne (pc := 27) 16 dX10_gossip_27 (by decide) (fun c1 => ?_) (fun c1 => ?_)
            · exact ih (n + 1) a.2 a.1 σ1 hX (by omega) (by omega) S1 A1 o4 o6 (by rw [← A1]; exact fF) k1 kg kk k0
            · exact absurd c1 (by decide)
          · omega
  refine gx_aload_n (pc := 0) dX10_gossip_0 rfl ?_
  refine gx_iconst (pc := 1) (v := 0) dX10_gossip_1 (by decide) ?_
  refine m_putI (pc := 2) rfl hb fX10_175 rfl (by decide) tX10_0 dX10_gossip_2 ?_
  refine gx_aload_n (pc := 5) dX10_gossip_5 rfl ?_
  refine m_getA (pc := 6) rfl fX10_105 rfl (by decide) dX10_gossip_6 ?_
  refine gx_iconst (pc := 9) (v := 5) dX10_gossip_9 (by decide) ?_
  refine gx_iconst (pc := 10) (v := 0) dX10_gossip_10 (by decide) ?_
  refine m_iast (pc := 11) hb 42 (5) 6 rfl (by decide) rfl (by first | rfl | simp only [gx_lit, nI_add, pk_mul]) (by omega) (by decide) dX10_gossip_11 ?_
  have e1 : (mA (mI σ 0 0) 42 5 0).2.2 = dA σ.2.2 42 5 0 := rfl
  have e2 : ∀ k, k ≠ 0 → (mA (mI σ 0 0) 42 5 0).1 k = σ.1 k := fun k hk => mI_ne hk
  have e3 : (mA (mI σ 0 0) 42 5 0).1 0 = 0 := mI_eq σ 0 0
  have e4 : (mA (mI σ 0 0) 42 5 0).2.1.2 = σ.2.1.2 := rfl
  generalize mA (mI σ 0 0) 42 5 0 = τ1 at *
  refine gx_aload_n (pc := 12) dX10_gossip_12 rfl ?_
  refine kX10_354 (pc := 13) rfl (c_starts (d := d - 1) (t := t) hb (by omega) (by rw [e2 1 (by decide)]; exact hz) hz1 (by rw [e1]; exact ht)) (by omega) (Nat.le_of_ble_eq_true rfl) dX10_gossip_13 (fun σ2 f => ?_)
  obtain ⟨f1, f2, f3, f4, f5, f6⟩ := f
  exact L (z + 1) 0 _ 0 σ2 hX (by omega) (by omega) f1 (f2.trans e1) (by rw [dA_at]; rfl) (fun k hk => by omega) (frG.A _ (by decide) _) f3 (f5.trans e4) (fun k a c e g => (f6 k c e g).trans (e2 k a)) ((f6 0 (by decide) (by decide) rfl).trans e3)
end NO
