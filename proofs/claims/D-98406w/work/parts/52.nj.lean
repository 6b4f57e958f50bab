/-! ===== MODEL NJ: ears, clashes, the worth as they are read ===== -/
set_option maxRecDepth 100000
/-- whether an ear is told already -/
def spHe0 (A : Nat → Nat → Int32) (a c : Int32) : Nat → Nat → Bool
  | 0, _ => false
  | m + 1, k => if A 22 (30 + k) = a ∧ A 23 (30 + k) = c then true else spHe0 A a c m (k + 1)
def spRE (t : Nat → Int32) (z P E : Nat) (x : dS) (i : Nat) : Sum Int32 (Nat × dS) :=
  rB (spNd t z (i + 1) (spPn x.2 1 P (tkK t z (i + 1)).2.2.2.1)) (fun a => rB (spNd t z (i + 1 + 1) (spPn x.2 1 P (tkK t z (i + 1 + 1)).2.2.2.1)) (fun c =>
    if a = c then .inl (flt t z (i + 1 + 1) 3) else if spHe0 x.1 (nI a) (nI c) E 0 = true then .inl (flt t z (i + 1 + 1) 3) else rB (spNum t z 0 10 (i + 1 + 1 + 1)) (fun e => rB (spClo t z e.1) (fun f =>
      .inr (f, dA (dA (dA (dA x 22 (30 + E) (nI a)) 23 (30 + E) (nI c)) 24 (30 + E) e.2) 10 6 (nI (E + 1)))))))
def spRC (t : Nat → Int32) (z S : Nat) (x : dS) (i : Nat) : Sum Int32 (Nat × dS) :=
  rB (spNd t z (i + 1) (spSn x.2 1 S (tkK t z (i + 1)).2.2.2.1)) (fun a => rB (spNd t z (i + 1 + 1) (spSn x.2 1 S (tkK t z (i + 1 + 1)).2.2.2.1)) (fun c =>
    if a = c ∨ (x.1 21 (10 + a) >>> (nI c &&& 31)) &&& 1 = 1 then .inl (flt t z (i + 1 + 1) 3) else rB (spClo t z (i + 1 + 1 + 1)) (fun f =>
      .inr (f, dA (dA (dA x 21 (10 + a) (x.1 21 (10 + a) ||| (1 <<< (nI c &&& 31)))) 21 (10 + c) (x.1 21 (10 + c) ||| (1 <<< (nI a &&& 31)))) 10 7 (x.1 10 7 + 1)))))
def spRW (t : Nat → Int32) (z : Nat) (x : dS) (i : Nat) : Sum Int32 (Nat × dS) :=
  if x.1 25 1 < x.1 26 1 then .inl (flt t z i 3) else rB (auRun t z (z + 1) (true, 0, x.1 29, upd (x.1 30) 0 0, i + 1, 1000, x.1 27)) (fun y =>
    .inr (y.2.2.2.2.1, dA (rdX (dA x 25 1 1000) y) 26 1 (nI y.2.2.2.2.2.1)))
theorem auW_i {t : Nat → Int32} {z dp : Nat} {op cp : Nat → Int32} {i c : Nat} {C : Nat → Int32} : (∀ y, auW t z dp op cp i c C ≠ .inl (.inr y)) ∧ ∀ y, auW t z dp op cp i c C = .inr y → i + 1 = y.2.2.2.2.1 ∧ c + 1 = y.2.2.2.2.2.1 := by
  unfold auW
  constructor
  · intro y h
    repeat' split at h
    all_goals cases h
  · intro y h
    repeat' split at h
    all_goals first | (cases h; done) | (cases h; exact ⟨rfl, rfl⟩)
theorem auL_i {t : Nat → Int32} {z dp : Nat} {op cp : Nat → Int32} {i c : Nat} {C : Nat → Int32} : (∀ y, auL t z dp op cp i c C = .inl (.inr y) → i + 1 = y.2.2.2.2.1 ∧ c = y.2.2.2.2.2.1) ∧ ∀ y, auL t z dp op cp i c C = .inr y → i + 1 = y.2.2.2.2.1 ∧ c + 1 = y.2.2.2.2.2.1 := by
  unfold auL
  constructor
  · intro y h
    repeat' split at h
    all_goals first | (cases h; done) | (cases h; exact ⟨rfl, rfl⟩)
  · intro y h
    repeat' split at h
    all_goals first | (cases h; done) | (cases h; exact ⟨rfl, rfl⟩)
theorem auRun_i {t : Nat → Int32} {z : Nat} : ∀ {m} {wn : Bool} {dp op cp i c C} {y : auX}, auRun t z m (wn, dp, op, cp, i, c, C) = .inr y → i ≤ y.2.2.2.2.1 ∧ c ≤ y.2.2.2.2.2.1 ∧ (wn = true → c < y.2.2.2.2.2.1)
  | 0, _, _, _, _, _, _, _, _, h => by cases h
  | m + 1, true, dp, op, cp, i, c, C, y, h => by
    rw [auRunT] at h
    have hw := auW_i (t := t) (z := z) (dp := dp) (op := op) (cp := cp) (i := i) (c := c) (C := C)
    cases e : auW t z dp op cp i c C with
    | inl r =>
      rw [e] at h
      change r = .inr y at h
      rw [h] at e
      exact absurd e (hw.1 y)
    | inr x =>
      rw [e] at h
      have h1 := hw.2 x e
      obtain ⟨wn', dp', op', cp', i', c', C'⟩ := x
      have h2 := auRun_i (m := m) h
      simp only at h1
      omega
  | m + 1, false, dp, op, cp, i, c, C, y, h => by
    rw [auRunF] at h
    have hw := auL_i (t := t) (z := z) (dp := dp) (op := op) (cp := cp) (i := i) (c := c) (C := C)
    cases e : auL t z dp op cp i c C with
    | inl r =>
      rw [e] at h
      change r = .inr y at h
      rw [h] at e
      have := hw.1 y e
      exact ⟨by omega, by omega, fun q => by cases q⟩
    | inr x =>
      rw [e] at h
      have h1 := hw.2 x e
      obtain ⟨wn', dp', op', cp', i', c', C'⟩ := x
      have h2 := auRun_i (m := m) h
      simp only at h1
      exact ⟨by omega, by omega, fun q => by cases q⟩
section NJ
variable {G : gxG} {d : Nat} {h : gxH} {b : Nat} {σ : mS} {t : Nat → Int32} {z i : Nat}
theorem c_readsEar (hb : gxN G ≤ b) (hd : 4 ≤ d) (hS : tS t z i σ) (P E : Nat) (hP : σ.2.2.1 10 4 = nI P) (hP6 : P ≤ 6) (hE : σ.2.2.1 10 6 = nI E) (hE30 : E ≤ 30) (hEn : ∀ a c, a < P → c < P → a ≠ c → spHe0 σ.2.2.1 (nI a) (nI c) E 0 = false → E < 30) : mMi G mX10_readsEar d [.ref b] h b σ (fun r σ' => rD σ σ' ∧ rR (spRE t z P E σ.2.2 i) r σ' (fun a => tS t z a.1 σ' ∧ σ'.2.2 = a.2)) := by
  refine gxM_of rfl (Nat.le_of_ble_eq_true rfl) rfl ?_
  generalize hX : spRE t z P E σ.2.2 i = X
  rw [spRE] at hX
  refine gx_aload_n (pc := 0) dX10_readsEar_0 rfl ?_
  refine kX10_246 (pc := 1) rfl (c_next (d := d - 1) hb (by omega) hS) (by omega) (Nat.le_of_ble_eq_true rfl) dX10_readsEar_1 (fun σ1 e1 => ?_)
  subst σ1
  have S1 := hS.nx
  have K1 : rK σ (tkP σ (tkK t z (i + 1))) := rK.tk _ _
  generalize tkP σ (tkK t z (i + 1)) = τ1 at *
  refine gx_aload_n (pc := 4) dX10_readsEar_4 rfl ?_
  refine gx_iconst (pc := 5) (v := 1) dX10_readsEar_5 (by decide) ?_
  refine kX10_342 (pc := 6) rfl (c_needsPerson (d := d - 1) hb (by omega) S1 1 P (by decide) (by rw [K1.T]; exact hP) hP6) (by omega) (Nat.le_of_ble_eq_true rfl) dX10_readsEar_6 (fun r2 σ2 e2 => ?_)
  obtain ⟨K2, S2, e2⟩ := e2
  rw [K1.L] at e2
  have K2 := K1.tr K2
  cases h2 : spNd t z (i + 1) (spPn σ.2.2.2 1 P (tkK t z (i + 1)).2.2.2.1) with
  | inl f =>
    rw [h2] at e2 hX
    obtain ⟨rfl, hw⟩ := e2
    refine gx_if_ne (pc := 9) 14 dX10_readsEar_9 (by decide) (fun c1 => ?_) (fun c1 => ?_)
    · exact absurd rfl c1
    · refine gx_iconst (pc := 12) (v := 0) dX10_readsEar_12 (by decide) ?_
      exact m_retz (pc := 13) rfl (by decide) dX10_readsEar_13 (⟨K2.D, by rw [← hX]; exact ⟨rfl, hw⟩⟩)
  | inr a =>
    rw [h2] at e2 hX
    obtain ⟨rfl, ha, g2⟩ := e2
    rw [rB_r] at hX
    refine gx_if_ne (pc := 9) 14 dX10_readsEar_9 (by decide) (fun c1 => ?_) (fun c1 => ?_)
    · refine gx_aload_n (pc := 14) dX10_readsEar_14 rfl ?_
      refine m_getI (pc := 15) rfl fX10_312 rfl (by decide) dX10_readsEar_15 ?_
      rw [g2]
      refine gx_istore_n (pc := 18) dX10_readsEar_18 (by decide) rfl ?_
      refine gx_aload_n (pc := 19) dX10_readsEar_19 rfl ?_
      refine kX10_246 (pc := 20) rfl (c_next (d := d - 1) hb (by omega) S2) (by omega) (Nat.le_of_ble_eq_true rfl) dX10_readsEar_20 (fun σ1 e1 => ?_)
      subst σ1
      have S3 := S2.nx
      have K3 : rK σ (tkP σ2 (tkK t z (i + 1 + 1))) := K2.tr (rK.tk _ _)
      generalize tkP σ2 (tkK t z (i + 1 + 1)) = τ3 at *
      refine gx_aload_n (pc := 23) dX10_readsEar_23 rfl ?_
      refine gx_iconst (pc := 24) (v := 1) dX10_readsEar_24 (by decide) ?_
      refine kX10_342 (pc := 25) rfl (c_needsPerson (d := d - 1) hb (by omega) S3 1 P (by decide) (by rw [K3.T]; exact hP) hP6) (by omega) (Nat.le_of_ble_eq_true rfl) dX10_readsEar_25 (fun r4 σ4 e4 => ?_)
      obtain ⟨K4, S4, e4⟩ := e4
      rw [K3.L] at e4
      have K4 := K3.tr K4
      cases h4 : spNd t z (i + 1 + 1) (spPn σ.2.2.2 1 P (tkK t z (i + 1 + 1)).2.2.2.1) with
      | inl f =>
        rw [h4] at e4 hX
        obtain ⟨rfl, hw⟩ := e4
        refine gx_if_ne (pc := 28) 33 dX10_readsEar_28 (by decide) (fun c2 => ?_) (fun c2 => ?_)
        · exact absurd rfl c2
        · refine gx_iconst (pc := 31) (v := 0) dX10_readsEar_31 (by decide) ?_
          exact m_retz (pc := 32) rfl (by decide) dX10_readsEar_32 (⟨K4.D, by rw [← hX]; exact ⟨rfl, hw⟩⟩)
      | inr c =>
        rw [h4] at e4 hX
        obtain ⟨rfl, hc, g4⟩ := e4
        rw [rB_r] at hX
        refine gx_if_ne (pc := 28) 33 dX10_readsEar_28 (by decide) (fun c2 => ?_) (fun c2 => ?_)
        · refine gx_aload_n (pc := 33) dX10_readsEar_33 rfl ?_
          refine m_getI (pc := 34) rfl fX10_312 rfl (by decide) dX10_readsEar_34 ?_
          rw [g4]
          refine gx_istore_n (pc := 37) dX10_readsEar_37 (by decide) rfl ?_
          refine gx_iload_n (pc := 38) dX10_readsEar_38 rfl ?_
          refine gx_iload_n (pc := 39) dX10_readsEar_39 rfl ?_
          refine gx_icmp_ne (pc := 40) 49 dX10_readsEar_40 (by decide) (fun c3 => ?_) (fun c3 => ?_)
          · have hac : ¬ a = c := fun e => c3 (by rw [e])
            rw [if_neg hac] at hX
            refine gx_bipush (pc := 49) (v := 30) dX10_readsEar_49 (by decide) ?_
            refine gx_aload_n (pc := 51) dX10_readsEar_51 rfl ?_
            refine m_getA (pc := 52) rfl fX10_13 rfl (by decide) dX10_readsEar_52 ?_
            refine gx_bipush (pc := 55) (v := 6) dX10_readsEar_55 (by decide) ?_
            refine m_iald (pc := 57) 10 (6) 8 rfl (by decide) rfl (by first | rfl | simp only [gx_lit, nI_add, pk_mul]) (by omega) (by decide) dX10_readsEar_57 ?_
            rw [K4.T, hE]
            refine gx_iadd (pc := 58) dX10_readsEar_58 ?_
            rw [show (30 : Int32) + nI E = nI (30 + E) from nI_add 30 E]
            refine gx_istore_n (pc := 59) dX10_readsEar_59 (by decide) rfl ?_
            refine gx_bipush (pc := 60) (v := 30) dX10_readsEar_60 (by decide) ?_
            refine gx_istore (pc := 62) dX10_readsEar_62 (by decide) rfl ?_
            have K104 : ∀ x4 : Option Value, spHe0 σ.2.2.1 (nI a) (nI c) E 0 = false → gxV G mX10_readsEar d 0 0 104 [some (.ref b), some (.int (nI a)), some (.int (nI c)), some (.int (nI (30 + E))), x4] [] (mput h b σ4) (mQi h b (fun r σ' => rD σ σ' ∧ rR X r σ' (fun a => tS t z a.1 σ' ∧ σ'.2.2 = a.2))) := by
              intro x4 hf
              have hE3 := hEn a c ha hc hac hf
              rw [if_neg (by rw [hf]; decide)] at hX
              obtain ⟨n, hn⟩ : ∃ n, n = 30 + E := ⟨_, rfl⟩
              rw [← hn] at hX ⊢
              refine gx_aload_n (pc := 104) dX10_readsEar_104 rfl ?_
              refine kX10_246 (pc := 105) rfl (c_next (d := d - 1) hb (by omega) S4) (by omega) (Nat.le_of_ble_eq_true rfl) dX10_readsEar_105 (fun σ1 e1 => ?_)
              subst σ1
              have S5 := S4.nx
              have K5 : rK σ (tkP σ4 (tkK t z (i + 1 + 1 + 1))) := K4.tr (rK.tk _ _)
              generalize tkP σ4 (tkK t z (i + 1 + 1 + 1)) = τ5 at *
              refine gx_aload_n (pc := 108) dX10_readsEar_108 rfl ?_
              refine gx_iconst (pc := 109) (v := 0) dX10_readsEar_109 (by decide) ?_
              refine gx_bipush (pc := 110) (v := 10) dX10_readsEar_110 (by decide) ?_
              refine kX10_318 (pc := 112) rfl (c_needsNumber (d := d - 1) hb (by omega) S5 0 10) (by omega) (Nat.le_of_ble_eq_true rfl) dX10_readsEar_112 (fun r6 σ6 e6 => ?_)
              obtain ⟨K6, e6⟩ := e6
              have K6 := K5.tr K6
              cases h6 : spNum t z 0 10 (i + 1 + 1 + 1) with
              | inl f =>
                rw [h6] at e6 hX
                obtain ⟨rfl, hw⟩ := e6
                refine gx_if_ne (pc := 115) 120 dX10_readsEar_115 (by decide) (fun c6 => ?_) (fun c6 => ?_)
                · exact absurd rfl c6
                · refine gx_iconst (pc := 118) (v := 0) dX10_readsEar_118 (by decide) ?_
                  exact m_retz (pc := 119) rfl (by decide) dX10_readsEar_119 (⟨K6.D, by rw [← hX]; exact ⟨rfl, hw⟩⟩)
              | inr e =>
                rw [h6] at e6 hX
                obtain ⟨rfl, S6, g6⟩ := e6
                rw [rB_r] at hX
                refine gx_if_ne (pc := 115) 120 dX10_readsEar_115 (by decide) (fun c6 => ?_) (fun c6 => ?_)
                · refine gx_aload_n (pc := 120) dX10_readsEar_120 rfl ?_
                  refine m_getA (pc := 121) rfl fX10_50 rfl (by decide) dX10_readsEar_121 ?_
                  refine gx_iload_n (pc := 124) dX10_readsEar_124 rfl ?_
                  refine gx_iload_n (pc := 125) dX10_readsEar_125 rfl ?_
                  refine m_iast (pc := 126) hb 22 (n) 60 rfl (by decide) rfl (by first | rfl | simp only [gx_lit, nI_add, pk_mul]) (by omega) (by decide) dX10_readsEar_126 ?_
                  have S7 := S6.mA (j := 22) (by decide) n (nI a)
                  have D7 : rD σ (mA σ6 22 n (nI a)) := K6.D.tr (rD.A _ (own30 (by omega) (by omega)) _)
                  have A7 := mA_22 σ6 22 n (nI a)
                  have g7 : (mA σ6 22 n (nI a)).1 41 = e.2 := g6
                  rw [K6.2.2] at A7
                  generalize mA σ6 22 n (nI a) = τ7 at *
                  refine gx_aload_n (pc := 127) dX10_readsEar_127 rfl ?_
                  refine m_getA (pc := 128) rfl fX10_53 rfl (by decide) dX10_readsEar_128 ?_
                  refine gx_iload_n (pc := 131) dX10_readsEar_131 rfl ?_
                  refine gx_iload_n (pc := 132) dX10_readsEar_132 rfl ?_
                  refine m_iast (pc := 133) hb 23 (n) 60 rfl (by decide) rfl (by first | rfl | simp only [gx_lit, nI_add, pk_mul]) (by omega) (by decide) dX10_readsEar_133 ?_
                  have S8 := S7.mA (j := 23) (by decide) n (nI c)
                  have D8 : rD σ (mA τ7 23 n (nI c)) := D7.tr (rD.A _ (own30 (by omega) (by omega)) _)
                  have A8 := mA_22 τ7 23 n (nI c)
                  have g8 : (mA τ7 23 n (nI c)).1 41 = e.2 := g7
                  rw [A7] at A8
                  generalize mA τ7 23 n (nI c) = τ8 at *
                  refine gx_aload_n (pc := 134) dX10_readsEar_134 rfl ?_
                  refine m_getA (pc := 135) rfl fX10_56 rfl (by decide) dX10_readsEar_135 ?_
                  refine gx_iload_n (pc := 138) dX10_readsEar_138 rfl ?_
                  refine gx_aload_n (pc := 139) dX10_readsEar_139 rfl ?_
                  refine m_getI (pc := 140) rfl fX10_312 rfl (by decide) dX10_readsEar_140 ?_
                  rw [g8]
                  refine m_iast (pc := 143) hb 24 (n) 60 rfl (by decide) rfl (by first | rfl | simp only [gx_lit, nI_add, pk_mul]) (by omega) (by decide) dX10_readsEar_143 ?_
                  have S9 := S8.mA (j := 24) (by decide) n e.2
                  have D9 : rD σ (mA τ8 24 n e.2) := D8.tr (rD.A _ (own30 (by omega) (by omega)) _)
                  have A9 := mA_22 τ8 24 n e.2
                  rw [A8] at A9
                  generalize mA τ8 24 n e.2 = τ9 at *
                  refine gx_aload_n (pc := 144) dX10_readsEar_144 rfl ?_
                  refine m_getA (pc := 145) rfl fX10_13 rfl (by decide) dX10_readsEar_145 ?_
                  refine gx_bipush (pc := 148) (v := 6) dX10_readsEar_148 (by decide) ?_
                  refine gx_dup2 (pc := 150) dX10_readsEar_150 rfl rfl ?_
                  refine m_iald (pc := 151) 10 (6) 8 rfl (by decide) rfl (by first | rfl | simp only [gx_lit, nI_add, pk_mul]) (by omega) (by decide) dX10_readsEar_151 ?_
                  rw [show τ9.2.2.1 10 6 = nI E by rw [A9]; exact hE]
                  refine gx_iconst (pc := 152) (v := 1) dX10_readsEar_152 (by decide) ?_
                  refine gx_iadd (pc := 153) dX10_readsEar_153 ?_
                  rw [nI_1]
                  refine m_iast (pc := 154) hb 10 (6) 8 rfl (by decide) rfl (by first | rfl | simp only [gx_lit, nI_add, pk_mul]) (by omega) (by decide) dX10_readsEar_154 ?_
                  have S10 := S9.mA (j := 10) (by decide) 6 (nI (E + 1))
                  have D10 : rD σ (mA τ9 10 6 (nI (E + 1))) := D9.tr (rD.A _ (by simp [own]) _)
                  have A10 := mA_22 τ9 10 6 (nI (E + 1))
                  rw [A9] at A10
                  generalize mA τ9 10 6 (nI (E + 1)) = τ10 at *
                  refine gx_aload_n (pc := 155) dX10_readsEar_155 rfl ?_
                  refine kX10_339 (pc := 156) rfl (c_closes (d := d - 1) hb (by omega) S10) (by omega) (Nat.le_of_ble_eq_true rfl) dX10_readsEar_156 (fun r12 σ12 e12 => ?_)
                  obtain ⟨K12, e12⟩ := e12
                  cases h12 : spClo t z e.1 with
                  | inl f =>
                    rw [h12] at e12 hX
                    obtain ⟨rfl, hw⟩ := e12
                    exact m_retz (pc := 159) rfl (by decide) dX10_readsEar_159 (⟨D10.K K12, by rw [← hX]; exact ⟨rfl, hw⟩⟩)
                  | inr f =>
                    rw [h12] at e12 hX
                    obtain ⟨rfl, S12⟩ := e12
                    exact m_retz (pc := 159) rfl (by decide) dX10_readsEar_159 (⟨D10.K K12, by rw [← hX]; exact ⟨rfl, S12, by rw [K12.2.2, A10]⟩⟩)
                · exact absurd c6 (by decide)
            have L : ∀ m k, m + k = E → spHe0 σ.2.2.1 (nI a) (nI c) m k = spHe0 σ.2.2.1 (nI a) (nI c) E 0 → gxV G mX10_readsEar d 0 0 64 [some (.ref b), some (.int (nI a)), some (.int (nI c)), some (.int (nI (30 + E))), some (.int (nI (30 + k)))] [] (mput h b σ4) (mQi h b (fun r σ' => rD σ σ' ∧ rR X r σ' (fun a => tS t z a.1 σ' ∧ σ'.2.2 = a.2))) := by
              intro m
              induction m with
              | zero =>
                intro k hk hs
                have : k = E := by omega
                subst this
                refine gx_iload (pc := 64) dX10_readsEar_64 rfl ?_
                refine gx_iload_n (pc := 66) dX10_readsEar_66 rfl ?_
                refine gx_icmp_ge (pc := 67) 104 dX10_readsEar_67 (by decide) (fun k1 => ?_) (fun k1 => ?_)
                · exact K104 _ hs.symm
                · exact absurd (nI_le (Nat.le_refl _) (by omega)) k1
              | succ m ih =>
                intro k hk hs
                rw [spHe0] at hs
                have K98 : ¬ (σ.2.2.1 22 (30 + k) = nI a ∧ σ.2.2.1 23 (30 + k) = nI c) → gxV G mX10_readsEar d 0 0 98 [some (.ref b), some (.int (nI a)), some (.int (nI c)), some (.int (nI (30 + E))), some (.int (nI (30 + k)))] [] (mput h b σ4) (mQi h b (fun r σ' => rD σ σ' ∧ rR X r σ' (fun a => tS t z a.1 σ' ∧ σ'.2.2 = a.2))) := by
                  intro hh
                  rw [if_neg hh] at hs
                  refine gx_iincc (pc := 98) (c := 1) dX10_readsEar_98 rfl (by decide) (by decide) rfl ?_
                  refine gx_goto (pc := 101) 64 dX10_readsEar_101 (by decide) ?_
                  rw [nI_1]
                  exact ih (k + 1) (by omega) hs
                refine gx_iload (pc := 64) dX10_readsEar_64 rfl ?_
                refine gx_iload_n (pc := 66) dX10_readsEar_66 rfl ?_
                refine gx_icmp_ge (pc := 67) 104 dX10_readsEar_67 (by decide) (fun k1 => ?_) (fun k1 => ?_)
                · exact absurd k1 (nI_ge (by omega) (by omega))
                · refine gx_aload_n (pc := 70) dX10_readsEar_70 rfl ?_
                  refine m_getA (pc := 71) rfl fX10_50 rfl (by decide) dX10_readsEar_71 ?_
                  refine gx_iload (pc := 74) dX10_readsEar_74 rfl ?_
                  refine m_iald (pc := 76) 22 ((30+k)) 60 rfl (by decide) rfl (by first | rfl | simp only [gx_lit, nI_add, pk_mul]) (by omega) (by decide) dX10_readsEar_76 ?_
                  rw [K4.T]
                  refine gx_iload_n (pc := 77) dX10_readsEar_77 rfl ?_
                  refine gx_icmp_ne (pc := 78) 98 dX10_readsEar_78 (by decide) (fun k2 => ?_) (fun k2 => ?_)
                  · exact K98 (fun hh => k2 hh.1)
                  · refine gx_aload_n (pc := 81) dX10_readsEar_81 rfl ?_
                    refine m_getA (pc := 82) rfl fX10_53 rfl (by decide) dX10_readsEar_82 ?_
                    refine gx_iload (pc := 85) dX10_readsEar_85 rfl ?_
                    refine m_iald (pc := 87) 23 ((30+k)) 60 rfl (by decide) rfl (by first | rfl | simp only [gx_lit, nI_add, pk_mul]) (by omega) (by decide) dX10_readsEar_87 ?_
                    rw [K4.T]
                    refine gx_iload_n (pc := 88) dX10_readsEar_88 rfl ?_
                    refine gx_icmp_ne (pc := 89) 98 dX10_readsEar_89 (by decide) (fun k3 => ?_) (fun k3 => ?_)
                    · exact K98 (fun hh => k3 hh.2)
                    · rw [if_pos ⟨k2, k3⟩] at hs
                      rw [if_pos hs.symm] at hX
                      refine gx_aload_n (pc := 92) dX10_readsEar_92 rfl ?_
                      refine gx_iconst (pc := 93) (v := 3) dX10_readsEar_93 (by decide) ?_
                      refine kX10_239 (pc := 94) rfl (c_fails (d := d - 1) hb S4 3) (by omega) (Nat.le_of_ble_eq_true rfl) dX10_readsEar_94 (fun r1 σ1 e1 => ?_)
                      obtain ⟨rfl, hσ⟩ := e1
                      subst σ1
                      exact m_retz (pc := 97) rfl (by decide) dX10_readsEar_97 (⟨(K4.tr (rK.I _ rfl (by decide) _)).D, by rw [← hX]; exact ⟨rfl, mI_eq _ _ _⟩⟩)
            exact L E 0 (by omega) rfl
          · have hac : a = c := (nI_eq (by omega) (by omega)).mp c3
            rw [if_pos hac] at hX
            refine gx_aload_n (pc := 43) dX10_readsEar_43 rfl ?_
            refine gx_iconst (pc := 44) (v := 3) dX10_readsEar_44 (by decide) ?_
            refine kX10_239 (pc := 45) rfl (c_fails (d := d - 1) hb S4 3) (by omega) (Nat.le_of_ble_eq_true rfl) dX10_readsEar_45 (fun r1 σ1 e1 => ?_)
            obtain ⟨rfl, hσ⟩ := e1
            subst σ1
            exact m_retz (pc := 48) rfl (by decide) dX10_readsEar_48 (⟨(K4.tr (rK.I _ rfl (by decide) _)).D, by rw [← hX]; exact ⟨rfl, mI_eq _ _ _⟩⟩)
        · exact absurd c2 (by decide)
    · exact absurd c1 (by decide)
theorem c_readsClash (hb : gxN G ≤ b) (hd : 4 ≤ d) (hS : tS t z i σ) (S : Nat) (hSS : σ.2.2.1 10 5 = nI S) (hS10 : S ≤ 10) : mMi G mX10_readsClash d [.ref b] h b σ (fun r σ' => rD σ σ' ∧ rR (spRC t z S σ.2.2 i) r σ' (fun a => tS t z a.1 σ' ∧ σ'.2.2 = a.2)) := by
  refine gxM_of rfl (Nat.le_of_ble_eq_true rfl) rfl ?_
  generalize hX : spRC t z S σ.2.2 i = X
  rw [spRC] at hX
  refine gx_aload_n (pc := 0) dX10_readsClash_0 rfl ?_
  refine kX10_246 (pc := 1) rfl (c_next (d := d - 1) hb (by omega) hS) (by omega) (Nat.le_of_ble_eq_true rfl) dX10_readsClash_1 (fun σ1 e1 => ?_)
  subst σ1
  have S1 := hS.nx
  have K1 : rK σ (tkP σ (tkK t z (i + 1))) := rK.tk _ _
  generalize tkP σ (tkK t z (i + 1)) = τ1 at *
  refine gx_aload_n (pc := 4) dX10_readsClash_4 rfl ?_
  refine gx_iconst (pc := 5) (v := 1) dX10_readsClash_5 (by decide) ?_
  refine kX10_345 (pc := 6) rfl (c_needsSecret (d := d - 1) hb (by omega) S1 1 S (by decide) (by rw [K1.T]; exact hSS) hS10) (by omega) (Nat.le_of_ble_eq_true rfl) dX10_readsClash_6 (fun r2 σ2 e2 => ?_)
  obtain ⟨K2, S2, e2⟩ := e2
  rw [K1.L] at e2
  have K2 := K1.tr K2
  cases h2 : spNd t z (i + 1) (spSn σ.2.2.2 1 S (tkK t z (i + 1)).2.2.2.1) with
  | inl f =>
    rw [h2] at e2 hX
    obtain ⟨rfl, hw⟩ := e2
    refine gx_if_ne (pc := 9) 14 dX10_readsClash_9 (by decide) (fun c1 => ?_) (fun c1 => ?_)
    · exact absurd rfl c1
    · refine gx_iconst (pc := 12) (v := 0) dX10_readsClash_12 (by decide) ?_
      exact m_retz (pc := 13) rfl (by decide) dX10_readsClash_13 (⟨K2.D, by rw [← hX]; exact ⟨rfl, hw⟩⟩)
  | inr a =>
    rw [h2] at e2 hX
    obtain ⟨rfl, ha, g2⟩ := e2
    rw [rB_r] at hX
    refine gx_if_ne (pc := 9) 14 dX10_readsClash_9 (by decide) (fun c1 => ?_) (fun c1 => ?_)
    · refine gx_aload_n (pc := 14) dX10_readsClash_14 rfl ?_
      refine m_getI (pc := 15) rfl fX10_312 rfl (by decide) dX10_readsClash_15 ?_
      rw [g2]
      refine gx_istore_n (pc := 18) dX10_readsClash_18 (by decide) rfl ?_
      refine gx_aload_n (pc := 19) dX10_readsClash_19 rfl ?_
      refine kX10_246 (pc := 20) rfl (c_next (d := d - 1) hb (by omega) S2) (by omega) (Nat.le_of_ble_eq_true rfl) dX10_readsClash_20 (fun σ1 e1 => ?_)
      subst σ1
      have S3 := S2.nx
      have K3 : rK σ (tkP σ2 (tkK t z (i + 1 + 1))) := K2.tr (rK.tk _ _)
      generalize tkP σ2 (tkK t z (i + 1 + 1)) = τ3 at *
      refine gx_aload_n (pc := 23) dX10_readsClash_23 rfl ?_
      refine gx_iconst (pc := 24) (v := 1) dX10_readsClash_24 (by decide) ?_
      refine kX10_345 (pc := 25) rfl (c_needsSecret (d := d - 1) hb (by omega) S3 1 S (by decide) (by rw [K3.T]; exact hSS) hS10) (by omega) (Nat.le_of_ble_eq_true rfl) dX10_readsClash_25 (fun r4 σ4 e4 => ?_)
      obtain ⟨K4, S4, e4⟩ := e4
      rw [K3.L] at e4
      have K4 := K3.tr K4
      cases h4 : spNd t z (i + 1 + 1) (spSn σ.2.2.2 1 S (tkK t z (i + 1 + 1)).2.2.2.1) with
      | inl f =>
        rw [h4] at e4 hX
        obtain ⟨rfl, hw⟩ := e4
        refine gx_if_ne (pc := 28) 33 dX10_readsClash_28 (by decide) (fun c2 => ?_) (fun c2 => ?_)
        · exact absurd rfl c2
        · refine gx_iconst (pc := 31) (v := 0) dX10_readsClash_31 (by decide) ?_
          exact m_retz (pc := 32) rfl (by decide) dX10_readsClash_32 (⟨K4.D, by rw [← hX]; exact ⟨rfl, hw⟩⟩)
      | inr c =>
        rw [h4] at e4 hX
        obtain ⟨rfl, hc, g4⟩ := e4
        rw [rB_r] at hX
        refine gx_if_ne (pc := 28) 33 dX10_readsClash_28 (by decide) (fun c2 => ?_) (fun c2 => ?_)
        · refine gx_aload_n (pc := 33) dX10_readsClash_33 rfl ?_
          refine m_getI (pc := 34) rfl fX10_312 rfl (by decide) dX10_readsClash_34 ?_
          rw [g4]
          have K60 : (a = c ∨ (σ.2.2.1 21 (10 + a) >>> (nI c &&& 31)) &&& 1 = 1) → gxV G mX10_readsClash d 0 0 60 [some (.ref b), some (.int (nI a)), some (.int (nI c))] [] (mput h b σ4) (mQi h b (fun r σ' => rD σ σ' ∧ rR X r σ' (fun a => tS t z a.1 σ' ∧ σ'.2.2 = a.2))) := by
            intro hh
            rw [if_pos hh] at hX
            refine gx_aload_n (pc := 60) dX10_readsClash_60 rfl ?_
            refine gx_iconst (pc := 61) (v := 3) dX10_readsClash_61 (by decide) ?_
            refine kX10_239 (pc := 62) rfl (c_fails (d := d - 1) hb S4 3) (by omega) (Nat.le_of_ble_eq_true rfl) dX10_readsClash_62 (fun r1 σ1 e1 => ?_)
            obtain ⟨rfl, hσ⟩ := e1
            subst σ1
            exact m_retz (pc := 65) rfl (by decide) dX10_readsClash_65 (⟨(K4.tr (rK.I _ rfl (by decide) _)).D, by rw [← hX]; exact ⟨rfl, mI_eq _ _ _⟩⟩)
          refine gx_istore_n (pc := 37) dX10_readsClash_37 (by decide) rfl ?_
          refine gx_iload_n (pc := 38) dX10_readsClash_38 rfl ?_
          refine gx_iload_n (pc := 39) dX10_readsClash_39 rfl ?_
          refine gx_icmp_eq (pc := 40) 60 dX10_readsClash_40 (by decide) (fun c3 => ?_) (fun c3 => ?_)
          · exact K60 (Or.inl ((nI_eq (by omega) (by omega)).mp c3))
          · have hac : ¬ a = c := fun e => c3 (by rw [e])
            refine gx_aload_n (pc := 43) dX10_readsClash_43 rfl ?_
            refine m_getA (pc := 44) rfl fX10_47 rfl (by decide) dX10_readsClash_44 ?_
            refine gx_bipush (pc := 47) (v := 10) dX10_readsClash_47 (by decide) ?_
            refine gx_iload_n (pc := 49) dX10_readsClash_49 rfl ?_
            refine gx_iadd (pc := 50) dX10_readsClash_50 ?_
            refine m_iald (pc := 51) 21 ((10 + a)) 20 rfl (by decide) rfl (by first | rfl | simp only [gx_lit, nI_add, pk_mul]) (by omega) (by decide) dX10_readsClash_51 ?_
            rw [K4.T]
            refine gx_iload_n (pc := 52) dX10_readsClash_52 rfl ?_
            refine gx_ishr (pc := 53) dX10_readsClash_53 ?_
            refine gx_iconst (pc := 54) (v := 1) dX10_readsClash_54 (by decide) ?_
            refine gx_iand (pc := 55) dX10_readsClash_55 ?_
            refine gx_iconst (pc := 56) (v := 1) dX10_readsClash_56 (by decide) ?_
            refine gx_icmp_ne (pc := 57) 66 dX10_readsClash_57 (by decide) (fun c4 => ?_) (fun c4 => ?_)
            · have hno : ¬ (a = c ∨ (σ.2.2.1 21 (10 + a) >>> (nI c &&& 31)) &&& 1 = 1) := fun hh => by rcases hh with hh | hh; exact hac hh; exact c4 hh
              rw [if_neg hno] at hX
              refine gx_aload_n (pc := 66) dX10_readsClash_66 rfl ?_
              refine kX10_246 (pc := 67) rfl (c_next (d := d - 1) hb (by omega) S4) (by omega) (Nat.le_of_ble_eq_true rfl) dX10_readsClash_67 (fun σ1 e1 => ?_)
              subst σ1
              have S5 := S4.nx
              have K5 : rK σ (tkP σ4 (tkK t z (i + 1 + 1 + 1))) := K4.tr (rK.tk _ _)
              generalize tkP σ4 (tkK t z (i + 1 + 1 + 1)) = τ5 at *
              refine gx_aload_n (pc := 70) dX10_readsClash_70 rfl ?_
              refine m_getA (pc := 71) rfl fX10_47 rfl (by decide) dX10_readsClash_71 ?_
              refine gx_bipush (pc := 74) (v := 10) dX10_readsClash_74 (by decide) ?_
              refine gx_iload_n (pc := 76) dX10_readsClash_76 rfl ?_
              refine gx_iadd (pc := 77) dX10_readsClash_77 ?_
              refine gx_dup2 (pc := 78) dX10_readsClash_78 rfl rfl ?_
              refine m_iald (pc := 79) 21 ((10 + a)) 20 rfl (by decide) rfl (by first | rfl | simp only [gx_lit, nI_add, pk_mul]) (by omega) (by decide) dX10_readsClash_79 ?_
              rw [K5.T]
              refine gx_iconst (pc := 80) (v := 1) dX10_readsClash_80 (by decide) ?_
              refine gx_iload_n (pc := 81) dX10_readsClash_81 rfl ?_
              refine gx_ishl (pc := 82) dX10_readsClash_82 ?_
              refine gx_ior (pc := 83) dX10_readsClash_83 ?_
              refine m_iast (pc := 84) hb 21 ((10 + a)) 20 rfl (by decide) rfl (by first | rfl | simp only [gx_lit, nI_add, pk_mul]) (by omega) (by decide) dX10_readsClash_84 ?_
              generalize hv6 : σ.2.2.1 21 (10 + a) ||| (1 <<< (nI c &&& 31)) = v6 at *
              have S6 := S5.mA (j := 21) (by decide) (10 + a) v6
              have D6 : rD σ (mA τ5 21 (10 + a) v6) := K5.D.tr (rD.A _ (own10 (by decide) (by decide) (by omega)) _)
              have A6 := mA_22 τ5 21 (10 + a) v6
              rw [K5.2.2] at A6
              have v : (mA τ5 21 (10 + a) v6).2.2.1 21 (10 + c) = σ.2.2.1 21 (10 + c) := by
                rw [A6]; simp only [dA, upA, upd, if_true]; rw [if_neg (by omega)]
              generalize mA τ5 21 (10 + a) v6 = τ6 at *
              refine gx_aload_n (pc := 85) dX10_readsClash_85 rfl ?_
              refine m_getA (pc := 86) rfl fX10_47 rfl (by decide) dX10_readsClash_86 ?_
              refine gx_bipush (pc := 89) (v := 10) dX10_readsClash_89 (by decide) ?_
              refine gx_iload_n (pc := 91) dX10_readsClash_91 rfl ?_
              refine gx_iadd (pc := 92) dX10_readsClash_92 ?_
              refine gx_dup2 (pc := 93) dX10_readsClash_93 rfl rfl ?_
              refine m_iald (pc := 94) 21 ((10 + c)) 20 rfl (by decide) rfl (by first | rfl | simp only [gx_lit, nI_add, pk_mul]) (by omega) (by decide) dX10_readsClash_94 ?_
              rw [v]
              refine gx_iconst (pc := 95) (v := 1) dX10_readsClash_95 (by decide) ?_
              refine gx_iload_n (pc := 96) dX10_readsClash_96 rfl ?_
              refine gx_ishl (pc := 97) dX10_readsClash_97 ?_
              refine gx_ior (pc := 98) dX10_readsClash_98 ?_
              refine m_iast (pc := 99) hb 21 ((10 + c)) 20 rfl (by decide) rfl (by first | rfl | simp only [gx_lit, nI_add, pk_mul]) (by omega) (by decide) dX10_readsClash_99 ?_
              generalize hv7 : σ.2.2.1 21 (10 + c) ||| (1 <<< (nI a &&& 31)) = v7 at *
              have S7 := S6.mA (j := 21) (by decide) (10 + c) v7
              have D7 : rD σ (mA τ6 21 (10 + c) v7) := D6.tr (rD.A _ (own10 (by decide) (by decide) (by omega)) _)
              have A7 := mA_22 τ6 21 (10 + c) v7
              rw [A6] at A7
              generalize mA τ6 21 (10 + c) v7 = τ7 at *
              refine gx_aload_n (pc := 100) dX10_readsClash_100 rfl ?_
              refine m_getA (pc := 101) rfl fX10_13 rfl (by decide) dX10_readsClash_101 ?_
              refine gx_bipush (pc := 104) (v := 7) dX10_readsClash_104 (by decide) ?_
              refine gx_dup2 (pc := 106) dX10_readsClash_106 rfl rfl ?_
              refine m_iald (pc := 107) 10 (7) 8 rfl (by decide) rfl (by first | rfl | simp only [gx_lit, nI_add, pk_mul]) (by omega) (by decide) dX10_readsClash_107 ?_
              rw [show τ7.2.2.1 10 7 = σ.2.2.1 10 7 by rw [A7]; rfl]
              refine gx_iconst (pc := 108) (v := 1) dX10_readsClash_108 (by decide) ?_
              refine gx_iadd (pc := 109) dX10_readsClash_109 ?_
              refine m_iast (pc := 110) hb 10 (7) 8 rfl (by decide) rfl (by first | rfl | simp only [gx_lit, nI_add, pk_mul]) (by omega) (by decide) dX10_readsClash_110 ?_
              have S8 := S7.mA (j := 10) (by decide) 7 (σ.2.2.1 10 7 + 1)
              have D8 : rD σ (mA τ7 10 7 (σ.2.2.1 10 7 + 1)) := D7.tr (rD.A _ (by simp [own]) _)
              have A8 := mA_22 τ7 10 7 (σ.2.2.1 10 7 + 1)
              rw [A7] at A8
              generalize mA τ7 10 7 (σ.2.2.1 10 7 + 1) = τ8 at *
              refine gx_aload_n (pc := 111) dX10_readsClash_111 rfl ?_
              refine kX10_339 (pc := 112) rfl (c_closes (d := d - 1) hb (by omega) S8) (by omega) (Nat.le_of_ble_eq_true rfl) dX10_readsClash_112 (fun r12 σ12 e12 => ?_)
              obtain ⟨K12, e12⟩ := e12
              cases h12 : spClo t z (i + 1 + 1 + 1) with
              | inl f =>
                rw [h12] at e12 hX
                obtain ⟨rfl, hw⟩ := e12
                exact m_retz (pc := 115) rfl (by decide) dX10_readsClash_115 (⟨D8.K K12, by rw [← hX]; exact ⟨rfl, hw⟩⟩)
              | inr f =>
                rw [h12] at e12 hX
                obtain ⟨rfl, S12⟩ := e12
                exact m_retz (pc := 115) rfl (by decide) dX10_readsClash_115 (⟨D8.K K12, by rw [← hX]; exact ⟨rfl, S12, by rw [K12.2.2, A8]⟩⟩)
            · exact K60 (Or.inr c4)
        · exact absurd c2 (by decide)
    · exact absurd c1 (by decide)
theorem rX.fr {σ σ' : mS} (h : rX σ σ') : fr0 σ.2.2 σ'.2.2 := by
  refine ⟨fun j k e => ?_, fun j k _ => by rw [h.2.1]⟩
  by_cases j1 : j = 27
  · subst j1
    refine h.2.2.1 k ?_
    rcases Nat.lt_or_ge k 1000 with q | q
    · exact q
    · simp [own, q] at e
  · by_cases j2 : j = 29
    · subst j2; simp [own] at e
    · by_cases j3 : j = 30
      · subst j3; simp [own] at e
      · rw [h.2.2.2 j j1 j2 j3]
theorem c_readsWorth (hb : gxN G ≤ b) (hd : 3 ≤ d) (hS : tS t z i σ) (hcd : ¬ σ.2.2.1 25 1 < σ.2.2.1 26 1 → σ.1 28 = nI 1000) : mMi G mX10_readsWorth d [.ref b] h b σ (fun r σ' => (rE σ σ' ∧ fr0 σ.2.2 σ'.2.2) ∧ rR (spRW t z σ.2.2 i) r σ' (fun a => tS t z a.1 σ' ∧ σ'.2.2 = a.2 ∧ a.2.1 25 1 < a.2.1 26 1)) := by
  refine gxM_of rfl (Nat.le_of_ble_eq_true rfl) rfl ?_
  generalize hX : spRW t z σ.2.2 i = X
  rw [spRW] at hX
  refine gx_aload_n (pc := 0) dX10_readsWorth_0 rfl ?_
  refine m_getA (pc := 1) rfl fX10_62 rfl (by decide) dX10_readsWorth_1 ?_
  refine gx_iconst (pc := 4) (v := 1) dX10_readsWorth_4 (by decide) ?_
  refine m_iald (pc := 5) 26 (1) 2 rfl (by decide) rfl (by first | rfl | simp only [gx_lit, nI_add, pk_mul]) (by omega) (by decide) dX10_readsWorth_5 ?_
  refine gx_aload_n (pc := 6) dX10_readsWorth_6 rfl ?_
  refine m_getA (pc := 7) rfl fX10_59 rfl (by decide) dX10_readsWorth_7 ?_
  refine gx_iconst (pc := 10) (v := 1) dX10_readsWorth_10 (by decide) ?_
  refine m_iald (pc := 11) 25 (1) 2 rfl (by decide) rfl (by first | rfl | simp only [gx_lit, nI_add, pk_mul]) (by omega) (by decide) dX10_readsWorth_11 ?_
  refine gx_icmp_le (pc := 12) 21 dX10_readsWorth_12 (by decide) (fun c1 => ?_) (fun c1 => ?_)
  · have c2 : ¬ σ.2.2.1 25 1 < σ.2.2.1 26 1 := Int32.not_lt.mpr c1
    have hc := hcd c2
    rw [if_neg c2] at hX
    refine gx_aload_n (pc := 21) dX10_readsWorth_21 rfl ?_
    refine kX10_246 (pc := 22) rfl (c_next (d := d - 1) hb (by omega) hS) (by omega) (Nat.le_of_ble_eq_true rfl) dX10_readsWorth_22 (fun σ1 e1 => ?_)
    subst σ1
    have S1 := hS.nx
    have K1 : rK σ (tkP σ (tkK t z (i + 1))) := rK.tk _ _
    generalize tkP σ (tkK t z (i + 1)) = τ1 at *
    refine gx_aload_n (pc := 25) dX10_readsWorth_25 rfl ?_
    refine m_getA (pc := 26) rfl fX10_59 rfl (by decide) dX10_readsWorth_26 ?_
    refine gx_iconst (pc := 29) (v := 1) dX10_readsWorth_29 (by decide) ?_
    refine gx_aload_n (pc := 30) dX10_readsWorth_30 rfl ?_
    refine m_getI (pc := 31) rfl fX10_214 rfl (by decide) dX10_readsWorth_31 ?_
    rw [K1.2.1, hc]
    refine m_iast (pc := 34) hb 25 (1) 2 rfl (by decide) rfl (by first | rfl | simp only [gx_lit, nI_add, pk_mul]) (by omega) (by decide) dX10_readsWorth_34 ?_
    have S2 := S1.mA (j := 25) (by decide) 1 (nI 1000)
    have D2 : rD σ (mA τ1 25 1 (nI 1000)) := K1.D.tr (rD.A _ (by decide) _)
    have A2 := mA_22 τ1 25 1 (nI 1000)
    rw [K1.2.2] at A2
    have hc2 : (mA τ1 25 1 (nI 1000)).1 28 = nI 1000 := D2.2.1.trans hc
    generalize mA τ1 25 1 (nI 1000) = τ2 at *
    refine gx_aload_n (pc := 35) dX10_readsWorth_35 rfl ?_
    refine kX10_351 (pc := 36) rfl (c_reads (d := d - 1) hb (by omega) S2 hc2) (by omega) (Nat.le_of_ble_eq_true rfl) dX10_readsWorth_36 (fun r3 σ3 e3 => ?_)
    obtain ⟨X3, e3⟩ := e3
    rw [A2] at e3
    have E3 := D2.1.tr X3.1
    have F3 := D2.2.2.tr X3.fr
    change rR (auRun t z (z + 1) (true, 0, σ.2.2.1 29, upd (σ.2.2.1 30) 0 0, i + 1, 1000, σ.2.2.1 27)) _ _ _ at e3
    cases h3 : auRun t z (z + 1) (true, 0, σ.2.2.1 29, upd (σ.2.2.1 30) 0 0, i + 1, 1000, σ.2.2.1 27) with
    | inl f =>
      rw [h3] at e3 hX
      obtain ⟨rfl, hw⟩ := e3
      refine gx_if_ne (pc := 39) 44 dX10_readsWorth_39 (by decide) (fun k1 => ?_) (fun k1 => ?_)
      · exact absurd rfl k1
      · refine gx_iconst (pc := 42) (v := 0) dX10_readsWorth_42 (by decide) ?_
        exact m_retz (pc := 43) rfl (by decide) dX10_readsWorth_43 (⟨⟨E3, F3⟩, by rw [← hX]; exact ⟨rfl, hw⟩⟩)
    | inr y =>
      rw [h3] at e3 hX
      obtain ⟨rfl, S3, g3, hl3, A3⟩ := e3
      rw [rB_r] at hX
      have hlt : (dA (rdX (dA σ.2.2 25 1 1000) y) 26 1 (nI y.2.2.2.2.2.1)).1 25 1 < (dA (rdX (dA σ.2.2 25 1 1000) y) 26 1 (nI y.2.2.2.2.2.1)).1 26 1 := by
        have := (auRun_i h3).2.2 rfl
        have e1 : (dA (rdX (dA σ.2.2 25 1 1000) y) 26 1 (nI y.2.2.2.2.2.1)).1 25 1 = nI 1000 := by simp [dA, upA, upd, rdX]; rfl
        have e2 : (dA (rdX (dA σ.2.2 25 1 1000) y) 26 1 (nI y.2.2.2.2.2.1)).1 26 1 = nI y.2.2.2.2.2.1 := by simp [dA, upA, upd, rdX]
        rw [e1, e2]
        exact nI_lt this (by omega)
      refine gx_if_ne (pc := 39) 44 dX10_readsWorth_39 (by decide) (fun k1 => ?_) (fun k1 => ?_)
      · refine gx_aload_n (pc := 44) dX10_readsWorth_44 rfl ?_
        refine m_getA (pc := 45) rfl fX10_62 rfl (by decide) dX10_readsWorth_45 ?_
        refine gx_iconst (pc := 48) (v := 1) dX10_readsWorth_48 (by decide) ?_
        refine gx_aload_n (pc := 49) dX10_readsWorth_49 rfl ?_
        refine m_getI (pc := 50) rfl fX10_214 rfl (by decide) dX10_readsWorth_50 ?_
        rw [g3]
        refine m_iast (pc := 53) hb 26 (1) 2 rfl (by decide) rfl (by first | rfl | simp only [gx_lit, nI_add, pk_mul]) (by omega) (by decide) dX10_readsWorth_53 ?_
        refine gx_iconst (pc := 54) (v := 1) dX10_readsWorth_54 (by decide) ?_
        exact m_retz (pc := 55) rfl (by decide) dX10_readsWorth_55 (⟨⟨E3, F3.tr (fr0.A _ (by decide) _)⟩, by rw [← hX]; exact ⟨rfl, S3.mA (by decide) _ _, by rw [mA_22, A3]; rfl, hlt⟩⟩)
      · exact absurd k1 (by decide)
  · have c2 : σ.2.2.1 25 1 < σ.2.2.1 26 1 := Int32.not_le.mp c1
    rw [if_pos c2] at hX
    refine gx_aload_n (pc := 15) dX10_readsWorth_15 rfl ?_
    refine gx_iconst (pc := 16) (v := 3) dX10_readsWorth_16 (by decide) ?_
    refine kX10_239 (pc := 17) rfl (c_fails (d := d - 1) hb hS 3) (by omega) (Nat.le_of_ble_eq_true rfl) dX10_readsWorth_17 (fun r1 σ1 e1 => ?_)
    obtain ⟨rfl, hσ⟩ := e1
    subst σ1
    exact m_retz (pc := 20) rfl (by decide) dX10_readsWorth_20 (⟨⟨rE.I _ rfl _, fr0.rf _⟩, by rw [← hX]; exact ⟨rfl, mI_eq _ _ _⟩⟩)
end NJ
