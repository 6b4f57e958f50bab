/-! ===== MODEL NH: people as they are read ===== -/
set_option maxRecDepth 100000
/-- the arrays of ints and of longs -/
abbrev dS : Type := (Nat → Nat → Int32) × (Nat → Nat → Int64)
def own (j k : Nat) : Bool := (j == 10 && decide (4 ≤ k)) || ((j == 13 || j == 14 || j == 15) && decide (6 ≤ k)) || ((j == 16 || j == 17 || j == 18 || j == 19 || j == 20 || j == 21) && decide (10 ≤ k)) || ((j == 22 || j == 23 || j == 24) && decide (30 ≤ k)) || ((j == 25 || j == 26) && decide (1 ≤ k)) || (j == 27 && decide (1000 ≤ k)) || j == 29 || j == 30
def ownL (j k : Nat) : Bool := (j == 11 && decide (6 ≤ k)) || (j == 12 && decide (10 ≤ k))
def dA (x : dS) (j k : Nat) (v : Int32) : dS := (upA x.1 j k v, x.2)
def dL (x : dS) (j k : Nat) (v : Int64) : dS := (x.1, fun q => if q = j then vp_updL (x.2 j) k v else x.2 q)
theorem mA_22 (σ : mS) (j k : Nat) (v : Int32) : (mA σ j k v).2.2 = dA σ.2.2 j k v := rfl
theorem mB_22 (σ : mS) (j k : Nat) (v : Int64) : (mB σ j k v).2.2 = dL σ.2.2 j k v := rfl
theorem mI_22 (σ : mS) (k : Nat) (v : Int32) : (mI σ k v).2.2 = σ.2.2 := rfl
theorem tkP_22 (σ : mS) (q : tkV) : (tkP σ q).2.2 = σ.2.2 := rfl
def fr0 (x y : dS) : Prop := (∀ j k, own j k = false → y.1 j k = x.1 j k) ∧ (∀ j k, ownL j k = false → y.2 j k = x.2 j k)
theorem fr0.rf (x : dS) : fr0 x x := ⟨fun _ _ _ => rfl, fun _ _ _ => rfl⟩
theorem fr0.tr {x y z : dS} (h : fr0 x y) (g : fr0 y z) : fr0 x z := ⟨fun j k e => (g.1 j k e).trans (h.1 j k e), fun j k e => (g.2 j k e).trans (h.2 j k e)⟩
theorem fr0.A (x : dS) {j k : Nat} (h : own j k = true) (v : Int32) : fr0 x (dA x j k v) := by
  refine ⟨fun j' k' e => ?_, fun _ _ _ => rfl⟩
  simp only [dA, upA]
  split
  · rename_i hj
    by_cases hk : k' = k
    · rw [hj, hk, h] at e; cases e
    · simp [upd, hk, hj]
  · rfl
theorem fr0.L (x : dS) {j k : Nat} (h : ownL j k = true) (v : Int64) : fr0 x (dL x j k v) := by
  refine ⟨fun _ _ _ => rfl, fun j' k' e => ?_⟩
  simp only [dL]
  split
  · rename_i hj
    by_cases hk : k' = k
    · rw [hj, hk, h] at e; cases e
    · simp [vp_updL, hk, hj]
  · rfl
def rD (σ σ' : mS) : Prop := rE σ σ' ∧ σ'.1 28 = σ.1 28 ∧ fr0 σ.2.2 σ'.2.2
theorem rD.rf (σ : mS) : rD σ σ := ⟨rE.rf σ, rfl, fr0.rf _⟩
theorem rD.tr {a b c : mS} (h : rD a b) (k : rD b c) : rD a c := ⟨h.1.tr k.1, k.2.1.trans h.2.1, h.2.2.tr k.2.2⟩
theorem rK.D {a b : mS} (h : rK a b) : rD a b := ⟨h.1, h.2.1, by rw [h.2.2]; exact fr0.rf _⟩
theorem rD.A (σ : mS) {j k : Nat} (h : own j k = true) (v : Int32) : rD σ (mA σ j k v) := ⟨rE.rf σ, rfl, fr0.A _ h v⟩
theorem rD.L (σ : mS) {j k : Nat} (h : ownL j k = true) (v : Int64) : rD σ (mB σ j k v) := ⟨rE.rf σ, rfl, fr0.L _ h v⟩
theorem rD.K {a b c : mS} (h : rD a b) (k : rK b c) : rD a c := h.tr k.D
theorem own6 {j n : Nat} (hj : j = 13 ∨ j = 14 ∨ j = 15) (hn : 6 ≤ n) : own j n = true := by
  rcases hj with e | e | e <;> subst e <;> simp [own, hn]
theorem own10 {j n : Nat} (hj : 16 ≤ j) (hj2 : j ≤ 21) (hn : 10 ≤ n) : own j n = true := by
  have : j = 16 ∨ j = 17 ∨ j = 18 ∨ j = 19 ∨ j = 20 ∨ j = 21 := by omega
  rcases this with e | e | e | e | e | e <;> subst e <;> simp [own, hn]
theorem own30 {j n : Nat} (hj : j = 22 ∨ j = 23 ∨ j = 24) (hn : 30 ≤ n) : own j n = true := by
  rcases hj with e | e | e <;> subst e <;> simp [own, hn]
def spKind (q : tkV) : Int32 := if tkW q 8740238 = true then 0 else if tkW q 108802051 = true then 1 else if tkW q 82410 = true then 2 else if tkW q 239329775 = true then 3 else -1
/-- a person read: the token behind, the arrays -/
def spRP (t : Nat → Int32) (z P S : Nat) (x : dS) (i : Nat) : Sum Int32 (Nat × dS) :=
  if P = 6 then .inl (flt t z i 5) else rB (spNew t z x.2 P S (i + 1)) (fun _ =>
    if spKind (tkK t z (i + 1 + 1)) < 0 then .inl (flt t z (i + 1 + 1) 1) else rB (spBoth t z 355412 0 9 (i + 1 + 1 + 1)) (fun a => rB (spBoth t z 14631 0 999 a.1) (fun c => rB (spClo t z c.1) (fun e =>
      .inr (e, dA (dL (dA (dA (dA x 13 (6 + P) (spKind (tkK t z (i + 1 + 1)))) 14 (6 + P) a.2) 15 (6 + P) c.2) 11 (6 + P) (tkK t z (i + 1)).2.2.2.1) 10 4 (nI (P + 1)))))))
section NH
variable {G : gxG} {d : Nat} {h : gxH} {b : Nat} {σ : mS} {t : Nat → Int32} {z i : Nat}
theorem c_readsPerson (hb : gxN G ≤ b) (hd : 4 ≤ d) (hS : tS t z i σ) (P S : Nat) (hP : σ.2.2.1 10 4 = nI P) (hP6 : P ≤ 6) (hSS : σ.2.2.1 10 5 = nI S) (hS10 : S ≤ 10) : mMi G mX10_readsPerson d [.ref b] h b σ (fun r σ' => rD σ σ' ∧ rR (spRP t z P S σ.2.2 i) r σ' (fun a => tS t z a.1 σ' ∧ σ'.2.2 = a.2)) := by
  refine gxM_of rfl (Nat.le_of_ble_eq_true rfl) rfl ?_
  refine gx_bipush (pc := 0) (v := 6) dX10_readsPerson_0 (by decide) ?_
  refine gx_aload_n (pc := 2) dX10_readsPerson_2 rfl ?_
  refine m_getA (pc := 3) rfl fX10_13 rfl (by decide) dX10_readsPerson_3 ?_
  refine gx_iconst (pc := 6) (v := 4) dX10_readsPerson_6 (by decide) ?_
  refine m_iald (pc := 7) 10 (4) 8 rfl (by decide) rfl (by first | rfl | simp only [gx_lit, nI_add, pk_mul]) (by omega) (by decide) dX10_readsPerson_7 ?_
  rw [hP]
  refine gx_iadd (pc := 8) dX10_readsPerson_8 ?_
  rw [show (6 : Int32) + nI P = nI (6 + P) from nI_add 6 P]
  refine gx_istore_n (pc := 9) dX10_readsPerson_9 (by decide) rfl ?_
  refine gx_iload_n (pc := 10) dX10_readsPerson_10 rfl ?_
  refine gx_bipush (pc := 11) (v := 12) dX10_readsPerson_11 (by decide) ?_
  refine gx_icmp_ne (pc := 13) 22 dX10_readsPerson_13 (by decide) (fun c1 => ?_) (fun c1 => ?_)
  · have hP' : P ≠ 6 := fun e => c1 (by rw [e]; rfl)
    have hP5 : P < 6 := by omega
    rw [spRP, if_neg hP']
    refine gx_aload_n (pc := 22) dX10_readsPerson_22 rfl ?_
    refine kX10_246 (pc := 23) rfl (c_next (d := d - 1) hb (by omega) hS) (by omega) (Nat.le_of_ble_eq_true rfl) dX10_readsPerson_23 (fun σ1 e1 => ?_)
    subst σ1
    have S1 := hS.nx
    have K1 : rK σ (tkP σ (tkK t z (i + 1))) := rK.tk _ _
    generalize hτ1 : tkP σ (tkK t z (i + 1)) = τ1 at *
    have A1 : τ1.2.2 = σ.2.2 := K1.2.2
    refine gx_aload_n (pc := 26) dX10_readsPerson_26 rfl ?_
    refine kX10_332 (pc := 27) rfl (c_isNew (d := d - 1) hb (by omega) S1 P S (by rw [K1.T]; exact hP) hP6 (by rw [K1.T]; exact hSS) hS10) (by omega) (Nat.le_of_ble_eq_true rfl) dX10_readsPerson_27 (fun r2 σ2 e2 => ?_)
    obtain ⟨K2, S2, e2⟩ := e2
    rw [A1] at e2
    cases hs : spNew t z σ.2.2.2 P S (i + 1) with
    | inl f =>
      rw [hs] at e2
      obtain ⟨rfl, hw⟩ := e2
      refine gx_if_ne (pc := 30) 35 dX10_readsPerson_30 (by decide) (fun c2 => ?_) (fun c2 => ?_)
      · exact absurd rfl c2
      · refine gx_iconst (pc := 33) (v := 0) dX10_readsPerson_33 (by decide) ?_
        exact m_retz (pc := 34) rfl (by decide) dX10_readsPerson_34 (⟨(K1.tr K2).D, rfl, hw⟩)
    | inr u =>
      rw [hs] at e2
      obtain ⟨rfl, hw⟩ := e2
      subst hw
      refine gx_if_ne (pc := 30) 35 dX10_readsPerson_30 (by decide) (fun c2 => ?_) (fun c2 => ?_)
      · refine gx_aload_n (pc := 35) dX10_readsPerson_35 rfl ?_
        refine m_getW (pc := 36) rfl fX10_193 dX10_readsPerson_36 ?_
        rw [S1.w]
        refine gx_lstore_n (pc := 39) dX10_readsPerson_39 (by decide) rfl ?_
        refine gx_aload_n (pc := 40) dX10_readsPerson_40 rfl ?_
        refine kX10_246 (pc := 41) rfl (c_next (d := d - 1) hb (by omega) S1) (by omega) (Nat.le_of_ble_eq_true rfl) dX10_readsPerson_41 (fun σ1 e1 => ?_)
        subst σ1
        have S3 := S1.nx
        have K3 : rK σ (tkP σ2 (tkK t z (i + 1 + 1))) := K1.tr (rK.tk _ _)
        generalize hτ3 : tkP σ2 (tkK t z (i + 1 + 1)) = τ3 at *
        have K106 : ∀ v, v = spKind (tkK t z (i + 1 + 1)) → gxV G mX10_readsPerson d 0 0 106 [some (.ref b), some (.int (nI (6 + P))), some (.long (tkK t z (i + 1)).2.2.2.1), none] [.int v, .int (nI (6 + P)), .ref (b + moff 13)] (mput h b τ3) (mQi h b (fun r σ' => rD σ σ' ∧ rR (rB (Sum.inr u : Sum Int32 Unit) (fun _ => if spKind (tkK t z (i + 1 + 1)) < 0 then .inl (flt t z (i + 1 + 1) 1) else rB (spBoth t z 355412 0 9 (i + 1 + 1 + 1)) (fun a => rB (spBoth t z 14631 0 999 a.1) (fun c => rB (spClo t z c.1) (fun e => .inr (e, dA (dL (dA (dA (dA σ.2.2 13 (6 + P) (spKind (tkK t z (i + 1 + 1)))) 14 (6 + P) a.2) 15 (6 + P) c.2) 11 (6 + P) (tkK t z (i + 1)).2.2.2.1) 10 4 (nI (P + 1)))))))) r σ' (fun a => tS t z a.1 σ' ∧ σ'.2.2 = a.2))) := by
          intro v hv
          rw [← hv]
          refine m_iast (pc := 106) hb 13 ((6+P)) 12 rfl (by decide) rfl (by first | rfl | simp only [gx_lit, nI_add, pk_mul]) (by omega) (by decide) dX10_readsPerson_106 ?_
          have S4 := S3.mA (j := 13) (by decide) (6 + P) v
          have D4 : rD σ (mA τ3 13 (6 + P) v) := K3.D.tr (rD.A _ (own6 (by omega) (by omega)) v)
          have A4 : (mA τ3 13 (6 + P) v).2.2 = dA σ.2.2 13 (6 + P) v := by rw [mA_22, K3.2.2]
          have v4 : (mA τ3 13 (6 + P) v).2.2.1 13 (6 + P) = v := by rw [A4]; simp [dA, upA, upd]
          generalize mA τ3 13 (6 + P) v = τ4 at *
          refine gx_aload_n (pc := 107) dX10_readsPerson_107 rfl ?_
          refine m_getA (pc := 108) rfl fX10_23 rfl (by decide) dX10_readsPerson_108 ?_
          refine gx_iload_n (pc := 111) dX10_readsPerson_111 rfl ?_
          refine m_iald (pc := 112) 13 ((6+P)) 12 rfl (by decide) rfl (by first | rfl | simp only [gx_lit, nI_add, pk_mul]) (by omega) (by decide) dX10_readsPerson_112 ?_
          rw [v4]
          refine gx_if_ge (pc := 113) 122 dX10_readsPerson_113 (by decide) (fun c3 => ?_) (fun c3 => ?_)
          · have n3 : ¬ v < 0 := Int32.not_lt.mpr c3
            show gxV _ _ _ _ _ _ _ _ _ (mQi h b (fun r σ' => rD σ σ' ∧ rR (if v < 0 then .inl (flt t z (i + 1 + 1) 1) else rB (spBoth t z 355412 0 9 (i + 1 + 1 + 1)) (fun a => rB (spBoth t z 14631 0 999 a.1) (fun c => rB (spClo t z c.1) (fun e => .inr (e, dA (dL (dA (dA (dA σ.2.2 13 (6 + P) v) 14 (6 + P) a.2) 15 (6 + P) c.2) 11 (6 + P) (tkK t z (i + 1)).2.2.2.1) 10 4 (nI (P + 1))))))) r σ' (fun a => tS t z a.1 σ' ∧ σ'.2.2 = a.2)))
            rw [if_neg n3]
            refine gx_aload_n (pc := 122) dX10_readsPerson_122 rfl ?_
            refine kX10_246 (pc := 123) rfl (c_next (d := d - 1) hb (by omega) S4) (by omega) (Nat.le_of_ble_eq_true rfl) dX10_readsPerson_123 (fun σ1 e1 => ?_)
            subst σ1
            have S5 := S4.nx
            have K5 : rK τ4 (tkP τ4 (tkK t z (i + 1 + 1 + 1))) := rK.tk _ _
            generalize tkP τ4 (tkK t z (i + 1 + 1 + 1)) = τ5 at *
            refine gx_aload_n (pc := 126) dX10_readsPerson_126 rfl ?_
            refine gx_ldc2 (pc := 127) q2106 dX10_readsPerson_127 ?_
            refine gx_iconst (pc := 130) (v := 0) dX10_readsPerson_130 (by decide) ?_
            refine gx_bipush (pc := 131) (v := 9) dX10_readsPerson_131 (by decide) ?_
            refine kX10_335 (pc := 133) rfl (c_needsBoth (d := d - 1) hb (by omega) S5 355412 0 9) (by omega) (Nat.le_of_ble_eq_true rfl) dX10_readsPerson_133 (fun r6 σ6 e6 => ?_)
            obtain ⟨K6, e6⟩ := e6
            cases h6 : spBoth t z 355412 0 9 (i + 1 + 1 + 1) with
            | inl f =>
              rw [h6] at e6
              obtain ⟨rfl, hw⟩ := e6
              refine gx_if_ne (pc := 136) 141 dX10_readsPerson_136 (by decide) (fun c4 => ?_) (fun c4 => ?_)
              · exact absurd rfl c4
              · refine gx_iconst (pc := 139) (v := 0) dX10_readsPerson_139 (by decide) ?_
                exact m_retz (pc := 140) rfl (by decide) dX10_readsPerson_140 (⟨(D4.K K5).K K6, rfl, hw⟩)
            | inr a =>
              rw [h6] at e6
              obtain ⟨rfl, S6, g6⟩ := e6
              refine gx_if_ne (pc := 136) 141 dX10_readsPerson_136 (by decide) (fun c4 => ?_) (fun c4 => ?_)
              · refine gx_aload_n (pc := 141) dX10_readsPerson_141 rfl ?_
                refine m_getA (pc := 142) rfl fX10_26 rfl (by decide) dX10_readsPerson_142 ?_
                refine gx_iload_n (pc := 145) dX10_readsPerson_145 rfl ?_
                refine gx_aload_n (pc := 146) dX10_readsPerson_146 rfl ?_
                refine m_getI (pc := 147) rfl fX10_312 rfl (by decide) dX10_readsPerson_147 ?_
                rw [g6]
                refine m_iast (pc := 150) hb 14 ((6+P)) 12 rfl (by decide) rfl (by first | rfl | simp only [gx_lit, nI_add, pk_mul]) (by omega) (by decide) dX10_readsPerson_150 ?_
                have S7 := S6.mA (j := 14) (by decide) (6 + P) a.2
                have D7 : rD σ (mA σ6 14 (6 + P) a.2) := ((D4.K K5).K K6).tr (rD.A _ (own6 (by omega) (by omega)) _)
                have A7 : (mA σ6 14 (6 + P) a.2).2.2 = dA (dA σ.2.2 13 (6 + P) v) 14 (6 + P) a.2 := by rw [mA_22, K6.2.2, K5.2.2, A4]
                generalize mA σ6 14 (6 + P) a.2 = τ7 at *
                refine gx_aload_n (pc := 151) dX10_readsPerson_151 rfl ?_
                refine gx_ldc2 (pc := 152) q2107 dX10_readsPerson_152 ?_
                refine gx_iconst (pc := 155) (v := 0) dX10_readsPerson_155 (by decide) ?_
                refine gx_sipush (pc := 156) (v := 999) dX10_readsPerson_156 (by decide) ?_
                refine kX10_335 (pc := 159) rfl (c_needsBoth (d := d - 1) hb (by omega) S7 14631 0 999) (by omega) (Nat.le_of_ble_eq_true rfl) dX10_readsPerson_159 (fun r8 σ8 e8 => ?_)
                obtain ⟨K8, e8⟩ := e8
                show gxV _ _ _ _ _ _ _ _ _ (mQi h b (fun r σ' => rD σ σ' ∧ rR (rB (spBoth t z 14631 0 999 a.1) (fun c => rB (spClo t z c.1) (fun e => .inr (e, dA (dL (dA (dA (dA σ.2.2 13 (6 + P) v) 14 (6 + P) a.2) 15 (6 + P) c.2) 11 (6 + P) (tkK t z (i + 1)).2.2.2.1) 10 4 (nI (P + 1)))))) r σ' (fun a => tS t z a.1 σ' ∧ σ'.2.2 = a.2)))
                cases h8 : spBoth t z 14631 0 999 a.1 with
                | inl f =>
                  rw [h8] at e8
                  obtain ⟨rfl, hw⟩ := e8
                  refine gx_if_ne (pc := 162) 167 dX10_readsPerson_162 (by decide) (fun c5 => ?_) (fun c5 => ?_)
                  · exact absurd rfl c5
                  · refine gx_iconst (pc := 165) (v := 0) dX10_readsPerson_165 (by decide) ?_
                    exact m_retz (pc := 166) rfl (by decide) dX10_readsPerson_166 (⟨D7.K K8, rfl, hw⟩)
                | inr c =>
                  rw [h8] at e8
                  obtain ⟨rfl, S8, g8⟩ := e8
                  refine gx_if_ne (pc := 162) 167 dX10_readsPerson_162 (by decide) (fun c5 => ?_) (fun c5 => ?_)
                  · refine gx_aload_n (pc := 167) dX10_readsPerson_167 rfl ?_
                    refine m_getA (pc := 168) rfl fX10_29 rfl (by decide) dX10_readsPerson_168 ?_
                    refine gx_iload_n (pc := 171) dX10_readsPerson_171 rfl ?_
                    refine gx_aload_n (pc := 172) dX10_readsPerson_172 rfl ?_
                    refine m_getI (pc := 173) rfl fX10_312 rfl (by decide) dX10_readsPerson_173 ?_
                    rw [g8]
                    refine m_iast (pc := 176) hb 15 ((6+P)) 12 rfl (by decide) rfl (by first | rfl | simp only [gx_lit, nI_add, pk_mul]) (by omega) (by decide) dX10_readsPerson_176 ?_
                    have S9 := S8.mA (j := 15) (by decide) (6 + P) c.2
                    have D9 : rD σ (mA σ8 15 (6 + P) c.2) := (D7.K K8).tr (rD.A _ (own6 (by omega) (by omega)) _)
                    have A9 : (mA σ8 15 (6 + P) c.2).2.2 = dA (dA (dA σ.2.2 13 (6 + P) v) 14 (6 + P) a.2) 15 (6 + P) c.2 := by rw [mA_22, K8.2.2, A7]
                    generalize mA σ8 15 (6 + P) c.2 = τ9 at *
                    refine gx_aload_n (pc := 177) dX10_readsPerson_177 rfl ?_
                    refine m_getA (pc := 178) rfl fX10_16 rfl (by decide) dX10_readsPerson_178 ?_
                    refine gx_iload_n (pc := 181) dX10_readsPerson_181 rfl ?_
                    refine gx_lload_n (pc := 182) dX10_readsPerson_182 rfl ?_
                    refine m_last (pc := 183) hb 11 ((6+P)) 12 rfl (by decide) rfl (by first | rfl | simp only [gx_lit, nI_add, pk_mul]) (by omega) (by decide) dX10_readsPerson_183 ?_
                    have S10 := S9.mB 11 (6 + P) (tkK t z (i + 1)).2.2.2.1
                    have D10 : rD σ (mB τ9 11 (6 + P) (tkK t z (i + 1)).2.2.2.1) := D9.tr (rD.L _ (by simp [ownL]) _)
                    have A10 : (mB τ9 11 (6 + P) (tkK t z (i + 1)).2.2.2.1).2.2 = dL (dA (dA (dA σ.2.2 13 (6 + P) v) 14 (6 + P) a.2) 15 (6 + P) c.2) 11 (6 + P) (tkK t z (i + 1)).2.2.2.1 := by rw [mB_22, A9]
                    generalize mB τ9 11 (6 + P) (tkK t z (i + 1)).2.2.2.1 = τ10 at *
                    refine gx_aload_n (pc := 184) dX10_readsPerson_184 rfl ?_
                    refine m_getA (pc := 185) rfl fX10_13 rfl (by decide) dX10_readsPerson_185 ?_
                    refine gx_iconst (pc := 188) (v := 4) dX10_readsPerson_188 (by decide) ?_
                    refine gx_dup2 (pc := 189) dX10_readsPerson_189 rfl rfl ?_
                    refine m_iald (pc := 190) 10 (4) 8 rfl (by decide) rfl (by first | rfl | simp only [gx_lit, nI_add, pk_mul]) (by omega) (by decide) dX10_readsPerson_190 ?_
                    rw [show τ10.2.2.1 10 4 = nI P by rw [A10]; exact hP]
                    refine gx_iconst (pc := 191) (v := 1) dX10_readsPerson_191 (by decide) ?_
                    refine gx_iadd (pc := 192) dX10_readsPerson_192 ?_
                    rw [nI_1]
                    refine m_iast (pc := 193) hb 10 (4) 8 rfl (by decide) rfl (by first | rfl | simp only [gx_lit, nI_add, pk_mul]) (by omega) (by decide) dX10_readsPerson_193 ?_
                    have S11 := S10.mA (j := 10) (by decide) 4 (nI (P + 1))
                    have D11 : rD σ (mA τ10 10 4 (nI (P + 1))) := D10.tr (rD.A _ (by simp [own]) _)
                    have A11 := mA_22 τ10 10 4 (nI (P + 1))
                    rw [A10] at A11
                    generalize mA τ10 10 4 (nI (P + 1)) = τ11 at *
                    refine gx_aload_n (pc := 194) dX10_readsPerson_194 rfl ?_
                    refine kX10_339 (pc := 195) rfl (c_closes (d := d - 1) hb (by omega) S11) (by omega) (Nat.le_of_ble_eq_true rfl) dX10_readsPerson_195 (fun r12 σ12 e12 => ?_)
                    obtain ⟨K12, e12⟩ := e12
                    show gxV _ _ _ _ _ _ _ _ _ (mQi h b (fun r σ' => rD σ σ' ∧ rR (rB (spClo t z c.1) (fun e => .inr (e, dA (dL (dA (dA (dA σ.2.2 13 (6 + P) v) 14 (6 + P) a.2) 15 (6 + P) c.2) 11 (6 + P) (tkK t z (i + 1)).2.2.2.1) 10 4 (nI (P + 1))))) r σ' (fun a => tS t z a.1 σ' ∧ σ'.2.2 = a.2)))
                    cases h12 : spClo t z c.1 with
                    | inl f =>
                      rw [h12] at e12
                      obtain ⟨rfl, hw⟩ := e12
                      exact m_retz (pc := 198) rfl (by decide) dX10_readsPerson_198 (⟨D11.K K12, rfl, hw⟩)
                    | inr e =>
                      rw [h12] at e12
                      obtain ⟨rfl, S12⟩ := e12
                      exact m_retz (pc := 198) rfl (by decide) dX10_readsPerson_198 (⟨D11.K K12, rfl, S12, by rw [K12.2.2, A11]⟩)
                  · exact absurd c5 (by decide)
              · exact absurd c4 (by decide)
          · have n3 : v < 0 := Int32.not_le.mp c3
            refine gx_aload_n (pc := 116) dX10_readsPerson_116 rfl ?_
            refine gx_iconst (pc := 117) (v := 1) dX10_readsPerson_117 (by decide) ?_
            refine kX10_239 (pc := 118) rfl (c_fails (d := d - 1) hb S4 1) (by omega) (Nat.le_of_ble_eq_true rfl) dX10_readsPerson_118 (fun r1 σ1 e1 => ?_)
            obtain ⟨rfl, hσ⟩ := e1
            subst σ1
            exact m_retz (pc := 121) rfl (by decide) dX10_readsPerson_121 (⟨D4.K (rK.I _ rfl (by decide) _), by simp only [rB]; rw [if_pos n3]; exact ⟨rfl, mI_eq _ _ _⟩⟩)
        refine gx_aload_n (pc := 44) dX10_readsPerson_44 rfl ?_
        refine m_getA (pc := 45) rfl fX10_23 rfl (by decide) dX10_readsPerson_45 ?_
        refine gx_iload_n (pc := 48) dX10_readsPerson_48 rfl ?_
        refine gx_aload_n (pc := 49) dX10_readsPerson_49 rfl ?_
        refine gx_ldc2 (pc := 50) q2120 dX10_readsPerson_50 ?_
        refine kX10_231 (pc := 53) rfl (c_isWord (d := d - 1) S3 8740238) (by omega) (Nat.le_of_ble_eq_true rfl) dX10_readsPerson_53 (fun r1 σ1 e1 => ?_)
        obtain ⟨rfl, hσ⟩ := e1
        subst σ1
        refine gx_if_eq (pc := 56) 63 dX10_readsPerson_56 (by decide) (fun k1 => ?_) (fun k1 => ?_)
        · refine gx_aload_n (pc := 63) dX10_readsPerson_63 rfl ?_
          refine gx_ldc2 (pc := 64) q2121 dX10_readsPerson_64 ?_
          refine kX10_231 (pc := 67) rfl (c_isWord (d := d - 1) S3 108802051) (by omega) (Nat.le_of_ble_eq_true rfl) dX10_readsPerson_67 (fun r1 σ1 e1 => ?_)
          obtain ⟨rfl, hσ⟩ := e1
          subst σ1
          refine gx_if_eq (pc := 70) 77 dX10_readsPerson_70 (by decide) (fun k2 => ?_) (fun k2 => ?_)
          · refine gx_aload_n (pc := 77) dX10_readsPerson_77 rfl ?_
            refine gx_ldc2 (pc := 78) q2122 dX10_readsPerson_78 ?_
            refine kX10_231 (pc := 81) rfl (c_isWord (d := d - 1) S3 82410) (by omega) (Nat.le_of_ble_eq_true rfl) dX10_readsPerson_81 (fun r1 σ1 e1 => ?_)
            obtain ⟨rfl, hσ⟩ := e1
            subst σ1
            refine gx_if_eq (pc := 84) 91 dX10_readsPerson_84 (by decide) (fun k3 => ?_) (fun k3 => ?_)
            · refine gx_aload_n (pc := 91) dX10_readsPerson_91 rfl ?_
              refine gx_ldc2 (pc := 92) q2123 dX10_readsPerson_92 ?_
              refine kX10_231 (pc := 95) rfl (c_isWord (d := d - 1) S3 239329775) (by omega) (Nat.le_of_ble_eq_true rfl) dX10_readsPerson_95 (fun r1 σ1 e1 => ?_)
              obtain ⟨rfl, hσ⟩ := e1
              subst σ1
              refine gx_if_eq (pc := 98) 105 dX10_readsPerson_98 (by decide) (fun k4 => ?_) (fun k4 => ?_)
              · refine gx_iconst (pc := 105) (v := (-1)) dX10_readsPerson_105 (by decide) ?_
                exact K106 _ (by rw [spKind, zi_eq0 k1, zi_eq0 k2, zi_eq0 k3, zi_eq0 k4]; rfl)
              · refine gx_iconst (pc := 101) (v := 3) dX10_readsPerson_101 (by decide) ?_
                refine gx_goto (pc := 102) 106 dX10_readsPerson_102 (by decide) ?_
                exact K106 _ (by rw [spKind, zi_eq0 k1, zi_eq0 k2, zi_eq0 k3, zi_ne0 k4]; rfl)
            · refine gx_iconst (pc := 87) (v := 2) dX10_readsPerson_87 (by decide) ?_
              refine gx_goto (pc := 88) 106 dX10_readsPerson_88 (by decide) ?_
              exact K106 _ (by rw [spKind, zi_eq0 k1, zi_eq0 k2, zi_ne0 k3]; rfl)
          · refine gx_iconst (pc := 73) (v := 1) dX10_readsPerson_73 (by decide) ?_
            refine gx_goto (pc := 74) 106 dX10_readsPerson_74 (by decide) ?_
            exact K106 _ (by rw [spKind, zi_eq0 k1, zi_ne0 k2]; rfl)
        · refine gx_iconst (pc := 59) (v := 0) dX10_readsPerson_59 (by decide) ?_
          refine gx_goto (pc := 60) 106 dX10_readsPerson_60 (by decide) ?_
          exact K106 _ (by rw [spKind, zi_ne0 k1]; rfl)
      · exact absurd c2 (by decide)
  · have hP' : P = 6 := by have := (nI_eq (a := 6 + P) (b := 12) (by omega) (by decide)).mp c1; omega
    refine gx_aload_n (pc := 16) dX10_readsPerson_16 rfl ?_
    refine gx_iconst (pc := 17) (v := 5) dX10_readsPerson_17 (by decide) ?_
    refine kX10_239 (pc := 18) rfl (c_fails (d := d - 1) hb hS 5) (by omega) (Nat.le_of_ble_eq_true rfl) dX10_readsPerson_18 (fun r1 σ1 e1 => ?_)
    obtain ⟨rfl, hσ⟩ := e1
    subst σ1
    exact m_retz (pc := 21) rfl (by decide) dX10_readsPerson_21 (⟨(rK.I _ rfl (by decide) _).D, by rw [spRP, if_pos hP']; exact ⟨rfl, mI_eq _ _ _⟩⟩)
end NH
