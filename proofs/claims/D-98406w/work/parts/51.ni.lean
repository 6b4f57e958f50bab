/-! ===== MODEL NI: secrets as they are read ===== -/
set_option maxRecDepth 100000
theorem dA_dA (x : dS) (j k : Nat) (u v : Int32) : dA (dA x j k u) j k v = dA x j k v := by
  simp only [dA]; congr 1; funext q r
  by_cases hq : q = j <;> by_cases hr : r = k <;> simp [upA, upd, hq, hr]
theorem rB_r {α β : Type} (a : α) (f : α → Sum Int32 β) : rB (.inr a) f = f a := rfl
/-- some told, each once, as bits -/
def spSome (t : Nat → Int32) (z : Nat) (nm : Int64 → Option Nat) : Nat → Int32 → Nat → Sum Int32 (Nat × Int32)
  | 0, _, _ => .inl 0
  | m + 1, set, i => if ¬ set = 0 ∧ tkG t (tkK t z i) 59 = true then .inr (i, set) else rB (spNd t z i (nm (tkK t z i).2.2.2.1)) (fun k =>
      if (set >>> (nI k &&& 31)) &&& 1 = 1 then .inl (flt t z i 3) else spSome t z nm m (set ||| (1 <<< (nI k &&& 31))) (i + 1))
def spTru (q : tkV) : Int32 := if tkW q 407354 = true then 0 else if tkW q 3217595 = true then 1 else -1
def spOn (t : Nat → Int32) (z : Nat) (L : Nat → Nat → Int64) (S i : Nat) : Sum Int32 (Nat × Int32) :=
  if tkW (tkK t z i) 419 = true then rB (spNd t z (i + 1) (spSn L 1 S (tkK t z (i + 1)).2.2.2.1)) (fun k => .inr (i + 1 + 1, nI k)) else .inr (i, -1)
def spRS (t : Nat → Int32) (z P S : Nat) (x : dS) (i : Nat) : Sum Int32 (Nat × dS) :=
  if S = 10 then .inl (flt t z i 5) else rB (spNew t z x.2 P S (i + 1)) (fun _ =>
    if spTru (tkK t z (i + 1 + 1)) < 0 then .inl (flt t z (i + 1 + 1) 1) else rB (spWord t z 411 (i + 1 + 1 + 1)) (fun j => rB (spNd t z j (spPn x.2 1 P (tkK t z j).2.2.2.1)) (fun o => rB (spBoth t z 1903978 1 99 (j + 1)) (fun a => rB (spOn t z x.2 S a.1) (fun c => rB (spWord t z 79 c.1) (fun u => rB (spSome t z (spPn x.2 1 P) (z + 1) 0 u) (fun w => rB (spClo t z w.1) (fun e =>
      .inr (e, dA (dL (dA (dA (dA (dA (dA (dA x 16 (10 + S) (spTru (tkK t z (i + 1 + 1)))) 17 (10 + S) (nI o)) 18 (10 + S) a.2) 19 (10 + S) c.2) 20 (10 + S) w.2) 21 (10 + S) 0) 12 (10 + S) (tkK t z (i + 1)).2.2.2.1) 10 5 (nI (S + 1)))))))))))
theorem spNd_n0 {t : Nat → Int32} {z i : Nat} {x : Option Nat} {k : Nat} (h : spNd t z i x = .inr k) : ¬ (tkK t z i).2.2.1 = 0 := by
  intro e
  unfold spNd at h
  rw [if_pos (by rw [tkKp, e]; rfl)] at h
  cases h
section NI
variable {G : gxG} {d : Nat} {h : gxH} {b : Nat} {σ : mS} {t : Nat → Int32} {z i : Nat}
theorem c_readsKnowers (hb : gxN G ≤ b) (hd : 4 ≤ d) (hS : tS t z i σ) (P n : Nat) (hP : σ.2.2.1 10 4 = nI P) (hP6 : P ≤ 6) (hn : 10 ≤ n) (hn2 : n < 20) : mMi G mX10_readsKnowers d [.ref b, .int (nI n)] h b σ (fun r σ' => rD σ σ' ∧ rR (spSome t z (spPn σ.2.2.2 1 P) (z + 1) 0 i) r σ' (fun a => tS t z a.1 σ' ∧ σ'.2.2 = dA σ.2.2 20 n a.2)) := by
  refine gxM_of rfl (Nat.le_of_ble_eq_true rfl) rfl ?_
  generalize hX : spSome t z (spPn σ.2.2.2 1 P) (z + 1) 0 i = X
  have L : ∀ m set i τ, spSome t z (spPn σ.2.2.2 1 P) m set i = X → z + 1 ≤ m + (tkK t z i).2.1 → tS t z i τ → rD σ τ → τ.2.2 = dA σ.2.2 20 n set → gxV G mX10_readsKnowers d 0 0 7 [some (.ref b), some (.int (nI n))] [] (mput h b τ) (mQi h b (fun r σ' => rD σ σ' ∧ rR X r σ' (fun a => tS t z a.1 σ' ∧ σ'.2.2 = dA σ.2.2 20 n a.2))) := by
    intro m
    induction m with
    | zero =>
      intro set i τ _ hm
      have := tkK_le t z i
      omega
    | succ m ih =>
      intro set i τ hX hm hS hD hA
      rw [spSome] at hX
      have vA : τ.2.2.1 20 n = set := by rw [hA]; simp [dA, upA, upd]
      have K25 : ¬ (¬ set = 0 ∧ tkG t (tkK t z i) 59 = true) → gxV G mX10_readsKnowers d 0 0 25 [some (.ref b), some (.int (nI n))] [] (mput h b τ) (mQi h b (fun r σ' => rD σ σ' ∧ rR X r σ' (fun a => tS t z a.1 σ' ∧ σ'.2.2 = dA σ.2.2 20 n a.2))) := by
        intro hc
        rw [if_neg hc] at hX
        have hL : τ.2.2.2 = σ.2.2.2 := by rw [hA]; rfl
        refine gx_aload_n (pc := 25) dX10_readsKnowers_25 rfl ?_
        refine gx_iconst (pc := 26) (v := 1) dX10_readsKnowers_26 (by decide) ?_
        refine kX10_342 (pc := 27) rfl (c_needsPerson (d := d - 1) hb (by omega) hS 1 P (by decide) (by rw [hA]; exact hP) hP6) (by omega) (Nat.le_of_ble_eq_true rfl) dX10_readsKnowers_27 (fun r1 σ1 e1 => ?_)
        obtain ⟨K1, S1, e1⟩ := e1
        rw [hL] at e1
        cases hs : spNd t z i (spPn σ.2.2.2 1 P (tkK t z i).2.2.2.1) with
        | inl f =>
          rw [hs] at e1 hX
          obtain ⟨rfl, hw⟩ := e1
          refine gx_if_ne (pc := 30) 35 dX10_readsKnowers_30 (by decide) (fun c2 => ?_) (fun c2 => ?_)
          · exact absurd rfl c2
          · refine gx_iconst (pc := 33) (v := 0) dX10_readsKnowers_33 (by decide) ?_
            exact m_retz (pc := 34) rfl (by decide) dX10_readsKnowers_34 (⟨hD.K K1, by rw [← hX]; exact ⟨rfl, hw⟩⟩)
        | inr k =>
          rw [hs] at e1 hX
          obtain ⟨rfl, hk, g1⟩ := e1
          change (if (set >>> (nI k &&& 31)) &&& 1 = 1 then .inl (flt t z i 3) else spSome t z (spPn σ.2.2.2 1 P) m (set ||| (1 <<< (nI k &&& 31))) (i + 1)) = X at hX
          have vA1 : σ1.2.2.1 20 n = set := by rw [K1.T]; exact vA
          have adv := tkK_lt (spNd_n0 hs)
          refine gx_if_ne (pc := 30) 35 dX10_readsKnowers_30 (by decide) (fun c2 => ?_) (fun c2 => ?_)
          · refine gx_aload_n (pc := 35) dX10_readsKnowers_35 rfl ?_
            refine m_getA (pc := 36) rfl fX10_44 rfl (by decide) dX10_readsKnowers_36 ?_
            refine gx_iload_n (pc := 39) dX10_readsKnowers_39 rfl ?_
            refine m_iald (pc := 40) 20 (n) 20 rfl (by decide) rfl (by first | rfl | simp only [gx_lit, nI_add, pk_mul]) (by omega) (by decide) dX10_readsKnowers_40 ?_
            rw [vA1]
            refine gx_aload_n (pc := 41) dX10_readsKnowers_41 rfl ?_
            refine m_getI (pc := 42) rfl fX10_312 rfl (by decide) dX10_readsKnowers_42 ?_
            rw [g1]
            refine gx_ishr (pc := 45) dX10_readsKnowers_45 ?_
            refine gx_iconst (pc := 46) (v := 1) dX10_readsKnowers_46 (by decide) ?_
            refine gx_iand (pc := 47) dX10_readsKnowers_47 ?_
            refine gx_iconst (pc := 48) (v := 1) dX10_readsKnowers_48 (by decide) ?_
            refine gx_icmp_ne (pc := 49) 58 dX10_readsKnowers_49 (by decide) (fun c3 => ?_) (fun c3 => ?_)
            · rw [if_neg c3] at hX
              refine gx_aload_n (pc := 58) dX10_readsKnowers_58 rfl ?_
              refine m_getA (pc := 59) rfl fX10_44 rfl (by decide) dX10_readsKnowers_59 ?_
              refine gx_iload_n (pc := 62) dX10_readsKnowers_62 rfl ?_
              refine gx_dup2 (pc := 63) dX10_readsKnowers_63 rfl rfl ?_
              refine m_iald (pc := 64) 20 (n) 20 rfl (by decide) rfl (by first | rfl | simp only [gx_lit, nI_add, pk_mul]) (by omega) (by decide) dX10_readsKnowers_64 ?_
              rw [vA1]
              refine gx_iconst (pc := 65) (v := 1) dX10_readsKnowers_65 (by decide) ?_
              refine gx_aload_n (pc := 66) dX10_readsKnowers_66 rfl ?_
              refine m_getI (pc := 67) rfl fX10_312 rfl (by decide) dX10_readsKnowers_67 ?_
              rw [g1]
              refine gx_ishl (pc := 70) dX10_readsKnowers_70 ?_
              refine gx_ior (pc := 71) dX10_readsKnowers_71 ?_
              refine m_iast (pc := 72) hb 20 (n) 20 rfl (by decide) rfl (by first | rfl | simp only [gx_lit, nI_add, pk_mul]) (by omega) (by decide) dX10_readsKnowers_72 ?_
              have S2 := S1.mA (j := 20) (by decide) n (set ||| (1 <<< (nI k &&& 31)))
              have D2 : rD σ (mA σ1 20 n (set ||| (1 <<< (nI k &&& 31)))) := (hD.K K1).tr (rD.A _ (own10 (by decide) (by decide) hn) _)
              have A2 : (mA σ1 20 n (set ||| (1 <<< (nI k &&& 31)))).2.2 = dA σ.2.2 20 n (set ||| (1 <<< (nI k &&& 31))) := by rw [mA_22, K1.2.2, hA, dA_dA]
              generalize mA σ1 20 n (set ||| (1 <<< (nI k &&& 31))) = τ2 at *
              refine gx_aload_n (pc := 73) dX10_readsKnowers_73 rfl ?_
              refine kX10_246 (pc := 74) rfl (c_next (d := d - 1) hb (by omega) S2) (by omega) (Nat.le_of_ble_eq_true rfl) dX10_readsKnowers_74 (fun σ3 e3 => ?_)
              subst σ3
              refine gx_goto (pc := 77) 7 dX10_readsKnowers_77 (by decide) ?_
              exact ih _ (i + 1) _ hX (by omega) S2.nx (D2.K (rK.tk _ _)) A2
            · rw [if_pos c3] at hX
              refine gx_aload_n (pc := 52) dX10_readsKnowers_52 rfl ?_
              refine gx_iconst (pc := 53) (v := 3) dX10_readsKnowers_53 (by decide) ?_
              refine kX10_239 (pc := 54) rfl (c_fails (d := d - 1) hb S1 3) (by omega) (Nat.le_of_ble_eq_true rfl) dX10_readsKnowers_54 (fun r2 σ2 e2 => ?_)
              obtain ⟨rfl, hσ⟩ := e2
              subst σ2
              exact m_retz (pc := 57) rfl (by decide) dX10_readsKnowers_57 (⟨(hD.K K1).K (rK.I _ rfl (by decide) _), by rw [← hX]; exact ⟨rfl, mI_eq _ _ _⟩⟩)
          · exact absurd c2 (by decide)
      refine gx_aload_n (pc := 7) dX10_readsKnowers_7 rfl ?_
      refine m_getA (pc := 8) rfl fX10_44 rfl (by decide) dX10_readsKnowers_8 ?_
      refine gx_iload_n (pc := 11) dX10_readsKnowers_11 rfl ?_
      refine m_iald (pc := 12) 20 (n) 20 rfl (by decide) rfl (by first | rfl | simp only [gx_lit, nI_add, pk_mul]) (by omega) (by decide) dX10_readsKnowers_12 ?_
      rw [vA]
      refine gx_if_eq (pc := 13) 25 dX10_readsKnowers_13 (by decide) (fun c1 => ?_) (fun c1 => ?_)
      · exact K25 (fun hh => hh.1 c1)
      · refine gx_aload_n (pc := 16) dX10_readsKnowers_16 rfl ?_
        refine gx_bipush (pc := 17) (v := 59) dX10_readsKnowers_17 (by decide) ?_
        refine kX10_235 (pc := 19) rfl (c_isSign (d := d - 1) hS 59) (by omega) (Nat.le_of_ble_eq_true rfl) dX10_readsKnowers_19 (fun r1 σ1 e1 => ?_)
        obtain ⟨rfl, hσ⟩ := e1
        subst σ1
        refine gx_if_ne (pc := 22) 80 dX10_readsKnowers_22 (by decide) (fun c2 => ?_) (fun c2 => ?_)
        · rw [if_pos ⟨c1, zi_ne0 c2⟩] at hX
          refine gx_iconst (pc := 80) (v := 1) dX10_readsKnowers_80 (by decide) ?_
          exact m_retz (pc := 81) rfl (by decide) dX10_readsKnowers_81 (⟨hD, by rw [← hX]; exact ⟨rfl, hS, hA⟩⟩)
        · exact K25 (fun hh => by rw [hh.2] at c2; exact absurd c2 (by decide))
  refine gx_aload_n (pc := 0) dX10_readsKnowers_0 rfl ?_
  refine m_getA (pc := 1) rfl fX10_44 rfl (by decide) dX10_readsKnowers_1 ?_
  refine gx_iload_n (pc := 4) dX10_readsKnowers_4 rfl ?_
  refine gx_iconst (pc := 5) (v := 0) dX10_readsKnowers_5 (by decide) ?_
  refine m_iast (pc := 6) hb 20 (n) 20 rfl (by decide) rfl (by first | rfl | simp only [gx_lit, nI_add, pk_mul]) (by omega) (by decide) dX10_readsKnowers_6 ?_
  exact L (z + 1) 0 i _ hX (by omega) (hS.mA (by decide) _ _) (rD.A _ (own10 (by decide) (by decide) hn) _) rfl
theorem rs202 (hb : gxN G ≤ b) (hd : 5 ≤ d) (P S n : Nat) (hP : σ.2.2.1 10 4 = nI P) (hP6 : P ≤ 6) (hSS : σ.2.2.1 10 5 = nI S) (hn10 : 10 ≤ n) (hn20 : n < 20) (name : Int64) (B : dS) (hB4 : B.1 10 = σ.2.2.1 10) (hBL : B.2 = σ.2.2.2) {X : Sum Int32 (Nat × dS)} (c : Nat × Int32) (τ : mS) (hX : (rB (spWord t z 79 c.1) (fun u => rB (spSome t z (spPn σ.2.2.2 1 P) (z + 1) 0 u) (fun w => rB (spClo t z w.1) (fun e => (.inr (e, dA (dL (dA (dA B 20 n w.2) 21 n 0) 12 n name) 10 5 (nI (S + 1))) : Sum Int32 (Nat × dS)))))) = X) (S13 : tS t z c.1 τ) (D13 : rD σ τ) (A13 : τ.2.2 = B) : gxV G mX10_readsSecret d 0 0 202 [some (.ref b), some (.int (nI n)), some (.long name), none] [] (mput h b τ) (mQi h b (fun r σ' => rD σ σ' ∧ rR X r σ' (fun a => tS t z a.1 σ' ∧ σ'.2.2 = a.2))) := by
  refine gx_aload_n (pc := 202) dX10_readsSecret_202 rfl ?_
  refine gx_ldc2 (pc := 203) q2112 dX10_readsSecret_203 ?_
  refine kX10_315 (pc := 206) rfl (c_needsWord (d := d - 1) hb (by omega) S13 79) (by omega) (Nat.le_of_ble_eq_true rfl) dX10_readsSecret_206 (fun r14 σ14 e14 => ?_)
  obtain ⟨K14, e14⟩ := e14
  have D14 := D13.K K14
  have A14 := K14.2.2.trans A13
  cases h14 : spWord t z 79 c.1 with
  | inl f =>
    rw [h14] at e14 hX
    obtain ⟨rfl, hw⟩ := e14
    refine gx_if_eq (pc := 209) 220 dX10_readsSecret_209 (by decide) (fun c7 => ?_) (fun c7 => ?_)
    · refine gx_iconst (pc := 220) (v := 0) dX10_readsSecret_220 (by decide) ?_
      exact m_retz (pc := 221) rfl (by decide) dX10_readsSecret_221 (⟨D14, by rw [← hX]; exact ⟨rfl, hw⟩⟩)
    · exact absurd rfl c7
  | inr u =>
    rw [h14] at e14 hX
    obtain ⟨rfl, S14⟩ := e14
    rw [rB_r] at hX
    refine gx_if_eq (pc := 209) 220 dX10_readsSecret_209 (by decide) (fun c7 => ?_) (fun c7 => ?_)
    · exact absurd c7 (by decide)
    · refine gx_aload_n (pc := 212) dX10_readsSecret_212 rfl ?_
      refine gx_iload_n (pc := 213) dX10_readsSecret_213 rfl ?_
      refine kX10_348 (pc := 214) rfl (c_readsKnowers (d := d - 1) hb (by omega) S14 P n (by rw [A14, hB4]; exact hP) hP6 hn10 hn20) (by omega) (Nat.le_of_ble_eq_true rfl) dX10_readsSecret_214 (fun r15 σ15 e15 => ?_)
      obtain ⟨D15, e15⟩ := e15
      have D16 := D14.tr D15
      rw [show σ14.2.2.2 = σ.2.2.2 by rw [A14, hBL]] at e15
      cases h15 : spSome t z (spPn σ.2.2.2 1 P) (z + 1) 0 u with
      | inl f =>
        rw [h15] at e15 hX
        obtain ⟨rfl, hw⟩ := e15
        refine gx_if_ne (pc := 217) 222 dX10_readsSecret_217 (by decide) (fun c8 => ?_) (fun c8 => ?_)
        · exact absurd rfl c8
        · refine gx_iconst (pc := 220) (v := 0) dX10_readsSecret_220 (by decide) ?_
          exact m_retz (pc := 221) rfl (by decide) dX10_readsSecret_221 (⟨D16, by rw [← hX]; exact ⟨rfl, hw⟩⟩)
      | inr w =>
        rw [h15] at e15 hX
        obtain ⟨rfl, S16, A16⟩ := e15
        rw [rB_r] at hX
        rw [A14] at A16
        refine gx_if_ne (pc := 217) 222 dX10_readsSecret_217 (by decide) (fun c8 => ?_) (fun c8 => ?_)
        · refine gx_aload_n (pc := 222) dX10_readsSecret_222 rfl ?_
          refine m_getA (pc := 223) rfl fX10_47 rfl (by decide) dX10_readsSecret_223 ?_
          refine gx_iload_n (pc := 226) dX10_readsSecret_226 rfl ?_
          refine gx_iconst (pc := 227) (v := 0) dX10_readsSecret_227 (by decide) ?_
          refine m_iast (pc := 228) hb 21 (n) 20 rfl (by decide) rfl (by first | rfl | simp only [gx_lit, nI_add, pk_mul]) (by omega) (by decide) dX10_readsSecret_228 ?_
          have S17 := S16.mA (j := 21) (by decide) n 0
          have D17 : rD σ (mA σ15 21 n 0) := D16.tr (rD.A _ (own10 (by decide) (by decide) hn10) _)
          have A17 := mA_22 σ15 21 n 0
          rw [A16] at A17
          generalize mA σ15 21 n 0 = τ17 at *
          refine gx_aload_n (pc := 229) dX10_readsSecret_229 rfl ?_
          refine m_getA (pc := 230) rfl fX10_20 rfl (by decide) dX10_readsSecret_230 ?_
          refine gx_iload_n (pc := 233) dX10_readsSecret_233 rfl ?_
          refine gx_lload_n (pc := 234) dX10_readsSecret_234 rfl ?_
          refine m_last (pc := 235) hb 12 (n) 20 rfl (by decide) rfl (by first | rfl | simp only [gx_lit, nI_add, pk_mul]) (by omega) (by decide) dX10_readsSecret_235 ?_
          have S18 := S17.mB 12 n name
          have D18 : rD σ (mB τ17 12 n name) := D17.tr (rD.L _ (by simp [ownL, hn10]) _)
          have A18 := mB_22 τ17 12 n name
          rw [A17] at A18
          generalize mB τ17 12 n name = τ18 at *
          refine gx_aload_n (pc := 236) dX10_readsSecret_236 rfl ?_
          refine m_getA (pc := 237) rfl fX10_13 rfl (by decide) dX10_readsSecret_237 ?_
          refine gx_iconst (pc := 240) (v := 5) dX10_readsSecret_240 (by decide) ?_
          refine gx_dup2 (pc := 241) dX10_readsSecret_241 rfl rfl ?_
          refine m_iald (pc := 242) 10 (5) 8 rfl (by decide) rfl (by first | rfl | simp only [gx_lit, nI_add, pk_mul]) (by omega) (by decide) dX10_readsSecret_242 ?_
          rw [show τ18.2.2.1 10 5 = nI S by rw [A18]; show B.1 10 5 = _; rw [hB4]; exact hSS]
          refine gx_iconst (pc := 243) (v := 1) dX10_readsSecret_243 (by decide) ?_
          refine gx_iadd (pc := 244) dX10_readsSecret_244 ?_
          rw [nI_1]
          refine m_iast (pc := 245) hb 10 (5) 8 rfl (by decide) rfl (by first | rfl | simp only [gx_lit, nI_add, pk_mul]) (by omega) (by decide) dX10_readsSecret_245 ?_
          have S19 := S18.mA (j := 10) (by decide) 5 (nI (S + 1))
          have D19 : rD σ (mA τ18 10 5 (nI (S + 1))) := D18.tr (rD.A _ (by simp [own]) _)
          have A19 := mA_22 τ18 10 5 (nI (S + 1))
          rw [A18] at A19
          generalize mA τ18 10 5 (nI (S + 1)) = τ19 at *
          refine gx_aload_n (pc := 246) dX10_readsSecret_246 rfl ?_
          refine kX10_339 (pc := 247) rfl (c_closes (d := d - 1) hb (by omega) S19) (by omega) (Nat.le_of_ble_eq_true rfl) dX10_readsSecret_247 (fun r20 σ20 e20 => ?_)
          obtain ⟨K20, e20⟩ := e20
          cases h20 : spClo t z w.1 with
          | inl f =>
            rw [h20] at e20 hX
            obtain ⟨rfl, hw⟩ := e20
            exact m_retz (pc := 250) rfl (by decide) dX10_readsSecret_250 (⟨D19.K K20, by rw [← hX]; exact ⟨rfl, hw⟩⟩)
          | inr e =>
            rw [h20] at e20 hX
            obtain ⟨rfl, S20⟩ := e20
            exact m_retz (pc := 250) rfl (by decide) dX10_readsSecret_250 (⟨D19.K K20, by rw [← hX]; exact ⟨rfl, S20, by rw [K20.2.2, A19]⟩⟩)
        · exact absurd c8 (by decide)
theorem rs157 (hb : gxN G ≤ b) (hd : 5 ≤ d) (P S n : Nat) (hP : σ.2.2.1 10 4 = nI P) (hP6 : P ≤ 6) (hSS : σ.2.2.1 10 5 = nI S) (hS10 : S ≤ 10) (hn10 : 10 ≤ n) (hn20 : n < 20) (name : Int64) (B : dS) (hB4 : B.1 10 = σ.2.2.1 10) (hBL : B.2 = σ.2.2.2) {X : Sum Int32 (Nat × dS)} (i : Nat) (τ11 : mS) (hX : (rB (spOn t z σ.2.2.2 S i) (fun c => rB (spWord t z 79 c.1) (fun u => rB (spSome t z (spPn σ.2.2.2 1 P) (z + 1) 0 u) (fun w => rB (spClo t z w.1) (fun e => (.inr (e, dA (dL (dA (dA (dA B 19 n c.2) 20 n w.2) 21 n 0) 12 n name) 10 5 (nI (S + 1))) : Sum Int32 (Nat × dS))))))) = X) (S11 : tS t z i τ11) (D11 : rD σ τ11) (A11 : τ11.2.2 = B) : gxV G mX10_readsSecret d 0 0 157 [some (.ref b), some (.int (nI n)), some (.long name), none] [] (mput h b τ11) (mQi h b (fun r σ' => rD σ σ' ∧ rR X r σ' (fun a => tS t z a.1 σ' ∧ σ'.2.2 = a.2))) := by
  refine gx_aload_n (pc := 157) dX10_readsSecret_157 rfl ?_
  refine m_getA (pc := 158) rfl fX10_41 rfl (by decide) dX10_readsSecret_158 ?_
  refine gx_iload_n (pc := 161) dX10_readsSecret_161 rfl ?_
  refine gx_iconst (pc := 162) (v := (-1)) dX10_readsSecret_162 (by decide) ?_
  refine m_iast (pc := 163) hb 19 (n) 20 rfl (by decide) rfl (by first | rfl | simp only [gx_lit, nI_add, pk_mul]) (by omega) (by decide) dX10_readsSecret_163 ?_
  have S12 := S11.mA (j := 19) (by decide) n (-1)
  have D12 : rD σ (mA τ11 19 n (-1)) := D11.tr (rD.A _ (own10 (by decide) (by decide) hn10) _)
  have A12 := mA_22 τ11 19 n (-1)
  rw [A11] at A12
  generalize mA τ11 19 n (-1) = τ12 at *
  refine gx_aload_n (pc := 164) dX10_readsSecret_164 rfl ?_
  refine gx_ldc2 (pc := 165) q2111 dX10_readsSecret_165 ?_
  refine kX10_231 (pc := 168) rfl (c_isWord (d := d - 1) S12 419) (by omega) (Nat.le_of_ble_eq_true rfl) dX10_readsSecret_168 (fun r13 σ13 e13 => ?_)
  obtain ⟨rfl, hσ⟩ := e13
  subst σ13
  refine gx_if_eq (pc := 171) 202 dX10_readsSecret_171 (by decide) (fun c7 => ?_) (fun c7 => ?_)
  · rw [show spOn t z σ.2.2.2 S i = .inr (i, -1) by rw [spOn, zi_eq0 c7]; rfl] at hX
    exact rs202 hb hd P S n hP hP6 hSS hn10 hn20 name _ (by exact hB4) (by exact hBL) (i, -1) _ hX S12 D12 A12
  · rw [show spOn t z σ.2.2.2 S i = rB (spNd t z (i + 1) (spSn σ.2.2.2 1 S (tkK t z (i + 1)).2.2.2.1)) (fun k => .inr (i + 1 + 1, nI k)) by rw [spOn, if_pos (zi_ne0 c7)]] at hX
    refine gx_aload_n (pc := 174) dX10_readsSecret_174 rfl ?_
    refine kX10_246 (pc := 175) rfl (c_next (d := d - 1) hb (by omega) S12) (by omega) (Nat.le_of_ble_eq_true rfl) dX10_readsSecret_175 (fun σ1 e1 => ?_)
    subst σ1
    have S13 := S12.nx
    have D13 := D12.K (rK.tk τ12 (tkK t z (i + 1)))
    have A13 := (tkP_22 τ12 (tkK t z (i + 1))).trans A12
    generalize tkP τ12 (tkK t z (i + 1)) = τ13 at *
    refine gx_aload_n (pc := 178) dX10_readsSecret_178 rfl ?_
    refine gx_iconst (pc := 179) (v := 1) dX10_readsSecret_179 (by decide) ?_
    refine kX10_345 (pc := 180) rfl (c_needsSecret (d := d - 1) hb (by omega) S13 1 S (by decide) (by rw [A13]; show B.1 10 5 = _; rw [hB4]; exact hSS) hS10) (by omega) (Nat.le_of_ble_eq_true rfl) dX10_readsSecret_180 (fun r14 σ14 e14 => ?_)
    obtain ⟨K14, S14, e14⟩ := e14
    rw [show τ13.2.2.2 = σ.2.2.2 by rw [A13]; exact hBL] at e14
    have D14 := D13.K K14
    have A14 := K14.2.2.trans A13
    cases h14 : spNd t z (i + 1) (spSn σ.2.2.2 1 S (tkK t z (i + 1)).2.2.2.1) with
    | inl f =>
      rw [h14] at e14 hX
      obtain ⟨rfl, hw⟩ := e14
      refine gx_if_ne (pc := 183) 188 dX10_readsSecret_183 (by decide) (fun c8 => ?_) (fun c8 => ?_)
      · exact absurd rfl c8
      · refine gx_iconst (pc := 186) (v := 0) dX10_readsSecret_186 (by decide) ?_
        exact m_retz (pc := 187) rfl (by decide) dX10_readsSecret_187 (⟨D14, by rw [← hX]; exact ⟨rfl, hw⟩⟩)
    | inr k =>
      rw [h14] at e14 hX
      obtain ⟨rfl, hk, g14⟩ := e14
      refine gx_if_ne (pc := 183) 188 dX10_readsSecret_183 (by decide) (fun c8 => ?_) (fun c8 => ?_)
      · refine gx_aload_n (pc := 188) dX10_readsSecret_188 rfl ?_
        refine m_getA (pc := 189) rfl fX10_41 rfl (by decide) dX10_readsSecret_189 ?_
        refine gx_iload_n (pc := 192) dX10_readsSecret_192 rfl ?_
        refine gx_aload_n (pc := 193) dX10_readsSecret_193 rfl ?_
        refine m_getI (pc := 194) rfl fX10_312 rfl (by decide) dX10_readsSecret_194 ?_
        rw [g14]
        refine m_iast (pc := 197) hb 19 (n) 20 rfl (by decide) rfl (by first | rfl | simp only [gx_lit, nI_add, pk_mul]) (by omega) (by decide) dX10_readsSecret_197 ?_
        have S15 := S14.mA (j := 19) (by decide) n (nI k)
        have D15 : rD σ (mA σ14 19 n (nI k)) := D14.tr (rD.A _ (own10 (by decide) (by decide) hn10) _)
        have A15 := mA_22 σ14 19 n (nI k)
        rw [A14, dA_dA] at A15
        generalize mA σ14 19 n (nI k) = τ15 at *
        refine gx_aload_n (pc := 198) dX10_readsSecret_198 rfl ?_
        refine kX10_246 (pc := 199) rfl (c_next (d := d - 1) hb (by omega) S15) (by omega) (Nat.le_of_ble_eq_true rfl) dX10_readsSecret_199 (fun σ1 e1 => ?_)
        subst σ1
        exact rs202 hb hd P S n hP hP6 hSS hn10 hn20 name _ (by exact hB4) (by exact hBL) (i + 1 + 1, nI k) _ hX S15.nx (D15.K (rK.tk _ _)) A15
      · exact absurd c8 (by decide)
theorem rs94 (hb : gxN G ≤ b) (hd : 5 ≤ d) (P S n : Nat) (hP : σ.2.2.1 10 4 = nI P) (hP6 : P ≤ 6) (hSS : σ.2.2.1 10 5 = nI S) (hS10 : S ≤ 10) (hn10 : 10 ≤ n) (hn20 : n < 20) (name : Int64) (B : dS) (hB4 : B.1 10 = σ.2.2.1 10) (hBL : B.2 = σ.2.2.2) {X : Sum Int32 (Nat × dS)} (i : Nat) (τ4 : mS) (hX : rB (spWord t z 411 (i + 1)) (fun j => rB (spNd t z j (spPn σ.2.2.2 1 P (tkK t z j).2.2.2.1)) (fun o => rB (spBoth t z 1903978 1 99 (j + 1)) (fun a => rB (spOn t z σ.2.2.2 S a.1) (fun c => rB (spWord t z 79 c.1) (fun u => rB (spSome t z (spPn σ.2.2.2 1 P) (z + 1) 0 u) (fun w => rB (spClo t z w.1) (fun e =>
      .inr (e, dA (dL (dA (dA (dA (dA (dA B 17 n (nI o)) 18 n a.2) 19 n c.2) 20 n w.2) 21 n 0) 12 n name) 10 5 (nI (S + 1))))))))))= X) (S4 : tS t z i τ4) (D4 : rD σ τ4) (A4 : τ4.2.2 = B) : gxV G mX10_readsSecret d 0 0 94 [some (.ref b), some (.int (nI n)), some (.long name), none] [] (mput h b τ4) (mQi h b (fun r σ' => rD σ σ' ∧ rR X r σ' (fun a => tS t z a.1 σ' ∧ σ'.2.2 = a.2))) := by
  refine gx_aload_n (pc := 94) dX10_readsSecret_94 rfl ?_
  refine kX10_246 (pc := 95) rfl (c_next (d := d - 1) hb (by omega) S4) (by omega) (Nat.le_of_ble_eq_true rfl) dX10_readsSecret_95 (fun σ1 e1 => ?_)
  subst σ1
  have S5 := S4.nx
  have D5 := D4.K (rK.tk τ4 (tkK t z (i + 1)))
  have A5 : (tkP τ4 (tkK t z (i + 1))).2.2 = B := A4
  generalize tkP τ4 (tkK t z (i + 1)) = τ5 at *
  refine gx_aload_n (pc := 98) dX10_readsSecret_98 rfl ?_
  refine gx_ldc2 (pc := 99) q2109 dX10_readsSecret_99 ?_
  refine kX10_315 (pc := 102) rfl (c_needsWord (d := d - 1) hb (by omega) S5 411) (by omega) (Nat.le_of_ble_eq_true rfl) dX10_readsSecret_102 (fun r6 σ6 e6 => ?_)
  obtain ⟨K6, e6⟩ := e6
  cases h6 : spWord t z 411 (i + 1) with
  | inl f =>
    rw [h6] at e6 hX
    obtain ⟨rfl, hw⟩ := e6
    refine gx_if_eq (pc := 105) 116 dX10_readsSecret_105 (by decide) (fun c4 => ?_) (fun c4 => ?_)
    · refine gx_iconst (pc := 116) (v := 0) dX10_readsSecret_116 (by decide) ?_
      exact m_retz (pc := 117) rfl (by decide) dX10_readsSecret_117 (⟨D5.K K6, by rw [← hX]; exact ⟨rfl, hw⟩⟩)
    · exact absurd rfl c4
  | inr j =>
    rw [h6] at e6 hX
    obtain ⟨rfl, S6⟩ := e6
    rw [rB_r] at hX
    have D6 := D5.K K6
    have A6 := K6.2.2.trans A5
    refine gx_if_eq (pc := 105) 116 dX10_readsSecret_105 (by decide) (fun c4 => ?_) (fun c4 => ?_)
    · exact absurd c4 (by decide)
    · refine gx_aload_n (pc := 108) dX10_readsSecret_108 rfl ?_
      refine gx_iconst (pc := 109) (v := 1) dX10_readsSecret_109 (by decide) ?_
      refine kX10_342 (pc := 110) rfl (c_needsPerson (d := d - 1) hb (by omega) S6 1 P (by decide) (by rw [A6, hB4]; exact hP) hP6) (by omega) (Nat.le_of_ble_eq_true rfl) dX10_readsSecret_110 (fun r7 σ7 e7 => ?_)
      obtain ⟨K7, S7, e7⟩ := e7
      rw [show σ6.2.2.2 = σ.2.2.2 by rw [A6]; exact hBL] at e7
      have D7 := D6.K K7
      have A7 := K7.2.2.trans A6
      cases h7 : spNd t z j (spPn σ.2.2.2 1 P (tkK t z j).2.2.2.1) with
      | inl f =>
        rw [h7] at e7 hX
        obtain ⟨rfl, hw⟩ := e7
        refine gx_if_ne (pc := 113) 118 dX10_readsSecret_113 (by decide) (fun c5 => ?_) (fun c5 => ?_)
        · exact absurd rfl c5
        · refine gx_iconst (pc := 116) (v := 0) dX10_readsSecret_116 (by decide) ?_
          exact m_retz (pc := 117) rfl (by decide) dX10_readsSecret_117 (⟨D7, by rw [← hX]; exact ⟨rfl, hw⟩⟩)
      | inr o =>
        rw [h7] at e7 hX
        obtain ⟨rfl, ho, g7⟩ := e7
        rw [rB_r] at hX
        refine gx_if_ne (pc := 113) 118 dX10_readsSecret_113 (by decide) (fun c5 => ?_) (fun c5 => ?_)
        · refine gx_aload_n (pc := 118) dX10_readsSecret_118 rfl ?_
          refine m_getA (pc := 119) rfl fX10_35 rfl (by decide) dX10_readsSecret_119 ?_
          refine gx_iload_n (pc := 122) dX10_readsSecret_122 rfl ?_
          refine gx_aload_n (pc := 123) dX10_readsSecret_123 rfl ?_
          refine m_getI (pc := 124) rfl fX10_312 rfl (by decide) dX10_readsSecret_124 ?_
          rw [g7]
          refine m_iast (pc := 127) hb 17 (n) 20 rfl (by decide) rfl (by first | rfl | simp only [gx_lit, nI_add, pk_mul]) (by omega) (by decide) dX10_readsSecret_127 ?_
          have S8 := S7.mA (j := 17) (by decide) n (nI o)
          have D8 : rD σ (mA σ7 17 n (nI o)) := D7.tr (rD.A _ (own10 (by decide) (by decide) hn10) _)
          have A8 := mA_22 σ7 17 n (nI o)
          rw [A7] at A8
          generalize mA σ7 17 n (nI o) = τ8 at *
          refine gx_aload_n (pc := 128) dX10_readsSecret_128 rfl ?_
          refine kX10_246 (pc := 129) rfl (c_next (d := d - 1) hb (by omega) S8) (by omega) (Nat.le_of_ble_eq_true rfl) dX10_readsSecret_129 (fun σ1 e1 => ?_)
          subst σ1
          have S9 := S8.nx
          have D9 := D8.K (rK.tk τ8 (tkK t z (j + 1)))
          have A9 := (tkP_22 τ8 (tkK t z (j + 1))).trans A8
          generalize tkP τ8 (tkK t z (j + 1)) = τ9 at *
          refine gx_aload_n (pc := 132) dX10_readsSecret_132 rfl ?_
          refine gx_ldc2 (pc := 133) q2110 dX10_readsSecret_133 ?_
          refine gx_iconst (pc := 136) (v := 1) dX10_readsSecret_136 (by decide) ?_
          refine gx_bipush (pc := 137) (v := 99) dX10_readsSecret_137 (by decide) ?_
          refine kX10_335 (pc := 139) rfl (c_needsBoth (d := d - 1) hb (by omega) S9 1903978 1 99) (by omega) (Nat.le_of_ble_eq_true rfl) dX10_readsSecret_139 (fun r10 σ10 e10 => ?_)
          obtain ⟨K10, e10⟩ := e10
          have D10 := D9.K K10
          have A10 := K10.2.2.trans A9
          cases h10 : spBoth t z 1903978 1 99 (j + 1) with
          | inl f =>
            rw [h10] at e10 hX
            obtain ⟨rfl, hw⟩ := e10
            refine gx_if_ne (pc := 142) 147 dX10_readsSecret_142 (by decide) (fun c6 => ?_) (fun c6 => ?_)
            · exact absurd rfl c6
            · refine gx_iconst (pc := 145) (v := 0) dX10_readsSecret_145 (by decide) ?_
              exact m_retz (pc := 146) rfl (by decide) dX10_readsSecret_146 (⟨D10, by rw [← hX]; exact ⟨rfl, hw⟩⟩)
          | inr a =>
            rw [h10] at e10 hX
            obtain ⟨rfl, S10, g10⟩ := e10
            rw [rB_r] at hX
            refine gx_if_ne (pc := 142) 147 dX10_readsSecret_142 (by decide) (fun c6 => ?_) (fun c6 => ?_)
            · refine gx_aload_n (pc := 147) dX10_readsSecret_147 rfl ?_
              refine m_getA (pc := 148) rfl fX10_38 rfl (by decide) dX10_readsSecret_148 ?_
              refine gx_iload_n (pc := 151) dX10_readsSecret_151 rfl ?_
              refine gx_aload_n (pc := 152) dX10_readsSecret_152 rfl ?_
              refine m_getI (pc := 153) rfl fX10_312 rfl (by decide) dX10_readsSecret_153 ?_
              rw [g10]
              refine m_iast (pc := 156) hb 18 (n) 20 rfl (by decide) rfl (by first | rfl | simp only [gx_lit, nI_add, pk_mul]) (by omega) (by decide) dX10_readsSecret_156 ?_
              have S11 := S10.mA (j := 18) (by decide) n a.2
              have D11 : rD σ (mA σ10 18 n a.2) := D10.tr (rD.A _ (own10 (by decide) (by decide) hn10) _)
              have A11 := mA_22 σ10 18 n a.2
              rw [A10] at A11
              generalize mA σ10 18 n a.2 = τ11 at *
              exact rs157 hb hd P S n hP hP6 hSS hS10 hn10 hn20 name _ (by exact hB4) (by exact hBL) a.1 _ hX S11 D11 A11
            · exact absurd c6 (by decide)
        · exact absurd c5 (by decide)
theorem c_readsSecret (hb : gxN G ≤ b) (hd : 5 ≤ d) (hS : tS t z i σ) (P S : Nat) (hP : σ.2.2.1 10 4 = nI P) (hP6 : P ≤ 6) (hSS : σ.2.2.1 10 5 = nI S) (hS10 : S ≤ 10) : mMi G mX10_readsSecret d [.ref b] h b σ (fun r σ' => rD σ σ' ∧ rR (spRS t z P S σ.2.2 i) r σ' (fun a => tS t z a.1 σ' ∧ σ'.2.2 = a.2)) := by
  refine gxM_of rfl (Nat.le_of_ble_eq_true rfl) rfl ?_
  generalize hX : spRS t z P S σ.2.2 i = X
  refine gx_bipush (pc := 0) (v := 10) dX10_readsSecret_0 (by decide) ?_
  refine gx_aload_n (pc := 2) dX10_readsSecret_2 rfl ?_
  refine m_getA (pc := 3) rfl fX10_13 rfl (by decide) dX10_readsSecret_3 ?_
  refine gx_iconst (pc := 6) (v := 5) dX10_readsSecret_6 (by decide) ?_
  refine m_iald (pc := 7) 10 (5) 8 rfl (by decide) rfl (by first | rfl | simp only [gx_lit, nI_add, pk_mul]) (by omega) (by decide) dX10_readsSecret_7 ?_
  rw [hSS]
  refine gx_iadd (pc := 8) dX10_readsSecret_8 ?_
  rw [show (10 : Int32) + nI S = nI (10 + S) from nI_add 10 S]
  refine gx_istore_n (pc := 9) dX10_readsSecret_9 (by decide) rfl ?_
  refine gx_iload_n (pc := 10) dX10_readsSecret_10 rfl ?_
  refine gx_bipush (pc := 11) (v := 20) dX10_readsSecret_11 (by decide) ?_
  refine gx_icmp_ne (pc := 13) 22 dX10_readsSecret_13 (by decide) (fun c1 => ?_) (fun c1 => ?_)
  · have hS' : S ≠ 10 := fun e => c1 (by rw [e]; rfl)
    have hS9 : S < 10 := by omega
    rw [spRS, if_neg hS'] at hX
    obtain ⟨n, hn⟩ : ∃ n, n = 10 + S := ⟨_, rfl⟩
    have hn10 : 10 ≤ n := by omega
    have hn20 : n < 20 := by omega
    rw [← hn] at hX ⊢
    refine gx_aload_n (pc := 22) dX10_readsSecret_22 rfl ?_
    refine kX10_246 (pc := 23) rfl (c_next (d := d - 1) hb (by omega) hS) (by omega) (Nat.le_of_ble_eq_true rfl) dX10_readsSecret_23 (fun σ1 e1 => ?_)
    subst σ1
    have S1 := hS.nx
    have K1 : rK σ (tkP σ (tkK t z (i + 1))) := rK.tk _ _
    generalize hτ1 : tkP σ (tkK t z (i + 1)) = τ1 at *
    have A1 : τ1.2.2 = σ.2.2 := K1.2.2
    refine gx_aload_n (pc := 26) dX10_readsSecret_26 rfl ?_
    refine kX10_332 (pc := 27) rfl (c_isNew (d := d - 1) hb (by omega) S1 P S (by rw [K1.T]; exact hP) hP6 (by rw [K1.T]; exact hSS) hS10) (by omega) (Nat.le_of_ble_eq_true rfl) dX10_readsSecret_27 (fun r2 σ2 e2 => ?_)
    obtain ⟨K2, S2, e2⟩ := e2
    rw [A1] at e2
    cases hs : spNew t z σ.2.2.2 P S (i + 1) with
    | inl f =>
      rw [hs] at e2 hX
      obtain ⟨rfl, hw⟩ := e2
      refine gx_if_ne (pc := 30) 35 dX10_readsSecret_30 (by decide) (fun c2 => ?_) (fun c2 => ?_)
      · exact absurd rfl c2
      · refine gx_iconst (pc := 33) (v := 0) dX10_readsSecret_33 (by decide) ?_
        exact m_retz (pc := 34) rfl (by decide) dX10_readsSecret_34 (⟨(K1.tr K2).D, by rw [← hX]; exact ⟨rfl, hw⟩⟩)
    | inr u =>
      rw [hs] at e2 hX
      obtain ⟨rfl, hw⟩ := e2
      subst hw
      rw [rB_r] at hX
      refine gx_if_ne (pc := 30) 35 dX10_readsSecret_30 (by decide) (fun c2 => ?_) (fun c2 => ?_)
      · refine gx_aload_n (pc := 35) dX10_readsSecret_35 rfl ?_
        refine m_getW (pc := 36) rfl fX10_193 dX10_readsSecret_36 ?_
        rw [S1.w]
        refine gx_lstore_n (pc := 39) dX10_readsSecret_39 (by decide) rfl ?_
        refine gx_aload_n (pc := 40) dX10_readsSecret_40 rfl ?_
        refine kX10_246 (pc := 41) rfl (c_next (d := d - 1) hb (by omega) S1) (by omega) (Nat.le_of_ble_eq_true rfl) dX10_readsSecret_41 (fun σ1 e1 => ?_)
        subst σ1
        have S3 := S1.nx
        have K3 : rK σ (tkP σ2 (tkK t z (i + 1 + 1))) := K1.tr (rK.tk _ _)
        generalize hτ3 : tkP σ2 (tkK t z (i + 1 + 1)) = τ3 at *
        generalize hnm : (tkK t z (i + 1)).2.2.2.1 = name at *
        have K78 : ∀ v, v = spTru (tkK t z (i + 1 + 1)) → gxV G mX10_readsSecret d 0 0 78 [some (.ref b), some (.int (nI n)), some (.long name), none] [.int v, .int (nI n), .ref (b + moff 16)] (mput h b τ3) (mQi h b (fun r σ' => rD σ σ' ∧ rR X r σ' (fun a => tS t z a.1 σ' ∧ σ'.2.2 = a.2))) := by
          intro v hv
          rw [← hv] at hX
          refine m_iast (pc := 78) hb 16 (n) 20 rfl (by decide) rfl (by first | rfl | simp only [gx_lit, nI_add, pk_mul]) (by omega) (by decide) dX10_readsSecret_78 ?_
          have S4 := S3.mA (j := 16) (by decide) n v
          have D4 : rD σ (mA τ3 16 n v) := K3.D.tr (rD.A _ (own10 (by decide) (by decide) hn10) v)
          have A4 : (mA τ3 16 n v).2.2 = dA σ.2.2 16 n v := by rw [mA_22, K3.2.2]
          have v4 : (mA τ3 16 n v).2.2.1 16 n = v := by rw [A4]; simp [dA, upA, upd]
          generalize mA τ3 16 n v = τ4 at *
          refine gx_aload_n (pc := 79) dX10_readsSecret_79 rfl ?_
          refine m_getA (pc := 80) rfl fX10_32 rfl (by decide) dX10_readsSecret_80 ?_
          refine gx_iload_n (pc := 83) dX10_readsSecret_83 rfl ?_
          refine m_iald (pc := 84) 16 (n) 20 rfl (by decide) rfl (by first | rfl | simp only [gx_lit, nI_add, pk_mul]) (by omega) (by decide) dX10_readsSecret_84 ?_
          rw [v4]
          refine gx_if_ge (pc := 85) 94 dX10_readsSecret_85 (by decide) (fun c3 => ?_) (fun c3 => ?_)
          · have n3 : ¬ v < 0 := Int32.not_lt.mpr c3
            rw [if_neg n3] at hX
            exact rs94 hb hd P S n hP hP6 hSS hS10 hn10 hn20 name _ (by rfl) (by rfl) (i + 1 + 1) _ hX S4 D4 A4
          · have n3 : v < 0 := Int32.not_le.mp c3
            rw [if_pos n3] at hX
            refine gx_aload_n (pc := 88) dX10_readsSecret_88 rfl ?_
            refine gx_iconst (pc := 89) (v := 1) dX10_readsSecret_89 (by decide) ?_
            refine kX10_239 (pc := 90) rfl (c_fails (d := d - 1) hb S4 1) (by omega) (Nat.le_of_ble_eq_true rfl) dX10_readsSecret_90 (fun r1 σ1 e1 => ?_)
            obtain ⟨rfl, hσ⟩ := e1
            subst σ1
            exact m_retz (pc := 93) rfl (by decide) dX10_readsSecret_93 (⟨D4.K (rK.I _ rfl (by decide) _), by rw [← hX]; exact ⟨rfl, mI_eq _ _ _⟩⟩)
        refine gx_aload_n (pc := 44) dX10_readsSecret_44 rfl ?_
        refine m_getA (pc := 45) rfl fX10_32 rfl (by decide) dX10_readsSecret_45 ?_
        refine gx_iload_n (pc := 48) dX10_readsSecret_48 rfl ?_
        refine gx_aload_n (pc := 49) dX10_readsSecret_49 rfl ?_
        refine gx_ldc2 (pc := 50) q2124 dX10_readsSecret_50 ?_
        refine kX10_231 (pc := 53) rfl (c_isWord (d := d - 1) S3 407354) (by omega) (Nat.le_of_ble_eq_true rfl) dX10_readsSecret_53 (fun r1 σ1 e1 => ?_)
        obtain ⟨rfl, hσ⟩ := e1
        subst σ1
        refine gx_if_eq (pc := 56) 63 dX10_readsSecret_56 (by decide) (fun k1 => ?_) (fun k1 => ?_)
        · refine gx_aload_n (pc := 63) dX10_readsSecret_63 rfl ?_
          refine gx_ldc2 (pc := 64) q2125 dX10_readsSecret_64 ?_
          refine kX10_231 (pc := 67) rfl (c_isWord (d := d - 1) S3 3217595) (by omega) (Nat.le_of_ble_eq_true rfl) dX10_readsSecret_67 (fun r1 σ1 e1 => ?_)
          obtain ⟨rfl, hσ⟩ := e1
          subst σ1
          refine gx_if_eq (pc := 70) 77 dX10_readsSecret_70 (by decide) (fun k2 => ?_) (fun k2 => ?_)
          · refine gx_iconst (pc := 77) (v := (-1)) dX10_readsSecret_77 (by decide) ?_
            exact K78 _ (by rw [spTru, zi_eq0 k1, zi_eq0 k2]; rfl)
          · refine gx_iconst (pc := 73) (v := 1) dX10_readsSecret_73 (by decide) ?_
            refine gx_goto (pc := 74) 78 dX10_readsSecret_74 (by decide) ?_
            exact K78 _ (by rw [spTru, zi_eq0 k1, zi_ne0 k2]; rfl)
        · refine gx_iconst (pc := 59) (v := 0) dX10_readsSecret_59 (by decide) ?_
          refine gx_goto (pc := 60) 78 dX10_readsSecret_60 (by decide) ?_
          exact K78 _ (by rw [spTru, zi_ne0 k1]; rfl)
      · exact absurd c2 (by decide)
  · have hS' : S = 10 := by have := (nI_eq (a := 10 + S) (b := 20) (by omega) (by decide)).mp c1; omega
    rw [spRS, if_pos hS'] at hX
    refine gx_aload_n (pc := 16) dX10_readsSecret_16 rfl ?_
    refine gx_iconst (pc := 17) (v := 5) dX10_readsSecret_17 (by decide) ?_
    refine kX10_239 (pc := 18) rfl (c_fails (d := d - 1) hb hS 5) (by omega) (Nat.le_of_ble_eq_true rfl) dX10_readsSecret_18 (fun r1 σ1 e1 => ?_)
    obtain ⟨rfl, hσ⟩ := e1
    subst σ1
    exact m_retz (pc := 21) rfl (by decide) dX10_readsSecret_21 (⟨(rK.I _ rfl (by decide) _).D, by rw [← hX]; exact ⟨rfl, mI_eq _ _ _⟩⟩)
end NI
