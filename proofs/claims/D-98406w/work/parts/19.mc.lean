/-! ===== MODEL C: worked ===== -/
set_option maxRecDepth 100000
def codesL (f : Nat → Int32) : Nat → Nat → List Int32
  | _, 0 => []
  | k, n + 1 => f k :: codesL f (k + 1) n
/-- arrays alike but for the nine of the worth's working -/
def wkE (A B : Nat → Nat → Int32) : Prop := ∀ j, j < 31 ∨ 39 < j → B j = A j
theorem upA_ne {A : Nat → Nat → Int32} {j k : Nat} {v : Int32} {q : Nat} (h : q ≠ j) : upA A j k v q = A q := by simp [upA, h]
theorem wkE.up {A B : Nat → Nat → Int32} (h : wkE A B) {j : Nat} (hj : 31 ≤ j ∧ j ≤ 39) {k : Nat} {v : Int32} : wkE A (upA B j k v) := fun q hq => by
  rw [upA_ne (by omega)]; exact h q hq
theorem wkE.rf {A : Nat → Nat → Int32} : wkE A A := fun _ _ => rfl
theorem wkE.tr {A B C : Nat → Nat → Int32} (h : wkE A B) (h2 : wkE B C) : wkE A C := fun j hj => (h2 j hj).trans (h j hj)
theorem wkE.opens {A B : Nat → Nat → Int32} (h : wkE A B) (k : Nat) : wkE A (opensA B k) := (((((h.up (by omega)).up (by omega)).up (by omega)).up (by omega)).up (by omega))
theorem wkE.sums {A B : Nat → Nat → Int32} (h : wkE A B) (k : Nat) : wkE A (sumsA B k) := ((h.up (by omega)).up (by omega))
theorem wkE.tests {A B : Nat → Nat → Int32} (h : wkE A B) (k : Nat) : wkE A (testsA B k) := ((((h.sums k).up (by omega)).up (by omega)).up (by omega)).up (by omega)
theorem wkE.putN {A B : Nat → Nat → Int32} (h : wkE A B) (q : Int32 × Nat) : wkE A (putN B q).1 := h.up (by omega)
theorem wkE.step {A : Nat → Nat → Int32} {q : (Nat → Nat → Int32) × Nat} (h : wkE A q.1) (c : Int32) : wkE A (stepA q c).1 := by
  unfold stepA
  split
  · exact (h.up (by omega)).opens _
  split
  · exact (h.sums _).up (by omega)
  split
  · exact h.up (by omega)
  split
  · exact ((((h.sums _).up (by omega)).up (by omega)).up (by omega)).up (by omega)
  split
  · exact (h.tests _).up (by omega)
  split
  · exact (h.tests _).putN _
  · exact h.putN _
theorem wkE.fold {A : Nat → Nat → Int32} : ∀ (l : List Int32) {q : (Nat → Nat → Int32) × Nat}, wkE A q.1 → wkE A (l.foldl stepA q).1
  | [], _, h => h
  | c :: l, _, h => wkE.fold l (h.step c)
theorem wkE.wk (A : Nat → Nat → Int32) (l : List Int32) : wkE A (spWk A l) := (wkE.fold l (wkE.rf.opens 0)).tests 0
section MC
variable {G : gxG} {d : Nat} {h : gxH} {b : Nat} {σ : mS}
theorem c_worked (hb : gxN G ≤ b) (hd : 2 ≤ d) (f n : Nat) (hf : σ.2.2.1 25 0 = nI f) (ht : σ.2.2.1 26 0 = nI (f + n)) (hn : f + n ≤ 2000) (hok : okRun (opensA σ.2.2.1 0, 0) (codesL (σ.2.2.1 27) f n)) : mMi G mX10_worked d [.ref b, .int 0] h b σ (fun r σ' => r = spWk σ.2.2.1 (codesL (σ.2.2.1 27) f n) 31 0 ∧ σ' = mSA σ (spWk σ.2.2.1 (codesL (σ.2.2.1 27) f n))) := by
  refine gxM_of rfl (Nat.le_of_ble_eq_true rfl) rfl ?_
  refine gx_iconst (pc := 0) (v := 0) dX10_worked_0 (by decide) ?_
  refine gx_istore_n (pc := 1) dX10_worked_1 (by decide) rfl ?_
  refine gx_aload_n (pc := 2) dX10_worked_2 rfl ?_
  refine gx_iconst (pc := 3) (v := 0) dX10_worked_3 (by decide) ?_
  refine kX10_256 (pc := 4) rfl (c_opens (d := d - 1) (k := 0) hb (by omega)) (by omega) (Nat.le_of_ble_eq_true rfl) dX10_worked_4 (fun σ1 h1 => ?_)
  refine gx_aload_n (pc := 7) dX10_worked_7 rfl ?_
  refine m_getA (pc := 8) rfl fX10_59 rfl (by decide) dX10_worked_8 ?_
  refine gx_iload_n (pc := 11) dX10_worked_11 rfl ?_
  refine m_iald (pc := 12) 25 (0) 2 rfl (by decide) rfl (by first | rfl | simp only [gx_lit, nI_add, pk_mul]) (by omega) (by decide) dX10_worked_12 ?_
  refine gx_istore_n (pc := 13) dX10_worked_13 (by decide) rfl ?_
  subst h1
  have L : ∀ (m k : Nat) (q : (Nat → Nat → Int32) × Nat) (x4 x5 : Option Value), k + m = f + n → wkE σ.2.2.1 q.1 → okRun q (codesL (σ.2.2.1 27) k m) → testsA ((codesL (σ.2.2.1 27) k m).foldl stepA q).1 0 = spWk σ.2.2.1 (codesL (σ.2.2.1 27) f n) → gxV G mX10_worked d 0 0 14 [some (.ref b), some (.int 0), some (.int (nI q.2)), some (.int (nI k)), x4, x5] [] (mput h b (mSA σ q.1)) (mQi h b (fun r σ' => r = spWk σ.2.2.1 (codesL (σ.2.2.1 27) f n) 31 0 ∧ σ' = mSA σ (spWk σ.2.2.1 (codesL (σ.2.2.1 27) f n)))) := by
    intro m
    induction m with
    | zero =>
      intro k q x4 x5 hk hq ho he
      refine gx_iload_n (pc := 14) dX10_worked_14 rfl ?_
      refine gx_aload_n (pc := 15) dX10_worked_15 rfl ?_
      refine m_getA (pc := 16) rfl fX10_62 rfl (by decide) dX10_worked_16 ?_
      refine gx_iload_n (pc := 19) dX10_worked_19 rfl ?_
      refine m_iald (pc := 20) 26 (0) 2 rfl (by decide) rfl (by first | rfl | simp only [gx_lit, nI_add, pk_mul]) (by omega) (by decide) dX10_worked_20 ?_
      refine gx_icmp_ge (pc := 21) 335 dX10_worked_21 (by decide) (fun c1 => ?_) (fun c1 => ?_)
      · refine gx_aload_n (pc := 335) dX10_worked_335 rfl ?_
        refine gx_iconst (pc := 336) (v := 0) dX10_worked_336 (by decide) ?_
        refine kX10_259 (pc := 337) rfl (c_tests (d := d - 1) (k := 0) hb (by omega) (by omega)) (by omega) (Nat.le_of_ble_eq_true rfl) dX10_worked_337 (fun σ1 h1 => ?_)
        subst h1
        refine gx_aload_n (pc := 340) dX10_worked_340 rfl ?_
        refine m_getA (pc := 341) rfl fX10_75 rfl (by decide) dX10_worked_341 ?_
        refine gx_iconst (pc := 344) (v := 0) dX10_worked_344 (by decide) ?_
        refine m_iald (pc := 345) 31 (0) 7 rfl (by decide) rfl (by first | rfl | simp only [gx_lit, nI_add, pk_mul]) (by omega) (by decide) dX10_worked_345 ?_
        exact m_ret (pc := 346) rfl dX10_worked_346 (⟨by rw [← he]; rfl, by rw [← he]; rfl⟩)
      · refine absurd ?_ c1
        show q.1 26 0 ≤ nI k
        rw [hq 26 (by omega), ht, ← hk]
        exact nI_le (by omega) (by omega)
    | succ m ih =>
      intro k q x4 x5 hk hq ho he
      obtain ⟨⟨h6, ho1, ho2, ho3⟩, ho4⟩ := ho
      obtain ⟨A, e⟩ := q
      dsimp only at hq ho1 ho2 h6
      have e27 : A 27 k = σ.2.2.1 27 k := by rw [hq 27 (by omega)]
      generalize hc : σ.2.2.1 27 k = c at *
      refine gx_iload_n (pc := 14) dX10_worked_14 rfl ?_
      refine gx_aload_n (pc := 15) dX10_worked_15 rfl ?_
      refine m_getA (pc := 16) rfl fX10_62 rfl (by decide) dX10_worked_16 ?_
      refine gx_iload_n (pc := 19) dX10_worked_19 rfl ?_
      refine m_iald (pc := 20) 26 (0) 2 rfl (by decide) rfl (by first | rfl | simp only [gx_lit, nI_add, pk_mul]) (by omega) (by decide) dX10_worked_20 ?_
      refine gx_icmp_ge (pc := 21) 335 dX10_worked_21 (by decide) (fun c1 => ?_) (fun c1 => ?_)
      · refine absurd c1 ?_
        show ¬ A 26 0 ≤ nI k
        rw [hq 26 (by omega), ht, ← hk]
        exact nI_ge (by omega) (by omega)
      · refine gx_aload_n (pc := 24) dX10_worked_24 rfl ?_
        refine m_getA (pc := 25) rfl fX10_65 rfl (by decide) dX10_worked_25 ?_
        refine gx_iload_n (pc := 28) dX10_worked_28 rfl ?_
        refine m_iald (pc := 29) 27 (k) 2000 rfl (by decide) rfl (by first | rfl | simp only [gx_lit, nI_add, pk_mul]) (by omega) (by decide) dX10_worked_29 ?_
        refine gx_istore (pc := 30) dX10_worked_30 (by decide) rfl ?_
        have hv : (mSA σ A).2.2.1 27 k = c := e27
        rw [hv]
        have N : ∀ (B : Nat → Nat → Int32) (e' : Nat) (x5 : Option Value), (B, e') = stepA (A, e) c → gxV G mX10_worked d 0 0 329 [some (.ref b), some (.int 0), some (.int (nI e')), some (.int (nI k)), some (.int c), x5] [] (mput h b (mSA σ B)) (mQi h b (fun r σ' => r = spWk σ.2.2.1 (codesL (σ.2.2.1 27) f n) 31 0 ∧ σ' = mSA σ (spWk σ.2.2.1 (codesL (σ.2.2.1 27) f n)))) := by
          intro B e' x5 hB
          refine gx_iincc (pc := 329) (c := 1) dX10_worked_329 rfl (by decide) (by decide) rfl ?_
          refine gx_goto (pc := 332) 14 dX10_worked_332 (by decide) ?_
          rw [nI_1]
          refine ih (k + 1) (B, e') _ _ (by omega) ?_ ?_ ?_
          · rw [hB]; exact wkE.step (q := (A, e)) hq c
          · rw [hB]; exact ho4
          · rw [hB, ← he]
            simp only [codesL, List.foldl_cons, hc]
        have N46 : (c = 28 ∨ c = 30) → gxV G mX10_worked d 0 0 46 [some (.ref b), some (.int 0), some (.int (nI e)), some (.int (nI k)), some (.int c), x5] [] (mput h b (mSA σ A)) (mQi h b (fun r σ' => r = spWk σ.2.2.1 (codesL (σ.2.2.1 27) f n) 31 0 ∧ σ' = mSA σ (spWk σ.2.2.1 (codesL (σ.2.2.1 27) f n)))) := by
          intro hcc
          have h61 := ho1 hcc
          refine gx_iincc (pc := 46) (c := 1) dX10_worked_46 rfl (by decide) (by decide) rfl ?_
          rw [nI_1]
          have K66 : ∀ r, r = zi (decide (c = 30)) → gxV G mX10_worked d 0 0 66 [some (.ref b), some (.int 0), some (.int (nI (e + 1))), some (.int (nI k)), some (.int c), x5] [.int r, .int (nI (e + 1)), .ref (b + moff 39)] (mput h b (mSA σ A)) (mQi h b (fun r σ' => r = spWk σ.2.2.1 (codesL (σ.2.2.1 27) f n) 31 0 ∧ σ' = mSA σ (spWk σ.2.2.1 (codesL (σ.2.2.1 27) f n)))) := by
            intro r hr
            subst hr
            refine m_iast (pc := 66) hb 39 ((e+1)) 7 rfl (by decide) rfl (by first | rfl | simp only [gx_lit, nI_add, pk_mul]) (by omega) (by decide) dX10_worked_66 ?_
            refine gx_aload_n (pc := 67) dX10_worked_67 rfl ?_
            refine gx_iload_n (pc := 68) dX10_worked_68 rfl ?_
            refine kX10_256 (pc := 69) rfl (c_opens (d := d - 1) (k := e + 1) hb (by omega)) (by omega) (Nat.le_of_ble_eq_true rfl) dX10_worked_69 (fun σ1 h1 => ?_)
            refine gx_goto (pc := 72) 329 dX10_worked_72 (by decide) ?_
            subst h1
            exact N _ _ _ (by simp only [stepA, if_pos hcc]; rfl)
          refine gx_aload_n (pc := 49) dX10_worked_49 rfl ?_
          refine m_getA (pc := 50) rfl fX10_99 rfl (by decide) dX10_worked_50 ?_
          refine gx_iload_n (pc := 53) dX10_worked_53 rfl ?_
          refine gx_iload (pc := 54) dX10_worked_54 rfl ?_
          refine gx_bipush (pc := 56) (v := 30) dX10_worked_56 (by decide) ?_
          refine gx_icmp_ne (pc := 58) 65 dX10_worked_58 (by decide) (fun c58 => ?_) (fun c58 => ?_)
          · refine gx_iconst (pc := 65) (v := 0) dX10_worked_65 (by decide) ?_
            exact K66 _ (by simp_all [zi])
          · refine gx_iconst (pc := 61) (v := 1) dX10_worked_61 (by decide) ?_
            refine gx_goto (pc := 62) 66 dX10_worked_62 (by decide) ?_
            exact K66 _ (by simp_all [zi])
        have K300 : ∀ (B : Nat → Nat → Int32) (e' : Nat) (v : Int32), e' ≤ 6 → putN B (v, e') = stepA (A, e) c → gxV G mX10_worked d 0 0 300 [some (.ref b), some (.int 0), some (.int (nI e')), some (.int (nI k)), some (.int c), some (.int v)] [] (mput h b (mSA σ B)) (mQi h b (fun r σ' => r = spWk σ.2.2.1 (codesL (σ.2.2.1 27) f n) 31 0 ∧ σ' = mSA σ (spWk σ.2.2.1 (codesL (σ.2.2.1 27) f n)))) := by
          intro B e' v he6 hB
          have K328 : ∀ r, r = (if B 38 e' = 0 then v else B 37 e' * v) → gxV G mX10_worked d 0 0 328 [some (.ref b), some (.int 0), some (.int (nI e')), some (.int (nI k)), some (.int c), some (.int v)] [.int r, .int (nI e'), .ref (b + moff 37)] (mput h b (mSA σ B)) (mQi h b (fun r σ' => r = spWk σ.2.2.1 (codesL (σ.2.2.1 27) f n) 31 0 ∧ σ' = mSA σ (spWk σ.2.2.1 (codesL (σ.2.2.1 27) f n)))) := by
            intro r hr
            subst hr
            refine m_iast (pc := 328) hb 37 (e') 7 rfl (by decide) rfl (by first | rfl | simp only [gx_lit, nI_add, pk_mul]) (by omega) (by decide) dX10_worked_328 ?_
            exact N _ _ _ hB
          refine gx_aload_n (pc := 300) dX10_worked_300 rfl ?_
          refine m_getA (pc := 301) rfl fX10_93 rfl (by decide) dX10_worked_301 ?_
          refine gx_iload_n (pc := 304) dX10_worked_304 rfl ?_
          refine gx_aload_n (pc := 305) dX10_worked_305 rfl ?_
          refine m_getA (pc := 306) rfl fX10_96 rfl (by decide) dX10_worked_306 ?_
          refine gx_iload_n (pc := 309) dX10_worked_309 rfl ?_
          refine m_iald (pc := 310) 38 (e') 7 rfl (by decide) rfl (by first | rfl | simp only [gx_lit, nI_add, pk_mul]) (by omega) (by decide) dX10_worked_310 ?_
          refine gx_if_ne (pc := 311) 319 dX10_worked_311 (by decide) (fun c311 => ?_) (fun c311 => ?_)
          · refine gx_aload_n (pc := 319) dX10_worked_319 rfl ?_
            refine m_getA (pc := 320) rfl fX10_93 rfl (by decide) dX10_worked_320 ?_
            refine gx_iload_n (pc := 323) dX10_worked_323 rfl ?_
            refine m_iald (pc := 324) 37 (e') 7 rfl (by decide) rfl (by first | rfl | simp only [gx_lit, nI_add, pk_mul]) (by omega) (by decide) dX10_worked_324 ?_
            refine gx_iload (pc := 325) dX10_worked_325 rfl ?_
            refine gx_imul (pc := 327) dX10_worked_327 ?_
            exact K328 _ (by simp_all [mSA])
          · refine gx_iload (pc := 314) dX10_worked_314 rfl ?_
            refine gx_goto (pc := 316) 328 dX10_worked_316 (by decide) ?_
            exact K328 _ (by simp_all [mSA])
        have W268 : ∀ (B : Nat → Nat → Int32) (e' : Nat) (v : Int32), e' ≤ 6 → putN B (popN B e' v) = stepA (A, e) c → gxV G mX10_worked d 0 0 268 [some (.ref b), some (.int 0), some (.int (nI e')), some (.int (nI k)), some (.int c), some (.int v)] [] (mput h b (mSA σ B)) (mQi h b (fun r σ' => r = spWk σ.2.2.1 (codesL (σ.2.2.1 27) f n) 31 0 ∧ σ' = mSA σ (spWk σ.2.2.1 (codesL (σ.2.2.1 27) f n)))) := by
          intro B e'
          induction e' with
          | zero =>
            intro v he6 hB
            refine gx_iload_n (pc := 268) dX10_worked_268 rfl ?_
            refine gx_if_le (pc := 269) 300 dX10_worked_269 (by decide) (fun c2 => ?_) (fun c2 => ?_)
            · exact K300 B 0 v (by omega) hB
            · exact absurd (by decide) c2
          | succ e' ih2 =>
            intro v he6 hB
            refine gx_iload_n (pc := 268) dX10_worked_268 rfl ?_
            refine gx_if_le (pc := 269) 300 dX10_worked_269 (by decide) (fun c2 => ?_) (fun c2 => ?_)
            · exact absurd c2 (nI_nle (by omega) (by omega))
            · refine gx_aload_n (pc := 272) dX10_worked_272 rfl ?_
              refine m_getA (pc := 273) rfl fX10_99 rfl (by decide) dX10_worked_273 ?_
              refine gx_iload_n (pc := 276) dX10_worked_276 rfl ?_
              refine m_iald (pc := 277) 39 ((e'+1)) 7 rfl (by decide) rfl (by first | rfl | simp only [gx_lit, nI_add, pk_mul]) (by omega) (by decide) dX10_worked_277 ?_
              refine gx_iconst (pc := 278) (v := 1) dX10_worked_278 (by decide) ?_
              refine gx_icmp_ne (pc := 279) 300 dX10_worked_279 (by decide) (fun c3 => ?_) (fun c3 => ?_)
              · refine K300 B (e' + 1) v (by omega) ?_
                rw [← hB]
                have c3' : ¬ B 39 (e' + 1) = 1 := c3
                simp only [popN, if_neg c3']
              · have c3' : B 39 (e' + 1) = 1 := c3
                have K292 : ∀ r, r = zi (decide (v = 0)) → gxV G mX10_worked d 0 0 292 [some (.ref b), some (.int 0), some (.int (nI (e' + 1))), some (.int (nI k)), some (.int c), some (.int v)] [.int r] (mput h b (mSA σ B)) (mQi h b (fun r σ' => r = spWk σ.2.2.1 (codesL (σ.2.2.1 27) f n) 31 0 ∧ σ' = mSA σ (spWk σ.2.2.1 (codesL (σ.2.2.1 27) f n)))) := by
                  intro r hr
                  subst hr
                  refine gx_istore (pc := 292) dX10_worked_292 (by decide) rfl ?_
                  refine gx_iincc (pc := 294) (c := (-1)) dX10_worked_294 rfl (by decide) (by decide) rfl ?_
                  refine gx_goto (pc := 297) 268 dX10_worked_297 (by decide) ?_
                  rw [pk_m1]
                  refine ih2 _ (by omega) ?_
                  rw [← hB]
                  simp only [popN, if_pos c3']
                refine gx_iload (pc := 282) dX10_worked_282 rfl ?_
                refine gx_if_ne (pc := 284) 291 dX10_worked_284 (by decide) (fun c284 => ?_) (fun c284 => ?_)
                · refine gx_iconst (pc := 291) (v := 0) dX10_worked_291 (by decide) ?_
                  exact K292 _ (by simp_all [zi])
                · refine gx_iconst (pc := 287) (v := 1) dX10_worked_287 (by decide) ?_
                  refine gx_goto (pc := 288) 292 dX10_worked_288 (by decide) ?_
                  exact K292 _ (by simp_all [zi])
        have K252 : c = 29 → ∀ x5 : Option Value, gxV G mX10_worked d 0 0 252 [some (.ref b), some (.int 0), some (.int (nI e)), some (.int (nI k)), some (.int c), x5] [] (mput h b (mSA σ A)) (mQi h b (fun r σ' => r = spWk σ.2.2.1 (codesL (σ.2.2.1 27) f n) 31 0 ∧ σ' = mSA σ (spWk σ.2.2.1 (codesL (σ.2.2.1 27) f n)))) := by
          intro hc29 x5
          obtain ⟨e1, rfl⟩ : ∃ e1, e = e1 + 1 := ⟨e - 1, by have := ho2 hc29; omega⟩
          refine gx_aload_n (pc := 252) dX10_worked_252 rfl ?_
          refine gx_iload_n (pc := 253) dX10_worked_253 rfl ?_
          refine kX10_259 (pc := 254) rfl (c_tests (d := d - 1) (k := e1 + 1) hb (by omega) (by omega)) (by omega) (Nat.le_of_ble_eq_true rfl) dX10_worked_254 (fun σ1 h1 => ?_)
          refine gx_aload_n (pc := 257) dX10_worked_257 rfl ?_
          refine m_getA (pc := 258) rfl fX10_75 rfl (by decide) dX10_worked_258 ?_
          refine gx_iload_n (pc := 261) dX10_worked_261 rfl ?_
          refine m_iald (pc := 262) 31 ((e1+1)) 7 rfl (by decide) rfl (by first | rfl | simp only [gx_lit, nI_add, pk_mul]) (by omega) (by decide) dX10_worked_262 ?_
          refine gx_istore (pc := 263) dX10_worked_263 (by decide) rfl ?_
          refine gx_iincc (pc := 265) (c := (-1)) dX10_worked_265 rfl (by decide) (by decide) rfl ?_
          subst h1
          rw [pk_m1]
          refine W268 (testsA A (e1 + 1)) e1 _ (by omega) ?_
          subst hc29
          simp only [stepA]
          rfl
        have K243 : ¬ (c = 28 ∨ c = 30) → ¬ (c = 20 ∨ c = 21) → ¬ c = 22 → ¬ (c = 24 ∨ c = 25) → ¬ (c = 26 ∨ c = 27) → ∀ v, v = (if 100 ≤ c then c - 100 else if c < 20 then A 40 c.toNatClampNeg else 0) → gxV G mX10_worked d 0 0 243 [some (.ref b), some (.int 0), some (.int (nI e)), some (.int (nI k)), some (.int c), x5] [.int v] (mput h b (mSA σ A)) (mQi h b (fun r σ' => r = spWk σ.2.2.1 (codesL (σ.2.2.1 27) f n) 31 0 ∧ σ' = mSA σ (spWk σ.2.2.1 (codesL (σ.2.2.1 27) f n)))) := by
          intro n1 n2 n3 n4 n5 v hv
          refine gx_istore (pc := 243) dX10_worked_243 (by decide) rfl ?_
          refine gx_iload (pc := 245) dX10_worked_245 rfl ?_
          refine gx_bipush (pc := 247) (v := 29) dX10_worked_247 (by decide) ?_
          refine gx_icmp_ne (pc := 249) 268 dX10_worked_249 (by decide) (fun c4 => ?_) (fun c4 => ?_)
          · refine W268 A e v (by omega) ?_
            simp only [stepA, if_neg n1, if_neg n2, if_neg n3, if_neg n4, if_neg n5, if_neg c4, hv]
          · exact K252 c4 _
        have K105 : ¬ (c = 28 ∨ c = 30) → ¬ (c = 20 ∨ c = 21) → gxV G mX10_worked d 0 0 105 [some (.ref b), some (.int 0), some (.int (nI e)), some (.int (nI k)), some (.int c), x5] [] (mput h b (mSA σ A)) (mQi h b (fun r σ' => r = spWk σ.2.2.1 (codesL (σ.2.2.1 27) f n) 31 0 ∧ σ' = mSA σ (spWk σ.2.2.1 (codesL (σ.2.2.1 27) f n)))) := by
          intro n1 n2
          refine gx_iload (pc := 105) dX10_worked_105 rfl ?_
          refine gx_bipush (pc := 107) (v := 22) dX10_worked_107 (by decide) ?_
          refine gx_icmp_ne (pc := 109) 123 dX10_worked_109 (by decide) (fun c3 => ?_) (fun c3 => ?_)
          · have K137 : (c = 24 ∨ c = 25) → gxV G mX10_worked d 0 0 137 [some (.ref b), some (.int 0), some (.int (nI e)), some (.int (nI k)), some (.int c), x5] [] (mput h b (mSA σ A)) (mQi h b (fun r σ' => r = spWk σ.2.2.1 (codesL (σ.2.2.1 27) f n) 31 0 ∧ σ' = mSA σ (spWk σ.2.2.1 (codesL (σ.2.2.1 27) f n)))) := by
              intro n4
              refine gx_aload_n (pc := 137) dX10_worked_137 rfl ?_
              refine gx_iload_n (pc := 138) dX10_worked_138 rfl ?_
              refine kX10_253 (pc := 139) rfl (c_sums (d := d - 1) hb e (by omega)) (by omega) (Nat.le_of_ble_eq_true rfl) dX10_worked_139 (fun σ1 h1 => ?_)
              subst h1
              refine gx_aload_n (pc := 142) dX10_worked_142 rfl ?_
              refine m_getA (pc := 143) rfl fX10_81 rfl (by decide) dX10_worked_143 ?_
              refine gx_iload_n (pc := 146) dX10_worked_146 rfl ?_
              refine gx_aload_n (pc := 147) dX10_worked_147 rfl ?_
              refine m_getA (pc := 148) rfl fX10_87 rfl (by decide) dX10_worked_148 ?_
              refine gx_iload_n (pc := 151) dX10_worked_151 rfl ?_
              refine m_iald (pc := 152) 35 (e) 7 rfl (by decide) rfl (by first | rfl | simp only [gx_lit, nI_add, pk_mul]) (by omega) (by decide) dX10_worked_152 ?_
              refine m_iast (pc := 153) hb 33 (e) 7 rfl (by decide) rfl (by first | rfl | simp only [gx_lit, nI_add, pk_mul]) (by omega) (by decide) dX10_worked_153 ?_
              refine gx_aload_n (pc := 154) dX10_worked_154 rfl ?_
              refine m_getA (pc := 155) rfl fX10_84 rfl (by decide) dX10_worked_155 ?_
              refine gx_iload_n (pc := 158) dX10_worked_158 rfl ?_
              refine gx_iload (pc := 159) dX10_worked_159 rfl ?_
              refine m_iast (pc := 161) hb 34 (e) 7 rfl (by decide) rfl (by first | rfl | simp only [gx_lit, nI_add, pk_mul]) (by omega) (by decide) dX10_worked_161 ?_
              refine gx_aload_n (pc := 162) dX10_worked_162 rfl ?_
              refine m_getA (pc := 163) rfl fX10_87 rfl (by decide) dX10_worked_163 ?_
              refine gx_iload_n (pc := 166) dX10_worked_166 rfl ?_
              refine gx_iconst (pc := 167) (v := 0) dX10_worked_167 (by decide) ?_
              refine m_iast (pc := 168) hb 35 (e) 7 rfl (by decide) rfl (by first | rfl | simp only [gx_lit, nI_add, pk_mul]) (by omega) (by decide) dX10_worked_168 ?_
              refine gx_aload_n (pc := 169) dX10_worked_169 rfl ?_
              refine m_getA (pc := 170) rfl fX10_90 rfl (by decide) dX10_worked_170 ?_
              refine gx_iload_n (pc := 173) dX10_worked_173 rfl ?_
              refine gx_bipush (pc := 174) (v := 20) dX10_worked_174 (by decide) ?_
              refine m_iast (pc := 176) hb 36 (e) 7 rfl (by decide) rfl (by first | rfl | simp only [gx_lit, nI_add, pk_mul]) (by omega) (by decide) dX10_worked_176 ?_
              refine gx_goto (pc := 177) 329 dX10_worked_177 (by decide) ?_
              exact N _ _ _ (by simp only [stepA, if_neg n1, if_neg n2, if_neg c3, if_pos n4]; rfl)
            have K180 : ¬ (c = 24 ∨ c = 25) → gxV G mX10_worked d 0 0 180 [some (.ref b), some (.int 0), some (.int (nI e)), some (.int (nI k)), some (.int c), x5] [] (mput h b (mSA σ A)) (mQi h b (fun r σ' => r = spWk σ.2.2.1 (codesL (σ.2.2.1 27) f n) 31 0 ∧ σ' = mSA σ (spWk σ.2.2.1 (codesL (σ.2.2.1 27) f n)))) := by
              intro n4
              have K194 : (c = 26 ∨ c = 27) → gxV G mX10_worked d 0 0 194 [some (.ref b), some (.int 0), some (.int (nI e)), some (.int (nI k)), some (.int c), x5] [] (mput h b (mSA σ A)) (mQi h b (fun r σ' => r = spWk σ.2.2.1 (codesL (σ.2.2.1 27) f n) 31 0 ∧ σ' = mSA σ (spWk σ.2.2.1 (codesL (σ.2.2.1 27) f n)))) := by
                intro n5
                refine gx_aload_n (pc := 194) dX10_worked_194 rfl ?_
                refine gx_iload_n (pc := 195) dX10_worked_195 rfl ?_
                refine kX10_259 (pc := 196) rfl (c_tests (d := d - 1) hb (by omega) e (by omega)) (by omega) (Nat.le_of_ble_eq_true rfl) dX10_worked_196 (fun σ1 h1 => ?_)
                subst h1
                refine gx_aload_n (pc := 199) dX10_worked_199 rfl ?_
                refine m_getA (pc := 200) rfl fX10_78 rfl (by decide) dX10_worked_200 ?_
                refine gx_iload_n (pc := 203) dX10_worked_203 rfl ?_
                refine gx_iload (pc := 204) dX10_worked_204 rfl ?_
                refine m_iast (pc := 206) hb 32 (e) 7 rfl (by decide) rfl (by first | rfl | simp only [gx_lit, nI_add, pk_mul]) (by omega) (by decide) dX10_worked_206 ?_
                refine gx_goto (pc := 207) 329 dX10_worked_207 (by decide) ?_
                exact N _ _ _ (by simp only [stepA, if_neg n1, if_neg n2, if_neg c3, if_neg n4, if_pos n5]; rfl)
              have K210 : ¬ (c = 26 ∨ c = 27) → gxV G mX10_worked d 0 0 210 [some (.ref b), some (.int 0), some (.int (nI e)), some (.int (nI k)), some (.int c), x5] [] (mput h b (mSA σ A)) (mQi h b (fun r σ' => r = spWk σ.2.2.1 (codesL (σ.2.2.1 27) f n) 31 0 ∧ σ' = mSA σ (spWk σ.2.2.1 (codesL (σ.2.2.1 27) f n)))) := by
                intro n5
                obtain ⟨cn, hcn1, hcn⟩ := nI_of (Int32.not_lt.mpr ho3)
                refine gx_iload (pc := 210) dX10_worked_210 rfl ?_
                refine gx_bipush (pc := 212) (v := 100) dX10_worked_212 (by decide) ?_
                refine gx_icmp_lt (pc := 214) 225 dX10_worked_214 (by decide) (fun c5 => ?_) (fun c5 => ?_)
                · refine gx_iload (pc := 225) dX10_worked_225 rfl ?_
                  refine gx_bipush (pc := 227) (v := 20) dX10_worked_227 (by decide) ?_
                  refine gx_icmp_ge (pc := 229) 242 dX10_worked_229 (by decide) (fun c6 => ?_) (fun c6 => ?_)
                  · refine gx_iconst (pc := 242) (v := 0) dX10_worked_242 (by decide) ?_
                    exact K243 n1 n2 c3 n4 n5 _ (by grind)
                  · have h20 : cn < 20 := by
                      rcases Nat.lt_or_ge cn 20 with q | q
                      · exact q
                      · exact absurd (by rw [hcn]; exact nI_le (a := 20) q hcn1) c6
                    refine gx_aload_n (pc := 232) dX10_worked_232 rfl ?_
                    refine m_getA (pc := 233) rfl fX10_102 rfl (by decide) dX10_worked_233 ?_
                    refine gx_iload (pc := 236) dX10_worked_236 rfl ?_
                    refine m_iald (pc := 238) 40 (cn) 20 rfl (by decide) rfl (hcn) (by omega) (by decide) dX10_worked_238 ?_
                    refine gx_goto (pc := 239) 243 dX10_worked_239 (by decide) ?_
                    refine K243 n1 n2 c3 n4 n5 _ ?_
                    rw [if_neg (Int32.not_le.mpr c5), if_pos (Int32.not_le.mp c6), hcn, nI_clamp hcn1]
                    rfl
                · refine gx_iload (pc := 217) dX10_worked_217 rfl ?_
                  refine gx_bipush (pc := 219) (v := 100) dX10_worked_219 (by decide) ?_
                  refine gx_isub (pc := 221) dX10_worked_221 ?_
                  refine gx_goto (pc := 222) 243 dX10_worked_222 (by decide) ?_
                  exact K243 n1 n2 c3 n4 n5 _ (by grind)
              refine gx_iload (pc := 180) dX10_worked_180 rfl ?_
              refine gx_bipush (pc := 182) (v := 26) dX10_worked_182 (by decide) ?_
              refine gx_icmp_eq (pc := 184) 194 dX10_worked_184 (by decide) (fun c7 => ?_) (fun c7 => ?_)
              · exact K194 (Or.inl c7)
              · refine gx_iload (pc := 187) dX10_worked_187 rfl ?_
                refine gx_bipush (pc := 189) (v := 27) dX10_worked_189 (by decide) ?_
                refine gx_icmp_ne (pc := 191) 210 dX10_worked_191 (by decide) (fun c8 => ?_) (fun c8 => ?_)
                · exact K210 (by grind)
                · exact K194 (Or.inr c8)
            refine gx_iload (pc := 123) dX10_worked_123 rfl ?_
            refine gx_bipush (pc := 125) (v := 24) dX10_worked_125 (by decide) ?_
            refine gx_icmp_eq (pc := 127) 137 dX10_worked_127 (by decide) (fun c7 => ?_) (fun c7 => ?_)
            · exact K137 (Or.inl c7)
            · refine gx_iload (pc := 130) dX10_worked_130 rfl ?_
              refine gx_bipush (pc := 132) (v := 25) dX10_worked_132 (by decide) ?_
              refine gx_icmp_ne (pc := 134) 180 dX10_worked_134 (by decide) (fun c8 => ?_) (fun c8 => ?_)
              · exact K180 (by grind)
              · exact K137 (Or.inr c8)
          · refine gx_aload_n (pc := 112) dX10_worked_112 rfl ?_
            refine m_getA (pc := 113) rfl fX10_96 rfl (by decide) dX10_worked_113 ?_
            refine gx_iload_n (pc := 116) dX10_worked_116 rfl ?_
            refine gx_iload (pc := 117) dX10_worked_117 rfl ?_
            refine m_iast (pc := 119) hb 38 (e) 7 rfl (by decide) rfl (by first | rfl | simp only [gx_lit, nI_add, pk_mul]) (by omega) (by decide) dX10_worked_119 ?_
            refine gx_goto (pc := 120) 329 dX10_worked_120 (by decide) ?_
            exact N _ _ _ (by simp only [stepA, if_neg n1, if_neg n2, if_pos c3]; rfl)
        have K75 : ¬ (c = 28 ∨ c = 30) → gxV G mX10_worked d 0 0 75 [some (.ref b), some (.int 0), some (.int (nI e)), some (.int (nI k)), some (.int c), x5] [] (mput h b (mSA σ A)) (mQi h b (fun r σ' => r = spWk σ.2.2.1 (codesL (σ.2.2.1 27) f n) 31 0 ∧ σ' = mSA σ (spWk σ.2.2.1 (codesL (σ.2.2.1 27) f n)))) := by
          intro n1
          have K89 : (c = 20 ∨ c = 21) → gxV G mX10_worked d 0 0 89 [some (.ref b), some (.int 0), some (.int (nI e)), some (.int (nI k)), some (.int c), x5] [] (mput h b (mSA σ A)) (mQi h b (fun r σ' => r = spWk σ.2.2.1 (codesL (σ.2.2.1 27) f n) 31 0 ∧ σ' = mSA σ (spWk σ.2.2.1 (codesL (σ.2.2.1 27) f n)))) := by
            intro n2
            refine gx_aload_n (pc := 89) dX10_worked_89 rfl ?_
            refine gx_iload_n (pc := 90) dX10_worked_90 rfl ?_
            refine kX10_253 (pc := 91) rfl (c_sums (d := d - 1) hb e (by omega)) (by omega) (Nat.le_of_ble_eq_true rfl) dX10_worked_91 (fun σ1 h1 => ?_)
            subst h1
            refine gx_aload_n (pc := 94) dX10_worked_94 rfl ?_
            refine m_getA (pc := 95) rfl fX10_90 rfl (by decide) dX10_worked_95 ?_
            refine gx_iload_n (pc := 98) dX10_worked_98 rfl ?_
            refine gx_iload (pc := 99) dX10_worked_99 rfl ?_
            refine m_iast (pc := 101) hb 36 (e) 7 rfl (by decide) rfl (by first | rfl | simp only [gx_lit, nI_add, pk_mul]) (by omega) (by decide) dX10_worked_101 ?_
            refine gx_goto (pc := 102) 329 dX10_worked_102 (by decide) ?_
            exact N _ _ _ (by simp only [stepA, if_neg n1, if_pos n2]; rfl)
          refine gx_iload (pc := 75) dX10_worked_75 rfl ?_
          refine gx_bipush (pc := 77) (v := 20) dX10_worked_77 (by decide) ?_
          refine gx_icmp_eq (pc := 79) 89 dX10_worked_79 (by decide) (fun c7 => ?_) (fun c7 => ?_)
          · exact K89 (Or.inl c7)
          · refine gx_iload (pc := 82) dX10_worked_82 rfl ?_
            refine gx_bipush (pc := 84) (v := 21) dX10_worked_84 (by decide) ?_
            refine gx_icmp_ne (pc := 86) 105 dX10_worked_86 (by decide) (fun c8 => ?_) (fun c8 => ?_)
            · exact K105 n1 (by grind)
            · exact K89 (Or.inr c8)
        refine gx_iload (pc := 32) dX10_worked_32 rfl ?_
        refine gx_bipush (pc := 34) (v := 28) dX10_worked_34 (by decide) ?_
        refine gx_icmp_eq (pc := 36) 46 dX10_worked_36 (by decide) (fun c7 => ?_) (fun c7 => ?_)
        · exact N46 (Or.inl c7)
        · refine gx_iload (pc := 39) dX10_worked_39 rfl ?_
          refine gx_bipush (pc := 41) (v := 30) dX10_worked_41 (by decide) ?_
          refine gx_icmp_ne (pc := 43) 75 dX10_worked_43 (by decide) (fun c8 => ?_) (fun c8 => ?_)
          · exact K75 (by grind)
          · exact N46 (Or.inr c8)
  have hf' : (mSA σ (opensA σ.2.2.1 0)).2.2.1 25 0 = nI f := hf
  rw [hf']
  exact L n f (opensA σ.2.2.1 0, 0) _ _ rfl (wkE.rf.opens 0) hok rfl
end MC
