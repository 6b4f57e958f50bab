/-! ===== MODEL T: laysHears ===== -/
set_option maxRecDepth 100000
/-- the part of a million that misses, after the ears e, from f to p -/
def spHe (A : Nat → Nat → Int32) (p f : Nat) (x : Int32) : Nat → Int32
  | 0 => x
  | e + 1 => if A 22 e = nI f then (if A 23 e = nI p then spHe A p f x e * (10 - spChance A e) / 10 else spHe A p f x e) else spHe A p f x e
def spHf (A : Nat → Nat → Int32) (E : Nat) (set : Int32) (p : Nat) : Nat → Int32
  | 0 => 1000000
  | f + 1 => if (set >>> (nI f &&& 31)) &&& 1 = 0 then spHf A E set p f else (if spSpeaks A f then spHe A p f (spHf A E set p f) E else spHf A E set p f)
def spHr (A : Nat → Nat → Int32) (P E : Nat) (set : Int32) (f0 : Nat → Int32) : Nat → Nat → Int32
  | 0 => f0
  | p + 1 => upd (spHr A P E set f0 p) p (1000000 - spHf A E set p P)
theorem spChance_J64 (A : Nat → Nat → Int32) (f : Nat → Int32) (e : Nat) : spChance (setJ A 64 f) e = spChance A e := rfl
section MT
variable {G : gxG} {d : Nat} {h : gxH} {b : Nat} {σ : mS} {P S E : Nat} {w : Option gxEv}
theorem c_laysHears (hb : gxN G ≤ b) (hd : 2 ≤ d) (hT : mT σ.2.2.1 P S E w) (set : Int32) : mMv G mX10_laysHears d [.ref b, .int set] h b σ (fun σ' => σ' = mSA σ (setJ σ.2.2.1 64 (spHr σ.2.2.1 P E set (σ.2.2.1 64) P))) := by
  have hP := hT.1
  have hP6 := hT.2.1
  have hE := hT.2.2.2.2.1
  have hE30 := hT.2.2.2.2.2.1
  refine gxM_of rfl (Nat.le_of_ble_eq_true rfl) rfl ?_
  have q10 : ∀ f : Nat → Int32, (mSA σ (setJ σ.2.2.1 64 f)).2.2.1 10 = σ.2.2.1 10 := fun f => by rw [mSA_A, setJ_ne (by decide)]
  have L1 : ∀ m p, m + p = P → ∀ (x3 x4 x5 : Option Value), gxV G mX10_laysHears d 0 0 2 [some (.ref b), some (.int set), some (.int (nI p)), x3, x4, x5] [] (mput h b (mSA σ (setJ σ.2.2.1 64 (spHr σ.2.2.1 P E set (σ.2.2.1 64) p)))) (mQv h b (fun σ' => σ' = mSA σ (setJ σ.2.2.1 64 (spHr σ.2.2.1 P E set (σ.2.2.1 64) P)))) := by
    intro m
    induction m with
    | zero =>
      intro p hp x3 x4 x5
      have : p = P := by omega
      subst this
      refine gx_iload_n (pc := 2) dX10_laysHears_2 rfl ?_
      refine gx_aload_n (pc := 3) dX10_laysHears_3 rfl ?_
      refine m_getA (pc := 4) rfl fX10_13 rfl (by decide) dX10_laysHears_4 ?_
      refine gx_iconst (pc := 7) (v := 0) dX10_laysHears_7 (by decide) ?_
      refine m_iald (pc := 8) 10 (0) 8 rfl (by decide) rfl (by first | rfl | simp only [gx_lit, nI_add, pk_mul]) (by omega) (by decide) dX10_laysHears_8 ?_
      rw [q10, hP]
      refine gx_icmp_ge (pc := 9) 132 dX10_laysHears_9 (by decide) (fun c1 => ?_) (fun c1 => ?_)
      · exact m_retv (pc := 132) rfl dX10_laysHears_132 (rfl)
      · exact absurd (nI_le (by omega) (by omega)) c1
    | succ m ih =>
      intro p hp x3 x4 x5
      have L2 : ∀ m2 f, m2 + f = P → ∀ (x5 : Option Value), gxV G mX10_laysHears d 0 0 19 [some (.ref b), some (.int set), some (.int (nI p)), some (.int (spHf σ.2.2.1 E set p f)), some (.int (nI f)), x5] [] (mput h b (mSA σ (setJ σ.2.2.1 64 (spHr σ.2.2.1 P E set (σ.2.2.1 64) p)))) (mQv h b (fun σ' => σ' = mSA σ (setJ σ.2.2.1 64 (spHr σ.2.2.1 P E set (σ.2.2.1 64) P)))) := by
        intro m2
        induction m2 with
        | zero =>
          intro f hf x5
          have : f = P := by omega
          subst this
          refine gx_iload (pc := 19) dX10_laysHears_19 rfl ?_
          refine gx_aload_n (pc := 21) dX10_laysHears_21 rfl ?_
          refine m_getA (pc := 22) rfl fX10_13 rfl (by decide) dX10_laysHears_22 ?_
          refine gx_iconst (pc := 25) (v := 0) dX10_laysHears_25 (by decide) ?_
          refine m_iald (pc := 26) 10 (0) 8 rfl (by decide) rfl (by first | rfl | simp only [gx_lit, nI_add, pk_mul]) (by omega) (by decide) dX10_laysHears_26 ?_
          rw [q10, hP]
          refine gx_icmp_ge (pc := 27) 115 dX10_laysHears_27 (by decide) (fun c2 => ?_) (fun c2 => ?_)
          · refine gx_aload_n (pc := 115) dX10_laysHears_115 rfl ?_
            refine m_getA (pc := 116) rfl fX10_163 rfl (by decide) dX10_laysHears_116 ?_
            refine gx_iload_n (pc := 119) dX10_laysHears_119 rfl ?_
            refine gx_ldcw (pc := 120) q2452 dX10_laysHears_120 ?_
            refine gx_iload_n (pc := 123) dX10_laysHears_123 rfl ?_
            refine gx_isub (pc := 124) dX10_laysHears_124 ?_
            refine m_iast (pc := 125) hb 64 (p) 6 rfl (by decide) rfl (by first | rfl | simp only [gx_lit, nI_add, pk_mul]) (by omega) (by decide) dX10_laysHears_125 ?_
            rw [mA_J]
            refine gx_iincc (pc := 126) (c := 1) dX10_laysHears_126 rfl (by decide) (by decide) rfl ?_
            refine gx_goto (pc := 129) 2 dX10_laysHears_129 (by decide) ?_
            rw [nI_1]
            exact ih (p + 1) (by omega) _ _ _
          · exact absurd (nI_le (by omega) (by omega)) c2
        | succ m2 ih2 =>
          intro f hf x5
          have K109 : ∀ v (x5 : Option Value), v = spHf σ.2.2.1 E set p (f + 1) → gxV G mX10_laysHears d 0 0 109 [some (.ref b), some (.int set), some (.int (nI p)), some (.int v), some (.int (nI f)), x5] [] (mput h b (mSA σ (setJ σ.2.2.1 64 (spHr σ.2.2.1 P E set (σ.2.2.1 64) p)))) (mQv h b (fun σ' => σ' = mSA σ (setJ σ.2.2.1 64 (spHr σ.2.2.1 P E set (σ.2.2.1 64) P)))) := by
            intro v x5 hv
            subst hv
            refine gx_iincc (pc := 109) (c := 1) dX10_laysHears_109 rfl (by decide) (by decide) rfl ?_
            refine gx_goto (pc := 112) 19 dX10_laysHears_112 (by decide) ?_
            rw [nI_1]
            exact ih2 (f + 1) (by omega) _
          have L3 : ∀ m3 e, m3 + e = E → spHe σ.2.2.1 p f (spHf σ.2.2.1 E set p f) E = spHf σ.2.2.1 E set p (f + 1) → gxV G mX10_laysHears d 0 0 54 [some (.ref b), some (.int set), some (.int (nI p)), some (.int (spHe σ.2.2.1 p f (spHf σ.2.2.1 E set p f) e)), some (.int (nI f)), some (.int (nI e))] [] (mput h b (mSA σ (setJ σ.2.2.1 64 (spHr σ.2.2.1 P E set (σ.2.2.1 64) p)))) (mQv h b (fun σ' => σ' = mSA σ (setJ σ.2.2.1 64 (spHr σ.2.2.1 P E set (σ.2.2.1 64) P)))) := by
            intro m3
            induction m3 with
            | zero =>
              intro e he hr
              have : e = E := by omega
              subst this
              refine gx_iload (pc := 54) dX10_laysHears_54 rfl ?_
              refine gx_aload_n (pc := 56) dX10_laysHears_56 rfl ?_
              refine m_getA (pc := 57) rfl fX10_13 rfl (by decide) dX10_laysHears_57 ?_
              refine gx_iconst (pc := 60) (v := 2) dX10_laysHears_60 (by decide) ?_
              refine m_iald (pc := 61) 10 (2) 8 rfl (by decide) rfl (by first | rfl | simp only [gx_lit, nI_add, pk_mul]) (by omega) (by decide) dX10_laysHears_61 ?_
              rw [q10, hE]
              refine gx_icmp_ge (pc := 62) 109 dX10_laysHears_62 (by decide) (fun c3 => ?_) (fun c3 => ?_)
              · exact K109 _ _ hr
              · exact absurd (nI_le (by omega) (by omega)) c3
            | succ m3 ih3 =>
              intro e he hr
              have K103 : ∀ v, v = spHe σ.2.2.1 p f (spHf σ.2.2.1 E set p f) (e + 1) → gxV G mX10_laysHears d 0 0 103 [some (.ref b), some (.int set), some (.int (nI p)), some (.int v), some (.int (nI f)), some (.int (nI e))] [] (mput h b (mSA σ (setJ σ.2.2.1 64 (spHr σ.2.2.1 P E set (σ.2.2.1 64) p)))) (mQv h b (fun σ' => σ' = mSA σ (setJ σ.2.2.1 64 (spHr σ.2.2.1 P E set (σ.2.2.1 64) P)))) := by
                intro v hv
                subst hv
                refine gx_iincc (pc := 103) (c := 1) dX10_laysHears_103 rfl (by decide) (by decide) rfl ?_
                refine gx_goto (pc := 106) 54 dX10_laysHears_106 (by decide) ?_
                rw [nI_1]
                exact ih3 (e + 1) (by omega) hr
              refine gx_iload (pc := 54) dX10_laysHears_54 rfl ?_
              refine gx_aload_n (pc := 56) dX10_laysHears_56 rfl ?_
              refine m_getA (pc := 57) rfl fX10_13 rfl (by decide) dX10_laysHears_57 ?_
              refine gx_iconst (pc := 60) (v := 2) dX10_laysHears_60 (by decide) ?_
              refine m_iald (pc := 61) 10 (2) 8 rfl (by decide) rfl (by first | rfl | simp only [gx_lit, nI_add, pk_mul]) (by omega) (by decide) dX10_laysHears_61 ?_
              rw [q10, hE]
              refine gx_icmp_ge (pc := 62) 109 dX10_laysHears_62 (by decide) (fun c3 => ?_) (fun c3 => ?_)
              · exact absurd c3 (nI_ge (by omega) (by omega))
              · refine gx_aload_n (pc := 65) dX10_laysHears_65 rfl ?_
                refine m_getA (pc := 66) rfl fX10_50 rfl (by decide) dX10_laysHears_66 ?_
                refine gx_iload (pc := 69) dX10_laysHears_69 rfl ?_
                refine m_iald (pc := 71) 22 (e) 60 rfl (by decide) rfl (by first | rfl | simp only [gx_lit, nI_add, pk_mul]) (by omega) (by decide) dX10_laysHears_71 ?_
                refine gx_iload (pc := 72) dX10_laysHears_72 rfl ?_
                rw [mSA_A, setJ_ne (by decide)]
                refine gx_icmp_ne (pc := 74) 103 dX10_laysHears_74 (by decide) (fun c4 => ?_) (fun c4 => ?_)
                · exact K103 _ (by rw [spHe, if_neg c4])
                · refine gx_aload_n (pc := 77) dX10_laysHears_77 rfl ?_
                  refine m_getA (pc := 78) rfl fX10_53 rfl (by decide) dX10_laysHears_78 ?_
                  refine gx_iload (pc := 81) dX10_laysHears_81 rfl ?_
                  refine m_iald (pc := 83) 23 (e) 60 rfl (by decide) rfl (by first | rfl | simp only [gx_lit, nI_add, pk_mul]) (by omega) (by decide) dX10_laysHears_83 ?_
                  refine gx_iload_n (pc := 84) dX10_laysHears_84 rfl ?_
                  rw [mSA_A, setJ_ne (by decide)]
                  refine gx_icmp_ne (pc := 85) 103 dX10_laysHears_85 (by decide) (fun c5 => ?_) (fun c5 => ?_)
                  · exact K103 _ (by rw [spHe, if_pos c4, if_neg c5])
                  · refine gx_iload_n (pc := 88) dX10_laysHears_88 rfl ?_
                    refine gx_bipush (pc := 89) (v := 10) dX10_laysHears_89 (by decide) ?_
                    refine gx_aload_n (pc := 91) dX10_laysHears_91 rfl ?_
                    refine gx_iload (pc := 92) dX10_laysHears_92 rfl ?_
                    refine kX10_454 (pc := 94) rfl (c_chanceOf (d := d - 1) (by omega) e f (by omega) (by omega) (by rw [mSA_A, setJ_ne (by decide)]; exact c4)) (by omega) (Nat.le_of_ble_eq_true rfl) dX10_laysHears_94 (fun r1 σ1 e1 => ?_)
                    obtain ⟨rfl, hσ⟩ := e1
                    subst σ1
                    rw [mSA_A, spChance_J64]
                    refine gx_isub (pc := 97) dX10_laysHears_97 ?_
                    refine gx_imul (pc := 98) dX10_laysHears_98 ?_
                    refine gx_bipush (pc := 99) (v := 10) dX10_laysHears_99 (by decide) ?_
                    refine gx_idiv (pc := 101) dX10_laysHears_101 (by decide) ?_
                    refine gx_istore_n (pc := 102) dX10_laysHears_102 (by decide) rfl ?_
                    exact K103 _ (by rw [spHe, if_pos c4, if_pos c5])
          refine gx_iload (pc := 19) dX10_laysHears_19 rfl ?_
          refine gx_aload_n (pc := 21) dX10_laysHears_21 rfl ?_
          refine m_getA (pc := 22) rfl fX10_13 rfl (by decide) dX10_laysHears_22 ?_
          refine gx_iconst (pc := 25) (v := 0) dX10_laysHears_25 (by decide) ?_
          refine m_iald (pc := 26) 10 (0) 8 rfl (by decide) rfl (by first | rfl | simp only [gx_lit, nI_add, pk_mul]) (by omega) (by decide) dX10_laysHears_26 ?_
          rw [q10, hP]
          refine gx_icmp_ge (pc := 27) 115 dX10_laysHears_27 (by decide) (fun c2 => ?_) (fun c2 => ?_)
          · exact absurd c2 (nI_ge (by omega) (by omega))
          · refine gx_iload_n (pc := 30) dX10_laysHears_30 rfl ?_
            refine gx_iload (pc := 31) dX10_laysHears_31 rfl ?_
            refine gx_ishr (pc := 33) dX10_laysHears_33 ?_
            refine gx_iconst (pc := 34) (v := 1) dX10_laysHears_34 (by decide) ?_
            refine gx_iand (pc := 35) dX10_laysHears_35 ?_
            refine gx_if_eq (pc := 36) 109 dX10_laysHears_36 (by decide) (fun c3 => ?_) (fun c3 => ?_)
            · exact K109 _ _ (by rw [spHf, if_pos c3])
            · refine gx_aload_n (pc := 39) dX10_laysHears_39 rfl ?_
              refine gx_iload (pc := 40) dX10_laysHears_40 rfl ?_
              refine kX10_461 (pc := 42) rfl (c_speaks (d := d - 1) f (by omega)) (by omega) (Nat.le_of_ble_eq_true rfl) dX10_laysHears_42 (fun r1 σ1 e1 => ?_)
              obtain ⟨rfl, hσ⟩ := e1
              subst σ1
              rw [show spSpeaks (mSA σ (setJ σ.2.2.1 64 (spHr σ.2.2.1 P E set (σ.2.2.1 64) p))).2.2.1 f = spSpeaks σ.2.2.1 f from rfl]
              refine gx_if_ne (pc := 45) 51 dX10_laysHears_45 (by decide) (fun c4 => ?_) (fun c4 => ?_)
              · have ht : spSpeaks σ.2.2.1 f = true := by
                  cases e : spSpeaks σ.2.2.1 f with
                  | true => rfl
                  | false => rw [e] at c4; exact absurd rfl c4
                refine gx_iconst (pc := 51) (v := 0) dX10_laysHears_51 (by decide) ?_
                refine gx_istore (pc := 52) dX10_laysHears_52 (by decide) rfl ?_
                exact L3 E 0 rfl (by rw [spHf, if_neg c3, if_pos ht])
              · have ht : spSpeaks σ.2.2.1 f = false := by
                  cases e : spSpeaks σ.2.2.1 f with
                  | false => rfl
                  | true => rw [e] at c4; exact absurd c4 (by decide)
                refine gx_goto (pc := 48) 109 dX10_laysHears_48 (by decide) ?_
                exact K109 _ _ (by rw [spHf, if_neg c3, ht]; rfl)
      refine gx_iload_n (pc := 2) dX10_laysHears_2 rfl ?_
      refine gx_aload_n (pc := 3) dX10_laysHears_3 rfl ?_
      refine m_getA (pc := 4) rfl fX10_13 rfl (by decide) dX10_laysHears_4 ?_
      refine gx_iconst (pc := 7) (v := 0) dX10_laysHears_7 (by decide) ?_
      refine m_iald (pc := 8) 10 (0) 8 rfl (by decide) rfl (by first | rfl | simp only [gx_lit, nI_add, pk_mul]) (by omega) (by decide) dX10_laysHears_8 ?_
      rw [q10, hP]
      refine gx_icmp_ge (pc := 9) 132 dX10_laysHears_9 (by decide) (fun c1 => ?_) (fun c1 => ?_)
      · exact absurd c1 (nI_ge (by omega) (by omega))
      · refine gx_ldcw (pc := 12) q2452 dX10_laysHears_12 ?_
        refine gx_istore_n (pc := 15) dX10_laysHears_15 (by decide) rfl ?_
        refine gx_iconst (pc := 16) (v := 0) dX10_laysHears_16 (by decide) ?_
        refine gx_istore (pc := 17) dX10_laysHears_17 (by decide) rfl ?_
        exact L2 P 0 rfl _
  refine gx_iconst (pc := 0) (v := 0) dX10_laysHears_0 (by decide) ?_
  refine gx_istore_n (pc := 1) dX10_laysHears_1 (by decide) rfl ?_
  have := L1 P 0 rfl none none none
  rw [show mSA σ (setJ σ.2.2.1 64 (spHr σ.2.2.1 P E set (σ.2.2.1 64) 0)) = σ by rw [spHr, setJ_self]; rfl] at this
  exact this
end MT
