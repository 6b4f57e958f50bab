/-! ===== MODEL X: payTogether ===== -/
set_option maxRecDepth 100000
theorem nI_bv {a : Nat} (ha : a < 2 ^ 32) : (nI a).toBitVec.toNat = a := by
  show (BitVec.ofNat 32 a).toNat = a
  rw [BitVec.toNat_ofNat]
  exact Nat.mod_eq_of_lt ha
theorem and_nI (x : Int32) {a : Nat} (ha : a < 2 ^ 31) : nI a &&& x = nI (a &&& x.toBitVec.toNat) := by
  apply Int32.toBitVec_inj.mp
  apply BitVec.eq_of_toNat_eq
  have h2 : a &&& x.toBitVec.toNat ≤ a := Nat.and_le_left
  rw [Int32.toBitVec_and, BitVec.toNat_and, nI_bv (by omega), nI_bv (by omega)]
theorem and_nI2 {a c : Nat} (ha : a < 2 ^ 31) (hc : c < 2 ^ 31) : nI a &&& nI c = nI (a &&& c) := by
  rw [and_nI _ ha, nI_bv (by omega)]
/-- the members of a that are not of s -/
def dif (a s : Nat) : Nat := a &&& (nI s ^^^ -1).toBitVec.toNat
theorem dif_le (a s : Nat) : dif a s ≤ a := Nat.and_le_left
theorem dif_eq {a : Nat} (s : Nat) (ha : a < 2 ^ 31) : nI a &&& (nI s ^^^ -1) = nI (dif a s) := and_nI _ ha
def spPT (A : Nat → Nat → Int32) (f pp set : Nat) : Nat → Nat → Bool
  | 0, _ => false
  | m + 1, sub => if sub = 0 then false else (if A 57 (1024 * f + sub) = 0 then spPT A f pp set m ((sub - 1) &&& set) else (if A 56 (1024 * pp + dif set sub) = 0 then spPT A f pp set m ((sub - 1) &&& set) else true))
section MX
variable {G : gxG} {d : Nat} {h : gxH} {b : Nat} {σ : mS} {P S E : Nat} {w : Option gxEv}
theorem c_payTogether (q set f : Nat) (hq : q < 64) (hset : set < 1024) (hf : f < 6) (h1 : ¬ (nI q >>> (nI f &&& 31)) &&& 1 = 0) (h0 : ∀ j, j < f → (nI q >>> (nI j &&& 31)) &&& 1 = 0) : mMi G mX10_payTogether d [.ref b, .int (nI q), .int (nI set)] h b σ (fun r σ' => r = zi (spPT σ.2.2.1 f (dif q (2 ^ f)) set set set) ∧ σ' = σ) := by
  refine gxM_of rfl (Nat.le_of_ble_eq_true rfl) rfl ?_
  obtain ⟨hsh, h64⟩ := shl_P (P := f) (by omega)
  have hdq := dif_le q (2 ^ f)
  have L2 : ∀ m sub, sub ≤ m → sub ≤ set → spPT σ.2.2.1 f (dif q (2 ^ f)) set m sub = spPT σ.2.2.1 f (dif q (2 ^ f)) set set set → gxV G mX10_payTogether d 0 0 19 [some (.ref b), some (.int (nI q)), some (.int (nI set)), some (.int (nI f)), some (.int (nI sub))] [] (mput h b σ) (mQi h b (fun r σ' => r = zi (spPT σ.2.2.1 f (dif q (2 ^ f)) set set set) ∧ σ' = σ)) := by
    intro m
    have Z : false = spPT σ.2.2.1 f (dif q (2 ^ f)) set set set → gxV G mX10_payTogether d 0 0 19 [some (.ref b), some (.int (nI q)), some (.int (nI set)), some (.int (nI f)), some (.int (nI 0))] [] (mput h b σ) (mQi h b (fun r σ' => r = zi (spPT σ.2.2.1 f (dif q (2 ^ f)) set set set) ∧ σ' = σ)) := by
      intro hr
      refine gx_iload (pc := 19) dX10_payTogether_19 rfl ?_
      refine gx_if_le (pc := 21) 79 dX10_payTogether_21 (by decide) (fun c1 => ?_) (fun c1 => ?_)
      · refine gx_iconst (pc := 79) (v := 0) dX10_payTogether_79 (by decide) ?_
        exact m_retz (pc := 80) rfl (by decide) dX10_payTogether_80 (⟨by rw [← hr]; rfl, rfl⟩)
      · exact absurd (by decide) c1
    induction m with
    | zero =>
      intro sub hs hs2 hr
      have : sub = 0 := by omega
      subst this
      exact Z hr
    | succ m ih =>
      intro sub hs hs2 hr
      by_cases hs0 : sub = 0
      · subst hs0
        exact Z (by rw [← hr, spPT, if_pos rfl])
      · rw [spPT, if_neg hs0] at hr
        have hle : (sub - 1) &&& set ≤ sub - 1 := Nat.and_le_left
        have hds := dif_le set sub
        have K68 : spPT σ.2.2.1 f (dif q (2 ^ f)) set m ((sub - 1) &&& set) = spPT σ.2.2.1 f (dif q (2 ^ f)) set set set → gxV G mX10_payTogether d 0 0 68 [some (.ref b), some (.int (nI q)), some (.int (nI set)), some (.int (nI f)), some (.int (nI sub))] [] (mput h b σ) (mQi h b (fun r σ' => r = zi (spPT σ.2.2.1 f (dif q (2 ^ f)) set set set) ∧ σ' = σ)) := by
          intro hr
          refine gx_iload (pc := 68) dX10_payTogether_68 rfl ?_
          refine gx_iconst (pc := 70) (v := 1) dX10_payTogether_70 (by decide) ?_
          refine gx_isub (pc := 71) dX10_payTogether_71 ?_
          refine gx_iload_n (pc := 72) dX10_payTogether_72 rfl ?_
          refine gx_iand (pc := 73) dX10_payTogether_73 ?_
          rw [show nI sub - 1 = nI (sub - 1) from pk_sub (b := 1) (by omega), and_nI2 (by omega) (by omega)]
          refine gx_istore (pc := 74) dX10_payTogether_74 (by decide) rfl ?_
          refine gx_goto (pc := 76) 19 dX10_payTogether_76 (by decide) ?_
          exact ih _ (by omega) (by omega) hr
        refine gx_iload (pc := 19) dX10_payTogether_19 rfl ?_
        refine gx_if_le (pc := 21) 79 dX10_payTogether_21 (by decide) (fun c1 => ?_) (fun c1 => ?_)
        · exact absurd c1 (Int32.not_le.mpr (nI_lt (a := 0) (by omega) (by omega)))
        · refine gx_aload_n (pc := 24) dX10_payTogether_24 rfl ?_
          refine m_getA (pc := 25) rfl fX10_148 rfl (by decide) dX10_payTogether_25 ?_
          refine gx_sipush (pc := 28) (v := 1024) dX10_payTogether_28 (by decide) ?_
          refine gx_iload_n (pc := 31) dX10_payTogether_31 rfl ?_
          refine gx_imul (pc := 32) dX10_payTogether_32 ?_
          refine gx_iload (pc := 33) dX10_payTogether_33 rfl ?_
          refine gx_iadd (pc := 35) dX10_payTogether_35 ?_
          rw [show (1024 : Int32) * nI f + nI sub = nI (1024 * f + sub) by rw [show (1024 : Int32) = nI 1024 from rfl, pk_mul, nI_add]]
          refine m_zald (pc := 36) 57 ((1024*f+sub)) 6144 rfl (by decide) rfl (by first | rfl | simp only [gx_lit, nI_add, pk_mul]) (by omega) (by decide) dX10_payTogether_36 ?_
          refine gx_if_eq (pc := 37) 68 dX10_payTogether_37 (by decide) (fun c2 => ?_) (fun c2 => ?_)
          · rw [if_pos c2] at hr
            exact K68 hr
          · rw [if_neg c2] at hr
            refine gx_aload_n (pc := 40) dX10_payTogether_40 rfl ?_
            refine m_getA (pc := 41) rfl fX10_145 rfl (by decide) dX10_payTogether_41 ?_
            refine gx_sipush (pc := 44) (v := 1024) dX10_payTogether_44 (by decide) ?_
            refine gx_iload_n (pc := 47) dX10_payTogether_47 rfl ?_
            refine gx_iconst (pc := 48) (v := 1) dX10_payTogether_48 (by decide) ?_
            refine gx_iload_n (pc := 49) dX10_payTogether_49 rfl ?_
            refine gx_ishl (pc := 50) dX10_payTogether_50 ?_
            rw [hsh]
            refine gx_iconst (pc := 51) (v := (-1)) dX10_payTogether_51 (by decide) ?_
            refine gx_ixor (pc := 52) dX10_payTogether_52 ?_
            refine gx_iand (pc := 53) dX10_payTogether_53 ?_
            rw [dif_eq _ (by omega)]
            refine gx_imul (pc := 54) dX10_payTogether_54 ?_
            refine gx_iload_n (pc := 55) dX10_payTogether_55 rfl ?_
            refine gx_iload (pc := 56) dX10_payTogether_56 rfl ?_
            refine gx_iconst (pc := 58) (v := (-1)) dX10_payTogether_58 (by decide) ?_
            refine gx_ixor (pc := 59) dX10_payTogether_59 ?_
            refine gx_iand (pc := 60) dX10_payTogether_60 ?_
            rw [dif_eq _ (by omega)]
            refine gx_iadd (pc := 61) dX10_payTogether_61 ?_
            generalize hqq : dif q (2 ^ f) = qq at *
            generalize hss : dif set sub = ss at *
            rw [show (1024 : Int32) * nI qq + nI ss = nI (1024 * qq + ss) by rw [show (1024 : Int32) = nI 1024 from rfl, pk_mul, nI_add]]
            refine m_zald (pc := 62) 56 ((1024*qq+ss)) 65536 rfl (by decide) rfl (by first | rfl | simp only [gx_lit, nI_add, pk_mul]) (by omega) (by decide) dX10_payTogether_62 ?_
            refine gx_if_eq (pc := 63) 68 dX10_payTogether_63 (by decide) (fun c3 => ?_) (fun c3 => ?_)
            · rw [if_pos c3] at hr
              exact K68 hr
            · rw [if_neg c3] at hr
              refine gx_iconst (pc := 66) (v := 1) dX10_payTogether_66 (by decide) ?_
              exact m_retz (pc := 67) rfl (by decide) dX10_payTogether_67 (⟨by rw [← hr]; rfl, rfl⟩)
  have L1 : ∀ m j, m + j = f → gxV G mX10_payTogether d 0 0 2 [some (.ref b), some (.int (nI q)), some (.int (nI set)), some (.int (nI j)), none] [] (mput h b σ) (mQi h b (fun r σ' => r = zi (spPT σ.2.2.1 f (dif q (2 ^ f)) set set set) ∧ σ' = σ)) := by
    intro m
    induction m with
    | zero =>
      intro j hj
      have : j = f := by omega
      subst this
      refine gx_iload_n (pc := 2) dX10_payTogether_2 rfl ?_
      refine gx_iload_n (pc := 3) dX10_payTogether_3 rfl ?_
      refine gx_ishr (pc := 4) dX10_payTogether_4 ?_
      refine gx_iconst (pc := 5) (v := 1) dX10_payTogether_5 (by decide) ?_
      refine gx_iand (pc := 6) dX10_payTogether_6 ?_
      refine gx_if_ne (pc := 7) 16 dX10_payTogether_7 (by decide) (fun c1 => ?_) (fun c1 => ?_)
      · refine gx_iload_n (pc := 16) dX10_payTogether_16 rfl ?_
        refine gx_istore (pc := 17) dX10_payTogether_17 (by decide) rfl ?_
        exact L2 set set (Nat.le_refl _) (Nat.le_refl _) rfl
      · exact absurd c1 h1
    | succ m ih =>
      intro j hj
      refine gx_iload_n (pc := 2) dX10_payTogether_2 rfl ?_
      refine gx_iload_n (pc := 3) dX10_payTogether_3 rfl ?_
      refine gx_ishr (pc := 4) dX10_payTogether_4 ?_
      refine gx_iconst (pc := 5) (v := 1) dX10_payTogether_5 (by decide) ?_
      refine gx_iand (pc := 6) dX10_payTogether_6 ?_
      refine gx_if_ne (pc := 7) 16 dX10_payTogether_7 (by decide) (fun c1 => ?_) (fun c1 => ?_)
      · exact absurd (h0 j (by omega)) c1
      · refine gx_iincc (pc := 10) (c := 1) dX10_payTogether_10 rfl (by decide) (by decide) rfl ?_
        refine gx_goto (pc := 13) 2 dX10_payTogether_13 (by decide) ?_
        rw [nI_1]
        exact ih (j + 1) (by omega)
  refine gx_iconst (pc := 0) (v := 0) dX10_payTogether_0 (by decide) ?_
  refine gx_istore_n (pc := 1) dX10_payTogether_1 (by decide) rfl ?_
  exact L1 f 0 rfl
end MX
