/-! ===== MODEL E: sets known, sums of worths, nets, talk ===== -/
set_option maxRecDepth 100000
section ME
variable {G : gxG} {d : Nat} {h : gxH} {b : Nat} {σ : mS} {P S E : Nat} {w : Option gxEv}
theorem c_knownBy (hS : σ.2.2.1 10 1 = nI S) (hS1 : S ≤ 10) (p : Int32) : mMi G mX10_knownBy d [.ref b, .int p] h b σ (fun r σ' => r = spKnown σ.2.2.1 p S ∧ σ' = σ) := by
  refine gxM_of rfl (Nat.le_of_ble_eq_true rfl) rfl ?_
  refine gx_iconst (pc := 0) (v := 0) dX10_knownBy_0 (by decide) ?_
  refine gx_istore_n (pc := 1) dX10_knownBy_1 (by decide) rfl ?_
  refine gx_iconst (pc := 2) (v := 0) dX10_knownBy_2 (by decide) ?_
  refine gx_istore_n (pc := 3) dX10_knownBy_3 (by decide) rfl ?_
  have L : ∀ n k, n + k = S → gxV G mX10_knownBy d 0 0 4 [some (.ref b), some (.int p), some (.int (spKnown σ.2.2.1 p k)), some (.int (nI k))] [] (mput h b σ) (mQi h b (fun r σ' => r = spKnown σ.2.2.1 p S ∧ σ' = σ)) := by
    intro n
    induction n with
    | zero =>
      intro k hk
      refine gx_iload_n (pc := 4) dX10_knownBy_4 rfl ?_
      refine gx_aload_n (pc := 5) dX10_knownBy_5 rfl ?_
      refine m_getA (pc := 6) rfl fX10_13 rfl (by decide) dX10_knownBy_6 ?_
      refine gx_iconst (pc := 9) (v := 1) dX10_knownBy_9 (by decide) ?_
      refine m_iald (pc := 10) 10 (1) 8 rfl (by decide) rfl (by first | rfl | simp only [gx_lit, nI_add, pk_mul]) (by omega) (by decide) dX10_knownBy_10 ?_
      refine gx_icmp_ge (pc := 11) 35 dX10_knownBy_11 (by decide) (fun c1 => ?_) (fun c1 => ?_)
      · refine gx_iload_n (pc := 35) dX10_knownBy_35 rfl ?_
        exact m_ret (pc := 36) rfl dX10_knownBy_36 (⟨by rw [show k = S by omega], rfl⟩)
      · exact absurd (by rw [hS]; exact nI_le (by omega) (by omega)) c1
    | succ n ih =>
      intro k hk
      refine gx_iload_n (pc := 4) dX10_knownBy_4 rfl ?_
      refine gx_aload_n (pc := 5) dX10_knownBy_5 rfl ?_
      refine m_getA (pc := 6) rfl fX10_13 rfl (by decide) dX10_knownBy_6 ?_
      refine gx_iconst (pc := 9) (v := 1) dX10_knownBy_9 (by decide) ?_
      refine m_iald (pc := 10) 10 (1) 8 rfl (by decide) rfl (by first | rfl | simp only [gx_lit, nI_add, pk_mul]) (by omega) (by decide) dX10_knownBy_10 ?_
      refine gx_icmp_ge (pc := 11) 35 dX10_knownBy_11 (by decide) (fun c1 => ?_) (fun c1 => ?_)
      · exact absurd c1 (by rw [hS]; exact nI_ge (by omega) (by omega))
      · refine gx_iload_n (pc := 14) dX10_knownBy_14 rfl ?_
        refine gx_aload_n (pc := 15) dX10_knownBy_15 rfl ?_
        refine m_getA (pc := 16) rfl fX10_129 rfl (by decide) dX10_knownBy_16 ?_
        refine gx_iload_n (pc := 19) dX10_knownBy_19 rfl ?_
        refine m_iald (pc := 20) 50 (k) 123 rfl (by decide) rfl (by first | rfl | simp only [gx_lit, nI_add, pk_mul]) (by omega) (by decide) dX10_knownBy_20 ?_
        refine gx_iload_n (pc := 21) dX10_knownBy_21 rfl ?_
        refine gx_ishr (pc := 22) dX10_knownBy_22 ?_
        refine gx_iconst (pc := 23) (v := 1) dX10_knownBy_23 (by decide) ?_
        refine gx_iand (pc := 24) dX10_knownBy_24 ?_
        refine gx_iload_n (pc := 25) dX10_knownBy_25 rfl ?_
        refine gx_ishl (pc := 26) dX10_knownBy_26 ?_
        refine gx_ior (pc := 27) dX10_knownBy_27 ?_
        refine gx_istore_n (pc := 28) dX10_knownBy_28 (by decide) rfl ?_
        refine gx_iincc (pc := 29) (c := 1) dX10_knownBy_29 rfl (by decide) (by decide) rfl ?_
        refine gx_goto (pc := 32) 4 dX10_knownBy_32 (by decide) ?_
        rw [nI_1]
        exact ih (k + 1) (by omega)
  exact L S 0 (by omega)
theorem c_worthsOf (hb : gxN G ≤ b) (hd : 15 ≤ d) (hT : mT σ.2.2.1 P S E w) (set : Int32) : mMi G mX10_worthsOf d [.ref b, .int set] h b σ (fun r σ' => r = spWs w σ.2.2.1 P set S ∧ wS σ σ') := by
  have hS := hT.2.2.1
  have hS1 := hT.2.2.2.1
  refine gxM_of rfl (Nat.le_of_ble_eq_true rfl) rfl ?_
  refine gx_iconst (pc := 0) (v := 0) dX10_worthsOf_0 (by decide) ?_
  refine gx_istore_n (pc := 1) dX10_worthsOf_1 (by decide) rfl ?_
  refine gx_iconst (pc := 2) (v := 0) dX10_worthsOf_2 (by decide) ?_
  refine gx_istore_n (pc := 3) dX10_worthsOf_3 (by decide) rfl ?_
  have L : ∀ n k, n + k = S → ∀ A', wE σ.2.2.1 A' → gxV G mX10_worthsOf d 0 0 4 [some (.ref b), some (.int set), some (.int (spWs w σ.2.2.1 P set k)), some (.int (nI k))] [] (mput h b (mSA σ A')) (mQi h b (fun r σ' => r = spWs w σ.2.2.1 P set S ∧ wS σ σ')) := by
    intro n
    induction n with
    | zero =>
      intro k hk A' hA
      refine gx_iload_n (pc := 4) dX10_worthsOf_4 rfl ?_
      refine gx_aload_n (pc := 5) dX10_worthsOf_5 rfl ?_
      refine m_getA (pc := 6) rfl fX10_13 rfl (by decide) dX10_worthsOf_6 ?_
      refine gx_iconst (pc := 9) (v := 1) dX10_worthsOf_9 (by decide) ?_
      refine m_iald (pc := 10) 10 (1) 8 rfl (by decide) rfl (by first | rfl | simp only [gx_lit, nI_add, pk_mul]) (by omega) (by decide) dX10_worthsOf_10 ?_
      rw [mSA_A, hA 10 (by omega)]
      refine gx_icmp_ge (pc := 11) 41 dX10_worthsOf_11 (by decide) (fun c1 => ?_) (fun c1 => ?_)
      · refine gx_iload_n (pc := 41) dX10_worthsOf_41 rfl ?_
        exact m_ret (pc := 42) rfl dX10_worthsOf_42 (⟨by rw [show k = S by omega], ⟨A', hA, rfl⟩⟩)
      · exact absurd (by rw [hS]; exact nI_le (by omega) (by omega)) c1
    | succ n ih =>
      intro k hk A' hA
      refine gx_iload_n (pc := 4) dX10_worthsOf_4 rfl ?_
      refine gx_aload_n (pc := 5) dX10_worthsOf_5 rfl ?_
      refine m_getA (pc := 6) rfl fX10_13 rfl (by decide) dX10_worthsOf_6 ?_
      refine gx_iconst (pc := 9) (v := 1) dX10_worthsOf_9 (by decide) ?_
      refine m_iald (pc := 10) 10 (1) 8 rfl (by decide) rfl (by first | rfl | simp only [gx_lit, nI_add, pk_mul]) (by omega) (by decide) dX10_worthsOf_10 ?_
      rw [mSA_A, hA 10 (by omega)]
      refine gx_icmp_ge (pc := 11) 41 dX10_worthsOf_11 (by decide) (fun c1 => ?_) (fun c1 => ?_)
      · exact absurd c1 (by rw [hS]; exact nI_ge (by omega) (by omega))
      · have K : ∀ A2, wE σ.2.2.1 A2 → ∀ r, r = (if hs set (nI k) then spW w σ.2.2.1 P k else 0) → gxV G mX10_worthsOf d 0 0 33 [some (.ref b), some (.int set), some (.int (spWs w σ.2.2.1 P set k)), some (.int (nI k))] [.int r, .int (spWs w σ.2.2.1 P set k)] (mput h b (mSA σ A2)) (mQi h b (fun r σ' => r = spWs w σ.2.2.1 P set S ∧ wS σ σ')) := by
          intro A2 hA2 r hr
          subst hr
          refine gx_iadd (pc := 33) dX10_worthsOf_33 ?_
          refine gx_istore_n (pc := 34) dX10_worthsOf_34 (by decide) rfl ?_
          refine gx_iincc (pc := 35) (c := 1) dX10_worthsOf_35 rfl (by decide) (by decide) rfl ?_
          refine gx_goto (pc := 38) 4 dX10_worthsOf_38 (by decide) ?_
          rw [nI_1]
          exact ih (k + 1) (by omega) A2 hA2
        refine gx_iload_n (pc := 14) dX10_worthsOf_14 rfl ?_
        refine gx_iload_n (pc := 15) dX10_worthsOf_15 rfl ?_
        refine gx_iload_n (pc := 16) dX10_worthsOf_16 rfl ?_
        refine gx_ishr (pc := 17) dX10_worthsOf_17 ?_
        refine gx_iconst (pc := 18) (v := 1) dX10_worthsOf_18 (by decide) ?_
        refine gx_iand (pc := 19) dX10_worthsOf_19 ?_
        refine gx_iconst (pc := 20) (v := 1) dX10_worthsOf_20 (by decide) ?_
        refine gx_icmp_ne (pc := 21) 32 dX10_worthsOf_21 (by decide) (fun c2 => ?_) (fun c2 => ?_)
        · refine gx_iconst (pc := 32) (v := 0) dX10_worthsOf_32 (by decide) ?_
          exact K A' hA _ (by simp [hs, c2])
        · refine gx_aload_n (pc := 24) dX10_worthsOf_24 rfl ?_
          refine gx_iload_n (pc := 25) dX10_worthsOf_25 rfl ?_
          refine kX10_427 (pc := 26) rfl (c_worthOf hb hT k (d - 1) (by omega) (by omega) A' hA) (by omega) (Nat.le_of_ble_eq_true rfl) dX10_worthsOf_26 (fun r1 σ1 e1 => ?_)
          refine gx_goto (pc := 29) 33 dX10_worthsOf_29 (by decide) ?_
          obtain ⟨rfl, A2, hA2, rfl⟩ := e1
          exact K A2 hA2 _ (by simp [hs, c2])
  exact L S 0 (by omega) σ.2.2.1 wE.rf
theorem c_purse (hb : gxN G ≤ b) (hd : 16 ≤ d) (hT : mT σ.2.2.1 P S E w) (p : Int32) : mMi G mX10_purse d [.ref b, .int p] h b σ (fun r σ' => r = spWs w σ.2.2.1 P (spKnown σ.2.2.1 p S) S ∧ wS σ σ') := by
  refine gxM_of rfl (Nat.le_of_ble_eq_true rfl) rfl ?_
  refine gx_aload_n (pc := 0) dX10_purse_0 rfl ?_
  refine gx_aload_n (pc := 1) dX10_purse_1 rfl ?_
  refine gx_iload_n (pc := 2) dX10_purse_2 rfl ?_
  refine kX10_430 (pc := 3) rfl (c_knownBy (d := d - 1) hT.2.2.1 hT.2.2.2.1 p) (by omega) (Nat.le_of_ble_eq_true rfl) dX10_purse_3 (fun r1 σ1 e1 => ?_)
  obtain ⟨rfl, hσ⟩ := e1
  subst σ1
  refine kX10_433 (pc := 6) rfl (c_worthsOf (d := d - 1) hb (by omega) hT _) (by omega) (Nat.le_of_ble_eq_true rfl) dX10_purse_6 (fun r1 σ1 e1 => ?_)
  exact m_ret (pc := 9) rfl dX10_purse_9 (e1)
theorem c_net (p : Nat) (hp : p < 6) : mMi G mX10_net d [.ref b, .int (nI p)] h b σ (fun r σ' => r = spNet σ.2.2.1 p 6 ∧ σ' = σ) := by
  refine gxM_of rfl (Nat.le_of_ble_eq_true rfl) rfl ?_
  refine gx_iconst (pc := 0) (v := 0) dX10_net_0 (by decide) ?_
  refine gx_istore_n (pc := 1) dX10_net_1 (by decide) rfl ?_
  refine gx_iconst (pc := 2) (v := 0) dX10_net_2 (by decide) ?_
  refine gx_istore_n (pc := 3) dX10_net_3 (by decide) rfl ?_
  have L : ∀ n k, n + k = 6 → gxV G mX10_net d 0 0 4 [some (.ref b), some (.int (nI p)), some (.int (spNet σ.2.2.1 p k)), some (.int (nI k))] [] (mput h b σ) (mQi h b (fun r σ' => r = spNet σ.2.2.1 p 6 ∧ σ' = σ)) := by
    intro n
    induction n with
    | zero =>
      intro k hk
      refine gx_iload_n (pc := 4) dX10_net_4 rfl ?_
      refine gx_bipush (pc := 5) (v := 6) dX10_net_5 (by decide) ?_
      refine gx_icmp_ge (pc := 7) 48 dX10_net_7 (by decide) (fun c1 => ?_) (fun c1 => ?_)
      · refine gx_iload_n (pc := 48) dX10_net_48 rfl ?_
        exact m_ret (pc := 49) rfl dX10_net_49 (⟨by rw [show k = 6 by omega], rfl⟩)
      · exact absurd (nI_le (a := 6) (b := k) (by omega) (by omega)) c1
    | succ n ih =>
      intro k hk
      refine gx_iload_n (pc := 4) dX10_net_4 rfl ?_
      refine gx_bipush (pc := 5) (v := 6) dX10_net_5 (by decide) ?_
      refine gx_icmp_ge (pc := 7) 48 dX10_net_7 (by decide) (fun c1 => ?_) (fun c1 => ?_)
      · exact absurd c1 (nI_ge (a := k) (b := 6) (by omega) (by omega))
      · refine gx_iload_n (pc := 10) dX10_net_10 rfl ?_
        refine gx_aload_n (pc := 11) dX10_net_11 rfl ?_
        refine m_getA (pc := 12) rfl fX10_129 rfl (by decide) dX10_net_12 ?_
        refine gx_bipush (pc := 15) (v := 86) dX10_net_15 (by decide) ?_
        refine gx_bipush (pc := 17) (v := 6) dX10_net_17 (by decide) ?_
        refine gx_iload_n (pc := 19) dX10_net_19 rfl ?_
        refine gx_imul (pc := 20) dX10_net_20 ?_
        refine gx_iadd (pc := 21) dX10_net_21 ?_
        refine gx_iload_n (pc := 22) dX10_net_22 rfl ?_
        refine gx_iadd (pc := 23) dX10_net_23 ?_
        refine m_iald (pc := 24) 50 (((86 + (6 * k)) + p)) 123 rfl (by decide) rfl (by first | rfl | simp only [gx_lit, nI_add, pk_mul]) (by omega) (by decide) dX10_net_24 ?_
        refine gx_aload_n (pc := 25) dX10_net_25 rfl ?_
        refine m_getA (pc := 26) rfl fX10_129 rfl (by decide) dX10_net_26 ?_
        refine gx_bipush (pc := 29) (v := 86) dX10_net_29 (by decide) ?_
        refine gx_bipush (pc := 31) (v := 6) dX10_net_31 (by decide) ?_
        refine gx_iload_n (pc := 33) dX10_net_33 rfl ?_
        refine gx_imul (pc := 34) dX10_net_34 ?_
        refine gx_iadd (pc := 35) dX10_net_35 ?_
        refine gx_iload_n (pc := 36) dX10_net_36 rfl ?_
        refine gx_iadd (pc := 37) dX10_net_37 ?_
        refine m_iald (pc := 38) 50 (((86 + (6 * p)) + k)) 123 rfl (by decide) rfl (by first | rfl | simp only [gx_lit, nI_add, pk_mul]) (by omega) (by decide) dX10_net_38 ?_
        refine gx_isub (pc := 39) dX10_net_39 ?_
        refine gx_iadd (pc := 40) dX10_net_40 ?_
        refine gx_istore_n (pc := 41) dX10_net_41 (by decide) rfl ?_
        refine gx_iincc (pc := 42) (c := 1) dX10_net_42 rfl (by decide) (by decide) rfl ?_
        refine gx_goto (pc := 45) 4 dX10_net_45 (by decide) ?_
        rw [nI_1]
        exact ih (k + 1) (by omega)
  exact L 6 0 (by omega)
theorem c_areTwo (hd : 1 ≤ d) (hP : σ.2.2.1 10 0 = nI P) (p q : Int32) : mMi G mX10_areTwo d [.ref b, .int p, .int q] h b σ (fun r σ' => r = zi ((decide (0 ≤ p) && decide (p < nI P)) && (decide (0 ≤ q) && decide (q < nI P)) && !decide (p = q)) ∧ σ' = σ) := by
  refine gxM_of rfl (Nat.le_of_ble_eq_true rfl) rfl ?_
  refine gx_aload_n (pc := 0) dX10_areTwo_0 rfl ?_
  refine gx_iload_n (pc := 1) dX10_areTwo_1 rfl ?_
  refine kX10_436 (pc := 2) rfl (c_isPerson (d := d - 1) P p hP) (by omega) (Nat.le_of_ble_eq_true rfl) dX10_areTwo_2 (fun r1 σ1 e1 => ?_)
  obtain ⟨rfl, hσ⟩ := e1
  subst σ1
  refine gx_if_eq (pc := 5) 25 dX10_areTwo_5 (by decide) (fun c1 => ?_) (fun c1 => ?_)
  · refine gx_iconst (pc := 25) (v := 0) dX10_areTwo_25 (by decide) ?_
    exact m_retz (pc := 26) rfl (by decide) dX10_areTwo_26 (⟨by grind [zi], rfl⟩)
  · refine gx_aload_n (pc := 8) dX10_areTwo_8 rfl ?_
    refine gx_iload_n (pc := 9) dX10_areTwo_9 rfl ?_
    refine kX10_436 (pc := 10) rfl (c_isPerson (d := d - 1) P q hP) (by omega) (Nat.le_of_ble_eq_true rfl) dX10_areTwo_10 (fun r1 σ1 e1 => ?_)
    obtain ⟨rfl, hσ⟩ := e1
    subst σ1
    refine gx_if_eq (pc := 13) 25 dX10_areTwo_13 (by decide) (fun c13 => ?_) (fun c13 => ?_)
    · refine gx_iconst (pc := 25) (v := 0) dX10_areTwo_25 (by decide) ?_
      exact m_retz (pc := 26) rfl (by decide) dX10_areTwo_26 (⟨by grind [zi], rfl⟩)
    · refine gx_iload_n (pc := 16) dX10_areTwo_16 rfl ?_
      refine gx_iload_n (pc := 17) dX10_areTwo_17 rfl ?_
      refine gx_icmp_eq (pc := 18) 25 dX10_areTwo_18 (by decide) (fun c18 => ?_) (fun c18 => ?_)
      · refine gx_iconst (pc := 25) (v := 0) dX10_areTwo_25 (by decide) ?_
        exact m_retz (pc := 26) rfl (by decide) dX10_areTwo_26 (⟨by grind [zi], rfl⟩)
      · refine gx_iconst (pc := 21) (v := 1) dX10_areTwo_21 (by decide) ?_
        refine gx_goto (pc := 22) 26 dX10_areTwo_22 (by decide) ?_
        exact m_retz (pc := 26) rfl (by decide) dX10_areTwo_26 (⟨by grind [zi], rfl⟩)
/-- whether one can tell another one something -/
def spCan (A : Nat → Nat → Int32) (p q k : Nat) : Bool := hs (A 50 k) (nI p) && spSpeaks A p && decide ((A 50 k >>> (nI q &&& 31)) &&& 1 = 0)
theorem c_canTell (hd : 1 ≤ d) (p q k : Nat) (hp : p < 6) (hk : k < 10) : mMi G mX10_canTell d [.ref b, .int (nI p), .int (nI q), .int (nI k)] h b σ (fun r σ' => r = zi (spCan σ.2.2.1 p q k) ∧ σ' = σ) := by
  refine gxM_of rfl (Nat.le_of_ble_eq_true rfl) rfl ?_
  refine gx_aload_n (pc := 0) dX10_canTell_0 rfl ?_
  refine m_getA (pc := 1) rfl fX10_129 rfl (by decide) dX10_canTell_1 ?_
  refine gx_iload_n (pc := 4) dX10_canTell_4 rfl ?_
  refine m_iald (pc := 5) 50 (k) 123 rfl (by decide) rfl (by first | rfl | simp only [gx_lit, nI_add, pk_mul]) (by omega) (by decide) dX10_canTell_5 ?_
  refine gx_iload_n (pc := 6) dX10_canTell_6 rfl ?_
  refine gx_ishr (pc := 7) dX10_canTell_7 ?_
  refine gx_iconst (pc := 8) (v := 1) dX10_canTell_8 (by decide) ?_
  refine gx_iand (pc := 9) dX10_canTell_9 ?_
  refine gx_iconst (pc := 10) (v := 1) dX10_canTell_10 (by decide) ?_
  refine gx_icmp_ne (pc := 11) 39 dX10_canTell_11 (by decide) (fun c1 => ?_) (fun c1 => ?_)
  · refine gx_iconst (pc := 39) (v := 0) dX10_canTell_39 (by decide) ?_
    exact m_retz (pc := 40) rfl (by decide) dX10_canTell_40 (⟨by simp [zi, spCan, hs, c1], rfl⟩)
  · refine gx_aload_n (pc := 14) dX10_canTell_14 rfl ?_
    refine gx_iload_n (pc := 15) dX10_canTell_15 rfl ?_
    refine kX10_461 (pc := 16) rfl (c_speaks (d := d - 1) p hp) (by omega) (Nat.le_of_ble_eq_true rfl) dX10_canTell_16 (fun r1 σ1 e1 => ?_)
    obtain ⟨rfl, hσ⟩ := e1
    subst σ1
    refine gx_if_eq (pc := 19) 39 dX10_canTell_19 (by decide) (fun c19 => ?_) (fun c19 => ?_)
    · refine gx_iconst (pc := 39) (v := 0) dX10_canTell_39 (by decide) ?_
      exact m_retz (pc := 40) rfl (by decide) dX10_canTell_40 (⟨by simp_all [zi, spCan, hs], rfl⟩)
    · refine gx_aload_n (pc := 22) dX10_canTell_22 rfl ?_
      refine m_getA (pc := 23) rfl fX10_129 rfl (by decide) dX10_canTell_23 ?_
      refine gx_iload_n (pc := 26) dX10_canTell_26 rfl ?_
      refine m_iald (pc := 27) 50 (k) 123 rfl (by decide) rfl (by first | rfl | simp only [gx_lit, nI_add, pk_mul]) (by omega) (by decide) dX10_canTell_27 ?_
      refine gx_iload_n (pc := 28) dX10_canTell_28 rfl ?_
      refine gx_ishr (pc := 29) dX10_canTell_29 ?_
      refine gx_iconst (pc := 30) (v := 1) dX10_canTell_30 (by decide) ?_
      refine gx_iand (pc := 31) dX10_canTell_31 ?_
      refine gx_if_ne (pc := 32) 39 dX10_canTell_32 (by decide) (fun c32 => ?_) (fun c32 => ?_)
      · refine gx_iconst (pc := 39) (v := 0) dX10_canTell_39 (by decide) ?_
        exact m_retz (pc := 40) rfl (by decide) dX10_canTell_40 (⟨by simp_all [zi, spCan, hs], rfl⟩)
      · refine gx_iconst (pc := 35) (v := 1) dX10_canTell_35 (by decide) ?_
        refine gx_goto (pc := 36) 40 dX10_canTell_36 (by decide) ?_
        exact m_retz (pc := 40) rfl (by decide) dX10_canTell_40 (⟨by simp_all [zi, spCan, hs], rfl⟩)
/-- one tells another one something -/
def spTell (A : Nat → Nat → Int32) (p q k : Nat) : Nat → Int32 :=
  let s1 := upd (A 50) k (A 50 k ||| (1 <<< (nI q &&& 31)))
  let s2 := upd s1 (10 + 10 * p + k) (s1 (10 + 10 * p + k) ||| (1 <<< (nI q &&& 31)))
  let s3 := upd s2 (10 + 10 * q + k) (s2 (10 + 10 * q + k) ||| (1 <<< (nI p &&& 31)))
  if A 16 k = 1 ∧ A 17 k = nI q then upd s3 76 (s3 76 ||| (1 <<< (nI k &&& 31))) else s3
/-- the arrays with another row of talk -/
def setS (A : Nat → Nat → Int32) (s : Nat → Int32) : Nat → Nat → Int32 := fun q => if q = 50 then s else A q
theorem setS_up {A : Nat → Nat → Int32} {s : Nat → Int32} {k : Nat} {v : Int32} : upA (setS A s) 50 k v = setS A (upd s k v) := by
  funext q
  by_cases hq : q = 50 <;> simp [upA, setS, hq]
theorem setS_up0 {A : Nat → Nat → Int32} {k : Nat} {v : Int32} : upA A 50 k v = setS A (upd (A 50) k v) := by
  funext q
  by_cases hq : q = 50 <;> simp [upA, setS, hq]
theorem mA_eq (σ : mS) (j k : Nat) (v : Int32) : mA σ j k v = mSA σ (upA σ.2.2.1 j k v) := rfl
theorem mSA_mSA (σ : mS) (A B : Nat → Nat → Int32) : mSA (mSA σ A) B = mSA σ B := rfl
theorem setS_50 (A : Nat → Nat → Int32) (s : Nat → Int32) : setS A s 50 = s := by simp [setS]
theorem setS_ne {A : Nat → Nat → Int32} {s : Nat → Int32} {q : Nat} (h : q ≠ 50) : setS A s q = A q := by simp [setS, h]
theorem setS_setS (A : Nat → Nat → Int32) (s t : Nat → Int32) : setS (setS A s) t = setS A t := by
  funext q
  by_cases hq : q = 50 <;> simp [setS, hq]
theorem c_tells (hb : gxN G ≤ b) (p q k : Nat) (hp : p < 6) (hq : q < 6) (hk : k < 10) : mMv G mX10_tells d [.ref b, .int (nI p), .int (nI q), .int (nI k)] h b σ (fun σ' => σ' = mSA σ (setS σ.2.2.1 (spTell σ.2.2.1 p q k))) := by
  refine gxM_of rfl (Nat.le_of_ble_eq_true rfl) rfl ?_
  refine gx_aload_n (pc := 0) dX10_tells_0 rfl ?_
  refine m_getA (pc := 1) rfl fX10_129 rfl (by decide) dX10_tells_1 ?_
  refine gx_iload_n (pc := 4) dX10_tells_4 rfl ?_
  refine gx_dup2 (pc := 5) dX10_tells_5 rfl rfl ?_
  refine m_iald (pc := 6) 50 (k) 123 rfl (by decide) rfl (by first | rfl | simp only [gx_lit, nI_add, pk_mul]) (by omega) (by decide) dX10_tells_6 ?_
  refine gx_iconst (pc := 7) (v := 1) dX10_tells_7 (by decide) ?_
  refine gx_iload_n (pc := 8) dX10_tells_8 rfl ?_
  refine gx_ishl (pc := 9) dX10_tells_9 ?_
  refine gx_ior (pc := 10) dX10_tells_10 ?_
  refine m_iast (pc := 11) hb 50 (k) 123 rfl (by decide) rfl (by first | rfl | simp only [gx_lit, nI_add, pk_mul]) (by omega) (by decide) dX10_tells_11 ?_
  refine gx_aload_n (pc := 12) dX10_tells_12 rfl ?_
  refine m_getA (pc := 13) rfl fX10_129 rfl (by decide) dX10_tells_13 ?_
  refine gx_bipush (pc := 16) (v := 10) dX10_tells_16 (by decide) ?_
  refine gx_bipush (pc := 18) (v := 10) dX10_tells_18 (by decide) ?_
  refine gx_iload_n (pc := 20) dX10_tells_20 rfl ?_
  refine gx_imul (pc := 21) dX10_tells_21 ?_
  refine gx_iadd (pc := 22) dX10_tells_22 ?_
  refine gx_iload_n (pc := 23) dX10_tells_23 rfl ?_
  refine gx_iadd (pc := 24) dX10_tells_24 ?_
  refine gx_dup2 (pc := 25) dX10_tells_25 rfl rfl ?_
  refine m_iald (pc := 26) 50 (((10 + (10 * p)) + k)) 123 rfl (by decide) rfl (by first | rfl | simp only [gx_lit, nI_add, pk_mul]) (by omega) (by decide) dX10_tells_26 ?_
  refine gx_iconst (pc := 27) (v := 1) dX10_tells_27 (by decide) ?_
  refine gx_iload_n (pc := 28) dX10_tells_28 rfl ?_
  refine gx_ishl (pc := 29) dX10_tells_29 ?_
  refine gx_ior (pc := 30) dX10_tells_30 ?_
  refine m_iast (pc := 31) hb 50 (((10 + (10 * p)) + k)) 123 rfl (by decide) rfl (by first | rfl | simp only [gx_lit, nI_add, pk_mul]) (by omega) (by decide) dX10_tells_31 ?_
  refine gx_aload_n (pc := 32) dX10_tells_32 rfl ?_
  refine m_getA (pc := 33) rfl fX10_129 rfl (by decide) dX10_tells_33 ?_
  refine gx_bipush (pc := 36) (v := 10) dX10_tells_36 (by decide) ?_
  refine gx_bipush (pc := 38) (v := 10) dX10_tells_38 (by decide) ?_
  refine gx_iload_n (pc := 40) dX10_tells_40 rfl ?_
  refine gx_imul (pc := 41) dX10_tells_41 ?_
  refine gx_iadd (pc := 42) dX10_tells_42 ?_
  refine gx_iload_n (pc := 43) dX10_tells_43 rfl ?_
  refine gx_iadd (pc := 44) dX10_tells_44 ?_
  refine gx_dup2 (pc := 45) dX10_tells_45 rfl rfl ?_
  refine m_iald (pc := 46) 50 (((10 + (10 * q)) + k)) 123 rfl (by decide) rfl (by first | rfl | simp only [gx_lit, nI_add, pk_mul]) (by omega) (by decide) dX10_tells_46 ?_
  refine gx_iconst (pc := 47) (v := 1) dX10_tells_47 (by decide) ?_
  refine gx_iload_n (pc := 48) dX10_tells_48 rfl ?_
  refine gx_ishl (pc := 49) dX10_tells_49 ?_
  refine gx_ior (pc := 50) dX10_tells_50 ?_
  refine m_iast (pc := 51) hb 50 (((10 + (10 * q)) + k)) 123 rfl (by decide) rfl (by first | rfl | simp only [gx_lit, nI_add, pk_mul]) (by omega) (by decide) dX10_tells_51 ?_
  simp only [mA_eq, mSA_A, mSA_mSA, setS_up0, setS_50, setS_setS]
  refine gx_aload_n (pc := 52) dX10_tells_52 rfl ?_
  refine m_getA (pc := 53) rfl fX10_32 rfl (by decide) dX10_tells_53 ?_
  refine gx_iload_n (pc := 56) dX10_tells_56 rfl ?_
  refine m_iald (pc := 57) 16 (k) 20 rfl (by decide) rfl (by first | rfl | simp only [gx_lit, nI_add, pk_mul]) (by omega) (by decide) dX10_tells_57 ?_
  refine gx_iconst (pc := 58) (v := 1) dX10_tells_58 (by decide) ?_
  refine gx_icmp_ne (pc := 59) 85 dX10_tells_59 (by decide) (fun c1 => ?_) (fun c1 => ?_)
  · have c1' : ¬ σ.2.2.1 16 k = 1 := c1
    exact m_retv (pc := 85) rfl dX10_tells_85 (by simp only [spTell, c1', false_and, if_false])
  · have c1' : σ.2.2.1 16 k = 1 := c1
    refine gx_aload_n (pc := 62) dX10_tells_62 rfl ?_
    refine m_getA (pc := 63) rfl fX10_35 rfl (by decide) dX10_tells_63 ?_
    refine gx_iload_n (pc := 66) dX10_tells_66 rfl ?_
    refine m_iald (pc := 67) 17 (k) 20 rfl (by decide) rfl (by first | rfl | simp only [gx_lit, nI_add, pk_mul]) (by omega) (by decide) dX10_tells_67 ?_
    refine gx_iload_n (pc := 68) dX10_tells_68 rfl ?_
    refine gx_icmp_ne (pc := 69) 85 dX10_tells_69 (by decide) (fun c2 => ?_) (fun c2 => ?_)
    · have c2' : ¬ σ.2.2.1 17 k = nI q := c2
      exact m_retv (pc := 85) rfl dX10_tells_85 (by simp only [spTell, c2', and_false, if_false])
    · have c2' : σ.2.2.1 17 k = nI q := c2
      refine gx_aload_n (pc := 72) dX10_tells_72 rfl ?_
      refine m_getA (pc := 73) rfl fX10_129 rfl (by decide) dX10_tells_73 ?_
      refine gx_bipush (pc := 76) (v := 76) dX10_tells_76 (by decide) ?_
      refine gx_dup2 (pc := 78) dX10_tells_78 rfl rfl ?_
      refine m_iald (pc := 79) 50 (76) 123 rfl (by decide) rfl (by first | rfl | simp only [gx_lit, nI_add, pk_mul]) (by omega) (by decide) dX10_tells_79 ?_
      refine gx_iconst (pc := 80) (v := 1) dX10_tells_80 (by decide) ?_
      refine gx_iload_n (pc := 81) dX10_tells_81 rfl ?_
      refine gx_ishl (pc := 82) dX10_tells_82 ?_
      refine gx_ior (pc := 83) dX10_tells_83 ?_
      refine m_iast (pc := 84) hb 50 (76) 123 rfl (by decide) rfl (by first | rfl | simp only [gx_lit, nI_add, pk_mul]) (by omega) (by decide) dX10_tells_84 ?_
      exact m_retv (pc := 85) rfl dX10_tells_85 (by simp only [spTell, c1', c2', and_self, if_true, mA_eq, mSA_A, mSA_mSA, setS_up0, setS_50, setS_setS])
end ME
