/-! ===== MODEL Y: payers ===== -/
set_option maxRecDepth 100000
theorem sE.T {σ ρ : mS} {P S E : Nat} {w : Option gxEv} (h : sE σ ρ) (hT : mT σ.2.2.1 P S E w) : mT ρ.2.2.1 P S E w := by
  unfold mT mWx at *
  rw [h.2.2.2 10 rfl, h.2.2.2 17 rfl, h.2.2.2 19 rfl, h.2.2.2 22 rfl, h.2.2.2 23 rfl, h.2.2.2 25 rfl, h.2.2.2 26 rfl, h.2.2.2 27 rfl]
  exact hT
theorem sE.mA {σ ρ : mS} (h : sE σ ρ) {j : Nat} (hj : scr j = true) (i : Nat) (v : Int32) : sE σ (mA ρ j i v) := by
  refine ⟨h.1, h.2.1, h.2.2.1, fun z hz => ?_⟩
  have : z ≠ j := fun e => by rw [e, hj] at hz; exact absurd hz (by decide)
  rw [mA_eq, mSA_A, upA_setJ, setJ_ne this]
  exact h.2.2.2 z hz
theorem mA_at (σ : mS) (j i k : Nat) (v : Int32) : (mA σ j i v).2.2.1 j k = if k = i then v else σ.2.2.1 j k := by
  rw [mA_eq, mSA_A, upA_setJ, setJ_j]; rfl
theorem mA_nj (σ : mS) {j z : Nat} (hz : z ≠ j) (i : Nat) (v : Int32) : (mA σ j i v).2.2.1 z = σ.2.2.1 z := by
  rw [mA_eq, mSA_A, upA_setJ, setJ_ne hz]
def spDue (A : Nat → Nat → Int32) : Nat → Nat
  | 0 => 0
  | p + 1 => if A 15 p ≤ 0 then spDue A p else (if (A 50 78 >>> (nI p &&& 31)) &&& 1 = 0 then spDue A p + 2 ^ p else spDue A p)
theorem spDue_lt (A : Nat → Nat → Int32) : ∀ p, spDue A p < 2 ^ p
  | 0 => Nat.one_pos
  | p + 1 => by
    have := spDue_lt A p
    rw [spDue, Nat.pow_succ]
    split
    · omega
    · split <;> omega
def low (q : Nat) : Nat := if q % 2 = 1 then 0 else if q / 2 % 2 = 1 then 1 else if q / 4 % 2 = 1 then 2 else if q / 8 % 2 = 1 then 3 else if q / 16 % 2 = 1 then 4 else if q / 32 % 2 = 1 then 5 else 6
theorem low_ok : ∀ q, q < 64 → 0 < q → low q < 6 ∧ ¬ (nI q >>> (nI (low q) &&& 31)) &&& 1 = 0 ∧ (∀ j, j < low q → (nI q >>> (nI j &&& 31)) &&& 1 = 0) ∧ dif q (2 ^ low q) < q := by decide +kernel
theorem dif_sub : ∀ q, q < 64 → 0 < q → ∀ due, due < 64 → dif q due = 0 → dif (dif q (2 ^ low q)) due = 0 := by decide +kernel
theorem low_pow : ∀ q, q < 64 → 0 < q → 2 ^ low q ≤ q := by decide +kernel
theorem dif_0 : ∀ q, q < 64 → ∀ du, du < 64 → dif q du = 0 → q ≤ du := by decide +kernel
def spTs (en tg : Nat → Bool) (set : Nat) : Nat → Nat → Bool
  | 0, _ => false
  | m + 1, sub => if sub = 0 then false else (if en sub = false then spTs en tg set m ((sub - 1) &&& set) else (if tg (dif set sub) = false then spTs en tg set m ((sub - 1) &&& set) else true))
def spTG (cp : Nat → Nat → Bool) : Nat → Nat → Nat → Bool
  | 0, _, _ => true
  | g + 1, q, set => if q = 0 then true else spTs (cp (low q)) (spTG cp g (dif q (2 ^ low q))) set set set
theorem spTG_fuel (cp : Nat → Nat → Bool) : ∀ g q, q < 64 → q ≤ g → spTG cp g q = spTG cp q q
  | 0, q, _, h => by rw [show q = 0 by omega]
  | g + 1, q, hq, h => by
    funext set
    cases q with
    | zero => simp [spTG]
    | succ q =>
      have := (low_ok (q + 1) hq (by omega)).2.2.2
      rw [spTG, spTG, spTG_fuel cp g _ (by omega) (by omega), spTG_fuel cp q _ (by omega) (by omega)]
theorem spPT_ts {A : Nat → Nat → Int32} {f pp set : Nat} {en tg : Nat → Bool} (he : ∀ s, s ≤ set → A 57 (1024 * f + s) = zi (en s)) (ht : ∀ s, s ≤ set → A 56 (1024 * pp + s) = zi (tg s)) : ∀ m sub, sub ≤ set → spPT A f pp set m sub = spTs en tg set m sub
  | 0, _, _ => rfl
  | m + 1, sub, hs => by
    have hz : ∀ bb : Bool, (zi bb = 0) = (bb = false) := fun bb => by cases bb <;> simp [zi]
    have h1 : (sub - 1) &&& set ≤ set := Nat.and_le_right
    rw [spPT, spTs, he sub hs, ht _ (dif_le _ _), spPT_ts he ht m _ h1]
    simp only [hz]
def spBest (tg : Nat → Bool) (due : Nat) : Nat → Nat
  | 0 => 0
  | q + 1 => if dif q due = 0 then (if tg q then (if spBits (nI q) 10 ≤ spBits (nI (spBest tg due q)) 10 then spBest tg due q else q) else spBest tg due q) else spBest tg due q
theorem spBest_le (tg : Nat → Bool) (due : Nat) : ∀ q, spBest tg due q ≤ q
  | 0 => Nat.le_refl _
  | q + 1 => by
    have := spBest_le tg due q
    rw [spBest]
    split
    · split
      · split <;> omega
      · omega
    · omega
def spPyr (w : Option gxEv) (A : Nat → Nat → Int32) (P S : Nat) : Nat := spBest (fun q => spTG (fun p s => spCanPay w A P S p (nI s)) q q (2 ^ S - 1)) (spDue A P) 64
section MY
variable {G : gxG} {d : Nat} {h : gxH} {b : Nat} {σ : mS} {P S E : Nat} {w : Option gxEv}
theorem c_payers (hb : gxN G ≤ b) (hd : 17 ≤ d) (hT : mT σ.2.2.1 P S E w) : mMi G mX10_payers d [.ref b] h b σ (fun r σ' => r = nI (spPyr w σ.2.2.1 P S) ∧ sE (mI σ 0 0) σ') := by
  have hP := hT.1
  have hP6 := hT.2.1
  have hS10 := hT.2.2.2.1
  obtain ⟨hsh, h64⟩ := shl_P hP6
  have hSp : 0 < 2 ^ S := Nat.pow_pos (by decide)
  have hS2 : 2 ^ S ≤ 1024 := Nat.pow_le_pow_right (n := 2) (by decide) hS10
  have hall := spAll_eq S (by omega)
  generalize hN : 2 ^ S = N at *
  refine gxM_of rfl (Nat.le_of_ble_eq_true rfl) rfl ?_
  have hdue : spDue σ.2.2.1 P < 64 := Nat.lt_of_lt_of_le (spDue_lt σ.2.2.1 P) h64
  generalize hcp : (fun p s => spCanPay w σ.2.2.1 P S p (nI s)) = cp
  have hcpe : ∀ p s, spCanPay w σ.2.2.1 P S p (nI s) = cp p s := fun p s => by rw [← hcp]
  have hpay : spPyr w σ.2.2.1 P S = spBest (fun q => spTG cp q q (N - 1)) (spDue σ.2.2.1 P) 64 := by rw [spPyr, hcp, hN]
  generalize hDu : spDue σ.2.2.1 P = du at *
  have L2 : ∀ m q, m + q = 64 → ∀ ρ, sE (mI σ 0 0) ρ → (∀ p s, p < P → s < N → ρ.2.2.1 57 (1024 * p + s) = zi (cp p s)) → (∀ q' s, q' < q → dif q' du = 0 → s < N → ρ.2.2.1 56 (1024 * q' + s) = zi (spTG cp q' q' s)) → ∀ x4 : Option Value, gxV G mX10_payers d 0 0 96 [some (.ref b), some (.int (nI du)), some (.int (nI (spBest (fun q => spTG cp q q (N - 1)) du q))), some (.int (nI q)), x4] [] (mput h b ρ) (mQi h b (fun r σ' => r = nI (spPyr w σ.2.2.1 P S) ∧ sE (mI σ 0 0) σ')) := by
    intro m
    induction m with
    | zero =>
      intro q hq ρ hρ _ _ x4
      have : q = 64 := by omega
      subst this
      refine gx_iload_n (pc := 96) dX10_payers_96 rfl ?_
      refine gx_bipush (pc := 97) (v := 64) dX10_payers_97 (by decide) ?_
      refine gx_icmp_ge (pc := 99) 200 dX10_payers_99 (by decide) (fun c1 => ?_) (fun c1 => ?_)
      · refine gx_iload_n (pc := 200) dX10_payers_200 rfl ?_
        exact m_ret (pc := 201) rfl dX10_payers_201 (⟨by rw [hpay], hρ⟩)
      · exact absurd (by decide) c1
    | succ m ih =>
      intro q hq ρ hρ hen htg x4
      have K194 : ∀ ρ (bb : Nat) (x4 : Option Value), bb = spBest (fun q => spTG cp q q (N - 1)) du (q + 1) → sE (mI σ 0 0) ρ → (∀ p s, p < P → s < N → ρ.2.2.1 57 (1024 * p + s) = zi (cp p s)) → (∀ q' s, q' < q + 1 → dif q' du = 0 → s < N → ρ.2.2.1 56 (1024 * q' + s) = zi (spTG cp q' q' s)) → gxV G mX10_payers d 0 0 194 [some (.ref b), some (.int (nI du)), some (.int (nI bb)), some (.int (nI q)), x4] [] (mput h b ρ) (mQi h b (fun r σ' => r = nI (spPyr w σ.2.2.1 P S) ∧ sE (mI σ 0 0) σ')) := by
        intro ρ bb x4 hbb h1 h2 h3
        subst hbb
        refine gx_iincc (pc := 194) (c := 1) dX10_payers_194 rfl (by decide) (by decide) rfl ?_
        refine gx_goto (pc := 197) 96 dX10_payers_197 (by decide) ?_
        rw [nI_1]
        exact ih (q + 1) (by omega) ρ h1 h2 h3 _
      refine gx_iload_n (pc := 96) dX10_payers_96 rfl ?_
      refine gx_bipush (pc := 97) (v := 64) dX10_payers_97 (by decide) ?_
      refine gx_icmp_ge (pc := 99) 200 dX10_payers_99 (by decide) (fun c1 => ?_) (fun c1 => ?_)
      · exact absurd c1 (nI_ge (a := q) (b := 64) (by omega) (by omega))
      · refine gx_iload_n (pc := 102) dX10_payers_102 rfl ?_
        refine gx_iload_n (pc := 103) dX10_payers_103 rfl ?_
        refine gx_iconst (pc := 104) (v := (-1)) dX10_payers_104 (by decide) ?_
        refine gx_ixor (pc := 105) dX10_payers_105 ?_
        refine gx_iand (pc := 106) dX10_payers_106 ?_
        rw [dif_eq _ (by omega)]
        have hdl := dif_le q du
        refine gx_if_eq (pc := 107) 113 dX10_payers_107 (by decide) (fun c2 => ?_) (fun c2 => ?_)
        · have hd0 : dif q du = 0 := (nI_eq (b := 0) (by omega) (by decide)).mp c2
          have L4 : ∀ m s, m + s = N → ∀ ρ, sE (mI σ 0 0) ρ → (∀ p s, p < P → s < N → ρ.2.2.1 57 (1024 * p + s) = zi (cp p s)) → (∀ q' s, q' < q → dif q' du = 0 → s < N → ρ.2.2.1 56 (1024 * q' + s) = zi (spTG cp q' q' s)) → (∀ s', s' < s → ρ.2.2.1 56 (1024 * q + s') = zi (spTG cp q q s')) → gxV G mX10_payers d 0 0 116 [some (.ref b), some (.int (nI du)), some (.int (nI (spBest (fun q => spTG cp q q (N - 1)) du q))), some (.int (nI q)), some (.int (nI s))] [] (mput h b ρ) (mQi h b (fun r σ' => r = nI (spPyr w σ.2.2.1 P S) ∧ sE (mI σ 0 0) σ')) := by
            intro m4
            induction m4 with
            | zero =>
              intro s hs ρ hρ hen htg hts
              have : s = N := by omega
              subst this
              have hTρ := sE.T (σ := mI σ 0 0) hρ hT
              have hk : ∀ q' s', q' < q + 1 → dif q' du = 0 → s' < s → ρ.2.2.1 56 (1024 * q' + s') = zi (spTG cp q' q' s') := fun q' s' h1 h2 h3 => by
                rcases Nat.lt_or_ge q' q with z | z
                · exact htg q' s' z h2 h3
                · rw [show q' = q by omega]; exact hts s' h3
              refine gx_iload (pc := 116) dX10_payers_116 rfl ?_
              refine gx_aload_n (pc := 118) dX10_payers_118 rfl ?_
              refine kX10_489 (pc := 119) rfl (c_allSecrets (d := d - 1) hTρ) (by omega) (Nat.le_of_ble_eq_true rfl) dX10_payers_119 (fun r1 σ1 e1 => ?_)
              obtain ⟨rfl, hσ⟩ := e1
              subst σ1
              rw [hall]
              refine gx_icmp_gt (pc := 122) 163 dX10_payers_122 (by decide) (fun c3 => ?_) (fun c3 => ?_)
              · refine gx_aload_n (pc := 163) dX10_payers_163 rfl ?_
                refine m_getA (pc := 164) rfl fX10_145 rfl (by decide) dX10_payers_164 ?_
                refine gx_sipush (pc := 167) (v := 1024) dX10_payers_167 (by decide) ?_
                refine gx_iload_n (pc := 170) dX10_payers_170 rfl ?_
                refine gx_imul (pc := 171) dX10_payers_171 ?_
                refine gx_aload_n (pc := 172) dX10_payers_172 rfl ?_
                refine kX10_489 (pc := 173) rfl (c_allSecrets (d := d - 1) hTρ) (by omega) (Nat.le_of_ble_eq_true rfl) dX10_payers_173 (fun r1 σ1 e1 => ?_)
                obtain ⟨rfl, hσ⟩ := e1
                subst σ1
                rw [hall]
                refine gx_iadd (pc := 176) dX10_payers_176 ?_
                rw [show (1024 : Int32) * nI q + nI (s - 1) = nI (1024 * q + (s - 1)) by rw [show (1024 : Int32) = nI 1024 from rfl, pk_mul, nI_add]]
                refine m_zald (pc := 177) 56 ((1024*q+(s-1))) 65536 rfl (by decide) rfl (by first | rfl | simp only [gx_lit, nI_add, pk_mul]) (by omega) (by decide) dX10_payers_177 ?_
                rw [hts (s - 1) (by omega)]
                refine gx_if_eq (pc := 178) 194 dX10_payers_178 (by decide) (fun c4 => ?_) (fun c4 => ?_)
                · have hf : ¬ spTG cp q q (s - 1) = true := fun e => by rw [e] at c4; exact absurd c4 (by decide)
                  exact K194 ρ _ _ (by rw [spBest, if_pos hd0, if_neg hf]) hρ hen hk
                · have ht : spTG cp q q (s - 1) = true := by
                    cases e : spTG cp q q (s - 1) with
                    | true => rfl
                    | false => rw [e] at c4; exact absurd rfl c4
                  refine gx_iload_n (pc := 181) dX10_payers_181 rfl ?_
                  refine kX10_492 (pc := 182) rfl (c_bits (d := d - 1) _) (by omega) (Nat.le_of_ble_eq_true rfl) dX10_payers_182 (fun r1 σ1 e1 => ?_)
                  obtain ⟨rfl, hσ⟩ := e1
                  subst σ1
                  refine gx_iload_n (pc := 185) dX10_payers_185 rfl ?_
                  refine kX10_492 (pc := 186) rfl (c_bits (d := d - 1) _) (by omega) (Nat.le_of_ble_eq_true rfl) dX10_payers_186 (fun r1 σ1 e1 => ?_)
                  obtain ⟨rfl, hσ⟩ := e1
                  subst σ1
                  refine gx_icmp_le (pc := 189) 194 dX10_payers_189 (by decide) (fun c5 => ?_) (fun c5 => ?_)
                  · exact K194 ρ _ _ (by rw [spBest, if_pos hd0, if_pos ht, if_pos c5]) hρ hen hk
                  · refine gx_iload_n (pc := 192) dX10_payers_192 rfl ?_
                    refine gx_istore_n (pc := 193) dX10_payers_193 (by decide) rfl ?_
                    exact K194 ρ q _ (by rw [spBest, if_pos hd0, if_pos ht, if_neg c5]) hρ hen hk
              · exact absurd (nI_lt (by omega) (by omega)) c3
            | succ m4 ih4 =>
              intro s hs ρ hρ hen htg hts
              have hTρ := sE.T (σ := mI σ 0 0) hρ hT
              have K156 : ∀ v, v = zi (spTG cp q q s) → gxV G mX10_payers d 0 0 156 [some (.ref b), some (.int (nI du)), some (.int (nI (spBest (fun q => spTG cp q q (N - 1)) du q))), some (.int (nI q)), some (.int (nI s))] [.int v, .int (nI (1024 * q + s)), .ref (b + moff 56)] (mput h b ρ) (mQi h b (fun r σ' => r = nI (spPyr w σ.2.2.1 P S) ∧ sE (mI σ 0 0) σ')) := by
                intro v hv
                subst hv
                refine m_zast (pc := 156) hb 56 ((1024*q+s)) 65536 (zi_01 _) rfl (by decide) rfl (by first | rfl | simp only [gx_lit, nI_add, pk_mul]) (by omega) (by decide) dX10_payers_156 ?_
                refine gx_iincc (pc := 157) (c := 1) dX10_payers_157 rfl (by decide) (by decide) rfl ?_
                refine gx_goto (pc := 160) 116 dX10_payers_160 (by decide) ?_
                rw [nI_1]
                refine ih4 (s + 1) (by omega) _ (hρ.mA rfl _ _) (fun p' s' hp' hs' => ?_) (fun q' s' h1 h2 h3 => ?_) (fun s' hs' => ?_)
                · rw [mA_nj _ (by decide)]; exact hen p' s' hp' hs'
                · rw [mA_at, if_neg (by omega)]; exact htg q' s' h1 h2 h3
                · rw [mA_at]
                  by_cases e : s' = s
                  · rw [e, if_pos rfl]
                  · rw [if_neg (by omega)]; exact hts s' (by omega)
              refine gx_iload (pc := 116) dX10_payers_116 rfl ?_
              refine gx_aload_n (pc := 118) dX10_payers_118 rfl ?_
              refine kX10_489 (pc := 119) rfl (c_allSecrets (d := d - 1) hTρ) (by omega) (Nat.le_of_ble_eq_true rfl) dX10_payers_119 (fun r1 σ1 e1 => ?_)
              obtain ⟨rfl, hσ⟩ := e1
              subst σ1
              rw [hall]
              refine gx_icmp_gt (pc := 122) 163 dX10_payers_122 (by decide) (fun c3 => ?_) (fun c3 => ?_)
              · exact absurd c3 (nI_nlt (by omega) (by omega))
              · refine gx_aload_n (pc := 125) dX10_payers_125 rfl ?_
                refine m_getA (pc := 126) rfl fX10_145 rfl (by decide) dX10_payers_126 ?_
                refine gx_sipush (pc := 129) (v := 1024) dX10_payers_129 (by decide) ?_
                refine gx_iload_n (pc := 132) dX10_payers_132 rfl ?_
                refine gx_imul (pc := 133) dX10_payers_133 ?_
                refine gx_iload (pc := 134) dX10_payers_134 rfl ?_
                refine gx_iadd (pc := 136) dX10_payers_136 ?_
                rw [show (1024 : Int32) * nI q + nI s = nI (1024 * q + s) by rw [show (1024 : Int32) = nI 1024 from rfl, pk_mul, nI_add]]
                refine gx_iload_n (pc := 137) dX10_payers_137 rfl ?_
                refine gx_if_eq (pc := 138) 151 dX10_payers_138 (by decide) (fun c4 => ?_) (fun c4 => ?_)
                · have hq0 : q = 0 := (nI_eq (b := 0) (by omega) (by decide)).mp c4
                  refine gx_iconst (pc := 151) (v := 1) dX10_payers_151 (by decide) ?_
                  refine gx_goto (pc := 152) 156 dX10_payers_152 (by decide) ?_
                  exact K156 _ (by rw [hq0]; rfl)
                · have hq0 : q ≠ 0 := fun e => c4 (by rw [e]; rfl)
                  obtain ⟨l1, l2, l3, l4⟩ := low_ok q (by omega) (by omega)
                  have l5 := low_pow q (by omega) (by omega)
                  have l6 := dif_0 q (by omega) du (by omega) hd0
                  have l7 := dif_sub q (by omega) (by omega) du (by omega) hd0
                  have l8 : low q < P := by
                    rcases Nat.lt_or_ge (low q) P with z | z
                    · exact z
                    · have := Nat.pow_le_pow_right (n := 2) (by decide) z
                      have := spDue_lt σ.2.2.1 P
                      omega
                  have hTG : spPT ρ.2.2.1 (low q) (dif q (2 ^ low q)) s s s = spTG cp q q s := by
                    obtain ⟨q0, rfl⟩ : ∃ q0, q = q0 + 1 := ⟨q - 1, by omega⟩
                    rw [spTG, if_neg hq0, spTG_fuel cp q0 _ (by omega) (by omega)]
                    exact spPT_ts (fun s' h => hen _ s' l8 (by omega)) (fun s' h => htg _ s' l4 l7 (by omega)) s s (Nat.le_refl _)
                  refine gx_aload_n (pc := 141) dX10_payers_141 rfl ?_
                  refine gx_iload_n (pc := 142) dX10_payers_142 rfl ?_
                  refine gx_iload (pc := 143) dX10_payers_143 rfl ?_
                  refine kX10_498 (pc := 145) rfl (c_payTogether (d := d - 1) q s (low q) (by omega) (by omega) l1 l2 l3) (by omega) (Nat.le_of_ble_eq_true rfl) dX10_payers_145 (fun r1 σ1 e1 => ?_)
                  obtain ⟨rfl, hσ⟩ := e1
                  subst σ1
                  rw [hTG]
                  refine gx_if_eq (pc := 148) 155 dX10_payers_148 (by decide) (fun c5 => ?_) (fun c5 => ?_)
                  · refine gx_iconst (pc := 155) (v := 0) dX10_payers_155 (by decide) ?_
                    exact K156 _ c5.symm
                  · refine gx_iconst (pc := 151) (v := 1) dX10_payers_151 (by decide) ?_
                    refine gx_goto (pc := 152) 156 dX10_payers_152 (by decide) ?_
                    refine K156 _ ?_
                    cases e : spTG cp q q s with
                    | true => rfl
                    | false => rw [e] at c5; exact absurd rfl c5
          refine gx_iconst (pc := 113) (v := 0) dX10_payers_113 (by decide) ?_
          refine gx_istore (pc := 114) dX10_payers_114 (by decide) rfl ?_
          exact L4 N 0 rfl ρ hρ hen htg (fun _ h => by omega)
        · have hd0 : ¬ dif q du = 0 := fun e => c2 (by rw [e]; rfl)
          refine gx_goto (pc := 110) 194 dX10_payers_110 (by decide) ?_
          refine K194 ρ _ _ (by rw [spBest, if_neg hd0]) hρ hen (fun q' s h1 h2 h3 => ?_)
          rcases Nat.lt_or_ge q' q with z | z
          · exact htg q' s z h2 h3
          · rw [show q' = q by omega] at h2; exact absurd h2 hd0
  have L1 : ∀ m p, m + p = P → ∀ ρ, sE (mI σ 0 0) ρ → (∀ p' s, p' < p → s < N → ρ.2.2.1 57 (1024 * p' + s) = zi (cp p' s)) → ∀ x3 : Option Value, gxV G mX10_payers d 0 0 9 [some (.ref b), some (.int (nI (spDue σ.2.2.1 p))), some (.int (nI p)), x3, none] [] (mput h b ρ) (mQi h b (fun r σ' => r = nI (spPyr w σ.2.2.1 P S) ∧ sE (mI σ 0 0) σ')) := by
    intro m
    induction m with
    | zero =>
      intro p hp ρ hρ hen x3
      have : p = P := by omega
      subst this
      refine gx_iload_n (pc := 9) dX10_payers_9 rfl ?_
      refine gx_aload_n (pc := 10) dX10_payers_10 rfl ?_
      refine m_getA (pc := 11) rfl fX10_13 rfl (by decide) dX10_payers_11 ?_
      refine gx_iconst (pc := 14) (v := 0) dX10_payers_14 (by decide) ?_
      refine m_iald (pc := 15) 10 (0) 8 rfl (by decide) rfl (by first | rfl | simp only [gx_lit, nI_add, pk_mul]) (by omega) (by decide) dX10_payers_15 ?_
      rw [hρ.2.2.2 10 rfl, show (mI σ 0 0).2.2.1 10 = σ.2.2.1 10 from rfl, hP]
      refine gx_icmp_ge (pc := 16) 92 dX10_payers_16 (by decide) (fun c1 => ?_) (fun c1 => ?_)
      · refine gx_iconst (pc := 92) (v := 0) dX10_payers_92 (by decide) ?_
        refine gx_istore_n (pc := 93) dX10_payers_93 (by decide) rfl ?_
        refine gx_iconst (pc := 94) (v := 0) dX10_payers_94 (by decide) ?_
        refine gx_istore_n (pc := 95) dX10_payers_95 (by decide) rfl ?_
        rw [hDu]
        exact L2 64 0 rfl ρ hρ hen (fun _ _ h => by omega) _
      · exact absurd (nI_le (by omega) (by omega)) c1
    | succ m ih =>
      intro p hp ρ hρ hen x3
      have K50 : ∀ v, nI (spDue σ.2.2.1 p) ||| v = nI (spDue σ.2.2.1 (p + 1)) → gxV G mX10_payers d 0 0 50 [some (.ref b), some (.int (nI (spDue σ.2.2.1 p))), some (.int (nI p)), x3, none] [.int v, .int (nI (spDue σ.2.2.1 p))] (mput h b ρ) (mQi h b (fun r σ' => r = nI (spPyr w σ.2.2.1 P S) ∧ sE (mI σ 0 0) σ')) := by
        intro v hv
        have L3 : ∀ m s, m + s = N → ∀ ρ, sE (mI σ 0 0) ρ → (∀ p' s, p' < p → s < N → ρ.2.2.1 57 (1024 * p' + s) = zi (cp p' s)) → (∀ s', s' < s → ρ.2.2.1 57 (1024 * p + s') = zi (cp p s')) → gxV G mX10_payers d 0 0 54 [some (.ref b), some (.int (nI (spDue σ.2.2.1 (p + 1)))), some (.int (nI p)), some (.int (nI s)), none] [] (mput h b ρ) (mQi h b (fun r σ' => r = nI (spPyr w σ.2.2.1 P S) ∧ sE (mI σ 0 0) σ')) := by
          intro m
          induction m with
          | zero =>
            intro s hs ρ hρ hen hes
            have : s = N := by omega
            subst this
            refine gx_iload_n (pc := 54) dX10_payers_54 rfl ?_
            refine gx_aload_n (pc := 55) dX10_payers_55 rfl ?_
            refine kX10_489 (pc := 56) rfl (c_allSecrets (d := d - 1) (sE.T (σ := mI σ 0 0) hρ hT)) (by omega) (Nat.le_of_ble_eq_true rfl) dX10_payers_56 (fun r1 σ1 e1 => ?_)
            obtain ⟨rfl, hσ⟩ := e1
            subst σ1
            rw [hall]
            refine gx_icmp_gt (pc := 59) 86 dX10_payers_59 (by decide) (fun c4 => ?_) (fun c4 => ?_)
            · refine gx_iincc (pc := 86) (c := 1) dX10_payers_86 rfl (by decide) (by decide) rfl ?_
              refine gx_goto (pc := 89) 9 dX10_payers_89 (by decide) ?_
              rw [nI_1]
              refine ih (p + 1) (by omega) ρ hρ (fun p' s' hp' hs' => ?_) _
              rcases Nat.lt_or_ge p' p with z | z
              · exact hen p' s' z hs'
              · rw [show p' = p by omega]; exact hes s' hs'
            · exact absurd (nI_lt (by omega) (by omega)) c4
          | succ m ih3 =>
            intro s hs ρ hρ hen hes
            have hTρ := sE.T (σ := mI σ 0 0) hρ hT
            refine gx_iload_n (pc := 54) dX10_payers_54 rfl ?_
            refine gx_aload_n (pc := 55) dX10_payers_55 rfl ?_
            refine kX10_489 (pc := 56) rfl (c_allSecrets (d := d - 1) hTρ) (by omega) (Nat.le_of_ble_eq_true rfl) dX10_payers_56 (fun r1 σ1 e1 => ?_)
            obtain ⟨rfl, hσ⟩ := e1
            subst σ1
            rw [hall]
            refine gx_icmp_gt (pc := 59) 86 dX10_payers_59 (by decide) (fun c4 => ?_) (fun c4 => ?_)
            · exact absurd c4 (nI_nlt (by omega) (by omega))
            · refine gx_aload_n (pc := 62) dX10_payers_62 rfl ?_
              refine m_getA (pc := 63) rfl fX10_148 rfl (by decide) dX10_payers_63 ?_
              refine gx_sipush (pc := 66) (v := 1024) dX10_payers_66 (by decide) ?_
              refine gx_iload_n (pc := 69) dX10_payers_69 rfl ?_
              refine gx_imul (pc := 70) dX10_payers_70 ?_
              refine gx_iload_n (pc := 71) dX10_payers_71 rfl ?_
              refine gx_iadd (pc := 72) dX10_payers_72 ?_
              rw [show (1024 : Int32) * nI p + nI s = nI (1024 * p + s) by rw [show (1024 : Int32) = nI 1024 from rfl, pk_mul, nI_add]]
              refine gx_aload_n (pc := 73) dX10_payers_73 rfl ?_
              refine gx_iload_n (pc := 74) dX10_payers_74 rfl ?_
              refine gx_iload_n (pc := 75) dX10_payers_75 rfl ?_
              refine kX10_474 (pc := 76) rfl (c_canPay (d := d - 1) hb (by omega) hTρ p (by omega) (nI s)) (by omega) (Nat.le_of_ble_eq_true rfl) dX10_payers_76 (fun r1 ρ1 e1 => ?_)
              obtain ⟨rfl, hρ1⟩ := e1
              rw [show spCanPay w ρ.2.2.1 P S p (nI s) = cp p s from (spCanPay_congr (hρ.2.2.2 13 rfl) (hρ.2.2.2 15 rfl) (hρ.2.2.2 17 rfl) (hρ.2.2.2 18 rfl) (hρ.2.2.2 19 rfl) (hρ.2.2.2 50 rfl) w P S p (nI s)).trans (hcpe p s)]
              have h57 : ρ1.2.2.1 57 = ρ.2.2.1 57 := hρ1.A (by omega)
              refine m_zast (pc := 79) hb 57 ((1024*p+s)) 6144 (zi_01 _) rfl (by decide) rfl (by first | rfl | simp only [gx_lit, nI_add, pk_mul]) (by omega) (by decide) dX10_payers_79 ?_
              refine gx_iincc (pc := 80) (c := 1) dX10_payers_80 rfl (by decide) (by decide) rfl ?_
              refine gx_goto (pc := 83) 54 dX10_payers_83 (by decide) ?_
              rw [nI_1]
              refine ih3 (s + 1) (by omega) _ ((hρ.tr hρ1.sE).mA rfl _ _) (fun p' s' hp' hs' => ?_) (fun s' hs' => ?_)
              · rw [mA_at, if_neg (by omega), h57]
                exact hen p' s' hp' hs'
              · rw [mA_at]
                by_cases e : s' = s
                · rw [e, if_pos rfl]
                · rw [if_neg (by omega), h57]
                  exact hes s' (by omega)
        refine gx_ior (pc := 50) dX10_payers_50 ?_
        rw [hv]
        refine gx_istore_n (pc := 51) dX10_payers_51 (by decide) rfl ?_
        refine gx_iconst (pc := 52) (v := 0) dX10_payers_52 (by decide) ?_
        refine gx_istore_n (pc := 53) dX10_payers_53 (by decide) rfl ?_
        exact L3 N 0 rfl ρ hρ hen (fun _ h => by omega)
      refine gx_iload_n (pc := 9) dX10_payers_9 rfl ?_
      refine gx_aload_n (pc := 10) dX10_payers_10 rfl ?_
      refine m_getA (pc := 11) rfl fX10_13 rfl (by decide) dX10_payers_11 ?_
      refine gx_iconst (pc := 14) (v := 0) dX10_payers_14 (by decide) ?_
      refine m_iald (pc := 15) 10 (0) 8 rfl (by decide) rfl (by first | rfl | simp only [gx_lit, nI_add, pk_mul]) (by omega) (by decide) dX10_payers_15 ?_
      rw [hρ.2.2.2 10 rfl, show (mI σ 0 0).2.2.1 10 = σ.2.2.1 10 from rfl, hP]
      refine gx_icmp_ge (pc := 16) 92 dX10_payers_16 (by decide) (fun c1 => ?_) (fun c1 => ?_)
      · exact absurd c1 (nI_ge (by omega) (by omega))
      · refine gx_iload_n (pc := 19) dX10_payers_19 rfl ?_
        refine gx_aload_n (pc := 20) dX10_payers_20 rfl ?_
        refine m_getA (pc := 21) rfl fX10_29 rfl (by decide) dX10_payers_21 ?_
        refine gx_iload_n (pc := 24) dX10_payers_24 rfl ?_
        refine m_iald (pc := 25) 15 (p) 12 rfl (by decide) rfl (by first | rfl | simp only [gx_lit, nI_add, pk_mul]) (by omega) (by decide) dX10_payers_25 ?_
        rw [hρ.2.2.2 15 rfl, show (mI σ 0 0).2.2.1 15 = σ.2.2.1 15 from rfl]
        refine gx_if_le (pc := 26) 49 dX10_payers_26 (by decide) (fun c2 => ?_) (fun c2 => ?_)
        · refine gx_iconst (pc := 49) (v := 0) dX10_payers_49 (by decide) ?_
          exact K50 _ (by rw [spDue, if_pos c2]; exact Int32.or_zero)
        · refine gx_aload_n (pc := 29) dX10_payers_29 rfl ?_
          refine m_getA (pc := 30) rfl fX10_129 rfl (by decide) dX10_payers_30 ?_
          refine gx_bipush (pc := 33) (v := 78) dX10_payers_33 (by decide) ?_
          refine m_iald (pc := 35) 50 (78) 123 rfl (by decide) rfl (by first | rfl | simp only [gx_lit, nI_add, pk_mul]) (by omega) (by decide) dX10_payers_35 ?_
          refine gx_iload_n (pc := 36) dX10_payers_36 rfl ?_
          refine gx_ishr (pc := 37) dX10_payers_37 ?_
          refine gx_iconst (pc := 38) (v := 1) dX10_payers_38 (by decide) ?_
          refine gx_iand (pc := 39) dX10_payers_39 ?_
          rw [hρ.2.2.2 50 rfl, show (mI σ 0 0).2.2.1 50 = σ.2.2.1 50 from rfl]
          refine gx_if_ne (pc := 40) 49 dX10_payers_40 (by decide) (fun c3 => ?_) (fun c3 => ?_)
          · refine gx_iconst (pc := 49) (v := 0) dX10_payers_49 (by decide) ?_
            exact K50 _ (by rw [spDue, if_neg c2, if_neg c3]; exact Int32.or_zero)
          · refine gx_iconst (pc := 43) (v := 1) dX10_payers_43 (by decide) ?_
            refine gx_iload_n (pc := 44) dX10_payers_44 rfl ?_
            refine gx_ishl (pc := 45) dX10_payers_45 ?_
            refine gx_goto (pc := 46) 50 dX10_payers_46 (by decide) ?_
            refine K50 _ ?_
            rw [spDue, if_neg c2, if_pos c3]
            have hl := spDue_lt σ.2.2.1 p
            have : (2:Nat) ^ p ≤ 2 ^ 5 := Nat.pow_le_pow_right (by decide) (by omega)
            exact or_hi p (by omega) _ (by omega) hl
  refine gx_aload_n (pc := 0) dX10_payers_0 rfl ?_
  refine gx_iconst (pc := 1) (v := 0) dX10_payers_1 (by decide) ?_
  refine m_putI (pc := 2) rfl hb fX10_175 rfl (by decide) tX10_0 dX10_payers_2 ?_
  refine gx_iconst (pc := 5) (v := 0) dX10_payers_5 (by decide) ?_
  refine gx_istore_n (pc := 6) dX10_payers_6 (by decide) rfl ?_
  refine gx_iconst (pc := 7) (v := 0) dX10_payers_7 (by decide) ?_
  refine gx_istore_n (pc := 8) dX10_payers_8 (by decide) rfl ?_
  exact L1 P 0 rfl _ sE.rf (fun _ _ h => by omega) _
end MY
