/-! ===== COMPONENT AD: payers ===== -/
set_option maxRecDepth 100000
theorem or_nI2 {a c : Nat} (ha : a < 2 ^ 31) (hc : c < 2 ^ 31) : nI a ||| nI c = nI (a ||| c) := by
  apply Int32.toBitVec_inj.mp
  apply BitVec.eq_of_toNat_eq
  have h2 : a ||| c < 2 ^ 31 := Nat.or_lt_two_pow ha hc
  rw [Int32.toBitVec_or, BitVec.toNat_or, nI_bv (by omega), nI_bv (by omega), nI_bv (by omega)]
theorem bit_set : ∀ k, k < 10 → ∀ n, n < 2 ^ k → nI n ||| ((1 : Int32) <<< (nI k &&& 31)) = nI (n + 2 ^ k) ∧ nI n ||| ((0 : Int32) <<< (nI k &&& 31)) = nI n := by decide +kernel
theorem spKnown_n (A : Nat → Nat → Int32) (p : Int32) : ∀ k, k ≤ 10 → ∃ n, n < 2 ^ k ∧ spKnown A p k = nI n
  | 0, _ => ⟨0, by decide, rfl⟩
  | k + 1, hk => by
    obtain ⟨n, h1, h2⟩ := spKnown_n A p k (by omega)
    have hp2 : 2 ^ (k + 1) = 2 ^ k + 2 ^ k := by rw [Nat.pow_succ]; omega
    have bs := bit_set k (by omega) n h1
    rw [spKnown, h2]
    rcases bit01 (A 50 k >>> (p &&& 31)) with e | e
    · rw [e]; exact ⟨n, by omega, bs.2⟩
    · rw [e]; exact ⟨n + 2 ^ k, by omega, bs.1⟩
/-- what one may pay with: told by known and not paid -/
theorem may_n (A : Nat → Nat → Int32) (p : Int32) (x : Int32) {S : Nat} (hS : S ≤ 10) : ∃ n, n < 1024 ∧ prt n (2 ^ S - 1) ∧ spKnown A p S &&& (x ^^^ -1) = nI n := by
  obtain ⟨n, h1, h2⟩ := spKnown_n A p S hS
  have h10 := pow_S hS
  have hl : n &&& (x ^^^ -1).toBitVec.toNat ≤ n := Nat.and_le_left
  refine ⟨n &&& (x ^^^ -1).toBitVec.toNat, by omega, fun i hi => ?_, by rw [h2, and_nI _ (by omega)]⟩
  rw [Nat.testBit_and, Bool.and_eq_true] at hi
  rw [Nat.testBit_two_pow_sub_one, decide_eq_true_eq]
  rcases Nat.lt_or_ge i S with z | z
  · exact z
  · have := Nat.testBit_lt_two_pow (Nat.lt_of_lt_of_le h1 (Nat.pow_le_pow_right (by decide) z))
    rw [this] at hi
    cases hi.1
/-- the payers' cells -/
def PF (h : gxH) (py x : Nat) (nw nx wo : Nat → Int32) : Prop := h.1 py = some (.inr (5, [.ref (py + 1), .ref (py + 2), .ref (py + 3), .ref x])) ∧ h.1 (py + 1) = some (.inl (2, 1024, .inl nw)) ∧ h.1 (py + 2) = some (.inl (2, 1024, .inl nx)) ∧ h.1 (py + 3) = some (.inl (0, 1024, .inl wo))
section PFs
variable {h h' : gxH} {py x fa : Nat} {nw nx wo : Nat → Int32}
theorem PF.unw (y : PF h py x nw nx wo) (f : Nat → Int32) : PF (gxup h (py + 1) (.inl (2, 1024, .inl f))) py x f nx wo := ⟨by rw [gxup_ne (by omega)]; exact y.1, gxup_self _ _ _, by rw [gxup_ne (by omega)]; exact y.2.2.1, by rw [gxup_ne (by omega)]; exact y.2.2.2⟩
theorem PF.unx (y : PF h py x nw nx wo) (f : Nat → Int32) : PF (gxup h (py + 2) (.inl (2, 1024, .inl f))) py x nw f wo := ⟨by rw [gxup_ne (by omega)]; exact y.1, by rw [gxup_ne (by omega)]; exact y.2.1, gxup_self _ _ _, by rw [gxup_ne (by omega)]; exact y.2.2.2⟩
theorem PF.uwo (y : PF h py x nw nx wo) (f : Nat → Int32) : PF (gxup h (py + 3) (.inl (0, 1024, .inl f))) py x nw nx f := ⟨by rw [gxup_ne (by omega)]; exact y.1, by rw [gxup_ne (by omega)]; exact y.2.1, by rw [gxup_ne (by omega)]; exact y.2.2.1, gxup_self _ _ _⟩
theorem PF.fE (y : PF h py x nw nx wo) (hf : fcA h fa) (e : fE fa h h') : PF h' py x nw nx wo := ⟨e.at hf y.1 (fun f q => by cases q), e.at hf y.2.1 (fun f q => by simp at q), e.at hf y.2.2.1 (fun f q => by simp at q), e.at hf y.2.2.2 (fun f q => by simp at q)⟩
theorem PF.zE {a n : Nat} (y : PF h py x nw nx wo) (hf : fcA h fa) (e : zE a n fa h h') (dj : py + 4 ≤ a ∨ a + n ≤ py) : PF h' py x nw nx wo := ⟨e.at hf (by omega) y.1 (fun f q => by cases q), e.at hf (by omega) y.2.1 (fun f q => by simp at q), e.at hf (by omega) y.2.2.1 (fun f q => by simp at q), e.at hf (by omega) y.2.2.2 (fun f q => by simp at q)⟩
end PFs
/-- the sets used from those below U, from U by more than sub -/
def pRB (N ok : Nat → Bool) (may U u : Nat) : Prop := ∃ v c, v < U ∧ N v = true ∧ c ≠ 0 ∧ c &&& dif may v = c ∧ ok c = true ∧ u = v ||| c
def pRI (N ok : Nat → Bool) (may U sub u : Nat) : Prop := pRB N ok may U u ∨ ∃ c, sub < c ∧ c &&& dif may U = c ∧ ok c = true ∧ u = U ||| c
/-- what the array of the next sets says, and whether there is any -/
def pIv (S : Nat) (R : Nat → Prop) (nx : Nat → Int32) (any : Int32) : Prop := (∀ u, u < 2 ^ S → (nx u = 0 ∨ nx u = 1) ∧ (nx u = 1 ↔ R u)) ∧ ((any = 1 ∧ ∃ u, R u) ∨ (any = 0 ∧ ∀ u, ¬ R u))
theorem pIv.cg {S : Nat} {R R' : Nat → Prop} {nx : Nat → Int32} {any : Int32} (h : pIv S R nx any) (e : ∀ u, R u ↔ R' u) : pIv S R' nx any := by
  have : R = R' := funext fun u => propext (e u)
  rw [← this]; exact h
theorem pRB_end {N ok : Nat → Bool} {may S U : Nat} (hS : S ≤ 10) (hU : U = 2 ^ S) (hN : ∀ u, N u = true → u < 2 ^ S) (u : Nat) : pRB N ok may U u ↔ nxt N ok may u := by
  have := pow_S hS
  constructor
  · rintro ⟨v, c, a1, a2, a3⟩; exact ⟨v, c, by omega, a2, a3⟩
  · rintro ⟨v, c, a1, a2, a3⟩; have := hN v a2; exact ⟨v, c, by omega, a2, a3⟩
theorem pRB_no {N ok : Nat → Bool} {may U : Nat} (NU : N U = false) (u : Nat) : pRB N ok may U u ↔ pRB N ok may (U + 1) u := by
  constructor
  · rintro ⟨v, c, a1, a2⟩; exact ⟨v, c, by omega, a2⟩
  · rintro ⟨v, c, a1, a2, a3⟩
    have : v ≠ U := fun e => by rw [e, NU] at a2; cases a2
    exact ⟨v, c, by omega, a2, a3⟩
theorem pRI_0 {N ok : Nat → Bool} {may U : Nat} (NU : N U = true) (u : Nat) : pRI N ok may U 0 u ↔ pRB N ok may (U + 1) u := by
  constructor
  · rintro (⟨v, c, a1, a2⟩ | ⟨c, a1, a2⟩)
    · exact ⟨v, c, by omega, a2⟩
    · exact ⟨U, c, by omega, NU, by omega, a2⟩
  · rintro ⟨v, c, a1, a2, a3, a4⟩
    rcases Nat.lt_or_ge v U with z | z
    · exact Or.inl ⟨v, c, z, a2, a3, a4⟩
    · have : v = U := by omega
      subst this
      exact Or.inr ⟨c, by omega, a4⟩
theorem pRI_top {N ok : Nat → Bool} {may U : Nat} (u : Nat) : pRB N ok may U u ↔ pRI N ok may U (dif may U) u := by
  constructor
  · exact Or.inl
  · rintro (z | ⟨c, a1, a2, _⟩)
    · exact z
    · have : c ≤ dif may U := by rw [← a2]; exact Nat.and_le_right
      omega
theorem pRI_swi {may U sub : Nat} (hm : may < 1024) (h0 : sub ≠ 0) (hss : sub &&& dif may U = sub) (c : Nat) (hc : c &&& dif may U = c) : (sub - 1) &&& dif may U < c ↔ (sub < c ∨ c = sub) := by
  have hle : (sub - 1) &&& dif may U ≤ sub - 1 := Nat.and_le_left
  have := dif_le may U
  constructor
  · intro z
    rcases Nat.lt_trichotomy c sub with y | y | y
    · have := sm_le 10 (dif may U) sub c (by omega) hss hc y
      omega
    · exact Or.inr y
    · exact Or.inl y
  · rintro (z | z) <;> omega
theorem pRI_no {N ok : Nat → Bool} {may U sub : Nat} (hm : may < 1024) (h0 : sub ≠ 0) (hss : sub &&& dif may U = sub) (oks : ok sub = false) (u : Nat) : pRI N ok may U sub u ↔ pRI N ok may U ((sub - 1) &&& dif may U) u := by
  constructor
  · rintro (z | ⟨c, a1, a2, a3⟩)
    · exact Or.inl z
    · exact Or.inr ⟨c, (pRI_swi hm h0 hss c a2).mpr (Or.inl a1), a2, a3⟩
  · rintro (z | ⟨c, a1, a2, a3, a4⟩)
    · exact Or.inl z
    · rcases (pRI_swi hm h0 hss c a2).mp a1 with y | y
      · exact Or.inr ⟨c, y, a2, a3, a4⟩
      · subst y; rw [oks] at a3; cases a3
theorem pRI_yes {N ok : Nat → Bool} {may U sub S : Nat} {nx : Nat → Int32} {any : Int32} (hm : may < 1024) (h0 : sub ≠ 0) (hss : sub &&& dif may U = sub) (oks : ok sub = true) (h : pIv S (pRI N ok may U sub) nx any) : pIv S (pRI N ok may U ((sub - 1) &&& dif may U)) (upd nx (U ||| sub) 1) 1 := by
  have me : pRI N ok may U ((sub - 1) &&& dif may U) (U ||| sub) := Or.inr ⟨sub, (pRI_swi hm h0 hss sub hss).mpr (Or.inr rfl), hss, oks, rfl⟩
  refine ⟨fun u hu => ?_, Or.inl ⟨rfl, U ||| sub, me⟩⟩
  simp only [upd]
  split
  · rename_i e
    rw [e]
    exact ⟨Or.inr rfl, fun _ => me, fun _ => rfl⟩
  · rename_i e
    refine ⟨(h.1 u hu).1, (h.1 u hu).2.trans ?_⟩
    constructor
    · rintro (z | ⟨c, a1, a2, a3⟩)
      · exact Or.inl z
      · exact Or.inr ⟨c, (pRI_swi hm h0 hss c a2).mpr (Or.inl a1), a2, a3⟩
    · rintro (z | ⟨c, a1, a2, a3, a4⟩)
      · exact Or.inl z
      · rcases (pRI_swi hm h0 hss c a2).mp a1 with y | y
        · exact Or.inr ⟨c, y, a2, a3, a4⟩
        · subst y; exact absurd a4 e
section MAD
variable {G : gxG} {d : Nat} {h : gxH} {x r tk tr gl sl bl py pt ng ft mk lo hi ta fa P S E : Nat} {gg : Int64} {A : Nat → Nat → Int32} {s : Nat → Int32} {w : Option gxEv} {b : Bool} {nw nx wo : Nat → Int32}
theorem c_Plays (dx : x < py) (dk : tk + 6 ≤ py ∨ py + 4 ≤ tk) (dl : hi ≤ py ∨ py + 4 ≤ lo) (df : fa < py ∨ py + 4 ≤ fa) (hn : gxN G ≤ x) (hN : gxN G ≤ lo) (hd : 94 ≤ d) (hS : (XS x r tk tr gl sl bl py pt ng ft mk lo hi ta fa P S E gg A s w b) h) (hF : PF h py x nw nx wo) : gxM G mX6_lays d 0 0 [.ref py] h (gxQv (fun h' => (XS x r tk tr gl sl bl py pt ng ft mk lo hi ta fa P S E gg A s w b) h' ∧ zE py 4 fa h h' ∧ ∃ wo', PF h' py x nw nx wo' ∧ ∀ k, k < 2 ^ S → wo' k = spWs w (setS A s) P (nI k) S)) := by
  have hS10 := hS.2.2.2.2.2.2.1
  have h10 := pow_S hS10
  have nwo : gxN G ≤ py + 3 := by omega
  refine gxM_of rfl (Nat.le_of_ble_eq_true rfl) rfl ?_
  have L : ∀ m k h1 wo', m + k = 2 ^ S → (XS x r tk tr gl sl bl py pt ng ft mk lo hi ta fa P S E gg A s w b) h1 → PF h1 py x nw nx wo' → (∀ j, j < k → wo' j = spWs w (setS A s) P (nI j) S) → zE py 4 fa h h1 → gxV G mX6_lays d 0 0 2 [some (.ref py), some (.int (nI k))] [] h1 (gxQv (fun h' => (XS x r tk tr gl sl bl py pt ng ft mk lo hi ta fa P S E gg A s w b) h' ∧ zE py 4 fa h h' ∧ ∃ wo', PF h' py x nw nx wo' ∧ ∀ k, k < 2 ^ S → wo' k = spWs w (setS A s) P (nI k) S)) := by
    intro m
    induction m with
    | zero =>
      intro k h1 wo' hk S1 F1 W1 E1
      obtain ⟨hpy, hnw, hnx, hwo⟩ := id F1; have hx := S1.1
      refine gx_iload_n (pc := 2) dX6_lays_2 rfl ?_
      refine gx_aload_n (pc := 3) dX6_lays_3 rfl ?_
      refine gx_get (pc := 4) fX6_3 hpy rfl dX6_lays_4 ?_
      refine kX6_26 (kc := 0) (ks := 0) (mc := 0) (ms := 0) (pc := 7) rfl (c_every (d := d - 1) (by omega) S1.1.O S1.2) (gxRc.of rfl hx) (by omega) (Nat.le_of_ble_eq_true rfl) dX6_lays_7 (fun r1 h2 e1 => ?_)
      obtain ⟨rfl, e1⟩ := e1
      subst h2
      refine gx_icmp_gt (pc := 10) 36 dX6_lays_10 (by decide) (fun c1 => ?_) (fun c1 => ?_)
      · exact gx_return (pc := 36) rfl dX6_lays_36 (⟨rfl, ⟨S1, E1, _, F1, fun j hj => W1 j (by omega)⟩⟩)
      · exact absurd (nI_lt (by omega) (by omega)) c1
    | succ m ih =>
      intro k h1 wo' hk S1 F1 W1 E1
      obtain ⟨hpy, hnw, hnx, hwo⟩ := id F1; have hx := S1.1
      obtain ⟨_, _, _, _, _, htk, _⟩ := id S1.2.2.1
      refine gx_iload_n (pc := 2) dX6_lays_2 rfl ?_
      refine gx_aload_n (pc := 3) dX6_lays_3 rfl ?_
      refine gx_get (pc := 4) fX6_3 hpy rfl dX6_lays_4 ?_
      refine kX6_26 (kc := 0) (ks := 0) (mc := 0) (ms := 0) (pc := 7) rfl (c_every (d := d - 1) (by omega) S1.1.O S1.2) (gxRc.of rfl hx) (by omega) (Nat.le_of_ble_eq_true rfl) dX6_lays_7 (fun r1 h2 e1 => ?_)
      obtain ⟨rfl, e1⟩ := e1
      subst h2
      refine gx_icmp_gt (pc := 10) 36 dX6_lays_10 (by decide) (fun c1 => ?_) (fun c1 => ?_)
      · exact absurd c1 (nI_nlt (by omega) (by omega))
      · refine gx_aload_n (pc := 13) dX6_lays_13 rfl ?_
        refine gx_get (pc := 14) fX6_22 hpy rfl dX6_lays_14 ?_
        refine gx_iload_n (pc := 17) dX6_lays_17 rfl ?_
        refine gx_aload_n (pc := 18) dX6_lays_18 rfl ?_
        refine gx_get (pc := 19) fX6_3 hpy rfl dX6_lays_19 ?_
        refine gx_getN (pc := 22) fX6_30 hx rfl dX6_lays_22 ?_
        refine gx_iload_n (pc := 25) dX6_lays_25 rfl ?_
        refine kX6_34 (kc := 0) (ks := 0) (mc := 0) (ms := 0) (pc := 26) rfl (c_Tworths (d := d - 1) hN (by omega) S1.2 (nI k)) (gxRc.of rfl htk) (by omega) (Nat.le_of_ble_eq_true rfl) dX6_lays_26 (fun r1 h2 e1 => ?_)
        obtain ⟨rfl, e1⟩ := e1
        have F2 := F1.fE S1.2.1.2.2.1 e1
        have S2 := S1.fE e1
        have hwo := F2.2.2.2
        refine gx_iast (pc := 29) (k) hwo nwo (by first | rfl | simp only [gx_lit, nI_add, pk_mul]) (by omega) (by decide) dX6_lays_29 ?_
        have F3 := F2.uwo (upd wo' k (spWs w (setS A s) P (nI k) S))
        have E3 := zE.up (fa := fa) (a := py) (n := 4) (i := 3) h2 (.inl (0, 1024, .inl (upd wo' k (spWs w (setS A s) P (nI k) S)))) (by decide) df
        have S3 := S2.zE E3 (Or.inl dx) dk dl
        generalize gxup h2 (py + 3) (.inl (0, 1024, .inl (upd wo' k (spWs w (setS A s) P (nI k) S)))) = h3 at *
        refine gx_iincc (pc := 30) (c := 1) dX6_lays_30 rfl (by decide) (by decide) rfl ?_
        refine gx_goto (pc := 33) 2 dX6_lays_33 (by decide) ?_
        rw [nI_1]
        refine ih (k + 1) h3 _ (by omega) S3 F3 (fun j hj => ?_) ((E1.tr e1.r).tr E3)
        simp only [upd]
        split
        · rename_i e; rw [e]
        · exact W1 j (by omega)
  refine gx_iconst (pc := 0) (v := 0) dX6_lays_0 (by decide) ?_
  refine gx_istore_n (pc := 1) dX6_lays_1 (by decide) rfl ?_
  exact L (2 ^ S) 0 h wo (by omega) hS hF (fun j hj => by omega) (zE.rf _ _ _ _)
theorem c_Ppays (dx : x < py) (dk : tk + 6 ≤ py ∨ py + 4 ≤ tk) (dl : hi ≤ py ∨ py + 4 ≤ lo) (df : fa < py ∨ py + 4 ≤ fa) (hn : gxN G ≤ x) (hd : 4 ≤ d) (hS : (XS x r tk tr gl sl bl py pt ng ft mk lo hi ta fa P S E gg A s w b) h) (hF : PF h py x nw nx wo) (p may : Nat) (hp : p < P) (hm : may < 1024) (hmay : prt may (2 ^ S - 1)) (em : spKnown (setS A s) (nI p) S &&& (s 77 ^^^ -1) = nI may) (N : Nat → Bool) (hN : ∀ u, N u = true → u < 2 ^ S) (hnN : ∀ u, u < 2 ^ S → nw u = zi (N u)) (hwo0 : ∀ k, k < 2 ^ S → wo k = spWs w (setS A s) P (nI k) S) : gxM G mX6_pays d 0 0 [.ref py, .int (nI p)] h (gxQi (fun v h' => (XS x r tk tr gl sl bl py pt ng ft mk lo hi ta fa P S E gg A s w b) h' ∧ zE py 4 fa h h' ∧ ∃ (nw' nx' : Nat → Int32) (N' : Nat → Bool), PF h' py x nw' nx' wo ∧ (∀ u, N' u = true ↔ nxt N (fun k => decide (A 15 p ≤ spWs w (setS A s) P (nI k) S)) may u) ∧ (∀ u, u < 2 ^ S → nw' u = zi (N' u)) ∧ ((v = 1 ∧ ∃ u, N' u = true) ∨ (v = 0 ∧ ∀ u, N' u = false)))) := by
  have hP6 := hS.2.2.2.2.1
  have hS10 := hS.2.2.2.2.2.2.1
  have h10 := pow_S hS10
  have nnx : gxN G ≤ py + 2 := by omega
  have nnw : gxN G ≤ py + 1 := by omega
  have hml := prt_le hmay
  refine gxM_of rfl (Nat.le_of_ble_eq_true rfl) rfl ?_
  generalize hok : (fun k => decide (A 15 p ≤ spWs w (setS A s) P (nI k) S)) = ok
  have fin : ∀ h1 nx1 any v6 v7 v5, (XS x r tk tr gl sl bl py pt ng ft mk lo hi ta fa P S E gg A s w b) h1 → PF h1 py x nw nx1 wo → zE py 4 fa h h1 → pIv S (nxt N ok may) nx1 any → gxV G mX6_pays d 0 0 169 [some (.ref py), some (.int (nI p)), some (.int (A 15 p)), some (.int (nI may)), some (.int any), v5, v6, v7] [] h1 (gxQi (fun v h' => (XS x r tk tr gl sl bl py pt ng ft mk lo hi ta fa P S E gg A s w b) h' ∧ zE py 4 fa h h' ∧ ∃ (nw' nx' : Nat → Int32) (N' : Nat → Bool), PF h' py x nw' nx' wo ∧ (∀ u, N' u = true ↔ nxt N ok may u) ∧ (∀ u, u < 2 ^ S → nw' u = zi (N' u)) ∧ ((v = 1 ∧ ∃ u, N' u = true) ∨ (v = 0 ∧ ∀ u, N' u = false)))) := by
    intro h1 nx1 any v6 v7 v5 S1 F1 E1 X1
    obtain ⟨hpy, hnw, hnx, hwo⟩ := id F1; have hx := S1.1
    refine gx_aload_n (pc := 169) dX6_pays_169 rfl ?_
    refine gx_get (pc := 170) fX6_19 hpy rfl dX6_pays_170 ?_
    refine gx_iconst (pc := 173) (v := 0) dX6_pays_173 (by decide) ?_
    refine gx_aload_n (pc := 174) dX6_pays_174 rfl ?_
    refine gx_get (pc := 175) fX6_15 hpy rfl dX6_pays_175 ?_
    refine gx_iconst (pc := 178) (v := 0) dX6_pays_178 (by decide) ?_
    refine gx_aload_n (pc := 179) dX6_pays_179 rfl ?_
    refine gx_get (pc := 180) fX6_3 hpy rfl dX6_pays_180 ?_
    refine kX6_26 (kc := 0) (ks := 0) (mc := 0) (ms := 0) (pc := 183) rfl (c_every (d := d - 1) (by omega) S1.1.O S1.2) (gxRc.of rfl hx) (by omega) (Nat.le_of_ble_eq_true rfl) dX6_pays_183 (fun r1 h2 e1 => ?_)
    obtain ⟨rfl, e1⟩ := e1
    subst h2
    refine gx_iconst (pc := 186) (v := 1) dX6_pays_186 (by decide) ?_
    refine gx_iadd (pc := 187) dX6_pays_187 ?_
    rw [nI_1, show 2 ^ S - 1 + 1 = 2 ^ S by omega]
    refine cZX6_77 (pc := 188) (sp := 0) (dp := 0) rfl hnx hnw nnw (by omega) (by omega) (by decide) (by decide) (fun i hi => ?_) (by omega) (Nat.le_of_ble_eq_true rfl) dX6_pays_188 ?_
    · rw [Nat.zero_add]
      rcases (X1.1 i hi).1 with z | z <;> rw [z] <;> decide
    · have F2 := F1.unw (va_cpy nx1 nw 0 0 (2 ^ S))
      have E2 := zE.up (fa := fa) (a := py) (n := 4) (i := 1) h1 (.inl (2, 1024, .inl (va_cpy nx1 nw 0 0 (2 ^ S)))) (by decide) df
      have S2 := S1.zE E2 (Or.inl dx) dk dl
      generalize gxup h1 (py + 1) (.inl (2, 1024, .inl (va_cpy nx1 nw 0 0 (2 ^ S)))) = h2 at *
      have key : ∀ u, (decide (u < 2 ^ S ∧ nx1 u = 1)) = true ↔ nxt N ok may u := by
        intro u
        rw [decide_eq_true_eq]
        constructor
        · rintro ⟨z1, z2⟩; exact (X1.1 u z1).2.mp z2
        · intro z
          have := nxt_lt hS10 hmay hN z
          exact ⟨this, (X1.1 u this).2.mpr z⟩
      have kz : ∀ u, u < 2 ^ S → va_cpy nx1 nw 0 0 (2 ^ S) u = zi (decide (u < 2 ^ S ∧ nx1 u = 1)) := by
        intro u hu
        rw [pk_cpy_in (by omega) (by omega), Nat.zero_add, Nat.sub_zero]
        rcases (X1.1 u hu).1 with z | z
        · have : decide (u < 2 ^ S ∧ nx1 u = 1) = false := decide_eq_false (fun q => by have := q.2; rw [z] at this; exact absurd this (by decide))
          rw [this, z]; rfl
        · have : decide (u < 2 ^ S ∧ nx1 u = 1) = true := decide_eq_true ⟨hu, z⟩
          rw [this, z]; rfl
      refine gx_iload (pc := 191) dX6_pays_191 rfl ?_
      exact gx_zreturn (pc := 193) rfl ( by rcases X1.2 with ⟨y1, _⟩ | ⟨y1, _⟩ <;> rw [y1] <;> decide) dX6_pays_193 (⟨_, rfl, ⟨S2, E1.tr E2, _, _, fun u => decide (u < 2 ^ S ∧ nx1 u = 1), F2, key, kz, by rcases X1.2 with ⟨y1, u, y2⟩ | ⟨y1, y2⟩; exact Or.inl ⟨y1, u, (key u).mpr y2⟩; exact Or.inr ⟨y1, fun u => Bool.eq_false_iff.mpr (fun z => y2 u ((key u).mp z))⟩⟩ ⟩)
  have L2 : ∀ m U h1 nx1 any v6 v7, m + U = 2 ^ S → (XS x r tk tr gl sl bl py pt ng ft mk lo hi ta fa P S E gg A s w b) h1 → PF h1 py x nw nx1 wo → zE py 4 fa h h1 → pIv S (pRB N ok may U) nx1 any → gxV G mX6_pays d 0 0 81 [some (.ref py), some (.int (nI p)), some (.int (A 15 p)), some (.int (nI may)), some (.int any), some (.int (nI U)), v6, v7] [] h1 (gxQi (fun v h' => (XS x r tk tr gl sl bl py pt ng ft mk lo hi ta fa P S E gg A s w b) h' ∧ zE py 4 fa h h' ∧ ∃ (nw' nx' : Nat → Int32) (N' : Nat → Bool), PF h' py x nw' nx' wo ∧ (∀ u, N' u = true ↔ nxt N ok may u) ∧ (∀ u, u < 2 ^ S → nw' u = zi (N' u)) ∧ ((v = 1 ∧ ∃ u, N' u = true) ∨ (v = 0 ∧ ∀ u, N' u = false)))) := by
    intro m
    induction m with
    | zero =>
      intro U h1 nx1 any v6 v7 hU S1 F1 E1 X1
      obtain ⟨hpy, hnw, hnx, hwo⟩ := id F1; have hx := S1.1
      refine gx_iload (pc := 81) dX6_pays_81 rfl ?_
      refine gx_aload_n (pc := 83) dX6_pays_83 rfl ?_
      refine gx_get (pc := 84) fX6_3 hpy rfl dX6_pays_84 ?_
      refine kX6_26 (kc := 0) (ks := 0) (mc := 0) (ms := 0) (pc := 87) rfl (c_every (d := d - 1) (by omega) S1.1.O S1.2) (gxRc.of rfl hx) (by omega) (Nat.le_of_ble_eq_true rfl) dX6_pays_87 (fun r1 h2 e1 => ?_)
      obtain ⟨rfl, e1⟩ := e1
      subst h2
      refine gx_icmp_gt (pc := 90) 169 dX6_pays_90 (by decide) (fun c1 => ?_) (fun c1 => ?_)
      · exact fin h1 nx1 any _ _ _ S1 F1 E1 (X1.cg (pRB_end hS10 (by omega) hN))
      · exact absurd (nI_lt (by omega) (by omega)) c1
    | succ m ih =>
      intro U h1 nx1 any v6 v7 hU S1 F1 E1 X1
      obtain ⟨hpy, hnw, hnx, hwo⟩ := id F1; have hx := S1.1
      have K163 : ∀ h2 nx2 any2 v6 v7, (XS x r tk tr gl sl bl py pt ng ft mk lo hi ta fa P S E gg A s w b) h2 → PF h2 py x nw nx2 wo → zE py 4 fa h h2 → pIv S (pRB N ok may (U + 1)) nx2 any2 → gxV G mX6_pays d 0 0 163 [some (.ref py), some (.int (nI p)), some (.int (A 15 p)), some (.int (nI may)), some (.int any2), some (.int (nI U)), v6, v7] [] h2 (gxQi (fun v h' => (XS x r tk tr gl sl bl py pt ng ft mk lo hi ta fa P S E gg A s w b) h' ∧ zE py 4 fa h h' ∧ ∃ (nw' nx' : Nat → Int32) (N' : Nat → Bool), PF h' py x nw' nx' wo ∧ (∀ u, N' u = true ↔ nxt N ok may u) ∧ (∀ u, u < 2 ^ S → nw' u = zi (N' u)) ∧ ((v = 1 ∧ ∃ u, N' u = true) ∨ (v = 0 ∧ ∀ u, N' u = false)))) := by
        intro h2 nx2 any2 v6 v7 S2 F2 E2 X2
        refine gx_iincc (pc := 163) (c := 1) dX6_pays_163 rfl (by decide) (by decide) rfl ?_
        refine gx_goto (pc := 166) 81 dX6_pays_166 (by decide) ?_
        rw [nI_1]
        exact ih (U + 1) h2 nx2 any2 v6 v7 (by omega) S2 F2 E2 X2
      refine gx_iload (pc := 81) dX6_pays_81 rfl ?_
      refine gx_aload_n (pc := 83) dX6_pays_83 rfl ?_
      refine gx_get (pc := 84) fX6_3 hpy rfl dX6_pays_84 ?_
      refine kX6_26 (kc := 0) (ks := 0) (mc := 0) (ms := 0) (pc := 87) rfl (c_every (d := d - 1) (by omega) S1.1.O S1.2) (gxRc.of rfl hx) (by omega) (Nat.le_of_ble_eq_true rfl) dX6_pays_87 (fun r1 h2 e1 => ?_)
      obtain ⟨rfl, e1⟩ := e1
      subst h2
      refine gx_icmp_gt (pc := 90) 169 dX6_pays_90 (by decide) (fun c1 => ?_) (fun c1 => ?_)
      · exact absurd c1 (nI_nlt (by omega) (by omega))
      · refine gx_aload_n (pc := 93) dX6_pays_93 rfl ?_
        refine gx_get (pc := 94) fX6_15 hpy rfl dX6_pays_94 ?_
        refine gx_iload (pc := 97) dX6_pays_97 rfl ?_
        refine gx_zald (pc := 99) (U) hnw (by first | rfl | simp only [gx_lit, nI_add, pk_mul]) (by omega) (by decide) dX6_pays_99 ?_
        rw [hnN U (by omega)]
        refine gx_if_ne (pc := 100) 106 dX6_pays_100 (by decide) (fun c2 => ?_) (fun c2 => ?_)
        · have NU := zi_ne0 c2
          have dle := dif_le may U
          refine gx_iload_n (pc := 106) dX6_pays_106 rfl ?_
          refine gx_iload (pc := 107) dX6_pays_107 rfl ?_
          refine gx_iconst (pc := 109) (v := (-1)) dX6_pays_109 (by decide) ?_
          refine gx_ixor (pc := 110) dX6_pays_110 ?_
          refine gx_iand (pc := 111) dX6_pays_111 ?_
          rw [dif_eq U (by omega)]
          refine gx_istore (pc := 112) dX6_pays_112 (by decide) rfl ?_
          refine gx_iload (pc := 114) dX6_pays_114 rfl ?_
          refine gx_istore (pc := 116) dX6_pays_116 (by decide) rfl ?_
          have LI : ∀ m2 sub h2 nx2 any2, sub ≤ m2 → sub &&& dif may U = sub → (XS x r tk tr gl sl bl py pt ng ft mk lo hi ta fa P S E gg A s w b) h2 → PF h2 py x nw nx2 wo → zE py 4 fa h h2 → pIv S (pRI N ok may U sub) nx2 any2 → gxV G mX6_pays d 0 0 118 [some (.ref py), some (.int (nI p)), some (.int (A 15 p)), some (.int (nI may)), some (.int any2), some (.int (nI U)), some (.int (nI (dif may U))), some (.int (nI sub))] [] h2 (gxQi (fun v h' => (XS x r tk tr gl sl bl py pt ng ft mk lo hi ta fa P S E gg A s w b) h' ∧ zE py 4 fa h h' ∧ ∃ (nw' nx' : Nat → Int32) (N' : Nat → Bool), PF h' py x nw' nx' wo ∧ (∀ u, N' u = true ↔ nxt N ok may u) ∧ (∀ u, u < 2 ^ S → nw' u = zi (N' u)) ∧ ((v = 1 ∧ ∃ u, N' u = true) ∨ (v = 0 ∧ ∀ u, N' u = false)))) := by
            intro m2
            have Z : ∀ h2 nx2 any2, (XS x r tk tr gl sl bl py pt ng ft mk lo hi ta fa P S E gg A s w b) h2 → PF h2 py x nw nx2 wo → zE py 4 fa h h2 → pIv S (pRI N ok may U 0) nx2 any2 → gxV G mX6_pays d 0 0 118 [some (.ref py), some (.int (nI p)), some (.int (A 15 p)), some (.int (nI may)), some (.int any2), some (.int (nI U)), some (.int (nI (dif may U))), some (.int (nI 0))] [] h2 (gxQi (fun v h' => (XS x r tk tr gl sl bl py pt ng ft mk lo hi ta fa P S E gg A s w b) h' ∧ zE py 4 fa h h' ∧ ∃ (nw' nx' : Nat → Int32) (N' : Nat → Bool), PF h' py x nw' nx' wo ∧ (∀ u, N' u = true ↔ nxt N ok may u) ∧ (∀ u, u < 2 ^ S → nw' u = zi (N' u)) ∧ ((v = 1 ∧ ∃ u, N' u = true) ∨ (v = 0 ∧ ∀ u, N' u = false)))) := by
              intro h2 nx2 any2 S2 F2 E2 X2
              refine gx_iload (pc := 118) dX6_pays_118 rfl ?_
              refine gx_if_le (pc := 120) 163 dX6_pays_120 (by decide) (fun c3 => ?_) (fun c3 => ?_)
              · exact K163 h2 nx2 any2 _ _ S2 F2 E2 (X2.cg (pRI_0 NU))
              · exact absurd (by decide) c3
            induction m2 with
            | zero =>
              intro sub h2 nx2 any2 hsub hss S2 F2 E2 X2
              have : sub = 0 := by omega
              subst this
              exact Z h2 nx2 any2 S2 F2 E2 X2
            | succ m2 ih2 =>
              intro sub h2 nx2 any2 hsub hss S2 F2 E2 X2
              by_cases h0 : sub = 0
              · subst h0
                exact Z h2 nx2 any2 S2 F2 E2 X2
              · have hle : (sub - 1) &&& dif may U ≤ sub - 1 := Nat.and_le_left
                have hnx2 : ((sub - 1) &&& dif may U) &&& dif may U = (sub - 1) &&& dif may U := by rw [Nat.and_assoc, Nat.and_self]
                have sle : sub ≤ dif may U := by rw [← hss]; exact Nat.and_le_right
                have K151 : ∀ h3 nx3 any3, (XS x r tk tr gl sl bl py pt ng ft mk lo hi ta fa P S E gg A s w b) h3 → PF h3 py x nw nx3 wo → zE py 4 fa h h3 → pIv S (pRI N ok may U ((sub - 1) &&& dif may U)) nx3 any3 → gxV G mX6_pays d 0 0 151 [some (.ref py), some (.int (nI p)), some (.int (A 15 p)), some (.int (nI may)), some (.int any3), some (.int (nI U)), some (.int (nI (dif may U))), some (.int (nI sub))] [] h3 (gxQi (fun v h' => (XS x r tk tr gl sl bl py pt ng ft mk lo hi ta fa P S E gg A s w b) h' ∧ zE py 4 fa h h' ∧ ∃ (nw' nx' : Nat → Int32) (N' : Nat → Bool), PF h' py x nw' nx' wo ∧ (∀ u, N' u = true ↔ nxt N ok may u) ∧ (∀ u, u < 2 ^ S → nw' u = zi (N' u)) ∧ ((v = 1 ∧ ∃ u, N' u = true) ∨ (v = 0 ∧ ∀ u, N' u = false)))) := by
                  intro h3 nx3 any3 S3 F3 E3 X3
                  refine gx_iload (pc := 151) dX6_pays_151 rfl ?_
                  refine gx_iconst (pc := 153) (v := 1) dX6_pays_153 (by decide) ?_
                  refine gx_isub (pc := 154) dX6_pays_154 ?_
                  rw [show nI sub - 1 = nI (sub - 1) from pk_sub (b := 1) (by omega)]
                  refine gx_iload (pc := 155) dX6_pays_155 rfl ?_
                  refine gx_iand (pc := 157) dX6_pays_157 ?_
                  rw [and_nI2 (by omega) (by omega)]
                  refine gx_istore (pc := 158) dX6_pays_158 (by decide) rfl ?_
                  refine gx_goto (pc := 160) 118 dX6_pays_160 (by decide) ?_
                  exact ih2 _ h3 nx3 any3 (by omega) hnx2 S3 F3 E3 X3
                have hwo2 := F2.2.2.2
                obtain ⟨hpy, hnw, hnx, hwo⟩ := id F2
                have hsS : sub < 2 ^ S := by omega
                refine gx_iload (pc := 118) dX6_pays_118 rfl ?_
                refine gx_if_le (pc := 120) 163 dX6_pays_120 (by decide) (fun c3 => ?_) (fun c3 => ?_)
                · exact absurd c3 (nI_nle (by omega) (by omega))
                · refine gx_aload_n (pc := 123) dX6_pays_123 rfl ?_
                  refine gx_get (pc := 124) fX6_22 hpy rfl dX6_pays_124 ?_
                  refine gx_iload (pc := 127) dX6_pays_127 rfl ?_
                  refine gx_iald (pc := 129) (sub) hwo (by first | rfl | simp only [gx_lit, nI_add, pk_mul]) (by omega) (by decide) dX6_pays_129 ?_
                  rw [hwo0 sub hsS]
                  refine gx_iload_n (pc := 130) dX6_pays_130 rfl ?_
                  refine gx_icmp_ge (pc := 131) 137 dX6_pays_131 (by decide) (fun c4 => ?_) (fun c4 => ?_)
                  · have oks : ok sub = true := by rw [← hok]; exact decide_eq_true c4
                    have hor : U ||| sub < 2 ^ S := Nat.or_lt_two_pow (by omega) hsS
                    have X3 := pRI_yes hm h0 hss oks X2
                    refine gx_aload_n (pc := 137) dX6_pays_137 rfl ?_
                    refine gx_get (pc := 138) fX6_19 hpy rfl dX6_pays_138 ?_
                    refine gx_iload (pc := 141) dX6_pays_141 rfl ?_
                    refine gx_iload (pc := 143) dX6_pays_143 rfl ?_
                    refine gx_ior (pc := 145) dX6_pays_145 ?_
                    rw [or_nI2 (by omega) (by omega)]
                    generalize U ||| sub = os at *
                    refine gx_iconst (pc := 146) (v := 1) dX6_pays_146 (by decide) ?_
                    refine gx_zast (pc := 147) (os) hnx nnx (by decide) (by first | rfl | simp only [gx_lit, nI_add, pk_mul]) (by omega) (by decide) dX6_pays_147 ?_
                    have F3 := F2.unx (upd nx2 os 1)
                    have E3 := zE.up (fa := fa) (a := py) (n := 4) (i := 2) h2 (.inl (2, 1024, .inl (upd nx2 os 1))) (by decide) df
                    have S3 := S2.zE E3 (Or.inl dx) dk dl
                    generalize gxup h2 (py + 2) (.inl (2, 1024, .inl (upd nx2 os 1))) = h3 at *
                    refine gx_iconst (pc := 148) (v := 1) dX6_pays_148 (by decide) ?_
                    refine gx_istore (pc := 149) dX6_pays_149 (by decide) rfl ?_
                    exact K151 h3 _ _ S3 F3 (E2.tr E3) X3
                  · have oks : ok sub = false := by rw [← hok]; exact decide_eq_false c4
                    refine gx_goto (pc := 134) 151 dX6_pays_134 (by decide) ?_
                    exact K151 h2 nx2 any2 S2 F2 E2 (X2.cg (pRI_no hm h0 hss oks))
          exact LI (dif may U) (dif may U) h1 nx1 any (Nat.le_refl _) (Nat.and_self _) S1 F1 E1 (X1.cg pRI_top)
        · have NU := zi_eq0 c2
          refine gx_goto (pc := 103) 163 dX6_pays_103 (by decide) ?_
          exact K163 h1 nx1 any _ _ S1 F1 E1 (X1.cg (pRB_no NU))
  have L1 : ∀ m k h1 nx1, m + k = 2 ^ S → (XS x r tk tr gl sl bl py pt ng ft mk lo hi ta fa P S E gg A s w b) h1 → PF h1 py x nw nx1 wo → zE py 4 fa h h1 → (∀ u, u < k → nx1 u = 0) → gxV G mX6_pays d 0 0 52 [some (.ref py), some (.int (nI p)), some (.int (A 15 p)), some (.int (nI may)), some (.int 0), some (.int (nI k)), none, none] [] h1 (gxQi (fun v h' => (XS x r tk tr gl sl bl py pt ng ft mk lo hi ta fa P S E gg A s w b) h' ∧ zE py 4 fa h h' ∧ ∃ (nw' nx' : Nat → Int32) (N' : Nat → Bool), PF h' py x nw' nx' wo ∧ (∀ u, N' u = true ↔ nxt N ok may u) ∧ (∀ u, u < 2 ^ S → nw' u = zi (N' u)) ∧ ((v = 1 ∧ ∃ u, N' u = true) ∨ (v = 0 ∧ ∀ u, N' u = false)))) := by
    intro m
    induction m with
    | zero =>
      intro k h1 nx1 hk S1 F1 E1 X1
      obtain ⟨hpy, hnw, hnx, hwo⟩ := id F1; have hx := S1.1
      refine gx_iload (pc := 52) dX6_pays_52 rfl ?_
      refine gx_aload_n (pc := 54) dX6_pays_54 rfl ?_
      refine gx_get (pc := 55) fX6_3 hpy rfl dX6_pays_55 ?_
      refine kX6_26 (kc := 0) (ks := 0) (mc := 0) (ms := 0) (pc := 58) rfl (c_every (d := d - 1) (by omega) S1.1.O S1.2) (gxRc.of rfl hx) (by omega) (Nat.le_of_ble_eq_true rfl) dX6_pays_58 (fun r1 h2 e1 => ?_)
      obtain ⟨rfl, e1⟩ := e1
      subst h2
      refine gx_icmp_gt (pc := 61) 78 dX6_pays_61 (by decide) (fun c1 => ?_) (fun c1 => ?_)
      · refine gx_iconst (pc := 78) (v := 0) dX6_pays_78 (by decide) ?_
        refine gx_istore (pc := 79) dX6_pays_79 (by decide) rfl ?_
        refine L2 (2 ^ S) 0 h1 nx1 0 _ _ (by omega) S1 F1 E1 ⟨fun u hu => ⟨Or.inl (X1 u (by omega)), fun z => ?_, fun ⟨v, c, z, _⟩ => by omega⟩, Or.inr ⟨rfl, fun u ⟨v, c, z, _⟩ => by omega⟩⟩
        rw [X1 u (by omega)] at z
        exact absurd z (by decide)
      · exact absurd (nI_lt (by omega) (by omega)) c1
    | succ m ih =>
      intro k h1 nx1 hk S1 F1 E1 X1
      obtain ⟨hpy, hnw, hnx, hwo⟩ := id F1; have hx := S1.1
      refine gx_iload (pc := 52) dX6_pays_52 rfl ?_
      refine gx_aload_n (pc := 54) dX6_pays_54 rfl ?_
      refine gx_get (pc := 55) fX6_3 hpy rfl dX6_pays_55 ?_
      refine kX6_26 (kc := 0) (ks := 0) (mc := 0) (ms := 0) (pc := 58) rfl (c_every (d := d - 1) (by omega) S1.1.O S1.2) (gxRc.of rfl hx) (by omega) (Nat.le_of_ble_eq_true rfl) dX6_pays_58 (fun r1 h2 e1 => ?_)
      obtain ⟨rfl, e1⟩ := e1
      subst h2
      refine gx_icmp_gt (pc := 61) 78 dX6_pays_61 (by decide) (fun c1 => ?_) (fun c1 => ?_)
      · exact absurd c1 (nI_nlt (by omega) (by omega))
      · refine gx_aload_n (pc := 64) dX6_pays_64 rfl ?_
        refine gx_get (pc := 65) fX6_19 hpy rfl dX6_pays_65 ?_
        refine gx_iload (pc := 68) dX6_pays_68 rfl ?_
        refine gx_iconst (pc := 70) (v := 0) dX6_pays_70 (by decide) ?_
        refine gx_zast (pc := 71) (k) hnx nnx (by decide) (by first | rfl | simp only [gx_lit, nI_add, pk_mul]) (by omega) (by decide) dX6_pays_71 ?_
        have F3 := F1.unx (upd nx1 k 0)
        have E3 := zE.up (fa := fa) (a := py) (n := 4) (i := 2) h1 (.inl (2, 1024, .inl (upd nx1 k 0))) (by decide) df
        have S3 := S1.zE E3 (Or.inl dx) dk dl
        generalize gxup h1 (py + 2) (.inl (2, 1024, .inl (upd nx1 k 0))) = h3 at *
        refine gx_iincc (pc := 72) (c := 1) dX6_pays_72 rfl (by decide) (by decide) rfl ?_
        refine gx_goto (pc := 75) 52 dX6_pays_75 (by decide) ?_
        rw [nI_1]
        refine ih (k + 1) h3 _ (by omega) S3 F3 (E1.tr E3) (fun u hu => ?_)
        simp only [upd]
        split
        · rfl
        · exact X1 u (by omega)
  have S1 := hS
  have F1 := hF
  obtain ⟨hpy, hnw, hnx, hwo⟩ := id F1; have hx := S1.1
  obtain ⟨_, _, _, _, _, htk, _⟩ := id S1.2.2.1
  obtain ⟨i1, i2, hfc, nl, ol, pl, sl', el, fo, wv, pa, sa, ea, i3, ht, hfo, hpl, hsl, hel, hpa, hsa, hea, hwv⟩ := id S1.2.1
  have hpl0 := hpl.ls
  clear hpl
  obtain ⟨_, _, _, _, hpl, _⟩ := id hpl0
  obtain ⟨_, hpe⟩ := hpa p hp
  refine gx_aload_n (pc := 0) dX6_pays_0 rfl ?_
  refine gx_get (pc := 1) fX6_3 hpy rfl dX6_pays_1 ?_
  refine kX6_50 (kc := 0) (ks := 0) (mc := 0) (ms := 0) (pc := 4) rfl (c_now (d := d - 1) S1.1.O S1.2) (gxRc.of rfl hx) (by omega) (Nat.le_of_ble_eq_true rfl) dX6_pays_4 (fun r1 h2 e1 => ?_)
  obtain ⟨e0, e1⟩ := e1
  subst h2; subst r1
  refine gx_get (pc := 7) fX6_54 ht rfl dX6_pays_7 ?_
  refine gx_iload_n (pc := 10) dX6_pays_10 rfl ?_
  refine kX6_59 (kc := 0) (ks := 0) (mc := 0) (ms := 0) (pc := 11) rfl (c_get (d := d - 1) (by omega) hpl0 p hp) (gxRc.of rfl hpl) (by omega) (Nat.le_of_ble_eq_true rfl) dX6_pays_11 (fun r1 h2 e1 => ?_)
  obtain ⟨rfl, e1⟩ := e1
  subst h2
  refine gx_castP (pc := 14) hpe q1617 dX6_pays_14 ?_
  refine kFX6_67 (pc := 17) hpe rfl dX6_pays_17 ?_
  refine gx_istore_n (pc := 20) dX6_pays_20 (by decide) rfl ?_
  refine gx_aload_n (pc := 21) dX6_pays_21 rfl ?_
  refine gx_get (pc := 22) fX6_3 hpy rfl dX6_pays_22 ?_
  refine gx_getN (pc := 25) fX6_30 hx rfl dX6_pays_25 ?_
  refine gx_iload_n (pc := 28) dX6_pays_28 rfl ?_
  refine kX6_71 (kc := 0) (ks := 0) (mc := 0) (ms := 0) (pc := 29) rfl (c_Tknown (d := d - 1) (by omega) S1.2 (nI p)) (gxRc.of rfl htk) (by omega) (Nat.le_of_ble_eq_true rfl) dX6_pays_29 (fun r1 h2 e1 => ?_)
  obtain ⟨rfl, e1⟩ := e1
  subst h2
  refine gx_aload_n (pc := 32) dX6_pays_32 rfl ?_
  refine gx_get (pc := 33) fX6_3 hpy rfl dX6_pays_33 ?_
  refine gx_getN (pc := 36) fX6_30 hx rfl dX6_pays_36 ?_
  refine gx_get (pc := 39) fX6_74 htk rfl dX6_pays_39 ?_
  refine gx_iconst (pc := 42) (v := (-1)) dX6_pays_42 (by decide) ?_
  refine gx_ixor (pc := 43) dX6_pays_43 ?_
  refine gx_iand (pc := 44) dX6_pays_44 ?_
  rw [em]
  refine gx_istore_n (pc := 45) dX6_pays_45 (by decide) rfl ?_
  refine gx_iconst (pc := 46) (v := 0) dX6_pays_46 (by decide) ?_
  refine gx_istore (pc := 47) dX6_pays_47 (by decide) rfl ?_
  refine gx_iconst (pc := 49) (v := 0) dX6_pays_49 (by decide) ?_
  refine gx_istore (pc := 50) dX6_pays_50 (by decide) rfl ?_
  exact L1 (2 ^ S) 0 h nx (by omega) hS hF (zE.rf _ _ _ _) (fun u hu => by omega)
end MAD
