/-! ===== COMPONENT AE: payers, all ===== -/
set_option maxRecDepth 100000
theorem cp_iff {w : Option gxEv} {A : Nat → Nat → Int32} {s : Nat → Int32} {P S p may k : Nat} (hb : (s 78 >>> (nI p &&& 31)) &&& 1 = 0) (em : spKnown (setS A s) (nI p) S &&& (s 77 ^^^ -1) = nI may) (hk : k < 1024) (k0 : k ≠ 0) : spCanPay w (setS A s) P S p (nI k) = true ↔ prt k may ∧ decide (A 15 p ≤ spWs w (setS A s) P (nI k) S) = true := by
  unfold spCanPay
  rw [setS_50, setS_ne (q := 15) (by decide), em, decide_eq_true hb, decide_eq_true (show 0 < nI k from nI_lt (a := 0) (by omega) (by omega)), Bool.true_and, Bool.true_and, Bool.and_eq_true, dif_eq may (by omega), decide_eq_true_eq]
  have hl := dif_le k may
  have : nI (dif k may) = 0 ↔ prt k may := by
    rw [← dif_z (by omega)]
    constructor
    · intro z
      exact (nI_eq (a := dif k may) (b := 0) (by omega) (by decide)).mp z
    · intro z; rw [z]; rfl
  rw [this]
theorem spBest_hi {tg : Nat → Bool} {due P : Nat} (hP : P ≤ 6) (hd : due < 2 ^ P) : ∀ m, 2 ^ P + m ≤ 64 → spBest tg due (2 ^ P + m) = spBest tg due (2 ^ P)
  | 0, _ => rfl
  | m + 1, hm => by
    rw [← Nat.add_assoc, spBest, if_neg, spBest_hi hP hd m (by omega)]
    intro z
    have := dif_0 (2 ^ P + m) (by omega) due (by omega) z
    omega
theorem spDue_bit (A : Nat → Nat → Int32) : ∀ P, P ≤ 6 → ∀ p, p < P → spDue A P / 2 ^ p % 2 = 1 → (A 50 78 >>> (nI p &&& 31)) &&& 1 = 0
  | 0, _, p, hp, _ => by omega
  | P + 1, hP, p, hp, hb => by
    have hlt := spDue_lt A P
    rw [spDue] at hb
    have ih := spDue_bit A P (by omega) p
    have old : p ≠ P → spDue A P / 2 ^ p % 2 = 1 → (A 50 78 >>> (nI p &&& 31)) &&& 1 = 0 := fun e => ih (by omega)
    by_cases e : p = P
    · subst e
      have z : spDue A p / 2 ^ p = 0 := Nat.div_eq_of_lt hlt
      split at hb
      · rw [z] at hb; omega
      · split at hb
        · rename_i hh; exact hh
        · rw [z] at hb; omega
    · split at hb
      · exact old e hb
      · split at hb
        · refine old e ?_
          have key : ∀ n, (n + 2 ^ P) / 2 ^ p % 2 = n / 2 ^ p % 2 := by
            intro n
            obtain ⟨j, rfl⟩ : ∃ j, P = p + 1 + j := ⟨P - p - 1, by omega⟩
            rw [show 2 ^ (p + 1 + j) = 2 ^ p * (2 * 2 ^ j) by rw [Nat.pow_add, Nat.pow_add]; simp [Nat.mul_assoc], Nat.add_mul_div_left _ _ (Nat.two_pow_pos p)]
            omega
          rw [key] at hb
          exact hb
        · exact old e hb
theorem dif_bits : ∀ q, q < 64 → ∀ due, due < 64 → dif q due = 0 → ∀ p, p < 6 → q / 2 ^ p % 2 = 1 → due / 2 ^ p % 2 = 1 := by decide +kernel
theorem due_or : ∀ p, p < 6 → ∀ n, n < 2 ^ p → nI n ||| ((1 : Int32) <<< (nI p &&& 31)) = nI (n + 2 ^ p) := by decide +kernel
section MAE
variable {G : gxG} {d : Nat} {h : gxH} {x r tk tr gl sl bl py pt ng ft mk lo hi ta fa P S E : Nat} {gg : Int64} {A : Nat → Nat → Int32} {s : Nat → Int32} {w : Option gxEv} {b : Bool} {nw nx wo : Nat → Int32}
theorem c_Pcan (dx : x < py) (dk : tk + 6 ≤ py ∨ py + 4 ≤ tk) (dl : hi ≤ py ∨ py + 4 ≤ lo) (df : fa < py ∨ py + 4 ≤ fa) (hn : gxN G ≤ x) (hd : 5 ≤ d) (hS : (XS x r tk tr gl sl bl py pt ng ft mk lo hi ta fa P S E gg A s w b) h) (hF : PF h py x nw nx wo) (hwo0 : ∀ k, k < 2 ^ S → wo k = spWs w (setS A s) P (nI k) S) (q : Nat) (hq : q < 2 ^ P) (hdue : ∀ p, p < P → q / 2 ^ p % 2 = 1 → (s 78 >>> (nI p &&& 31)) &&& 1 = 0) : gxM G mX6_can d 0 0 [.ref py, .int (nI q)] h (gxQi (fun v h' => v = zi (spTG (fun p k => spCanPay w (setS A s) P S p (nI k)) q q (2 ^ S - 1)) ∧ (XS x r tk tr gl sl bl py pt ng ft mk lo hi ta fa P S E gg A s w b) h' ∧ zE py 4 fa h h' ∧ ∃ nw' nx', PF h' py x nw' nx' wo)) := by
  have hP6 := hS.2.2.2.2.1
  have hS10 := hS.2.2.2.2.2.2.1
  have h10 := pow_S hS10
  have nnw : gxN G ≤ py + 1 := by omega
  have h64 := (shl_P hP6).2
  generalize hR : spTG (fun p k => spCanPay w (setS A s) P S p (nI k)) q q (2 ^ S - 1) = R
  refine gxM_of rfl (Nat.le_of_ble_eq_true rfl) rfl ?_
  have L2 : ∀ m p h1 nw1 nx1 (N : Nat → Bool), m + p = P → (XS x r tk tr gl sl bl py pt ng ft mk lo hi ta fa P S E gg A s w b) h1 → PF h1 py x nw1 nx1 wo → zE py 4 fa h h1 → (∀ u, u < 2 ^ S → nw1 u = zi (N u)) → (∀ u, N u = true → u < 2 ^ S) → (∃ u, N u = true) → ((∃ u, N u = true ∧ spTG (fun p k => spCanPay w (setS A s) P S p (nI k)) (frm q p) (frm q p) (dif (2 ^ S - 1) u) = true) ↔ R = true) → gxV G mX6_can d 0 0 36 [some (.ref py), some (.int (nI q)), some (.int (nI p))] [] h1 (gxQi (fun v h' => v = zi R ∧ (XS x r tk tr gl sl bl py pt ng ft mk lo hi ta fa P S E gg A s w b) h' ∧ zE py 4 fa h h' ∧ ∃ nw' nx', PF h' py x nw' nx' wo)) := by
    intro m
    induction m with
    | zero =>
      intro p h1 nw1 nx1 N hp S1 F1 E1 X1 X2 X3 X4
      have : p = P := by omega
      subst this
      obtain ⟨hpy, hnw, hnx, hwo⟩ := id F1; have hx := S1.1
      refine gx_iload_n (pc := 36) dX6_can_36 rfl ?_
      refine gx_aload_n (pc := 37) dX6_can_37 rfl ?_
      refine gx_get (pc := 38) fX6_3 hpy rfl dX6_can_38 ?_
      refine kX6_39 (kc := 0) (ks := 0) (mc := 0) (ms := 0) (pc := 41) rfl (c_people (d := d - 1) (by omega) S1.1.O S1.2) (gxRc.of rfl hx) (by omega) (Nat.le_of_ble_eq_true rfl) dX6_can_41 (fun r1 h2 e1 => ?_)
      obtain ⟨rfl, e1⟩ := e1
      subst h2
      refine gx_icmp_ge (pc := 44) 71 dX6_can_44 (by decide) (fun c1 => ?_) (fun c1 => ?_)
      · have RT : R = true := by
          obtain ⟨u, hu⟩ := X3
          exact X4.mp ⟨u, hu, by rw [frm_end p (by omega) q hq]; rfl⟩
        refine gx_iconst (pc := 71) (v := 1) dX6_can_71 (by decide) ?_
        exact gx_zreturn (pc := 72) rfl (by decide) dX6_can_72 (⟨_, rfl, ⟨by rw [RT]; rfl, S1, E1, _, _, F1⟩⟩)
      · exact absurd (nI_le (by omega) (by omega)) c1
    | succ m ih =>
      intro p h1 nw1 nx1 N hp S1 F1 E1 X1 X2 X3 X4
      obtain ⟨hpy, hnw, hnx, hwo⟩ := id F1; have hx := S1.1
      have K65 : ∀ h2 nw2 nx2 (N2 : Nat → Bool), (XS x r tk tr gl sl bl py pt ng ft mk lo hi ta fa P S E gg A s w b) h2 → PF h2 py x nw2 nx2 wo → zE py 4 fa h h2 → (∀ u, u < 2 ^ S → nw2 u = zi (N2 u)) → (∀ u, N2 u = true → u < 2 ^ S) → (∃ u, N2 u = true) → ((∃ u, N2 u = true ∧ spTG (fun p k => spCanPay w (setS A s) P S p (nI k)) (frm q (p + 1)) (frm q (p + 1)) (dif (2 ^ S - 1) u) = true) ↔ R = true) → gxV G mX6_can d 0 0 65 [some (.ref py), some (.int (nI q)), some (.int (nI p))] [] h2 (gxQi (fun v h' => v = zi R ∧ (XS x r tk tr gl sl bl py pt ng ft mk lo hi ta fa P S E gg A s w b) h' ∧ zE py 4 fa h h' ∧ ∃ nw' nx', PF h' py x nw' nx' wo)) := by
        intro h2 nw2 nx2 N2 S2 F2 E2 Y1 Y2 Y3 Y4
        refine gx_iincc (pc := 65) (c := 1) dX6_can_65 rfl (by decide) (by decide) rfl ?_
        refine gx_goto (pc := 68) 36 dX6_can_68 (by decide) ?_
        rw [nI_1]
        exact ih (p + 1) h2 nw2 nx2 N2 (by omega) S2 F2 E2 Y1 Y2 Y3 Y4
      refine gx_iload_n (pc := 36) dX6_can_36 rfl ?_
      refine gx_aload_n (pc := 37) dX6_can_37 rfl ?_
      refine gx_get (pc := 38) fX6_3 hpy rfl dX6_can_38 ?_
      refine kX6_39 (kc := 0) (ks := 0) (mc := 0) (ms := 0) (pc := 41) rfl (c_people (d := d - 1) (by omega) S1.1.O S1.2) (gxRc.of rfl hx) (by omega) (Nat.le_of_ble_eq_true rfl) dX6_can_41 (fun r1 h2 e1 => ?_)
      obtain ⟨rfl, e1⟩ := e1
      subst h2
      refine gx_icmp_ge (pc := 44) 71 dX6_can_44 (by decide) (fun c1 => ?_) (fun c1 => ?_)
      · exact absurd c1 (nI_ge (by omega) (by omega))
      · refine gx_iload_n (pc := 47) dX6_can_47 rfl ?_
        refine gx_iload_n (pc := 48) dX6_can_48 rfl ?_
        refine kX6_42 (kc := 0) (ks := 0) (mc := 0) (ms := 0) (pc := 49) rfl (c_has (d := d - 1) (nI q) (nI p)) (by omega) (Nat.le_of_ble_eq_true rfl) dX6_can_49 (fun r1 h2 e1 => ?_)
        obtain ⟨rfl, e1⟩ := e1
        subst h2
        rw [frm_hs q (by omega) p (by omega)]
        refine gx_if_eq (pc := 52) 65 dX6_can_52 (by decide) (fun c2 => ?_) (fun c2 => ?_)
        · have z := zi_eq0 c2
          rw [decide_eq_false_iff_not] at z
          have fe := frm_n q (by omega) p (by omega) (by omega)
          exact K65 h1 nw1 nx1 N S1 F1 E1 X1 X2 X3 (by rw [fe]; exact X4)
        · have z := zi_ne0 c2
          rw [decide_eq_true_eq] at z
          obtain ⟨may, hm, hmay, em⟩ := may_n (setS A s) (nI p) (s 77) hS10
          refine gx_aload_n (pc := 55) dX6_can_55 rfl ?_
          refine gx_iload_n (pc := 56) dX6_can_56 rfl ?_
          refine kX6_46 (kc := 0) (ks := 0) (mc := 0) (ms := 0) (pc := 57) rfl (c_Ppays (d := d - 1) dx dk dl df hn (by omega) S1 F1 p may (by omega) hm hmay em N X2 X1 hwo0) (gxRc.of rfl hpy) (by omega) (Nat.le_of_ble_eq_true rfl) dX6_can_57 (fun r1 h2 e1 => ?_)
          obtain ⟨S2, E2, nw2, nx2, N2, F2, Y1, Y2, Y3⟩ := e1
          have st := nxt_step (cp := (fun p k => spCanPay w (setS A s) P S p (nI k))) (q := q) (p := p) (S := S) (may := may) (N := N) (N' := N2) (ok := fun k => decide (A 15 p ≤ spWs w (setS A s) P (nI k) S)) (by omega) (by omega) hS10 z hmay X2 (fun k hk k0 => cp_iff (hdue p (by omega) z) em hk k0) Y1
          refine gx_if_ne (pc := 60) 65 dX6_can_60 (by decide) (fun c3 => ?_) (fun c3 => ?_)
          · rcases Y3 with ⟨y1, y2⟩ | ⟨y1, y2⟩
            · exact K65 h2 nw2 nx2 N2 S2 F2 (E1.tr E2) Y2 (fun u hu => nxt_lt hS10 hmay X2 ((Y1 u).mp hu)) y2 (st.trans X4)
            · exact absurd y1 c3
          · have c3' : r1 = 0 := c3
            rcases Y3 with ⟨y1, y2⟩ | ⟨y1, y2⟩
            · rw [y1] at c3'; exact absurd c3' (by decide)
            · have RF : R = false := by
                cases hh : R with
                | false => rfl
                | true =>
                  obtain ⟨u, hu, _⟩ := st.mpr (X4.mpr hh)
                  rw [y2 u] at hu; cases hu
              refine gx_iconst (pc := 63) (v := 0) dX6_can_63 (by decide) ?_
              exact gx_zreturn (pc := 64) rfl (by decide) dX6_can_64 (⟨_, rfl, ⟨by rw [RF]; rfl, S2, E1.tr E2, _, _, F2⟩⟩)
  have L1 : ∀ m k h1 nw1, m + k = 2 ^ S → (XS x r tk tr gl sl bl py pt ng ft mk lo hi ta fa P S E gg A s w b) h1 → PF h1 py x nw1 nx wo → zE py 4 fa h h1 → (∀ u, u < k → nw1 u = zi (decide (u = 0))) → gxV G mX6_can d 0 0 2 [some (.ref py), some (.int (nI q)), some (.int (nI k))] [] h1 (gxQi (fun v h' => v = zi R ∧ (XS x r tk tr gl sl bl py pt ng ft mk lo hi ta fa P S E gg A s w b) h' ∧ zE py 4 fa h h' ∧ ∃ nw' nx', PF h' py x nw' nx' wo)) := by
    intro m
    induction m with
    | zero =>
      intro k h1 nw1 hk S1 F1 E1 X1
      obtain ⟨hpy, hnw, hnx, hwo⟩ := id F1; have hx := S1.1
      refine gx_iload_n (pc := 2) dX6_can_2 rfl ?_
      refine gx_aload_n (pc := 3) dX6_can_3 rfl ?_
      refine gx_get (pc := 4) fX6_3 hpy rfl dX6_can_4 ?_
      refine kX6_26 (kc := 0) (ks := 0) (mc := 0) (ms := 0) (pc := 7) rfl (c_every (d := d - 1) (by omega) S1.1.O S1.2) (gxRc.of rfl hx) (by omega) (Nat.le_of_ble_eq_true rfl) dX6_can_7 (fun r1 h2 e1 => ?_)
      obtain ⟨rfl, e1⟩ := e1
      subst h2
      refine gx_icmp_gt (pc := 10) 34 dX6_can_10 (by decide) (fun c1 => ?_) (fun c1 => ?_)
      · refine gx_iconst (pc := 34) (v := 0) dX6_can_34 (by decide) ?_
        refine gx_istore_n (pc := 35) dX6_can_35 (by decide) rfl ?_
        refine L2 P 0 h1 nw1 nx (fun u => decide (u = 0)) (by omega) S1 F1 E1 (fun u hu => X1 u (by omega)) (fun u hu => by rw [decide_eq_true_eq] at hu; omega) ⟨0, rfl⟩ ?_
        have f0 : frm q 0 = q := by simp [frm]
        rw [f0]
        constructor
        · rintro ⟨u, hu, hh⟩
          rw [decide_eq_true_eq] at hu
          subst hu
          rw [dif_n0 (by omega), hR] at hh
          exact hh
        · intro hh
          exact ⟨0, rfl, by rw [dif_n0 (by omega), hR]; exact hh⟩
      · exact absurd (nI_lt (by omega) (by omega)) c1
    | succ m ih =>
      intro k h1 nw1 hk S1 F1 E1 X1
      obtain ⟨hpy, hnw, hnx, hwo⟩ := id F1; have hx := S1.1
      have K27 : ∀ v, v = zi (decide (k = 0)) → gxV G mX6_can d 0 0 27 [some (.ref py), some (.int (nI q)), some (.int (nI k))] [.int v, .int (nI k), .ref (py + 1)] h1 (gxQi (fun v h' => v = zi R ∧ (XS x r tk tr gl sl bl py pt ng ft mk lo hi ta fa P S E gg A s w b) h' ∧ zE py 4 fa h h' ∧ ∃ nw' nx', PF h' py x nw' nx' wo)) := by
        intro v hv
        subst hv
        refine gx_zast (pc := 27) (k) hnw nnw (by cases decide (k = 0); exact Or.inl rfl; exact Or.inr rfl) (by first | rfl | simp only [gx_lit, nI_add, pk_mul]) (by omega) (by decide) dX6_can_27 ?_
        have F3 := F1.unw (upd nw1 k (zi (decide (k = 0))))
        have E3 := zE.up (fa := fa) (a := py) (n := 4) (i := 1) h1 (.inl (2, 1024, .inl (upd nw1 k (zi (decide (k = 0)))))) (by decide) df
        have S3 := S1.zE E3 (Or.inl dx) dk dl
        generalize gxup h1 (py + 1) (.inl (2, 1024, .inl (upd nw1 k (zi (decide (k = 0)))))) = h3 at *
        refine gx_iincc (pc := 28) (c := 1) dX6_can_28 rfl (by decide) (by decide) rfl ?_
        refine gx_goto (pc := 31) 2 dX6_can_31 (by decide) ?_
        rw [nI_1]
        refine ih (k + 1) h3 _ (by omega) S3 F3 (E1.tr E3) (fun u hu => ?_)
        simp only [upd]
        split
        · rename_i e; rw [e]
        · exact X1 u (by omega)
      refine gx_iload_n (pc := 2) dX6_can_2 rfl ?_
      refine gx_aload_n (pc := 3) dX6_can_3 rfl ?_
      refine gx_get (pc := 4) fX6_3 hpy rfl dX6_can_4 ?_
      refine kX6_26 (kc := 0) (ks := 0) (mc := 0) (ms := 0) (pc := 7) rfl (c_every (d := d - 1) (by omega) S1.1.O S1.2) (gxRc.of rfl hx) (by omega) (Nat.le_of_ble_eq_true rfl) dX6_can_7 (fun r1 h2 e1 => ?_)
      obtain ⟨rfl, e1⟩ := e1
      subst h2
      refine gx_icmp_gt (pc := 10) 34 dX6_can_10 (by decide) (fun c1 => ?_) (fun c1 => ?_)
      · exact absurd c1 (nI_nlt (by omega) (by omega))
      · refine gx_aload_n (pc := 13) dX6_can_13 rfl ?_
        refine gx_get (pc := 14) fX6_15 hpy rfl dX6_can_14 ?_
        refine gx_iload_n (pc := 17) dX6_can_17 rfl ?_
        refine gx_iload_n (pc := 18) dX6_can_18 rfl ?_
        refine gx_if_ne (pc := 19) 26 dX6_can_19 (by decide) (fun c2 => ?_) (fun c2 => ?_)
        · have : k ≠ 0 := fun e => c2 (by rw [e]; rfl)
          refine gx_iconst (pc := 26) (v := 0) dX6_can_26 (by decide) ?_
          exact K27 _ (by rw [decide_eq_false this]; rfl)
        · have : k = 0 := by
            have c2' : nI k = nI 0 := c2
            exact (nI_eq (by omega) (by omega)).mp c2'
          refine gx_iconst (pc := 22) (v := 1) dX6_can_22 (by decide) ?_
          refine gx_goto (pc := 23) 27 dX6_can_23 (by decide) ?_
          exact K27 _ (by rw [decide_eq_true this]; rfl)
  refine gx_iconst (pc := 0) (v := 0) dX6_can_0 (by decide) ?_
  refine gx_istore_n (pc := 1) dX6_can_1 (by decide) rfl ?_
  exact L1 (2 ^ S) 0 h nw (by omega) hS hF (zE.rf _ _ _ _) (fun u hu => by omega)
theorem c_Xpayers (dx : x < py) (dk : tk + 6 ≤ py ∨ py + 4 ≤ tk) (dl : hi ≤ py ∨ py + 4 ≤ lo) (df : fa < py ∨ py + 4 ≤ fa) (hn : gxN G ≤ x) (hN : gxN G ≤ lo) (hd : 95 ≤ d) (hS : (XS x r tk tr gl sl bl py pt ng ft mk lo hi ta fa P S E gg A s w b) h) (hF : PF h py x nw nx wo) : gxM G mX1_payers d 0 0 [.ref x] h (gxQi (fun v h' => v = nI (spPyr w (setS A s) P S) ∧ (XS x r tk tr gl sl bl py pt ng ft mk lo hi ta fa P S E gg A s w b) h' ∧ zE py 4 fa h h' ∧ ∃ nw' nx' wo', PF h' py x nw' nx' wo')) := by
  have hP6 := hS.2.2.2.2.1
  have hS10 := hS.2.2.2.2.2.2.1
  obtain ⟨hsh, h64⟩ := shl_P hP6
  have p1 : 1 ≤ 2 ^ P := Nat.one_le_two_pow
  generalize hdu : spDue (setS A s) P = due
  have hdl : due < 2 ^ P := by rw [← hdu]; exact spDue_lt _ P
  have pyr : spPyr w (setS A s) P S = spBest (fun q => spTG (fun p k => spCanPay w (setS A s) P S p (nI k)) q q (2 ^ S - 1)) due (2 ^ P) := by
    have := spBest_hi (tg := (fun q => spTG (fun p k => spCanPay w (setS A s) P S p (nI k)) q q (2 ^ S - 1))) hP6 hdl (64 - 2 ^ P) (by omega)
    rw [show 2 ^ P + (64 - 2 ^ P) = 64 by omega] at this
    rw [spPyr, hdu, this]
  rw [pyr]
  refine gxM_of rfl (Nat.le_of_ble_eq_true rfl) rfl ?_
  have L2 : ∀ m q h1 nw1 nx1 wo1, m + q = 2 ^ P → 1 ≤ q → (XS x r tk tr gl sl bl py pt ng ft mk lo hi ta fa P S E gg A s w b) h1 → PF h1 py x nw1 nx1 wo1 → zE py 4 fa h h1 → (∀ k, k < 2 ^ S → wo1 k = spWs w (setS A s) P (nI k) S) → gxV G mX1_payers d 0 0 69 [some (.ref x), some (.int (nI due)), some (.int (nI (spBest (fun q => spTG (fun p k => spCanPay w (setS A s) P S p (nI k)) q q (2 ^ S - 1)) due q))), some (.int (nI q))] [] h1 (gxQi (fun v h' => v = nI (spBest (fun q => spTG (fun p k => spCanPay w (setS A s) P S p (nI k)) q q (2 ^ S - 1)) due (2 ^ P)) ∧ (XS x r tk tr gl sl bl py pt ng ft mk lo hi ta fa P S E gg A s w b) h' ∧ zE py 4 fa h h' ∧ ∃ nw' nx' wo', PF h' py x nw' nx' wo')) := by
    intro m
    induction m with
    | zero =>
      intro q h1 nw1 nx1 wo1 hq h1q S1 F1 E1 X1
      have : q = 2 ^ P := by omega
      subst this
      obtain ⟨hpy, hnw, hnx, hwo⟩ := id F1; have hx := S1.1
      unfold XF at hx
      refine gx_iload_n (pc := 69) dX1_payers_69 rfl ?_
      refine gx_iconst (pc := 70) (v := 1) dX1_payers_70 (by decide) ?_
      refine gx_aload_n (pc := 71) dX1_payers_71 rfl ?_
      refine kX1_138 (kc := 0) (ks := 0) (mc := 0) (ms := 0) (pc := 72) rfl (c_people (d := d - 1) (by omega) S1.1.O S1.2) (gxRc.of rfl hx) (by omega) (Nat.le_of_ble_eq_true rfl) dX1_payers_72 (fun r1 h2 e1 => ?_)
      obtain ⟨rfl, e1⟩ := e1
      subst h2
      refine gx_ishl (pc := 75) dX1_payers_75 ?_
      rw [hsh]
      refine gx_icmp_ge (pc := 76) 117 dX1_payers_76 (by decide) (fun c1 => ?_) (fun c1 => ?_)
      · refine gx_iload_n (pc := 117) dX1_payers_117 rfl ?_
        exact gx_ireturn (pc := 118) rfl dX1_payers_118 (⟨_, rfl, ⟨rfl, S1, E1, _, _, _, F1⟩⟩)
      · exact absurd (nI_le (by omega) (by omega)) c1
    | succ m ih =>
      intro q h1 nw1 nx1 wo1 hq h1q S1 F1 E1 X1
      obtain ⟨hpy, hnw, hnx, hwo⟩ := id F1; have hx := S1.1
      unfold XF at hx
      have blq := spBest_le (fun q => spTG (fun p k => spCanPay w (setS A s) P S p (nI k)) q q (2 ^ S - 1)) due q
      have sb : spBest (fun q => spTG (fun p k => spCanPay w (setS A s) P S p (nI k)) q q (2 ^ S - 1)) due (q + 1) = if dif q due = 0 then (if spTG (fun p k => spCanPay w (setS A s) P S p (nI k)) q q (2 ^ S - 1) then (if spBits (nI q) 10 ≤ spBits (nI (spBest (fun q => spTG (fun p k => spCanPay w (setS A s) P S p (nI k)) q q (2 ^ S - 1)) due q)) 10 then spBest (fun q => spTG (fun p k => spCanPay w (setS A s) P S p (nI k)) q q (2 ^ S - 1)) due q else q) else spBest (fun q => spTG (fun p k => spCanPay w (setS A s) P S p (nI k)) q q (2 ^ S - 1)) due q) else spBest (fun q => spTG (fun p k => spCanPay w (setS A s) P S p (nI k)) q q (2 ^ S - 1)) due q := rfl
      have K111 : ∀ v h2 nw2 nx2, v = spBest (fun q => spTG (fun p k => spCanPay w (setS A s) P S p (nI k)) q q (2 ^ S - 1)) due (q + 1) → (XS x r tk tr gl sl bl py pt ng ft mk lo hi ta fa P S E gg A s w b) h2 → PF h2 py x nw2 nx2 wo1 → zE py 4 fa h h2 → gxV G mX1_payers d 0 0 111 [some (.ref x), some (.int (nI due)), some (.int (nI v)), some (.int (nI q))] [] h2 (gxQi (fun v h' => v = nI (spBest (fun q => spTG (fun p k => spCanPay w (setS A s) P S p (nI k)) q q (2 ^ S - 1)) due (2 ^ P)) ∧ (XS x r tk tr gl sl bl py pt ng ft mk lo hi ta fa P S E gg A s w b) h' ∧ zE py 4 fa h h' ∧ ∃ nw' nx' wo', PF h' py x nw' nx' wo')) := by
        intro v h2 nw2 nx2 hv S2 F2 E2
        subst hv
        refine gx_iincc (pc := 111) (c := 1) dX1_payers_111 rfl (by decide) (by decide) rfl ?_
        refine gx_goto (pc := 114) 69 dX1_payers_114 (by decide) ?_
        rw [nI_1]
        exact ih (q + 1) h2 nw2 nx2 wo1 (by omega) (by omega) S2 F2 E2 X1
      generalize spBest (fun q => spTG (fun p k => spCanPay w (setS A s) P S p (nI k)) q q (2 ^ S - 1)) due q = bst at *
      refine gx_iload_n (pc := 69) dX1_payers_69 rfl ?_
      refine gx_iconst (pc := 70) (v := 1) dX1_payers_70 (by decide) ?_
      refine gx_aload_n (pc := 71) dX1_payers_71 rfl ?_
      refine kX1_138 (kc := 0) (ks := 0) (mc := 0) (ms := 0) (pc := 72) rfl (c_people (d := d - 1) (by omega) S1.1.O S1.2) (gxRc.of rfl hx) (by omega) (Nat.le_of_ble_eq_true rfl) dX1_payers_72 (fun r1 h2 e1 => ?_)
      obtain ⟨rfl, e1⟩ := e1
      subst h2
      refine gx_ishl (pc := 75) dX1_payers_75 ?_
      rw [hsh]
      refine gx_icmp_ge (pc := 76) 117 dX1_payers_76 (by decide) (fun c1 => ?_) (fun c1 => ?_)
      · exact absurd c1 (nI_ge (by omega) (by omega))
      · refine gx_iload_n (pc := 79) dX1_payers_79 rfl ?_
        refine gx_iload_n (pc := 80) dX1_payers_80 rfl ?_
        refine gx_iconst (pc := 81) (v := (-1)) dX1_payers_81 (by decide) ?_
        refine gx_ixor (pc := 82) dX1_payers_82 ?_
        refine gx_iand (pc := 83) dX1_payers_83 ?_
        rw [dif_eq due (by omega)]
        have hdl2 := dif_le q due
        refine gx_if_ne (pc := 84) 111 dX1_payers_84 (by decide) (fun c2 => ?_) (fun c2 => ?_)
        · have : ¬ dif q due = 0 := fun e => c2 (by rw [e]; rfl)
          exact K111 _ h1 _ _ (by rw [sb, if_neg this]) S1 F1 E1
        · have d0 : dif q due = 0 := by
            have c2' : nI (dif q due) = nI 0 := c2
            exact (nI_eq (by omega) (by omega)).mp c2'
          rw [if_pos d0] at sb
          refine gx_iload_n (pc := 87) dX1_payers_87 rfl ?_
          refine kX1_293 (kc := 0) (ks := 0) (mc := 0) (ms := 0) (pc := 88) rfl (c_Xbits (d := d - 1) q (by omega)) (by omega) (Nat.le_of_ble_eq_true rfl) dX1_payers_88 (fun r1 h2 e1 => ?_)
          obtain ⟨rfl, e1⟩ := e1
          subst h2
          refine gx_iload_n (pc := 91) dX1_payers_91 rfl ?_
          refine kX1_293 (kc := 0) (ks := 0) (mc := 0) (ms := 0) (pc := 92) rfl (c_Xbits (d := d - 1) bst (by omega)) (by omega) (Nat.le_of_ble_eq_true rfl) dX1_payers_92 (fun r1 h2 e1 => ?_)
          obtain ⟨rfl, e1⟩ := e1
          subst h2
          refine gx_icmp_le (pc := 95) 111 dX1_payers_95 (by decide) (fun c3 => ?_) (fun c3 => ?_)
          · exact K111 _ h1 _ _ (by rw [sb, if_pos c3]; split <;> rfl) S1 F1 E1
          · rw [if_neg c3] at sb
            refine gx_aload_n (pc := 98) dX1_payers_98 rfl ?_
            refine gx_get (pc := 99) fX1_68 hx rfl dX1_payers_99 ?_
            refine gx_iload_n (pc := 102) dX1_payers_102 rfl ?_
            refine kX1_296 (kc := 0) (ks := 0) (mc := 0) (ms := 0) (pc := 103) rfl (c_Pcan (d := d - 1) dx dk dl df hn (by omega) S1 F1 X1 q (by omega) (fun p hp hb => by have := spDue_bit (setS A s) P hP6 p hp (by rw [hdu]; exact dif_bits q (by omega) due (by omega) d0 p (by omega) hb); rw [setS_50] at this; exact this)) (gxRc.of rfl hpy) (by omega) (Nat.le_of_ble_eq_true rfl) dX1_payers_103 (fun r1 h2 e1 => ?_)
            obtain ⟨rfl, S2, E2, nw2, nx2, F2⟩ := e1
            refine gx_if_eq (pc := 106) 111 dX1_payers_106 (by decide) (fun c4 => ?_) (fun c4 => ?_)
            · have z := zi_eq0 c4
              exact K111 _ h2 _ _ (by rw [sb, z]; rfl) S2 F2 (E1.tr E2)
            · have z := zi_ne0 c4
              refine gx_iload_n (pc := 109) dX1_payers_109 rfl ?_
              refine gx_istore_n (pc := 110) dX1_payers_110 (by decide) rfl ?_
              exact K111 _ h2 _ _ (by rw [sb, z]; rfl) S2 F2 (E1.tr E2)
  have L1 : ∀ m p, m + p = P → gxV G mX1_payers d 0 0 4 [some (.ref x), some (.int (nI (spDue (setS A s) p))), some (.int (nI p)), none] [] h (gxQi (fun v h' => v = nI (spBest (fun q => spTG (fun p k => spCanPay w (setS A s) P S p (nI k)) q q (2 ^ S - 1)) due (2 ^ P)) ∧ (XS x r tk tr gl sl bl py pt ng ft mk lo hi ta fa P S E gg A s w b) h' ∧ zE py 4 fa h h' ∧ ∃ nw' nx' wo', PF h' py x nw' nx' wo')) := by
    have S1 := hS
    have F1 := hF
    obtain ⟨hpy, hnw, hnx, hwo⟩ := id F1; have hx := S1.1
    unfold XF at hx
    obtain ⟨_, _, _, _, _, htk, _⟩ := id S1.2.2.1
    obtain ⟨i1, i2, hfc, nl, ol, pl, sl', el, fo, wv, pa, sa, ea, i3, ht, hfo, hpl, hsl, hel, hpa, hsa, hea, hwv⟩ := id S1.2.1
    have hpl0 := hpl.ls
    clear hpl
    obtain ⟨_, _, _, _, hpl, _⟩ := id hpl0
    intro m
    induction m with
    | zero =>
      intro p hp
      have : P = p := by omega
      subst this
      rw [hdu]
      refine gx_iload_n (pc := 4) dX1_payers_4 rfl ?_
      refine gx_aload_n (pc := 5) dX1_payers_5 rfl ?_
      refine kX1_138 (kc := 0) (ks := 0) (mc := 0) (ms := 0) (pc := 6) rfl (c_people (d := d - 1) (by omega) S1.1.O S1.2) (gxRc.of rfl hx) (by omega) (Nat.le_of_ble_eq_true rfl) dX1_payers_6 (fun r1 h2 e1 => ?_)
      obtain ⟨rfl, e1⟩ := e1
      subst h2
      refine gx_icmp_ge (pc := 9) 58 dX1_payers_9 (by decide) (fun c1 => ?_) (fun c1 => ?_)
      · refine gx_aload_n (pc := 58) dX1_payers_58 rfl ?_
        refine gx_get (pc := 59) fX1_68 hx rfl dX1_payers_59 ?_
        refine kX1_290 (kc := 0) (ks := 0) (mc := 0) (ms := 0) (pc := 62) rfl (c_Plays (d := d - 1) dx dk dl df hn hN (by omega) hS hF) (gxRc.of rfl hpy) (by omega) (Nat.le_of_ble_eq_true rfl) dX1_payers_62 (fun h2 e1 => ?_)
        obtain ⟨S2, E2, wo2, F2, X2⟩ := e1
        refine gx_iconst (pc := 65) (v := 0) dX1_payers_65 (by decide) ?_
        refine gx_istore_n (pc := 66) dX1_payers_66 (by decide) rfl ?_
        refine gx_iconst (pc := 67) (v := 1) dX1_payers_67 (by decide) ?_
        refine gx_istore_n (pc := 68) dX1_payers_68 (by decide) rfl ?_
        have b1 : (0 : Int32) = nI (spBest (fun q => spTG (fun p k => spCanPay w (setS A s) P S p (nI k)) q q (2 ^ S - 1)) due 1) := by
          have : spBest (fun q => spTG (fun p k => spCanPay w (setS A s) P S p (nI k)) q q (2 ^ S - 1)) due 1 = 0 := by
            have := spBest_le (fun q => spTG (fun p k => spCanPay w (setS A s) P S p (nI k)) q q (2 ^ S - 1)) due 0
            rw [spBest]
            split
            · split
              · split
                · rfl
                · rfl
              · rfl
            · rfl
          rw [this]; rfl
        have := L2 (2 ^ P - 1) 1 h2 nw nx wo2 (by omega) (by omega) S2 F2 E2 X2
        rw [← b1] at this
        exact this
      · exact absurd (nI_le (by omega) (by omega)) c1
    | succ m ih =>
      intro p hp
      have hlt := spDue_lt (setS A s) p
      have sd : spDue (setS A s) (p + 1) = if A 15 p ≤ 0 then spDue (setS A s) p else (if (s 78 >>> (nI p &&& 31)) &&& 1 = 0 then spDue (setS A s) p + 2 ^ p else spDue (setS A s) p) := by rw [spDue, setS_50, setS_ne (q := 15) (by decide)]
      have K52 : ∀ v, v = nI (spDue (setS A s) (p + 1)) → gxV G mX1_payers d 0 0 52 [some (.ref x), some (.int v), some (.int (nI p)), none] [] h (gxQi (fun v h' => v = nI (spBest (fun q => spTG (fun p k => spCanPay w (setS A s) P S p (nI k)) q q (2 ^ S - 1)) due (2 ^ P)) ∧ (XS x r tk tr gl sl bl py pt ng ft mk lo hi ta fa P S E gg A s w b) h' ∧ zE py 4 fa h h' ∧ ∃ nw' nx' wo', PF h' py x nw' nx' wo')) := by
        intro v hv
        subst hv
        refine gx_iincc (pc := 52) (c := 1) dX1_payers_52 rfl (by decide) (by decide) rfl ?_
        refine gx_goto (pc := 55) 4 dX1_payers_55 (by decide) ?_
        rw [nI_1]
        exact ih (p + 1) (by omega)
      have dor := due_or p (by omega) _ hlt
      generalize spDue (setS A s) p = du at *
      obtain ⟨_, hpe⟩ := hpa p (by omega)
      have bb := bit01 (s 78 >>> (nI p &&& 31))
      refine gx_iload_n (pc := 4) dX1_payers_4 rfl ?_
      refine gx_aload_n (pc := 5) dX1_payers_5 rfl ?_
      refine kX1_138 (kc := 0) (ks := 0) (mc := 0) (ms := 0) (pc := 6) rfl (c_people (d := d - 1) (by omega) S1.1.O S1.2) (gxRc.of rfl hx) (by omega) (Nat.le_of_ble_eq_true rfl) dX1_payers_6 (fun r1 h2 e1 => ?_)
      obtain ⟨rfl, e1⟩ := e1
      subst h2
      refine gx_icmp_ge (pc := 9) 58 dX1_payers_9 (by decide) (fun c1 => ?_) (fun c1 => ?_)
      · exact absurd c1 (nI_ge (by omega) (by omega))
      · refine gx_aload_n (pc := 12) dX1_payers_12 rfl ?_
        refine gx_get (pc := 13) fX1_40 hx rfl dX1_payers_13 ?_
        refine gx_get (pc := 16) fX1_174 htk rfl dX1_payers_16 ?_
        refine gx_iload_n (pc := 19) dX1_payers_19 rfl ?_
        refine kX1_176 (kc := 0) (ks := 0) (mc := 0) (ms := 0) (pc := 20) rfl (c_has (d := d - 1) (s 78) (nI p)) (by omega) (Nat.le_of_ble_eq_true rfl) dX1_payers_20 (fun r1 h2 e1 => ?_)
        obtain ⟨rfl, e1⟩ := e1
        subst h2
        refine gx_if_ne (pc := 23) 52 dX1_payers_23 (by decide) (fun c2 => ?_) (fun c2 => ?_)
        · have z := zi_ne0 c2
          rw [hs, decide_eq_true_eq] at z
          exact K52 _ (by rw [sd, z]; split <;> rfl)
        · have z := zi_eq0 c2
          rw [hs, decide_eq_false_iff_not] at z
          have z0 := bb.resolve_right z
          rw [if_pos z0] at sd
          refine gx_aload_n (pc := 26) dX1_payers_26 rfl ?_
          refine kX1_119 (kc := 0) (ks := 0) (mc := 0) (ms := 0) (pc := 27) rfl (c_now (d := d - 1) S1.1.O S1.2) (gxRc.of rfl hx) (by omega) (Nat.le_of_ble_eq_true rfl) dX1_payers_27 (fun r1 h2 e1 => ?_)
          obtain ⟨e0, e1⟩ := e1
          subst h2; subst r1
          refine gx_get (pc := 30) fX1_128 ht rfl dX1_payers_30 ?_
          refine gx_iload_n (pc := 33) dX1_payers_33 rfl ?_
          refine kX1_153 (kc := 0) (ks := 0) (mc := 0) (ms := 0) (pc := 34) rfl (c_get (d := d - 1) (by omega) hpl0 p (by omega)) (gxRc.of rfl hpl) (by omega) (Nat.le_of_ble_eq_true rfl) dX1_payers_34 (fun r1 h2 e1 => ?_)
          obtain ⟨rfl, e1⟩ := e1
          subst h2
          refine gx_castP (pc := 37) hpe q996 dX1_payers_37 ?_
          refine kFX1_164 (pc := 40) hpe rfl dX1_payers_40 ?_
          refine gx_if_le (pc := 43) 52 dX1_payers_43 (by decide) (fun c3 => ?_) (fun c3 => ?_)
          · exact K52 _ (by rw [sd, if_pos c3])
          · refine gx_iload_n (pc := 46) dX1_payers_46 rfl ?_
            refine gx_iconst (pc := 47) (v := 1) dX1_payers_47 (by decide) ?_
            refine gx_iload_n (pc := 48) dX1_payers_48 rfl ?_
            refine gx_ishl (pc := 49) dX1_payers_49 ?_
            refine gx_ior (pc := 50) dX1_payers_50 ?_
            refine gx_istore_n (pc := 51) dX1_payers_51 (by decide) rfl ?_
            exact K52 _ (by rw [sd, if_neg c3, dor])
  refine gx_iconst (pc := 0) (v := 0) dX1_payers_0 (by decide) ?_
  refine gx_istore_n (pc := 1) dX1_payers_1 (by decide) rfl ?_
  refine gx_iconst (pc := 2) (v := 0) dX1_payers_2 (by decide) ?_
  refine gx_istore_n (pc := 3) dX1_payers_3 (by decide) rfl ?_
  exact L1 P 0 (by omega)
end MAE
