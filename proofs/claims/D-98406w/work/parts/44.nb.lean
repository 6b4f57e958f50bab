/-! ===== MODEL NB: plots, the walk ===== -/
set_option maxRecDepth 100000
def spBtl (f t : Nat → Int32) (n : Nat) : Nat → Nat → Int32
  | 0 => f
  | i + 1 => upd (spBtl f t n i) i (if i < n then t i else -1)
theorem plS.a59 {σ ρ : mS} {x : plT} (h : plS σ x ρ) (i : Nat) (v : Int32) : plS σ ((x.1.1, x.1.2.1, upd x.1.2.2 i v), x.2) (mA ρ 59 i v) := by
  refine ⟨h.1.mA rfl i v, ?_, ?_⟩
  · rw [mA_nj _ (by decide)]; exact h.2.1
  · rw [mA_eq, mSA_A, upA_setJ, setJ_j, h.2.2]
theorem plS.a58 {σ ρ : mS} {x : plT} (h : plS σ x ρ) (i : Nat) (v : Int32) : plS σ (x.1, upd x.2 i v) (mA ρ 58 i v) := by
  refine ⟨h.1.mA rfl i v, ?_, ?_⟩
  · rw [mA_eq, mSA_A, upA_setJ, setJ_j, h.2.1]
  · rw [mA_nj _ (by decide)]; exact h.2.2
theorem plS.i6061 {σ ρ : mS} {x : plT} (h : plS σ x ρ) (u v : Int32) : plS σ ((u, v, x.1.2.2), x.2) (mI (mI ρ 60 u) 61 v) := by
  refine ⟨⟨?_, h.1.2.1, h.1.2.2.1, fun j hj => h.A hj⟩, h.2.1, h.2.2⟩
  show upd (upd ρ.1 60 u) 61 v = upd (upd σ.1 60 u) 61 v
  rw [h.1.1]
  funext z
  by_cases h0 : z = 60 <;> by_cases h1 : z = 61 <;> simp [mI, upd, h0, h1]
def agr (A B : Nat → Nat → Int32) : Prop := ∀ j, scr j = false → B j = A j
theorem agr.S {A B : Nat → Nat → Int32} (h : agr A B) (t : Nat → Int32) : agr (setS A t) (setS B t) := fun j hj => by
  by_cases e : j = 50
  · rw [e, setS_50, setS_50]
  · rw [setS_ne e, setS_ne e]; exact h j hj
theorem agr.can {A B : Nat → Nat → Int32} (h : agr A B) (p q k : Nat) : spCan B p q k = spCan A p q k := by
  unfold spCan spSpeaks; rw [h 50 rfl, h 13 rfl]
theorem agr.tell {A B : Nat → Nat → Int32} (h : agr A B) (p q k : Nat) : spTell B p q k = spTell A p q k := by
  unfold spTell; rw [h 50 rfl, h 16 rfl, h 17 rfl]
theorem agr.gap {A B : Nat → Nat → Int32} (h : agr A B) (w : Option gxEv) (P S p q : Nat) : spGap w B P S p q = spGap w A P S p q := by
  unfold spGap
  rw [spKnown_congr (h 50 rfl), spKnown_congr (h 50 rfl), spWs_congr (h 13 rfl) (h 17 rfl) (h 18 rfl) (h 19 rfl) (h 50 rfl), spWs_congr (h 13 rfl) (h 17 rfl) (h 18 rfl) (h 19 rfl) (h 50 rfl)]
theorem agr.lq {A B : Nat → Nat → Int32} (h : agr A B) {rec : (Nat → Nat → Int32) → plT → plT} (hr : ∀ A B, agr A B → ∀ y, rec B y = rec A y) (p n to : Nat) (y : plT) : ∀ k, spLq B p n rec to y k = spLq A p n rec to y k
  | 0 => rfl
  | k + 1 => by
    rw [spLq, spLq, h.lq hr p n to y k, h.can, h.tell, hr _ _ (h.S (spTell A p to k))]
theorem agr.lw {A B : Nat → Nat → Int32} (h : agr A B) {rec : (Nat → Nat → Int32) → plT → plT} (hr : ∀ A B, agr A B → ∀ y, rec B y = rec A y) (p n S : Nat) (y : plT) : ∀ to, spLw B p n S rec y to = spLw A p n S rec y to
  | 0 => rfl
  | to + 1 => by rw [spLw, spLw, h.lw hr p n S y to, h.lq hr]
theorem agr.pl {w : Option gxEv} {P S p q : Nat} : ∀ m {A B : Nat → Nat → Int32}, agr A B → ∀ n x, spPl w P S p q m B n x = spPl w P S p q m A n x
  | 0, A, B, h, n, x => by rw [spPl, spPl, h.gap]
  | m + 1, A, B, h, n, x => by
    rw [spPl, spPl, h.gap, h.lw (fun A B hh y => agr.pl m hh (n + 1) y)]
theorem plS.back {σ ρ1 ρ3 : mS} {y z : plT} (h1 : plS σ y ρ1) {t s : Nat → Int32} (h3 : plS (mSA ρ1 (setS ρ1.2.2.1 t)) z ρ3) (hs : s = ρ1.2.2.1 50) : plS σ z (mSA ρ3 (setS ρ3.2.2.1 s)) := by
  refine ⟨⟨?_, h3.1.2.1.trans h1.1.2.1, h3.1.2.2.1.trans h1.1.2.2.1, fun j hj => ?_⟩, ?_, ?_⟩
  · show ρ3.1 = _
    rw [h3.1.1]
    show upd (upd ρ1.1 60 z.1.1) 61 z.1.2.1 = upd (upd σ.1 60 z.1.1) 61 z.1.2.1
    rw [h1.1.1]
    funext z
    by_cases h0 : z = 60 <;> by_cases h1 : z = 61 <;> simp [mI, upd, h0, h1]
  · show setS ρ3.2.2.1 s j = σ.2.2.1 j
    by_cases e : j = 50
    · rw [e, setS_50, hs]; exact h1.A rfl
    · rw [setS_ne e, h3.A hj]
      show setS ρ1.2.2.1 t j = _
      rw [setS_ne e]; exact h1.A hj
  · show setS ρ3.2.2.1 s 58 = _
    rw [setS_ne (by decide)]; exact h3.2.1
  · show setS ρ3.2.2.1 s 59 = _
    rw [setS_ne (by decide)]; exact h3.2.2
theorem mSA_T {A : Nat → Nat → Int32} {P S E : Nat} {w : Option gxEv} {t : Nat → Int32} (hT : mT A P S E w) : mT (setS A t) P S E w := hT.row t
section NB
variable {G : gxG} {h : gxH} {b : Nat} {P S E : Nat} {w : Option gxEv}
/-- the first part: the gap, and the best so far -/
theorem plots_first (hb : gxN G ≤ b) {d : Nat} {σ : mS} (p q n lim : Nat) (hn : n ≤ 2) (hP6 : P ≤ 6) (hp : p < P) (hq : q < P) (hd : 17 ≤ d) (hT : mT σ.2.2.1 P S E w) {Q : Outcome → gxH → Prop} (kk : ∀ ρ (x6 : Option Value), plS σ (spPl0 (spGap w σ.2.2.1 P S p q) n (plX σ)) ρ → gxV G mX10_plots d 0 0 96 [some (.ref b), some (.int (nI p)), some (.int (nI q)), some (.int (nI n)), some (.int (nI lim)), some (.int (spGap w σ.2.2.1 P S p q)), x6, none, none, none, none] [] (mput h b ρ) Q) : gxV G mX10_plots d 0 0 0 [some (.ref b), some (.int (nI p)), some (.int (nI q)), some (.int (nI n)), some (.int (nI lim)), none, none, none, none, none, none] [] (mput h b σ) Q := by
  refine gx_aload_n (pc := 0) dX10_plots_0 rfl ?_
  refine gx_iload_n (pc := 1) dX10_plots_1 rfl ?_
  refine kX10_439 (pc := 2) rfl (c_purse (d := d - 1) hb (by omega) hT (nI p)) (by omega) (Nat.le_of_ble_eq_true rfl) dX10_plots_2 (fun r1 ρ1 e1 => ?_)
  obtain ⟨rfl, h1⟩ := e1
  refine gx_aload_n (pc := 5) dX10_plots_5 rfl ?_
  refine gx_iload_n (pc := 6) dX10_plots_6 rfl ?_
  refine kX10_439 (pc := 7) rfl (c_purse (d := d - 1) hb (by omega) (h1.T hT) (nI q)) (by omega) (Nat.le_of_ble_eq_true rfl) dX10_plots_7 (fun r1 ρ2 e2 => ?_)
  obtain ⟨rfl, h2⟩ := e2
  have hps : plS σ (plX σ) ρ2 := (plS.rf σ).wS (h1.tr h2)
  obtain ⟨A', hA, e⟩ := id h1
  rw [show spWs w ρ1.2.2.1 P (spKnown ρ1.2.2.1 (nI q) S) S = spWs w σ.2.2.1 P (spKnown σ.2.2.1 (nI q) S) S by rw [e, mSA_A, spWs_wE hA, spKnown_wE hA]]
  refine gx_isub (pc := 10) dX10_plots_10 ?_
  generalize hg : spGap w σ.2.2.1 P S p q = gap at *
  have hg' : spWs w σ.2.2.1 P (spKnown σ.2.2.1 (nI p) S) S - spWs w σ.2.2.1 P (spKnown σ.2.2.1 (nI q) S) S = gap := hg
  rw [hg']
  have K46 : ((plX σ).1.2.1 < 0 ∨ (plX σ).1.1 < gap ∨ (gap = (plX σ).1.1 ∧ nI n < (plX σ).1.2.1)) → gxV G mX10_plots d 0 0 46 [some (.ref b), some (.int (nI p)), some (.int (nI q)), some (.int (nI n)), some (.int (nI lim)), some (.int gap), none, none, none, none, none] [] (mput h b ρ2) Q := by
    intro hc
    have L : ∀ m i, m + i = 2 → ∀ ρ, plS σ ((gap, nI n, spBtl (plX σ).1.2.2 (plX σ).2 n i), (plX σ).2) ρ → gxV G mX10_plots d 0 0 60 [some (.ref b), some (.int (nI p)), some (.int (nI q)), some (.int (nI n)), some (.int (nI lim)), some (.int gap), some (.int (nI i)), none, none, none, none] [] (mput h b ρ) Q := by
      intro m
      induction m with
      | zero =>
        intro i hi ρ hρ
        have : i = 2 := by omega
        subst this
        refine gx_iload (pc := 60) dX10_plots_60 rfl ?_
        refine gx_iconst (pc := 62) (v := 2) dX10_plots_62 (by decide) ?_
        refine gx_icmp_ge (pc := 63) 96 dX10_plots_63 (by decide) (fun c1 => ?_) (fun c1 => ?_)
        · refine kk ρ _ ?_
          rw [spPl0, if_pos hc]
          exact hρ
        · exact absurd (by decide) c1
      | succ m ih =>
        intro i hi ρ hρ
        have K89 : ∀ v, v = (if i < n then (plX σ).2 i else -1) → gxV G mX10_plots d 0 0 89 [some (.ref b), some (.int (nI p)), some (.int (nI q)), some (.int (nI n)), some (.int (nI lim)), some (.int gap), some (.int (nI i)), none, none, none, none] [.int v, .int (nI i), .ref (b + moff 59)] (mput h b ρ) Q := by
          intro v hv
          subst hv
          refine m_iast (pc := 89) hb 59 (i) 2 rfl (by decide) rfl (by first | rfl | simp only [gx_lit, nI_add, pk_mul]) (by omega) (by decide) dX10_plots_89 ?_
          refine gx_iincc (pc := 90) (c := 1) dX10_plots_90 rfl (by decide) (by decide) rfl ?_
          refine gx_goto (pc := 93) 60 dX10_plots_93 (by decide) ?_
          rw [nI_1]
          exact ih (i + 1) (by omega) _ (hρ.a59 i _)
        refine gx_iload (pc := 60) dX10_plots_60 rfl ?_
        refine gx_iconst (pc := 62) (v := 2) dX10_plots_62 (by decide) ?_
        refine gx_icmp_ge (pc := 63) 96 dX10_plots_63 (by decide) (fun c1 => ?_) (fun c1 => ?_)
        · exact absurd c1 (nI_ge (a := i) (b := 2) (by omega) (by omega))
        · refine gx_aload_n (pc := 66) dX10_plots_66 rfl ?_
          refine m_getA (pc := 67) rfl fX10_154 rfl (by decide) dX10_plots_67 ?_
          refine gx_iload (pc := 70) dX10_plots_70 rfl ?_
          refine gx_iload (pc := 72) dX10_plots_72 rfl ?_
          refine gx_iload_n (pc := 74) dX10_plots_74 rfl ?_
          refine gx_icmp_ge (pc := 75) 88 dX10_plots_75 (by decide) (fun c2 => ?_) (fun c2 => ?_)
          · have : ¬ i < n := fun hh => absurd c2 (nI_ge hh (by omega))
            refine gx_iconst (pc := 88) (v := (-1)) dX10_plots_88 (by decide) ?_
            exact K89 _ (by rw [if_neg this])
          · have : i < n := by
              rcases Nat.lt_or_ge i n with z | z
              · exact z
              · exact absurd (nI_le z (by omega)) c2
            refine gx_aload_n (pc := 78) dX10_plots_78 rfl ?_
            refine m_getA (pc := 79) rfl fX10_151 rfl (by decide) dX10_plots_79 ?_
            refine gx_iload (pc := 82) dX10_plots_82 rfl ?_
            refine m_iald (pc := 84) 58 (i) 2 rfl (by decide) rfl (by first | rfl | simp only [gx_lit, nI_add, pk_mul]) (by omega) (by decide) dX10_plots_84 ?_
            rw [hρ.2.1]
            refine gx_goto (pc := 85) 89 dX10_plots_85 (by decide) ?_
            exact K89 _ (by rw [if_pos this])
    refine gx_aload_n (pc := 46) dX10_plots_46 rfl ?_
    refine gx_iload (pc := 47) dX10_plots_47 rfl ?_
    refine m_putI (pc := 49) rfl hb fX10_504 rfl (by decide) tX10_60 dX10_plots_49 ?_
    refine gx_aload_n (pc := 52) dX10_plots_52 rfl ?_
    refine gx_iload_n (pc := 53) dX10_plots_53 rfl ?_
    refine m_putI (pc := 54) rfl hb fX10_501 rfl (by decide) tX10_61 dX10_plots_54 ?_
    refine gx_iconst (pc := 57) (v := 0) dX10_plots_57 (by decide) ?_
    refine gx_istore (pc := 58) dX10_plots_58 (by decide) rfl ?_
    exact L 2 0 rfl _ (hps.i6061 gap (nI n))
  have K96 : ¬ ((plX σ).1.2.1 < 0 ∨ (plX σ).1.1 < gap ∨ (gap = (plX σ).1.1 ∧ nI n < (plX σ).1.2.1)) → gxV G mX10_plots d 0 0 96 [some (.ref b), some (.int (nI p)), some (.int (nI q)), some (.int (nI n)), some (.int (nI lim)), some (.int gap), none, none, none, none, none] [] (mput h b ρ2) Q := by
    intro hc
    refine kk ρ2 none ?_
    rw [spPl0, if_neg hc]
    exact hps
  refine gx_istore (pc := 11) dX10_plots_11 (by decide) rfl ?_
  refine gx_aload_n (pc := 13) dX10_plots_13 rfl ?_
  refine m_getI (pc := 14) rfl fX10_501 rfl (by decide) dX10_plots_14 ?_
  rw [hps.x61]
  refine gx_if_lt (pc := 17) 46 dX10_plots_17 (by decide) (fun c1 => ?_) (fun c1 => ?_)
  · exact K46 (Or.inl c1)
  · refine gx_iload (pc := 20) dX10_plots_20 rfl ?_
    refine gx_aload_n (pc := 22) dX10_plots_22 rfl ?_
    refine m_getI (pc := 23) rfl fX10_504 rfl (by decide) dX10_plots_23 ?_
    rw [hps.x60]
    refine gx_icmp_gt (pc := 26) 46 dX10_plots_26 (by decide) (fun c2 => ?_) (fun c2 => ?_)
    · exact K46 (Or.inr (Or.inl c2))
    · refine gx_iload (pc := 29) dX10_plots_29 rfl ?_
      refine gx_aload_n (pc := 31) dX10_plots_31 rfl ?_
      refine m_getI (pc := 32) rfl fX10_504 rfl (by decide) dX10_plots_32 ?_
      rw [hps.x60]
      refine gx_icmp_ne (pc := 35) 96 dX10_plots_35 (by decide) (fun c3 => ?_) (fun c3 => ?_)
      · refine K96 (fun hh => ?_)
        rcases hh with a | a | a
        · exact c1 a
        · exact c2 a
        · exact c3 a.1
      · refine gx_iload_n (pc := 38) dX10_plots_38 rfl ?_
        refine gx_aload_n (pc := 39) dX10_plots_39 rfl ?_
        refine m_getI (pc := 40) rfl fX10_501 rfl (by decide) dX10_plots_40 ?_
        rw [hps.x61]
        refine gx_icmp_ge (pc := 43) 96 dX10_plots_43 (by decide) (fun c4 => ?_) (fun c4 => ?_)
        · refine K96 (fun hh => ?_)
          rcases hh with a | a | a
          · exact c1 a
          · exact c2 a
          · exact absurd c4 (Int32.not_le.mpr a.2)
        · exact K46 (Or.inr (Or.inr ⟨c3, Int32.not_le.mp c4⟩))
theorem c_plots (hb : gxN G ≤ b) (p q lim : Nat) (hp : p < P) (hq : q < P) (hlim : lim ≤ 2) : ∀ m n d (σ : mS), n + m = lim → 17 + m ≤ d → mT σ.2.2.1 P S E w → mMv G mX10_plots d [.ref b, .int (nI p), .int (nI q), .int (nI n), .int (nI lim)] h b σ (fun σ' => plS σ (spPl w P S p q m σ.2.2.1 n (plX σ)) σ') := by
  intro m
  induction m with
  | zero =>
    intro n d σ hn hd hT
    refine gxM_of rfl (Nat.le_of_ble_eq_true rfl) rfl ?_
    refine plots_first hb p q n lim (by omega) hT.2.1 hp hq (by omega) hT (fun ρ x6 hρ => ?_)
    have : n = lim := by omega
    subst this
    refine gx_iload_n (pc := 96) dX10_plots_96 rfl ?_
    refine gx_iload (pc := 97) dX10_plots_97 rfl ?_
    refine gx_icmp_ne (pc := 99) 103 dX10_plots_99 (by decide) (fun c1 => ?_) (fun c1 => ?_)
    · exact absurd rfl c1
    · exact m_retv (pc := 102) rfl dX10_plots_102 (hρ)
  | succ m IH =>
    intro n d σ hn hd hT
    have hP := hT.1
    have hP6 := hT.2.1
    have hS := hT.2.2.1
    have hS10 := hT.2.2.2.1
    refine gxM_of rfl (Nat.le_of_ble_eq_true rfl) rfl ?_
    refine plots_first hb p q n lim (by omega) hT.2.1 hp hq (by omega) hT (fun ρ x6 hρ => ?_)
    rw [spPl]
    generalize spPl0 (spGap w σ.2.2.1 P S p q) n (plX σ) = x0 at *
    generalize spGap w σ.2.2.1 P S p q = gap at *
    generalize hrec : (fun A' y => spPl w P S p q m A' (n + 1) y) = rec
    have hre : ∀ A' y, spPl w P S p q m A' (n + 1) y = rec A' y := fun A' y => by rw [← hrec]
    have L1 : ∀ m1 to, m1 + to = P → ∀ ρ (x7 x8 x9 x10 : Option Value), plS σ (spLw σ.2.2.1 p n S rec x0 to) ρ → gxV G mX10_plots d 0 0 106 [some (.ref b), some (.int (nI p)), some (.int (nI q)), some (.int (nI n)), some (.int (nI lim)), some (.int gap), some (.int (nI to)), x7, x8, x9, x10] [] (mput h b ρ) (mQv h b (fun σ' => plS σ (spLw σ.2.2.1 p n S rec x0 P) σ')) := by
      intro m1
      induction m1 with
      | zero =>
        intro to hto ρ x7 x8 x9 x10 hρ
        have : to = P := by omega
        subst this
        refine gx_iload (pc := 106) dX10_plots_106 rfl ?_
        refine gx_aload_n (pc := 108) dX10_plots_108 rfl ?_
        refine m_getA (pc := 109) rfl fX10_13 rfl (by decide) dX10_plots_109 ?_
        refine gx_iconst (pc := 112) (v := 0) dX10_plots_112 (by decide) ?_
        refine m_iald (pc := 113) 10 (0) 8 rfl (by decide) rfl (by first | rfl | simp only [gx_lit, nI_add, pk_mul]) (by omega) (by decide) dX10_plots_113 ?_
        rw [hρ.A (j := 10) rfl, hP]
        refine gx_icmp_ge (pc := 114) 302 dX10_plots_114 (by decide) (fun c1 => ?_) (fun c1 => ?_)
        · exact m_retv (pc := 302) rfl dX10_plots_302 (hρ)
        · exact absurd (nI_le (by omega) (by omega)) c1
      | succ m1 ih1 =>
        intro to hto ρ x7 x8 x9 x10 hρ
        have L2 : ∀ m2 k, m2 + k = S → ∀ ρ (x8 x9 x10 : Option Value), plS σ (spLq σ.2.2.1 p n rec to (spLw σ.2.2.1 p n S rec x0 to) k) ρ → gxV G mX10_plots d 0 0 120 [some (.ref b), some (.int (nI p)), some (.int (nI q)), some (.int (nI n)), some (.int (nI lim)), some (.int gap), some (.int (nI to)), some (.int (nI k)), x8, x9, x10] [] (mput h b ρ) (mQv h b (fun σ' => plS σ (spLw σ.2.2.1 p n S rec x0 P) σ')) := by
          intro m2
          induction m2 with
          | zero =>
            intro k hk ρ x8 x9 x10 hρ
            have : k = S := by omega
            subst this
            refine gx_iload (pc := 120) dX10_plots_120 rfl ?_
            refine gx_aload_n (pc := 122) dX10_plots_122 rfl ?_
            refine m_getA (pc := 123) rfl fX10_13 rfl (by decide) dX10_plots_123 ?_
            refine gx_iconst (pc := 126) (v := 1) dX10_plots_126 (by decide) ?_
            refine m_iald (pc := 127) 10 (1) 8 rfl (by decide) rfl (by first | rfl | simp only [gx_lit, nI_add, pk_mul]) (by omega) (by decide) dX10_plots_127 ?_
            rw [hρ.A (j := 10) rfl, hS]
            refine gx_icmp_ge (pc := 128) 296 dX10_plots_128 (by decide) (fun c1 => ?_) (fun c1 => ?_)
            · refine gx_iincc (pc := 296) (c := 1) dX10_plots_296 rfl (by decide) (by decide) rfl ?_
              refine gx_goto (pc := 299) 106 dX10_plots_299 (by decide) ?_
              rw [nI_1]
              exact ih1 (to + 1) (by omega) ρ _ _ _ _ hρ
            · exact absurd (nI_le (by omega) (by omega)) c1
          | succ m2 ih2 =>
            intro k hk ρ x8 x9 x10 hρ
            have K290 : ∀ y ρ (x8 x9 x10 : Option Value), plS σ y ρ → y = spLq σ.2.2.1 p n rec to (spLw σ.2.2.1 p n S rec x0 to) (k + 1) → gxV G mX10_plots d 0 0 290 [some (.ref b), some (.int (nI p)), some (.int (nI q)), some (.int (nI n)), some (.int (nI lim)), some (.int gap), some (.int (nI to)), some (.int (nI k)), x8, x9, x10] [] (mput h b ρ) (mQv h b (fun σ' => plS σ (spLw σ.2.2.1 p n S rec x0 P) σ')) := by
              intro y ρ x8 x9 x10 hρ hy
              subst hy
              refine gx_iincc (pc := 290) (c := 1) dX10_plots_290 rfl (by decide) (by decide) rfl ?_
              refine gx_goto (pc := 293) 120 dX10_plots_293 (by decide) ?_
              rw [nI_1]
              exact ih2 (k + 1) (by omega) ρ _ _ _ hρ
            refine gx_iload (pc := 120) dX10_plots_120 rfl ?_
            refine gx_aload_n (pc := 122) dX10_plots_122 rfl ?_
            refine m_getA (pc := 123) rfl fX10_13 rfl (by decide) dX10_plots_123 ?_
            refine gx_iconst (pc := 126) (v := 1) dX10_plots_126 (by decide) ?_
            refine m_iald (pc := 127) 10 (1) 8 rfl (by decide) rfl (by first | rfl | simp only [gx_lit, nI_add, pk_mul]) (by omega) (by decide) dX10_plots_127 ?_
            rw [hρ.A (j := 10) rfl, hS]
            refine gx_icmp_ge (pc := 128) 296 dX10_plots_128 (by decide) (fun c1 => ?_) (fun c1 => ?_)
            · exact absurd c1 (nI_ge (by omega) (by omega))
            · refine gx_iload (pc := 131) dX10_plots_131 rfl ?_
              refine gx_iload_n (pc := 133) dX10_plots_133 rfl ?_
              refine gx_icmp_eq (pc := 134) 290 dX10_plots_134 (by decide) (fun c2 => ?_) (fun c2 => ?_)
              · have htp : to = p := (nI_eq (by omega) (by omega)).mp c2
                exact K290 _ ρ _ _ _ hρ (by rw [spLq, if_pos htp])
              · have htp : ¬ to = p := fun e => c2 (by rw [e])
                refine gx_aload_n (pc := 137) dX10_plots_137 rfl ?_
                refine gx_iload_n (pc := 138) dX10_plots_138 rfl ?_
                refine gx_iload (pc := 139) dX10_plots_139 rfl ?_
                refine gx_iload (pc := 141) dX10_plots_141 rfl ?_
                refine kX10_464 (pc := 143) rfl (c_canTell (d := d - 1) (by omega) p to k (by omega) (by omega)) (by omega) (Nat.le_of_ble_eq_true rfl) dX10_plots_143 (fun r1 σ1 e1 => ?_)
                obtain ⟨rfl, hσ⟩ := e1
                subst σ1
                have hag : agr σ.2.2.1 ρ.2.2.1 := fun j hj => hρ.A hj
                rw [hag.can]
                refine gx_if_ne (pc := 146) 152 dX10_plots_146 (by decide) (fun c3 => ?_) (fun c3 => ?_)
                · have hcan : spCan σ.2.2.1 p to k = true := by
                    cases e : spCan σ.2.2.1 p to k with
                    | true => rfl
                    | false => rw [e] at c3; exact absurd rfl c3
                  have hbit : (σ.2.2.1 50 k >>> (nI to &&& 31)) &&& 1 = 0 := by
                    have := hcan
                    simp only [spCan, Bool.and_eq_true, decide_eq_true_eq] at this
                    exact this.2
                  refine gx_aload_n (pc := 152) dX10_plots_152 rfl ?_
                  refine m_getA (pc := 153) rfl fX10_129 rfl (by decide) dX10_plots_153 ?_
                  refine gx_bipush (pc := 156) (v := 76) dX10_plots_156 (by decide) ?_
                  refine m_iald (pc := 158) 50 (76) 123 rfl (by decide) rfl (by first | rfl | simp only [gx_lit, nI_add, pk_mul]) (by omega) (by decide) dX10_plots_158 ?_
                  refine gx_istore (pc := 159) dX10_plots_159 (by decide) rfl ?_
                  refine gx_aload_n (pc := 161) dX10_plots_161 rfl ?_
                  refine m_getA (pc := 162) rfl fX10_129 rfl (by decide) dX10_plots_162 ?_
                  refine gx_bipush (pc := 165) (v := 10) dX10_plots_165 (by decide) ?_
                  refine gx_bipush (pc := 167) (v := 10) dX10_plots_167 (by decide) ?_
                  refine gx_iload_n (pc := 169) dX10_plots_169 rfl ?_
                  refine gx_imul (pc := 170) dX10_plots_170 ?_
                  refine gx_iadd (pc := 171) dX10_plots_171 ?_
                  refine gx_iload (pc := 172) dX10_plots_172 rfl ?_
                  refine gx_iadd (pc := 174) dX10_plots_174 ?_
                  refine m_iald (pc := 175) 50 (((10 + (10 * p)) + k)) 123 rfl (by decide) rfl (by first | rfl | simp only [gx_lit, nI_add, pk_mul]) (by omega) (by decide) dX10_plots_175 ?_
                  refine gx_istore (pc := 176) dX10_plots_176 (by decide) rfl ?_
                  refine gx_aload_n (pc := 178) dX10_plots_178 rfl ?_
                  refine m_getA (pc := 179) rfl fX10_129 rfl (by decide) dX10_plots_179 ?_
                  refine gx_bipush (pc := 182) (v := 10) dX10_plots_182 (by decide) ?_
                  refine gx_bipush (pc := 184) (v := 10) dX10_plots_184 (by decide) ?_
                  refine gx_iload (pc := 186) dX10_plots_186 rfl ?_
                  refine gx_imul (pc := 188) dX10_plots_188 ?_
                  refine gx_iadd (pc := 189) dX10_plots_189 ?_
                  refine gx_iload (pc := 190) dX10_plots_190 rfl ?_
                  refine gx_iadd (pc := 192) dX10_plots_192 ?_
                  refine m_iald (pc := 193) 50 (((10 + (10 * to)) + k)) 123 rfl (by decide) rfl (by first | rfl | simp only [gx_lit, nI_add, pk_mul]) (by omega) (by decide) dX10_plots_193 ?_
                  refine gx_istore (pc := 194) dX10_plots_194 (by decide) rfl ?_
                  generalize hv : (nI (10 * to + k)) = v at *
                  refine gx_aload_n (pc := 196) dX10_plots_196 rfl ?_
                  refine m_getA (pc := 197) rfl fX10_151 rfl (by decide) dX10_plots_197 ?_
                  refine gx_iload_n (pc := 200) dX10_plots_200 rfl ?_
                  refine gx_bipush (pc := 201) (v := 10) dX10_plots_201 (by decide) ?_
                  refine gx_iload (pc := 203) dX10_plots_203 rfl ?_
                  refine gx_imul (pc := 205) dX10_plots_205 ?_
                  refine gx_iload (pc := 206) dX10_plots_206 rfl ?_
                  refine gx_iadd (pc := 208) dX10_plots_208 ?_
                  rw [show (10 : Int32) * nI to + nI k = v by rw [← hv, show (10:Int32) = nI 10 from rfl, pk_mul, nI_add]]
                  refine m_iast (pc := 209) hb 58 (n) 2 rfl (by decide) rfl (by first | rfl | simp only [gx_lit, nI_add, pk_mul]) (by omega) (by decide) dX10_plots_209 ?_
                  refine gx_aload_n (pc := 210) dX10_plots_210 rfl ?_
                  refine gx_iload_n (pc := 211) dX10_plots_211 rfl ?_
                  refine gx_iload (pc := 212) dX10_plots_212 rfl ?_
                  refine gx_iload (pc := 214) dX10_plots_214 rfl ?_
                  refine kX10_470 (pc := 216) rfl (c_tells (d := d - 1) hb p to k (by omega) (by omega) (by omega)) (by omega) (Nat.le_of_ble_eq_true rfl) dX10_plots_216 (fun ρ2 e2 => ?_)
                  have h1 := hρ.a58 n v
                  have e50 : (mA ρ 58 n v).2.2.1 50 = ρ.2.2.1 50 := mA_nj _ (by decide) _ _
                  generalize hρ1 : mA ρ 58 n v = ρ1 at *
                  have ag1 : agr σ.2.2.1 ρ1.2.2.1 := fun j hj => h1.A hj
                  have hT2 : mT ρ2.2.2.1 P S E w := by rw [e2, mSA_A]; exact mSA_T (h1.T hT)
                  refine gx_aload_n (pc := 219) dX10_plots_219 rfl ?_
                  refine gx_iload_n (pc := 220) dX10_plots_220 rfl ?_
                  refine gx_iload_n (pc := 221) dX10_plots_221 rfl ?_
                  refine gx_iload_n (pc := 222) dX10_plots_222 rfl ?_
                  refine gx_iconst (pc := 223) (v := 1) dX10_plots_223 (by decide) ?_
                  refine gx_iadd (pc := 224) dX10_plots_224 ?_
                  refine gx_iload (pc := 225) dX10_plots_225 rfl ?_
                  rw [nI_1]
                  refine kX10_507 (pc := 227) rfl (IH (n + 1) (d - 1) ρ2 (by omega) (by omega) hT2) (by omega) (Nat.le_of_ble_eq_true rfl) dX10_plots_227 (fun ρ3 e3 => ?_)
                  have hX : plX ρ2 = ((spLq σ.2.2.1 p n rec to (spLw σ.2.2.1 p n S rec x0 to) k).1, upd (spLq σ.2.2.1 p n rec to (spLw σ.2.2.1 p n S rec x0 to) k).2 n v) := by
                    rw [← h1.X, e2]; simp only [plX, mSA_A]; rw [setS_ne (by decide), setS_ne (by decide)]; rfl
                  have hA2 : agr (setS σ.2.2.1 (spTell σ.2.2.1 p to k)) ρ2.2.2.1 := by
                    rw [e2, mSA_A, ag1.tell]; exact ag1.S _
                  rw [hA2.pl, hre, hX, e2] at e3
                  refine gx_aload_n (pc := 230) dX10_plots_230 rfl ?_
                  refine m_getA (pc := 231) rfl fX10_129 rfl (by decide) dX10_plots_231 ?_
                  refine gx_bipush (pc := 234) (v := 76) dX10_plots_234 (by decide) ?_
                  refine gx_iload (pc := 236) dX10_plots_236 rfl ?_
                  refine m_iast (pc := 238) hb 50 (76) 123 rfl (by decide) rfl (by first | rfl | simp only [gx_lit, nI_add, pk_mul]) (by omega) (by decide) dX10_plots_238 ?_
                  refine gx_aload_n (pc := 239) dX10_plots_239 rfl ?_
                  refine m_getA (pc := 240) rfl fX10_129 rfl (by decide) dX10_plots_240 ?_
                  refine gx_bipush (pc := 243) (v := 10) dX10_plots_243 (by decide) ?_
                  refine gx_bipush (pc := 245) (v := 10) dX10_plots_245 (by decide) ?_
                  refine gx_iload_n (pc := 247) dX10_plots_247 rfl ?_
                  refine gx_imul (pc := 248) dX10_plots_248 ?_
                  refine gx_iadd (pc := 249) dX10_plots_249 ?_
                  refine gx_iload (pc := 250) dX10_plots_250 rfl ?_
                  refine gx_iadd (pc := 252) dX10_plots_252 ?_
                  refine gx_iload (pc := 253) dX10_plots_253 rfl ?_
                  refine m_iast (pc := 255) hb 50 (((10 + (10 * p)) + k)) 123 rfl (by decide) rfl (by first | rfl | simp only [gx_lit, nI_add, pk_mul]) (by omega) (by decide) dX10_plots_255 ?_
                  refine gx_aload_n (pc := 256) dX10_plots_256 rfl ?_
                  refine m_getA (pc := 257) rfl fX10_129 rfl (by decide) dX10_plots_257 ?_
                  refine gx_bipush (pc := 260) (v := 10) dX10_plots_260 (by decide) ?_
                  refine gx_bipush (pc := 262) (v := 10) dX10_plots_262 (by decide) ?_
                  refine gx_iload (pc := 264) dX10_plots_264 rfl ?_
                  refine gx_imul (pc := 266) dX10_plots_266 ?_
                  refine gx_iadd (pc := 267) dX10_plots_267 ?_
                  refine gx_iload (pc := 268) dX10_plots_268 rfl ?_
                  refine gx_iadd (pc := 270) dX10_plots_270 ?_
                  refine gx_iload (pc := 271) dX10_plots_271 rfl ?_
                  refine m_iast (pc := 273) hb 50 (((10 + (10 * to)) + k)) 123 rfl (by decide) rfl (by first | rfl | simp only [gx_lit, nI_add, pk_mul]) (by omega) (by decide) dX10_plots_273 ?_
                  refine gx_aload_n (pc := 274) dX10_plots_274 rfl ?_
                  refine m_getA (pc := 275) rfl fX10_129 rfl (by decide) dX10_plots_275 ?_
                  refine gx_iload (pc := 278) dX10_plots_278 rfl ?_
                  refine gx_dup2 (pc := 280) dX10_plots_280 rfl rfl ?_
                  refine m_iald (pc := 281) 50 (k) 123 rfl (by decide) rfl (by first | rfl | simp only [gx_lit, nI_add, pk_mul]) (by omega) (by decide) dX10_plots_281 ?_
                  refine gx_iconst (pc := 282) (v := 1) dX10_plots_282 (by decide) ?_
                  refine gx_iload (pc := 283) dX10_plots_283 rfl ?_
                  refine gx_ishl (pc := 285) dX10_plots_285 ?_
                  refine gx_iconst (pc := 286) (v := (-1)) dX10_plots_286 (by decide) ?_
                  refine gx_ixor (pc := 287) dX10_plots_287 ?_
                  refine gx_iand (pc := 288) dX10_plots_288 ?_
                  refine m_iast (pc := 289) hb 50 (k) 123 rfl (by decide) rfl (by first | rfl | simp only [gx_lit, nI_add, pk_mul]) (by omega) (by decide) dX10_plots_289 ?_
                  refine K290 _ _ _ _ _ ?_ (by rw [spLq, if_neg htp, if_pos hcan, hv])
                  simp only [mA_eq, mSA_A, mSA_mSA, setS_up0, setS_50, setS_setS]
                  refine h1.back e3 ?_
                  have r3 : ρ3.2.2.1 50 = spTell ρ1.2.2.1 p to k := by rw [e3.A rfl, mSA_A, setS_50]
                  rw [r3, ← e50]
                  have hb1 : (ρ1.2.2.1 50 k >>> (nI to &&& 31)) &&& 1 = 0 := by rw [ag1 50 rfl]; exact hbit
                  have tb := tell_back (A := ρ1.2.2.1) (p := p) (q := to) (k := k) (by omega) (by omega) (by omega) (fun e => htp e.symm) hb1
                  refine Eq.trans ?_ tb
                  congr 1
                  simp only [upd]
                  rw [if_neg (by omega), if_neg (by omega), if_neg (by omega)]
                · have hcan : spCan σ.2.2.1 p to k = false := by
                    cases e : spCan σ.2.2.1 p to k with
                    | false => rfl
                    | true => rw [e] at c3; exact absurd c3 (by decide)
                  refine gx_goto (pc := 149) 290 dX10_plots_149 (by decide) ?_
                  exact K290 _ ρ _ _ _ hρ (by rw [spLq, if_neg htp, hcan]; rfl)
        refine gx_iload (pc := 106) dX10_plots_106 rfl ?_
        refine gx_aload_n (pc := 108) dX10_plots_108 rfl ?_
        refine m_getA (pc := 109) rfl fX10_13 rfl (by decide) dX10_plots_109 ?_
        refine gx_iconst (pc := 112) (v := 0) dX10_plots_112 (by decide) ?_
        refine m_iald (pc := 113) 10 (0) 8 rfl (by decide) rfl (by first | rfl | simp only [gx_lit, nI_add, pk_mul]) (by omega) (by decide) dX10_plots_113 ?_
        rw [hρ.A (j := 10) rfl, hP]
        refine gx_icmp_ge (pc := 114) 302 dX10_plots_114 (by decide) (fun c1 => ?_) (fun c1 => ?_)
        · exact absurd c1 (nI_ge (by omega) (by omega))
        · refine gx_iconst (pc := 117) (v := 0) dX10_plots_117 (by decide) ?_
          refine gx_istore (pc := 118) dX10_plots_118 (by decide) rfl ?_
          exact L2 S 0 (by omega) ρ _ _ _ hρ
    refine gx_iload_n (pc := 96) dX10_plots_96 rfl ?_
    refine gx_iload (pc := 97) dX10_plots_97 rfl ?_
    refine gx_icmp_ne (pc := 99) 103 dX10_plots_99 (by decide) (fun c1 => ?_) (fun c1 => ?_)
    · refine gx_iconst (pc := 103) (v := 0) dX10_plots_103 (by decide) ?_
      refine gx_istore (pc := 104) dX10_plots_104 (by decide) rfl ?_
      exact L1 P 0 (by omega) ρ _ _ _ _ hρ
    · exact absurd ((nI_eq (by omega) (by omega)).mp c1) (by omega)
end NB
