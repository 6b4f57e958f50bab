/-! ===== COMPONENT AW: the tape cut into tokens ===== -/
set_option maxRecDepth 100000
/-- the reader's cells that change -/
def RV (h : gxH) (r : Nat) (dv : Value) (tz at' dp : Int32) (t so pl : Nat → Int32) (va : Nat → Int64) : Prop := RO h r dv tz at' dp ∧ h.1 (r + 4) = some (.inl (0, 1000, .inl t)) ∧ h.1 (r + 5) = some (.inl (0, 1001, .inl so)) ∧ h.1 (r + 6) = some (.inl (1, 1001, .inr (.inl va))) ∧ h.1 (r + 7) = some (.inl (0, 1001, .inl pl))
section RVs
variable {h h' : gxH} {r : Nat} {dv : Value} {tz at' dp : Int32} {t so pl : Nat → Int32} {va : Nat → Int64}
theorem RV.ob (y : RV h r dv tz at' dp t so pl va) (dv' : Value) (tz' at2 dp' : Int32) : RV (gxup h r (.inr (1, [.ref (r + 1), .ref (r + 2), .ref (r + 3), dv', .ref (r + 4), .int tz', .ref (r + 5), .ref (r + 6), .ref (r + 7), .int at2, .int dp']))) r dv' tz' at2 dp' t so pl va :=
  ⟨gxup_self _ _ _, by rw [gxup_ne (by omega)]; exact y.2.1, by rw [gxup_ne (by omega)]; exact y.2.2.1, by rw [gxup_ne (by omega)]; exact y.2.2.2.1, by rw [gxup_ne (by omega)]; exact y.2.2.2.2⟩
theorem RV.uso (y : RV h r dv tz at' dp t so pl va) (f : Nat → Int32) : RV (gxup h (r + 5) (.inl (0, 1001, .inl f))) r dv tz at' dp t f pl va :=
  ⟨by show (gxup h (r + 5) _).1 r = _; rw [gxup_ne (by omega)]; exact y.1, by rw [gxup_ne (by omega)]; exact y.2.1, gxup_self _ _ _, by rw [gxup_ne (by omega)]; exact y.2.2.2.1, by rw [gxup_ne (by omega)]; exact y.2.2.2.2⟩
theorem RV.uva (y : RV h r dv tz at' dp t so pl va) (f : Nat → Int64) : RV (gxup h (r + 6) (.inl (1, 1001, .inr (.inl f)))) r dv tz at' dp t so pl f :=
  ⟨by show (gxup h (r + 6) _).1 r = _; rw [gxup_ne (by omega)]; exact y.1, by rw [gxup_ne (by omega)]; exact y.2.1, by rw [gxup_ne (by omega)]; exact y.2.2.1, gxup_self _ _ _, by rw [gxup_ne (by omega)]; exact y.2.2.2.2⟩
theorem RV.upl (y : RV h r dv tz at' dp t so pl va) (f : Nat → Int32) : RV (gxup h (r + 7) (.inl (0, 1001, .inl f))) r dv tz at' dp t so f va :=
  ⟨by show (gxup h (r + 7) _).1 r = _; rw [gxup_ne (by omega)]; exact y.1, by rw [gxup_ne (by omega)]; exact y.2.1, by rw [gxup_ne (by omega)]; exact y.2.2.1, by rw [gxup_ne (by omega)]; exact y.2.2.2.1, gxup_self _ _ _⟩
end RVs
/-- the token j as it is kept -/
def tkQ (t : Nat → Int32) (q : tkV) (so pl : Int32) (va : Int64) : Prop := so = q.2.2.1 ∧ pl = nI q.2.1 ∧ (q.2.2.1 = 1 → va = q.2.2.2.1) ∧ (q.2.2.1 = 2 → va = q.2.2.2.2.toInt64) ∧ (q.2.2.1 = 3 → va = (t q.2.1).toInt64)
/-- alike but for the reader's cells -/
def rdE (r : Nat) (h h' : gxH) : Prop := h'.2 = h.2 ∧ ∀ q, q ≠ r → q ≠ r + 5 → q ≠ r + 6 → q ≠ r + 7 → h'.1 q = h.1 q
theorem rdE.rf (r : Nat) (h : gxH) : rdE r h h := ⟨rfl, fun _ _ _ _ _ => rfl⟩
theorem rdE.tr {r : Nat} {a b c : gxH} (x : rdE r a b) (y : rdE r b c) : rdE r a c := ⟨y.1.trans x.1, fun q q1 q2 q3 q4 => (y.2 q q1 q2 q3 q4).trans (x.2 q q1 q2 q3 q4)⟩
theorem rdE.up {r p : Nat} (h : gxH) (e : gxE) (hp : p = r ∨ p = r + 5 ∨ p = r + 6 ∨ p = r + 7) : rdE r h (gxup h p e) := ⟨rfl, fun q q1 q2 q3 q4 => gxup_ne (by rcases hp with e | e | e | e <;> omega)⟩
theorem tkN_sp {t : Nat → Int32} {z k : Nat} (hk : k < z) (h : t k = 32 ∨ t k = 10) : tkN t z k = tkN t z (k + 1) := by
  unfold tkN
  obtain ⟨m, hm⟩ : ∃ m, z - k = m + 1 := ⟨z - k - 1, by omega⟩
  rw [hm, tkSk, if_pos h, show z - (k + 1) = m by omega]
theorem tkN_ns {t : Nat → Int32} {z k : Nat} (h : k < z → ¬ (t k = 32 ∨ t k = 10)) : tkN t z k = tkAt t z k := by
  unfold tkN
  rcases Nat.lt_or_ge k z with y | y
  · obtain ⟨m, hm⟩ : ∃ m, z - k = m + 1 := ⟨z - k - 1, by omega⟩
    rw [hm, tkSk, if_neg (h y)]
  · rw [show z - k = 0 by omega, tkSk]
theorem tkN_end {t : Nat → Int32} {z : Nat} : tkN t z z = (z, z, 0, 0, 0) := by
  rw [tkN_ns (fun y => by omega), tkAt, if_pos rfl]
theorem ixF_sg : ∀ c, c < 128 → ((∃ k, ixF c [40, 41, 60, 61, 43, 45, 42, 59] 0 = some k ∧ k < 8) ↔ ((40 ≤ nI c ∧ nI c ≤ 43) ∨ nI c = 45 ∨ (59 ≤ nI c ∧ nI c ≤ 61))) ∧ (ixF c [40, 41, 60, 61, 43, 45, 42, 59] 0 = none ∨ ∃ k, k < 8 ∧ ixF c [40, 41, 60, 61, 43, 45, 42, 59] 0 = some k) := by
  have h : ∀ c, c < 128 → (((ixF c [40, 41, 60, 61, 43, 45, 42, 59] 0).isSome = true) ↔ ((40 ≤ nI c ∧ nI c ≤ 43) ∨ nI c = 45 ∨ (59 ≤ nI c ∧ nI c ≤ 61))) ∧ (ixF c [40, 41, 60, 61, 43, 45, 42, 59] 0).getD 0 < 8 := by decide +kernel
  intro c hc
  obtain ⟨h1, h2⟩ := h c hc
  cases e : ixF c [40, 41, 60, 61, 43, 45, 42, 59] 0 with
  | none =>
    rw [e] at h1
    exact ⟨⟨(fun ⟨k, y, _⟩ => nomatch y), fun y => absurd (h1.mpr y) (by simp)⟩, Or.inl rfl⟩
  | some k =>
    rw [e] at h1 h2
    exact ⟨⟨fun _ => h1.mp rfl, fun _ => ⟨k, rfl, h2⟩⟩, Or.inr ⟨k, h2, rfl⟩⟩
section MAW
variable {G : gxG} {d : Nat} {h : gxH} {r z : Nat} {dv : Value} {tz at' dp : Int32} {t so pl : Nat → Int32} {va : Nat → Int64}
theorem c_isLetter (hd : 1 ≤ d) (c : Int32) : gxM G mX2_isLetter d 0 0 [.int c] h (gxQi (fun a h' => a = zi (decide (97 ≤ c) && decide (c ≤ 122)) ∧ h' = h)) := by
  refine gxM_of rfl (Nat.le_of_ble_eq_true rfl) rfl ?_
  refine gx_iload_n (pc := 0) dX2_isLetter_0 rfl ?_
  refine gx_bipush (pc := 1) (v := 97) dX2_isLetter_1 (by decide) ?_
  refine gx_bipush (pc := 3) (v := 122) dX2_isLetter_3 (by decide) ?_
  refine kX2_95 (kc := 0) (ks := 0) (mc := 0) (ms := 0) (pc := 5) rfl (c_Xwithin (d := d - 1) c 97 122) (by omega) (Nat.le_of_ble_eq_true rfl) dX2_isLetter_5 (fun r1 h1 e1 => ?_)
  obtain ⟨rfl, e1⟩ := e1
  subst h1
  exact gx_zreturn (pc := 8) rfl (zi_01 _) dX2_isLetter_8 ⟨_, rfl, rfl, rfl⟩
theorem c_isDigit (hd : 1 ≤ d) (c : Int32) : gxM G mX2_isDigit d 0 0 [.int c] h (gxQi (fun a h' => a = zi (decide (48 ≤ c) && decide (c ≤ 57)) ∧ h' = h)) := by
  refine gxM_of rfl (Nat.le_of_ble_eq_true rfl) rfl ?_
  refine gx_iload_n (pc := 0) dX2_isDigit_0 rfl ?_
  refine gx_bipush (pc := 1) (v := 48) dX2_isDigit_1 (by decide) ?_
  refine gx_bipush (pc := 3) (v := 57) dX2_isDigit_3 (by decide) ?_
  refine kX2_95 (kc := 0) (ks := 0) (mc := 0) (ms := 0) (pc := 5) rfl (c_Xwithin (d := d - 1) c 48 57) (by omega) (Nat.le_of_ble_eq_true rfl) dX2_isDigit_5 (fun r1 h1 e1 => ?_)
  obtain ⟨rfl, e1⟩ := e1
  subst h1
  exact gx_zreturn (pc := 8) rfl (zi_01 _) dX2_isDigit_8 ⟨_, rfl, rfl, rfl⟩
theorem c_cut (nr : gxN G ≤ r) (hd : 4 ≤ d) (hz : z ≤ 1000) (hR : RV h r dv (nI z) at' dp t so pl va) (ht : ∀ p, p < z → ∃ c, c < 128 ∧ t p = nI c) : gxM G mX2_cut d 0 0 [.ref r] h (gxQv (fun h' => rdE r h h' ∧ ∃ n so' pl' va', n ≤ z ∧ (tkK t z n).2.2.1 = 0 ∧ RV h' r dv 0 0 dp t so' pl' va' ∧ ∀ j, j ≤ n → tkQ t (tkK t z j) (so' j) (pl' j) (va' j))) := by
  refine gxM_K (fun hK => ?_)
  obtain ⟨S126, hR126, hS126⟩ := st_126 hK
  have nso : gxN G ≤ r + 5 := by omega
  have nva : gxN G ≤ r + 6 := by omega
  have npl : gxN G ≤ r + 7 := by omega
  refine gxM_of rfl (Nat.le_of_ble_eq_true rfl) rfl ?_
  have L : ∀ f n k so1 pl1 va1 h1 (x4 x5 x6 : Option Value), z - k < f → n ≤ k → k ≤ z → tkK t z n = tkN t z k → RV h1 r dv 0 at' dp t so1 pl1 va1 → rdE r h h1 → (∀ j, j < n → tkQ t (tkK t z j) (so1 j) (pl1 j) (va1 j)) → (x6 = none ∨ ∃ v, x6 = some (.long v)) → gxV G mX2_cut d 0 0 14 [some (.ref r), some (.int (nI z)), some (.int (nI n)), some (.int (nI k)), x4, x5, x6, none] [] h1 (gxQv (fun h' => rdE r h h' ∧ ∃ n so' pl' va', n ≤ z ∧ (tkK t z n).2.2.1 = 0 ∧ RV h' r dv 0 0 dp t so' pl' va' ∧ ∀ j, j ≤ n → tkQ t (tkK t z j) (so' j) (pl' j) (va' j))) := by
    intro f
    induction f with
    | zero => intro n k so1 pl1 va1 h1 x4 x5 x6 hf; omega
    | succ f ih =>
      intro n k so1 pl1 va1 h1 x4 x5 x6 hf hn hk hT R1 E1 hq hx6
      obtain ⟨hr, ht1, hso, hva, hpl⟩ := id R1
      refine gx_iload_n (pc := 14) dX2_cut_14 rfl ?_
      refine gx_iload_n (pc := 15) dX2_cut_15 rfl ?_
      refine gx_icmp_ge (pc := 16) 268 dX2_cut_16 (by decide) (fun c1 => ?_) (fun c1 => ?_)
      · have hkz : k = z := by
          rcases Nat.lt_or_ge k z with y | y
          · exact absurd c1 (nI_ge y (by omega))
          · omega
        subst hkz
        refine gx_aload_n (pc := 268) dX2_cut_268 rfl ?_
        refine gx_get (pc := 269) fX2_83 hr rfl dX2_cut_269 ?_
        refine gx_iload_n (pc := 272) dX2_cut_272 rfl ?_
        refine gx_iconst (pc := 273) (v := 0) dX2_cut_273 (by decide) ?_
        refine gx_iast (pc := 274) (n) hso nso (by first | rfl | simp only [gx_lit, nI_add, pk_mul]) (by omega) (by decide) dX2_cut_274 ?_
        have R2 := R1.uso (upd so1 n 0)
        have E2 := rdE.up (r := r) h1 (.inl (0, 1001, .inl (upd so1 n 0))) (p := r + 5) (by omega)
        generalize gxup h1 (r + 5) (.inl (0, 1001, .inl (upd so1 n 0))) = h2 at *
        obtain ⟨hr, ht1, hso, hva, hpl⟩ := id R2
        refine gx_aload_n (pc := 275) dX2_cut_275 rfl ?_
        refine gx_get (pc := 276) fX2_90 hr rfl dX2_cut_276 ?_
        refine gx_iload_n (pc := 279) dX2_cut_279 rfl ?_
        refine gx_iload_n (pc := 280) dX2_cut_280 rfl ?_
        refine gx_iast (pc := 281) (n) hpl npl (by first | rfl | simp only [gx_lit, nI_add, pk_mul]) (by omega) (by decide) dX2_cut_281 ?_
        have R3 := R2.upl (upd pl1 n (nI k))
        have E3 := rdE.up (r := r) h2 (.inl (0, 1001, .inl (upd pl1 n (nI k)))) (p := r + 7) (by omega)
        generalize gxup h2 (r + 7) (.inl (0, 1001, .inl (upd pl1 n (nI k)))) = h3 at *
        obtain ⟨hr, ht1, hso, hva, hpl⟩ := id R3
        refine gx_aload_n (pc := 282) dX2_cut_282 rfl ?_
        refine gx_iconst (pc := 283) (v := 0) dX2_cut_283 (by decide) ?_
        refine gx_put (pc := 284) fX2_132 hr nr (by first | exact Nat.le_of_ble_eq_true rfl | simp) tX2_9 rfl rfl dX2_cut_284 ?_
        have R4 := R3.ob dv 0 0 dp
        have E4 := rdE.up (r := r) h3 (.inr (1, [.ref (r + 1), .ref (r + 2), .ref (r + 3), dv, .ref (r + 4), .int 0, .ref (r + 5), .ref (r + 6), .ref (r + 7), .int 0, .int dp])) (p := r) (by omega)
        change gxV _ _ _ _ _ _ _ _ (gxup h3 r (.inr (1, [.ref (r + 1), .ref (r + 2), .ref (r + 3), dv, .ref (r + 4), .int 0, .ref (r + 5), .ref (r + 6), .ref (r + 7), .int 0, .int dp]))) _
        generalize gxup h3 r (.inr (1, [.ref (r + 1), .ref (r + 2), .ref (r + 3), dv, .ref (r + 4), .int 0, .ref (r + 5), .ref (r + 6), .ref (r + 7), .int 0, .int dp])) = h4 at *
        refine gx_return (pc := 287) rfl dX2_cut_287 ⟨rfl, ((E1.tr E2).tr E3).tr E4, n, _, _, _, hn, by rw [hT, tkN_end], R4, fun j hj => ?_⟩
        by_cases e : j = n
        · subst e
          rw [hT, tkN_end]
          refine ⟨by simp [upd], by simp [upd], fun y => absurd (show (0 : Int32) = 1 from y) (by decide), fun y => absurd (show (0 : Int32) = 2 from y) (by decide), fun y => absurd (show (0 : Int32) = 3 from y) (by decide)⟩
        · have := hq j (by omega)
          simp only [upd]
          rw [if_neg e, if_neg e]
          exact this
      · have hkz : k < z := by
          rcases Nat.lt_or_ge k z with y | y
          · exact y
          · exact absurd (nI_le y (by omega)) c1
        obtain ⟨ch, hch, ech⟩ := ht k hkz
        refine gx_aload_n (pc := 19) dX2_cut_19 rfl ?_
        refine gx_get (pc := 20) fX2_79 hr rfl dX2_cut_20 ?_
        refine gx_iload_n (pc := 23) dX2_cut_23 rfl ?_
        refine gx_iald (pc := 24) (k) ht1 (by first | rfl | simp only [gx_lit, nI_add, pk_mul]) (by omega) (by decide) dX2_cut_24 ?_
        refine gx_istore (pc := 25) dX2_cut_25 (by decide) rfl ?_
        refine gx_iload (pc := 27) dX2_cut_27 rfl ?_
        refine gx_bipush (pc := 29) (v := 10) dX2_cut_29 (by decide) ?_
        rw [ech]
        have K41 : t k = 32 ∨ t k = 10 → gxV G mX2_cut d 0 0 41 [some (.ref r), some (.int (nI z)), some (.int (nI n)), some (.int (nI k)), some (.int (nI ch)), x5, x6, none] [] h1 (gxQv (fun h' => rdE r h h' ∧ ∃ n so' pl' va', n ≤ z ∧ (tkK t z n).2.2.1 = 0 ∧ RV h' r dv 0 0 dp t so' pl' va' ∧ ∀ j, j ≤ n → tkQ t (tkK t z j) (so' j) (pl' j) (va' j))) := by
          intro hsp
          refine gx_iincc (pc := 41) (c := 1) dX2_cut_41 rfl (by decide) (by decide) rfl ?_
          refine gx_goto (pc := 44) 14 dX2_cut_44 (by decide) ?_
          rw [nI_1]
          exact ih n (k + 1) so1 pl1 va1 h1 _ _ _ (by omega) (by omega) (by omega) (by rw [hT, tkN_sp hkz hsp]) R1 E1 hq hx6
        /- the token is kept -/
        have K246 : ∀ (e : Nat) (s2 : Int32) (v : Int64) h2, tkK t z n = (e, k, s2, (tkK t z n).2.2.2) → k < e → e ≤ z → RV h2 r dv 0 at' dp t (upd so1 n s2) pl1 va1 → rdE r h h2 → (s2 = 1 → v = (tkK t z n).2.2.2.1) → (s2 = 2 → v = (tkK t z n).2.2.2.2.toInt64) → (s2 = 3 → v = (t k).toInt64) → gxV G mX2_cut d 0 0 246 [some (.ref r), some (.int (nI z)), some (.int (nI n)), some (.int (nI e)), some (.int (nI ch)), some (.int (nI k)), some (.long v), none] [] h2 (gxQv (fun h' => rdE r h h' ∧ ∃ n so' pl' va', n ≤ z ∧ (tkK t z n).2.2.1 = 0 ∧ RV h' r dv 0 0 dp t so' pl' va' ∧ ∀ j, j ≤ n → tkQ t (tkK t z j) (so' j) (pl' j) (va' j))) := by
          intro e s2 v h2 hTe hke hez R2 E2 v1 v2 v3
          obtain ⟨hr, ht1, hso, hva, hpl⟩ := id R2
          refine gx_aload_n (pc := 246) dX2_cut_246 rfl ?_
          refine gx_get (pc := 247) fX2_86 hr rfl dX2_cut_247 ?_
          refine gx_iload_n (pc := 250) dX2_cut_250 rfl ?_
          refine gx_lload (pc := 251) dX2_cut_251 rfl ?_
          refine gx_last (pc := 253) (n) hva nva (by first | rfl | simp only [gx_lit, nI_add, pk_mul]) (by omega) (by decide) dX2_cut_253 ?_
          have R3 := R2.uva (vp_updL va1 n v)
          have E3 := rdE.up (r := r) h2 (.inl (1, 1001, .inr (.inl (vp_updL va1 n v)))) (p := r + 6) (by omega)
          generalize gxup h2 (r + 6) (.inl (1, 1001, .inr (.inl (vp_updL va1 n v)))) = h3 at *
          obtain ⟨hr, ht1, hso, hva, hpl⟩ := id R3
          refine gx_aload_n (pc := 254) dX2_cut_254 rfl ?_
          refine gx_get (pc := 255) fX2_90 hr rfl dX2_cut_255 ?_
          refine gx_iload_n (pc := 258) dX2_cut_258 rfl ?_
          refine gx_iload (pc := 259) dX2_cut_259 rfl ?_
          refine gx_iast (pc := 261) (n) hpl npl (by first | rfl | simp only [gx_lit, nI_add, pk_mul]) (by omega) (by decide) dX2_cut_261 ?_
          have R4 := R3.upl (upd pl1 n (nI k))
          have E4 := rdE.up (r := r) h3 (.inl (0, 1001, .inl (upd pl1 n (nI k)))) (p := r + 7) (by omega)
          generalize gxup h3 (r + 7) (.inl (0, 1001, .inl (upd pl1 n (nI k)))) = h4 at *
          refine gx_iincc (pc := 262) (c := 1) dX2_cut_262 rfl (by decide) (by decide) rfl ?_
          refine gx_goto (pc := 265) 14 dX2_cut_265 (by decide) ?_
          rw [nI_1]
          refine ih (n + 1) e _ _ _ h4 _ _ _ (by omega) (by omega) hez (by rw [tkK, hTe]) R4 ((E2.tr E3).tr E4) (fun j hj => ?_) (Or.inr ⟨v, rfl⟩)
          by_cases ej : j = n
          · subst ej
            have e1 : (tkK t z j).2.2.1 = s2 := by rw [hTe]
            have e2 : (tkK t z j).2.1 = k := by rw [hTe]
            refine ⟨by rw [e1]; simp [upd], by rw [e2]; simp [upd], fun y => ?_, fun y => ?_, fun y => ?_⟩
            · rw [e1] at y; rw [← v1 y]; simp [vp_updL]
            · rw [e1] at y; rw [← v2 y]; simp [vp_updL]
            · rw [e1] at y; rw [e2, ← v3 y]; simp [vp_updL]
          · have := hq j (by omega)
            simp only [upd, vp_updL]
            rw [if_neg ej, if_neg ej, if_neg ej]
            exact this
        have hns : ¬ (t k = 32 ∨ t k = 10) → tkK t z n = tkAt t z k := fun y => by rw [hT]; exact tkN_ns (fun _ => y)
        have K47 : ¬ (t k = 32 ∨ t k = 10) → gxV G mX2_cut d 0 0 47 [some (.ref r), some (.int (nI z)), some (.int (nI n)), some (.int (nI k)), some (.int (nI ch)), x5, x6, none] [] h1 (gxQv (fun h' => rdE r h h' ∧ ∃ n so' pl' va', n ≤ z ∧ (tkK t z n).2.2.1 = 0 ∧ RV h' r dv 0 0 dp t so' pl' va' ∧ ∀ j, j ≤ n → tkQ t (tkK t z j) (so' j) (pl' j) (va' j))) := by
          intro hns0
          have hTA := hns hns0
          have kz : ¬ k = z := by omega
          /- letters -/
          have KL : 97 ≤ t k ∧ t k ≤ 122 → gxV G mX2_cut d 0 0 61 [some (.ref r), some (.int (nI z)), some (.int (nI n)), some (.int (nI k)), some (.int (nI ch)), some (.int (nI k)), some (.long 0), none] [] h1 (gxQv (fun h' => rdE r h h' ∧ ∃ n so' pl' va', n ≤ z ∧ (tkK t z n).2.2.1 = 0 ∧ RV h' r dv 0 0 dp t so' pl' va' ∧ ∀ j, j ≤ n → tkQ t (tkK t z j) (so' j) (pl' j) (va' j))) := by
            intro hlt
            have hTe : tkK t z n = ((tkLt t (z - k) k 0 0).1, k, if 8 < (tkLt t (z - k) k 0 0).1 - k then 4 else 1, (tkLt t (z - k) k 0 0).2, 0) := by rw [hTA, tkAt, if_neg kz, if_pos hlt]
            have K113 : gxV G mX2_cut d 0 0 113 [some (.ref r), some (.int (nI z)), some (.int (nI n)), some (.int (nI (tkLt t (z - k) k 0 0).1)), some (.int (nI ch)), some (.int (nI k)), some (.long (tkLt t (z - k) k 0 0).2), none] [] h1 (gxQv (fun h' => rdE r h h' ∧ ∃ n so' pl' va', n ≤ z ∧ (tkK t z n).2.2.1 = 0 ∧ RV h' r dv 0 0 dp t so' pl' va' ∧ ∀ j, j ≤ n → tkQ t (tkK t z j) (so' j) (pl' j) (va' j))) := by
              have bd := tkLt_le t (z - k) k 0 0
              have gt : k < (tkLt t (z - k) k 0 0).1 := by
                obtain ⟨m, hm⟩ : ∃ m, z - k = m + 1 := ⟨z - k - 1, by omega⟩
                rw [hm, tkLt, if_pos hlt]
                have := tkLt_le t m (k + 1) (0 + 1) (if 0 < 8 then 0 * 27 + (t k).toInt64 - 96 else 0)
                omega
              generalize hE : tkLt t (z - k) k 0 0 = X at *
              have K132 : ∀ s2 : Int32, s2 = (if 8 < X.1 - k then 4 else 1) → gxV G mX2_cut d 0 0 132 [some (.ref r), some (.int (nI z)), some (.int (nI n)), some (.int (nI X.1)), some (.int (nI ch)), some (.int (nI k)), some (.long X.2), none] [.int s2, .int (nI n), .ref (r + 5)] h1 (gxQv (fun h' => rdE r h h' ∧ ∃ n so' pl' va', n ≤ z ∧ (tkK t z n).2.2.1 = 0 ∧ RV h' r dv 0 0 dp t so' pl' va' ∧ ∀ j, j ≤ n → tkQ t (tkK t z j) (so' j) (pl' j) (va' j))) := by
                intro s2 hs2
                refine gx_iast (pc := 132) (n) hso nso (by first | rfl | simp only [gx_lit, nI_add, pk_mul]) (by omega) (by decide) dX2_cut_132 ?_
                refine gx_goto (pc := 133) 246 dX2_cut_133 (by decide) ?_
                have R2 := R1.uso (upd so1 n s2)
                have E2 := rdE.up (r := r) h1 (.inl (0, 1001, .inl (upd so1 n s2))) (p := r + 5) (by omega)
                generalize gxup h1 (r + 5) (.inl (0, 1001, .inl (upd so1 n s2))) = h2 at *
                refine K246 X.1 s2 X.2 h2 (by rw [hTe, hs2]) gt (by omega) R2 (E1.tr E2) (fun _ => by rw [hTe]) (fun y => ?_) (fun y => ?_)
                · rw [hs2] at y; split at y <;> cases y
                · rw [hs2] at y; split at y <;> cases y
              refine gx_aload_n (pc := 113) dX2_cut_113 rfl ?_
              refine gx_get (pc := 114) fX2_83 hr rfl dX2_cut_114 ?_
              refine gx_iload_n (pc := 117) dX2_cut_117 rfl ?_
              refine gx_iload_n (pc := 118) dX2_cut_118 rfl ?_
              refine gx_iload (pc := 119) dX2_cut_119 rfl ?_
              refine gx_isub (pc := 121) dX2_cut_121 ?_
              rw [nI_sub (by omega)]
              refine gx_bipush (pc := 122) (v := 8) dX2_cut_122 (by decide) ?_
              refine gx_icmp_le (pc := 124) 131 dX2_cut_124 (by decide) (fun c5 => ?_) (fun c5 => ?_)
              · have : ¬ 8 < X.1 - k := fun y => absurd c5 (nI_ge (a := 8) y (by omega))
                refine gx_iconst (pc := 131) (v := 1) dX2_cut_131 (by decide) ?_
                exact K132 _ (by rw [if_neg this])
              · have : 8 < X.1 - k := by
                  rcases Nat.lt_or_ge 8 (X.1 - k) with y | y
                  · exact y
                  · exact absurd (nI_le (b := 8) y (by omega)) c5
                refine gx_iconst (pc := 127) (v := 4) dX2_cut_127 (by decide) ?_
                refine gx_goto (pc := 128) 132 dX2_cut_128 (by decide) ?_
                exact K132 _ (by rw [if_pos this])
            have LL : ∀ m p v, m = z - p → k ≤ p → p ≤ z → tkLt t (z - k) k 0 0 = tkLt t m p (p - k) v → gxV G mX2_cut d 0 0 61 [some (.ref r), some (.int (nI z)), some (.int (nI n)), some (.int (nI p)), some (.int (nI ch)), some (.int (nI k)), some (.long v), none] [] h1 (gxQv (fun h' => rdE r h h' ∧ ∃ n so' pl' va', n ≤ z ∧ (tkK t z n).2.2.1 = 0 ∧ RV h' r dv 0 0 dp t so' pl' va' ∧ ∀ j, j ≤ n → tkQ t (tkK t z j) (so' j) (pl' j) (va' j))) := by
              intro m
              induction m with
              | zero =>
                intro p v hm hkp hpz hX
                have : p = z := by omega
                rw [tkLt] at hX
                rw [hX] at K113
                refine gx_iload_n (pc := 61) dX2_cut_61 rfl ?_
                refine gx_iload_n (pc := 62) dX2_cut_62 rfl ?_
                refine gx_icmp_ge (pc := 63) 113 dX2_cut_63 (by decide) (fun c5 => ?_) (fun c5 => ?_)
                · exact K113
                · exact absurd (nI_le (by omega) (by omega)) c5
              | succ m ihL =>
                intro p v hm hkp hpz hX
                have hpz' : p < z := by omega
                rw [tkLt] at hX
                refine gx_iload_n (pc := 61) dX2_cut_61 rfl ?_
                refine gx_iload_n (pc := 62) dX2_cut_62 rfl ?_
                refine gx_icmp_ge (pc := 63) 113 dX2_cut_63 (by decide) (fun c5 => ?_) (fun c5 => ?_)
                · exact absurd c5 (nI_ge hpz' (by omega))
                · refine gx_aload_n (pc := 66) dX2_cut_66 rfl ?_
                  refine gx_get (pc := 67) fX2_79 hr rfl dX2_cut_67 ?_
                  refine gx_iload_n (pc := 70) dX2_cut_70 rfl ?_
                  refine gx_iald (pc := 71) (p) ht1 (by first | rfl | simp only [gx_lit, nI_add, pk_mul]) (by omega) (by decide) dX2_cut_71 ?_
                  refine kX2_115 (kc := 0) (ks := 0) (mc := 0) (ms := 0) (pc := 72) rfl (c_isLetter (d := d - 1) (by omega) (t p)) (by omega) (Nat.le_of_ble_eq_true rfl) dX2_cut_72 (fun r1 h2 e1 => ?_)
                  obtain ⟨rfl, e1⟩ := e1
                  subst h2
                  refine gx_if_eq (pc := 75) 113 dX2_cut_75 (by decide) (fun c6 => ?_) (fun c6 => ?_)
                  · have z6 := wi_out c6
                    rw [if_neg z6] at hX
                    rw [hX] at K113
                    exact K113
                  · have z6 := wi_in c6
                    rw [if_pos z6] at hX
                    have K107 : ∀ v2, v2 = (if p - k < 8 then v * 27 + (t p).toInt64 - 96 else v) → gxV G mX2_cut d 0 0 107 [some (.ref r), some (.int (nI z)), some (.int (nI n)), some (.int (nI p)), some (.int (nI ch)), some (.int (nI k)), some (.long v2), none] [] h1 (gxQv (fun h' => rdE r h h' ∧ ∃ n so' pl' va', n ≤ z ∧ (tkK t z n).2.2.1 = 0 ∧ RV h' r dv 0 0 dp t so' pl' va' ∧ ∀ j, j ≤ n → tkQ t (tkK t z j) (so' j) (pl' j) (va' j))) := by
                      intro v2 hv2
                      refine gx_iincc (pc := 107) (c := 1) dX2_cut_107 rfl (by decide) (by decide) rfl ?_
                      refine gx_goto (pc := 110) 61 dX2_cut_110 (by decide) ?_
                      rw [nI_1]
                      refine ihL (p + 1) v2 (by omega) (by omega) (by omega) ?_
                      rw [hX, hv2, show p + 1 - k = p - k + 1 by omega]
                    refine gx_iload_n (pc := 78) dX2_cut_78 rfl ?_
                    refine gx_iload (pc := 79) dX2_cut_79 rfl ?_
                    refine gx_isub (pc := 81) dX2_cut_81 ?_
                    rw [nI_sub hkp]
                    refine gx_bipush (pc := 82) (v := 8) dX2_cut_82 (by decide) ?_
                    refine gx_icmp_ge (pc := 84) 107 dX2_cut_84 (by decide) (fun c7 => ?_) (fun c7 => ?_)
                    · have : ¬ p - k < 8 := fun y => absurd c7 (nI_ge (b := 8) y (by omega))
                      exact K107 _ (by rw [if_neg this])
                    · have : p - k < 8 := by
                        rcases Nat.lt_or_ge (p - k) 8 with y | y
                        · exact y
                        · exact absurd (nI_le (a := 8) y (by omega)) c7
                      refine gx_ldc2 (pc := 87) q605 dX2_cut_87 ?_
                      refine gx_lload (pc := 90) dX2_cut_90 rfl ?_
                      refine gx_lmul (pc := 92) dX2_cut_92 ?_
                      refine gx_aload_n (pc := 93) dX2_cut_93 rfl ?_
                      refine gx_get (pc := 94) fX2_79 hr rfl dX2_cut_94 ?_
                      refine gx_iload_n (pc := 97) dX2_cut_97 rfl ?_
                      refine gx_iald (pc := 98) (p) ht1 (by first | rfl | simp only [gx_lit, nI_add, pk_mul]) (by omega) (by decide) dX2_cut_98 ?_
                      refine gx_i2l (pc := 99) dX2_cut_99 ?_
                      refine gx_ladd (pc := 100) dX2_cut_100 ?_
                      refine gx_ldc2 (pc := 101) q606 dX2_cut_101 ?_
                      refine gx_lsub (pc := 104) dX2_cut_104 ?_
                      refine gx_lstore (pc := 105) dX2_cut_105 (by decide) rfl ?_
                      exact K107 _ (by rw [if_pos this, Int64.mul_comm])
            exact LL (z - k) k 0 rfl (Nat.le_refl _) hk (by rw [Nat.sub_self])
          /- digits -/
          have KD : ¬ (97 ≤ t k ∧ t k ≤ 122) → 48 ≤ t k ∧ t k ≤ 57 → gxV G mX2_cut d 0 0 144 [some (.ref r), some (.int (nI z)), some (.int (nI n)), some (.int (nI k)), some (.int (nI ch)), some (.int (nI k)), some (.long 0), none] [] h1 (gxQv (fun h' => rdE r h h' ∧ ∃ n so' pl' va', n ≤ z ∧ (tkK t z n).2.2.1 = 0 ∧ RV h' r dv 0 0 dp t so' pl' va' ∧ ∀ j, j ≤ n → tkQ t (tkK t z j) (so' j) (pl' j) (va' j))) := by
            intro hnl hdg
            have hTe : tkK t z n = ((tkDg t (z - k) k 0 0).1, k, if 4 < (tkDg t (z - k) k 0 0).1 - k then 4 else 2, 0, (tkDg t (z - k) k 0 0).2) := by rw [hTA, tkAt, if_neg kz, if_neg hnl, if_pos hdg]
            have K195 : ∀ v, v = (tkDg t (z - k) k 0 0).2.toInt64 → gxV G mX2_cut d 0 0 195 [some (.ref r), some (.int (nI z)), some (.int (nI n)), some (.int (nI (tkDg t (z - k) k 0 0).1)), some (.int (nI ch)), some (.int (nI k)), some (.long v), none] [] h1 (gxQv (fun h' => rdE r h h' ∧ ∃ n so' pl' va', n ≤ z ∧ (tkK t z n).2.2.1 = 0 ∧ RV h' r dv 0 0 dp t so' pl' va' ∧ ∀ j, j ≤ n → tkQ t (tkK t z j) (so' j) (pl' j) (va' j))) := by
              intro v hv
              have bd := tkDg_le t (z - k) k 0 0
              have gt : k < (tkDg t (z - k) k 0 0).1 := by
                obtain ⟨m, hm⟩ : ∃ m, z - k = m + 1 := ⟨z - k - 1, by omega⟩
                rw [hm, tkDg, if_pos hdg]
                have := tkDg_le t m (k + 1) (0 + 1) (if 0 < 4 then 0 * 10 + (t k) - 48 else 0)
                omega
              generalize hE : tkDg t (z - k) k 0 0 = X at *
              have K213 : ∀ s2 : Int32, s2 = (if 4 < X.1 - k then 4 else 2) → gxV G mX2_cut d 0 0 213 [some (.ref r), some (.int (nI z)), some (.int (nI n)), some (.int (nI X.1)), some (.int (nI ch)), some (.int (nI k)), some (.long v), none] [.int s2, .int (nI n), .ref (r + 5)] h1 (gxQv (fun h' => rdE r h h' ∧ ∃ n so' pl' va', n ≤ z ∧ (tkK t z n).2.2.1 = 0 ∧ RV h' r dv 0 0 dp t so' pl' va' ∧ ∀ j, j ≤ n → tkQ t (tkK t z j) (so' j) (pl' j) (va' j))) := by
                intro s2 hs2
                refine gx_iast (pc := 213) (n) hso nso (by first | rfl | simp only [gx_lit, nI_add, pk_mul]) (by omega) (by decide) dX2_cut_213 ?_
                refine gx_goto (pc := 214) 246 dX2_cut_214 (by decide) ?_
                have R2 := R1.uso (upd so1 n s2)
                have E2 := rdE.up (r := r) h1 (.inl (0, 1001, .inl (upd so1 n s2))) (p := r + 5) (by omega)
                generalize gxup h1 (r + 5) (.inl (0, 1001, .inl (upd so1 n s2))) = h2 at *
                refine K246 X.1 s2 v h2 (by rw [hTe, hs2]) gt (by omega) R2 (E1.tr E2) (fun y => ?_) (fun _ => by rw [hTe]; exact hv) (fun y => ?_)
                · rw [hs2] at y; split at y <;> cases y
                · rw [hs2] at y; split at y <;> cases y
              refine gx_aload_n (pc := 195) dX2_cut_195 rfl ?_
              refine gx_get (pc := 196) fX2_83 hr rfl dX2_cut_196 ?_
              refine gx_iload_n (pc := 199) dX2_cut_199 rfl ?_
              refine gx_iload_n (pc := 200) dX2_cut_200 rfl ?_
              refine gx_iload (pc := 201) dX2_cut_201 rfl ?_
              refine gx_isub (pc := 203) dX2_cut_203 ?_
              rw [nI_sub (by omega)]
              refine gx_iconst (pc := 204) (v := 4) dX2_cut_204 (by decide) ?_
              refine gx_icmp_le (pc := 205) 212 dX2_cut_205 (by decide) (fun c5 => ?_) (fun c5 => ?_)
              · have : ¬ 4 < X.1 - k := fun y => absurd c5 (nI_ge (a := 4) y (by omega))
                refine gx_iconst (pc := 212) (v := 2) dX2_cut_212 (by decide) ?_
                exact K213 _ (by rw [if_neg this])
              · have : 4 < X.1 - k := by
                  rcases Nat.lt_or_ge 4 (X.1 - k) with y | y
                  · exact y
                  · exact absurd (nI_le (b := 4) y (by omega)) c5
                refine gx_iconst (pc := 208) (v := 4) dX2_cut_208 (by decide) ?_
                refine gx_goto (pc := 209) 213 dX2_cut_209 (by decide) ?_
                exact K213 _ (by rw [if_pos this])
            have LL : ∀ m p a, m = z - p → k ≤ p → p ≤ z → a < 10 ^ min (p - k) 4 → tkDg t (z - k) k 0 0 = tkDg t m p (p - k) (nI a) → gxV G mX2_cut d 0 0 144 [some (.ref r), some (.int (nI z)), some (.int (nI n)), some (.int (nI p)), some (.int (nI ch)), some (.int (nI k)), some (.long (lN a)), none] [] h1 (gxQv (fun h' => rdE r h h' ∧ ∃ n so' pl' va', n ≤ z ∧ (tkK t z n).2.2.1 = 0 ∧ RV h' r dv 0 0 dp t so' pl' va' ∧ ∀ j, j ≤ n → tkQ t (tkK t z j) (so' j) (pl' j) (va' j))) := by
              intro m
              induction m with
              | zero =>
                intro p a hm hkp hpz ha hX
                have : p = z := by omega
                have ha4 : a < 10000 := Nat.lt_of_lt_of_le ha (Nat.pow_le_pow_right (by decide) (Nat.min_le_right _ _))
                rw [tkDg] at hX
                have K := K195 (lN a) (by rw [hX]; exact (nI_l (by omega)).symm)
                rw [hX] at K
                refine gx_iload_n (pc := 144) dX2_cut_144 rfl ?_
                refine gx_iload_n (pc := 145) dX2_cut_145 rfl ?_
                refine gx_icmp_ge (pc := 146) 195 dX2_cut_146 (by decide) (fun c5 => ?_) (fun c5 => ?_)
                · exact K
                · exact absurd (nI_le (by omega) (by omega)) c5
              | succ m ihL =>
                intro p a hm hkp hpz ha hX
                have hpz' : p < z := by omega
                have ha4 : a < 10000 := Nat.lt_of_lt_of_le ha (Nat.pow_le_pow_right (by decide) (Nat.min_le_right _ _))
                obtain ⟨cp, hcp, ecp⟩ := ht p hpz'
                rw [tkDg] at hX
                refine gx_iload_n (pc := 144) dX2_cut_144 rfl ?_
                refine gx_iload_n (pc := 145) dX2_cut_145 rfl ?_
                refine gx_icmp_ge (pc := 146) 195 dX2_cut_146 (by decide) (fun c5 => ?_) (fun c5 => ?_)
                · exact absurd c5 (nI_ge hpz' (by omega))
                · refine gx_aload_n (pc := 149) dX2_cut_149 rfl ?_
                  refine gx_get (pc := 150) fX2_79 hr rfl dX2_cut_150 ?_
                  refine gx_iload_n (pc := 153) dX2_cut_153 rfl ?_
                  refine gx_iald (pc := 154) (p) ht1 (by first | rfl | simp only [gx_lit, nI_add, pk_mul]) (by omega) (by decide) dX2_cut_154 ?_
                  refine kX2_119 (kc := 0) (ks := 0) (mc := 0) (ms := 0) (pc := 155) rfl (c_isDigit (d := d - 1) (by omega) (t p)) (by omega) (Nat.le_of_ble_eq_true rfl) dX2_cut_155 (fun r1 h2 e1 => ?_)
                  obtain ⟨rfl, e1⟩ := e1
                  subst h2
                  refine gx_if_eq (pc := 158) 195 dX2_cut_158 (by decide) (fun c6 => ?_) (fun c6 => ?_)
                  · have z6 := wi_out c6
                    rw [if_neg z6] at hX
                    have K := K195 (lN a) (by rw [hX]; exact (nI_l (by omega)).symm)
                    rw [hX] at K
                    exact K
                  · have z6 := wi_in c6
                    rw [if_pos z6] at hX
                    rw [ecp] at z6
                    have c48 : 48 ≤ cp := by
                      rcases Nat.lt_or_ge cp 48 with y | y
                      · exact absurd z6.1 (nI_ge (b := 48) y (by omega))
                      · exact y
                    have c57 : cp ≤ 57 := by
                      rcases Nat.lt_or_ge 57 cp with y | y
                      · exact absurd z6.2 (nI_ge (a := 57) y (by omega))
                      · exact y
                    have K189 : ∀ a2, a2 = (if p - k < 4 then a * 10 + cp - 48 else a) → gxV G mX2_cut d 0 0 189 [some (.ref r), some (.int (nI z)), some (.int (nI n)), some (.int (nI p)), some (.int (nI ch)), some (.int (nI k)), some (.long (lN a2)), none] [] h1 (gxQv (fun h' => rdE r h h' ∧ ∃ n so' pl' va', n ≤ z ∧ (tkK t z n).2.2.1 = 0 ∧ RV h' r dv 0 0 dp t so' pl' va' ∧ ∀ j, j ≤ n → tkQ t (tkK t z j) (so' j) (pl' j) (va' j))) := by
                      intro a2 ha2
                      refine gx_iincc (pc := 189) (c := 1) dX2_cut_189 rfl (by decide) (by decide) rfl ?_
                      refine gx_goto (pc := 192) 144 dX2_cut_192 (by decide) ?_
                      rw [nI_1]
                      refine ihL (p + 1) a2 (by omega) (by omega) (by omega) ?_ ?_
                      · rw [ha2, show p + 1 - k = p - k + 1 by omega]
                        split
                        · rename_i hlt4
                          rw [Nat.min_eq_left (by omega)] at ha
                          rw [Nat.min_eq_left (by omega), Nat.pow_succ]
                          omega
                        · rename_i hge
                          rw [Nat.min_eq_right (by omega)] at ha ⊢
                          exact ha
                      · rw [hX, ha2, show p + 1 - k = p - k + 1 by omega]
                        congr 1
                        split
                        · rw [ecp, show (10 : Int32) = nI 10 from rfl, show (48 : Int32) = nI 48 from rfl, nI_mul, nI_add, nI_sub (by omega)]
                        · rfl
                    refine gx_iload_n (pc := 161) dX2_cut_161 rfl ?_
                    refine gx_iload (pc := 162) dX2_cut_162 rfl ?_
                    refine gx_isub (pc := 164) dX2_cut_164 ?_
                    rw [nI_sub hkp]
                    refine gx_iconst (pc := 165) (v := 4) dX2_cut_165 (by decide) ?_
                    refine gx_icmp_ge (pc := 166) 189 dX2_cut_166 (by decide) (fun c7 => ?_) (fun c7 => ?_)
                    · have : ¬ p - k < 4 := fun y => absurd c7 (nI_ge (b := 4) y (by omega))
                      exact K189 _ (by rw [if_neg this])
                    · have : p - k < 4 := by
                        rcases Nat.lt_or_ge (p - k) 4 with y | y
                        · exact y
                        · exact absurd (nI_le (a := 4) y (by omega)) c7
                      refine gx_ldc2 (pc := 169) q610 dX2_cut_169 ?_
                      refine gx_lload (pc := 172) dX2_cut_172 rfl ?_
                      refine gx_lmul (pc := 174) dX2_cut_174 ?_
                      refine gx_aload_n (pc := 175) dX2_cut_175 rfl ?_
                      refine gx_get (pc := 176) fX2_79 hr rfl dX2_cut_176 ?_
                      refine gx_iload_n (pc := 179) dX2_cut_179 rfl ?_
                      refine gx_iald (pc := 180) (p) ht1 (by first | rfl | simp only [gx_lit, nI_add, pk_mul]) (by omega) (by decide) dX2_cut_180 ?_
                      refine gx_i2l (pc := 181) dX2_cut_181 ?_
                      refine gx_ladd (pc := 182) dX2_cut_182 ?_
                      refine gx_ldc2 (pc := 183) q611 dX2_cut_183 ?_
                      refine gx_lsub (pc := 186) dX2_cut_186 ?_
                      have ev : 10 * lN a + (t p).toInt64 - 48 = lN (a * 10 + cp - 48) := by
                        rw [ecp, nI_l (by omega), show (10 : Int64) = lN 10 from rfl, show (48 : Int64) = lN 48 from rfl, lN_mul, lN_add, lN_sub (by omega), Nat.mul_comm]
                      rw [ev]
                      refine gx_lstore (pc := 187) dX2_cut_187 (by decide) rfl ?_
                      exact K189 _ (by rw [if_pos this])
            exact LL (z - k) k 0 rfl (Nat.le_refl _) hk (by rw [Nat.sub_self]; decide) (by rw [Nat.sub_self]; rfl)
          /- a sign or nothing known -/
          have KS : ¬ (97 ≤ t k ∧ t k ≤ 122) → ¬ (48 ≤ t k ∧ t k ≤ 57) → gxV G mX2_cut d 0 0 217 [some (.ref r), some (.int (nI z)), some (.int (nI n)), some (.int (nI k)), some (.int (nI ch)), some (.int (nI k)), some (.long 0), none] [] h1 (gxQv (fun h' => rdE r h h' ∧ ∃ n so' pl' va', n ≤ z ∧ (tkK t z n).2.2.1 = 0 ∧ RV h' r dv 0 0 dp t so' pl' va' ∧ ∀ j, j ≤ n → tkQ t (tkK t z j) (so' j) (pl' j) (va' j))) := by
            intro hnl hnd
            have hTe : tkK t z n = (k + 1, k, if (40 ≤ t k ∧ t k ≤ 43) ∨ t k = 45 ∨ (59 ≤ t k ∧ t k ≤ 61) then 3 else 4, 0, 0) := by rw [hTA, tkAt, if_neg kz, if_neg hnl, if_neg hnd]
            have K245 : ∀ s2 : Int32, s2 = (if (40 ≤ t k ∧ t k ≤ 43) ∨ t k = 45 ∨ (59 ≤ t k ∧ t k ≤ 61) then 3 else 4) → gxV G mX2_cut d 0 0 245 [some (.ref r), some (.int (nI z)), some (.int (nI n)), some (.int (nI (k + 1))), some (.int (nI ch)), some (.int (nI k)), some (.long (nI ch).toInt64), none] [.int s2, .int (nI n), .ref (r + 5)] h1 (gxQv (fun h' => rdE r h h' ∧ ∃ n so' pl' va', n ≤ z ∧ (tkK t z n).2.2.1 = 0 ∧ RV h' r dv 0 0 dp t so' pl' va' ∧ ∀ j, j ≤ n → tkQ t (tkK t z j) (so' j) (pl' j) (va' j))) := by
              intro s2 hs2
              refine gx_iast (pc := 245) (n) hso nso (by first | rfl | simp only [gx_lit, nI_add, pk_mul]) (by omega) (by decide) dX2_cut_245 ?_
              have R2 := R1.uso (upd so1 n s2)
              have E2 := rdE.up (r := r) h1 (.inl (0, 1001, .inl (upd so1 n s2))) (p := r + 5) (by omega)
              generalize gxup h1 (r + 5) (.inl (0, 1001, .inl (upd so1 n s2))) = h2 at *
              refine K246 (k + 1) s2 _ h2 (by rw [hTe, hs2]) (by omega) (by omega) R2 (E1.tr E2) (fun y => ?_) (fun y => ?_) (fun _ => by rw [ech])
              · rw [hs2] at y; split at y <;> cases y
              · rw [hs2] at y; split at y <;> cases y
            obtain ⟨i1, i2⟩ := ixF_sg ch hch
            rw [← ech] at i1
            refine gx_iload (pc := 217) dX2_cut_217 rfl ?_
            refine gx_i2l (pc := 219) dX2_cut_219 ?_
            refine gx_lstore (pc := 220) dX2_cut_220 (by decide) rfl ?_
            refine gx_iincc (pc := 222) (c := 1) dX2_cut_222 rfl (by decide) (by decide) rfl ?_
            rw [nI_1]
            refine gx_aload_n (pc := 225) dX2_cut_225 rfl ?_
            refine gx_get (pc := 226) fX2_83 hr rfl dX2_cut_226 ?_
            refine gx_iload_n (pc := 229) dX2_cut_229 rfl ?_
            refine gx_ldcS (pc := 230) hR126 dX2_cut_230 ?_
            refine gx_iload (pc := 232) dX2_cut_232 rfl ?_
            refine kX2_128 (kc := 0) (ks := 0) (mc := 0) (ms := 0) (pc := 234) rfl (c_SindexOf (d := d - 1) (by omega) hS126 (by decide) hch) (gxRc.ofO hS126.1) (by omega) (Nat.le_of_ble_eq_true rfl) dX2_cut_234 (fun r1 h2 e1 => ?_)
            obtain ⟨rfl, e1⟩ := e1
            subst h2
            refine gx_if_lt (pc := 237) 244 dX2_cut_237 (by decide) (fun c5 => ?_) (fun c5 => ?_)
            · have : ¬ ((40 ≤ t k ∧ t k ≤ 43) ∨ t k = 45 ∨ (59 ≤ t k ∧ t k ≤ 61)) := fun y => by
                obtain ⟨j, hj, hj8⟩ := i1.mpr y
                rw [hj] at c5
                exact nI_pos (n := j) (by omega) c5
              refine gx_iconst (pc := 244) (v := 4) dX2_cut_244 (by decide) ?_
              exact K245 _ (by rw [if_neg this])
            · have : (40 ≤ t k ∧ t k ≤ 43) ∨ t k = 45 ∨ (59 ≤ t k ∧ t k ≤ 61) := by
                rcases i2 with y | ⟨j, hj, y⟩
                · rw [y] at c5; exact absurd (show (oJ none : Int32) < 0 by decide) c5
                · exact i1.mp ⟨j, y, hj⟩
              refine gx_iconst (pc := 240) (v := 3) dX2_cut_240 (by decide) ?_
              refine gx_goto (pc := 241) 245 dX2_cut_241 (by decide) ?_
              exact K245 _ (by rw [if_pos this])
          refine gx_iload_n (pc := 47) dX2_cut_47 rfl ?_
          refine gx_istore (pc := 48) dX2_cut_48 (by decide) rfl ?_
          refine gx_lconst (pc := 50) (v := 0) dX2_cut_50 (by decide) ?_
          refine gx_lstore (pc := 51) dX2_cut_51 (by decide) rfl ?_
          refine gx_iload (pc := 53) dX2_cut_53 rfl ?_
          refine kX2_115 (kc := 0) (ks := 0) (mc := 0) (ms := 0) (pc := 55) rfl (c_isLetter (d := d - 1) (by omega) (nI ch)) (by omega) (Nat.le_of_ble_eq_true rfl) dX2_cut_55 (fun r1 h2 e1 => ?_)
          obtain ⟨rfl, e1⟩ := e1
          subst h2
          rw [← ech]
          rw [← ech] at KL KD KS
          refine gx_if_eq (pc := 58) 136 dX2_cut_58 (by decide) (fun c4 => ?_) (fun c4 => ?_)
          · have z4 := wi_out c4
            refine gx_iload (pc := 136) dX2_cut_136 rfl ?_
            refine kX2_119 (kc := 0) (ks := 0) (mc := 0) (ms := 0) (pc := 138) rfl (c_isDigit (d := d - 1) (by omega) (t k)) (by omega) (Nat.le_of_ble_eq_true rfl) dX2_cut_138 (fun r1 h2 e1 => ?_)
            obtain ⟨rfl, e1⟩ := e1
            subst h2
            refine gx_if_eq (pc := 141) 217 dX2_cut_141 (by decide) (fun c5 => ?_) (fun c5 => ?_)
            · exact KS z4 (wi_out c5)
            · exact KD z4 (wi_in c5)
          · exact KL (wi_in c4)
        refine gx_icmp_eq (pc := 31) 41 dX2_cut_31 (by decide) (fun c2 => ?_) (fun c2 => ?_)
        · exact K41 (Or.inr (by rw [ech]; exact c2))
        · refine gx_iload (pc := 34) dX2_cut_34 rfl ?_
          refine gx_bipush (pc := 36) (v := 32) dX2_cut_36 (by decide) ?_
          refine gx_icmp_ne (pc := 38) 47 dX2_cut_38 (by decide) (fun c3 => ?_) (fun c3 => ?_)
          · exact K47 (fun y => by
              rw [ech] at y
              rcases y with y | y
              · exact c3 y
              · exact c2 y)
          · exact K41 (Or.inl (by rw [ech]; exact c3))
  obtain ⟨hr, ht1, hso, hva, hpl⟩ := id hR
  refine gx_aload_n (pc := 0) dX2_cut_0 rfl ?_
  refine gx_get (pc := 1) fX2_99 hr rfl dX2_cut_1 ?_
  refine gx_istore_n (pc := 4) dX2_cut_4 (by decide) rfl ?_
  refine gx_aload_n (pc := 5) dX2_cut_5 rfl ?_
  refine gx_iconst (pc := 6) (v := 0) dX2_cut_6 (by decide) ?_
  refine gx_put (pc := 7) fX2_99 hr nr (by first | exact Nat.le_of_ble_eq_true rfl | simp) tX2_5 rfl rfl dX2_cut_7 ?_
  have R2 := hR.ob dv 0 at' dp
  have E2 := rdE.up (r := r) h (.inr (1, [.ref (r + 1), .ref (r + 2), .ref (r + 3), dv, .ref (r + 4), .int 0, .ref (r + 5), .ref (r + 6), .ref (r + 7), .int at', .int dp])) (p := r) (by omega)
  change gxV _ _ _ _ _ _ _ _ (gxup h r (.inr (1, [.ref (r + 1), .ref (r + 2), .ref (r + 3), dv, .ref (r + 4), .int 0, .ref (r + 5), .ref (r + 6), .ref (r + 7), .int at', .int dp]))) _
  generalize gxup h r (.inr (1, [.ref (r + 1), .ref (r + 2), .ref (r + 3), dv, .ref (r + 4), .int 0, .ref (r + 5), .ref (r + 6), .ref (r + 7), .int at', .int dp])) = h2 at *
  refine gx_iconst (pc := 10) (v := 0) dX2_cut_10 (by decide) ?_
  refine gx_istore_n (pc := 11) dX2_cut_11 (by decide) rfl ?_
  refine gx_iconst (pc := 12) (v := 0) dX2_cut_12 (by decide) ?_
  refine gx_istore_n (pc := 13) dX2_cut_13 (by decide) rfl ?_
  exact L (z + 1) 0 0 so pl va h2 none none none (by omega) (by omega) (by omega) rfl R2 E2 (fun j hj => by omega) (Or.inl rfl)
end MAW
