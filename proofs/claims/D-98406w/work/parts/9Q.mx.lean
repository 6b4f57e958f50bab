/-! ===== COMPONENT AX: tokens ===== -/
set_option maxRecDepth 100000
def kwF : List (List Nat) := [[99, 111, 115, 116], [107, 110, 111, 119, 101, 114, 115], [97, 103, 101], [104, 105, 103, 104]]
def kwK : List (List Nat) := [[112, 108, 97, 105, 110], [103, 111, 115, 115, 105, 112], [100, 101, 97, 102], [112, 114, 105, 101, 115, 116]]
def kwP : List (List Nat) := [[112, 101, 114, 115, 111, 110], [114, 97, 110, 107], [116, 97, 120], [115, 101, 99, 114, 101, 116], [111, 102], [99, 111, 115, 116, 115], [111, 110], [98, 121], [101, 97, 114], [99, 108, 97, 115, 104], [119, 111, 114, 116, 104], [116, 101, 108, 108], [112, 97, 121], [114, 105, 115, 101], [113, 117, 97, 114, 116, 101, 114], [116, 114, 117, 101], [102, 97, 108, 115, 101], [110, 111, 116], [97, 110, 100], [111, 114]]
/-- an array of words -/
def SA (G : gxG) (h : gxH) (a : Nat) (l : List (List Nat)) : Prop := ∃ f, h.1 a = some (gxq 4 l.length f) ∧ ∀ k, k < l.length → ∃ sa, f k = some sa ∧ SB G sa (l.getD k [])
theorem SA.fr {G : gxG} {h h' : gxH} {a : Nat} {l : List (List Nat)} (x : SA G h a l) (e : h'.1 a = h.1 a) : SA G h' a l := by
  obtain ⟨f, h1, h2⟩ := x
  exact ⟨f, by rw [e]; exact h1, h2⟩
def RSt (G : gxG) (h : gxH) (r : Nat) : Prop := SA G h (r + 1) kwF ∧ SA G h (r + 2) kwK ∧ SA G h (r + 3) kwP
theorem RSt.fr {G : gxG} {h h' : gxH} {r : Nat} (x : RSt G h r) (e : ∀ q, q = r + 1 ∨ q = r + 2 ∨ q = r + 3 → h'.1 q = h.1 q) : RSt G h' r := ⟨x.1.fr (e _ (by omega)), x.2.1.fr (e _ (by omega)), x.2.2.fr (e _ (by omega))⟩
/-- the reader at the token i -/
def RR (G : gxG) (h : gxH) (r : Nat) (dv : Value) (dp : Int32) (t : Nat → Int32) (z n i : Nat) : Prop := ∃ so pl va, RV h r dv 0 (nI i) dp t so pl va ∧ i ≤ n ∧ n ≤ z ∧ z ≤ 1000 ∧ (tkK t z n).2.2.1 = 0 ∧ (∀ j, j ≤ n → tkQ t (tkK t z j) (so j) (pl j) (va j)) ∧ RSt G h r ∧ r + 8 ≤ h.2
/-- alike but for the reader's own cell -/
def aE (r : Nat) (h h' : gxH) : Prop := h'.2 = h.2 ∧ ∀ q, q ≠ r → h'.1 q = h.1 q
theorem aE.rf (r : Nat) (h : gxH) : aE r h h := ⟨rfl, fun _ _ => rfl⟩
theorem aE.tr {r : Nat} {a b c : gxH} (x : aE r a b) (y : aE r b c) : aE r a c := ⟨y.1.trans x.1, fun q hq => (y.2 q hq).trans (x.2 q hq)⟩
/-- grown, alike below hb but for the reader's own cell -/
def gE (hb r : Nat) (h h' : gxH) : Prop := h.2 ≤ h'.2 ∧ ∀ q, q < hb → q ≠ r → h'.1 q = h.1 q
theorem gE.rf (hb r : Nat) (h : gxH) : gE hb r h h := ⟨Nat.le_refl _, fun _ _ _ => rfl⟩
theorem gE.tr {hb r : Nat} {a b c : gxH} (x : gE hb r a b) (y : gE hb r b c) : gE hb r a c := ⟨Nat.le_trans x.1 y.1, fun q hq hr => (y.2 q hq hr).trans (x.2 q hq hr)⟩
theorem aE.g {hb r : Nat} {a b : gxH} (x : aE r a b) : gE hb r a b := ⟨by rw [x.1]; exact Nat.le_refl _, fun q _ hr => x.2 q hr⟩
theorem gE.mo {hb hb' r : Nat} {a b : gxH} (x : gE hb r a b) (h : hb' ≤ hb) : gE hb' r a b := ⟨x.1, fun q hq hr => x.2 q (by omega) hr⟩
/-- a fault, thrown -/
def xW (hb r : Nat) (h : gxH) (f : Int32) : Nat → gxH → Prop := fun y h' => (∃ fs, h'.1 y = some (.inr (10, fs)) ∧ fs[6]? = some (.int f)) ∧ hb ≤ y ∧ y < h'.2 ∧ gE hb r h h' ∧ ∃ dv at' dp, RO h' r dv 0 at' dp
theorem xW.tr {hb r : Nat} {h h1 : gxH} {f : Int32} {y : Nat} {h' : gxH} (x : xW hb r h1 f y h') (e : gE hb r h h1) : xW hb r h f y h' := ⟨x.1, x.2.1, x.2.2.1, e.tr x.2.2.2.1, x.2.2.2.2⟩
theorem xW.mo {hb hb' r : Nat} {h : gxH} {f : Int32} {y : Nat} {h' : gxH} (x : xW hb r h f y h') (e : hb' ≤ hb) : xW hb' r h f y h' := ⟨x.1, Nat.le_trans e x.2.1, x.2.2.1, x.2.2.2.1.mo e, x.2.2.2.2⟩
theorem RR.mv {G : gxG} {h h' : gxH} {r : Nat} {dv : Value} {dp : Int32} {t : Nat → Int32} {z n i : Nat} (x : RR G h r dv dp t z n i) {dv' : Value} {dp' : Int32} {i' : Nat} (hi : i' ≤ n) (hr : RO h' r dv' 0 (nI i') dp') (e : aE r h h') : RR G h' r dv' dp' t z n i' := by
  obtain ⟨so, pl, va, R, h1, h2, h3, h4, h5, h6, h7⟩ := x
  exact ⟨so, pl, va, ⟨hr, by rw [e.2 _ (by omega)]; exact R.2.1, by rw [e.2 _ (by omega)]; exact R.2.2.1, by rw [e.2 _ (by omega)]; exact R.2.2.2.1, by rw [e.2 _ (by omega)]; exact R.2.2.2.2⟩, hi, h2, h3, h4, h5, h6.fr (fun q hq => e.2 q (by omega)), by rw [e.1]; exact h7⟩
theorem RR.gr {G : gxG} {h h' : gxH} {r : Nat} {dv : Value} {dp : Int32} {t : Nat → Int32} {z n i : Nat} (x : RR G h r dv dp t z n i) (hz : h.2 ≤ h'.2) (e : ∀ q, r ≤ q → q < r + 8 → h'.1 q = h.1 q) : RR G h' r dv dp t z n i := by
  obtain ⟨so, pl, va, R, h1, h2, h3, h4, h5, h6, h7⟩ := x
  exact ⟨so, pl, va, ⟨by show h'.1 r = _; rw [e _ (by omega) (by omega)]; exact R.1, by rw [e _ (by omega) (by omega)]; exact R.2.1, by rw [e _ (by omega) (by omega)]; exact R.2.2.1, by rw [e _ (by omega) (by omega)]; exact R.2.2.2.1, by rw [e _ (by omega) (by omega)]; exact R.2.2.2.2⟩, h1, h2, h3, h4, h5, h6.fr (fun q hq => e q (by omega) (by omega)), by omega⟩
/-- which of some words -/
def whI (q : tkV) : List (List Nat) → Nat → Option Nat
  | [], _ => none
  | b :: l, k => if tkW q (wdL b 0) = true then some k else whI q l (k + 1)
theorem toInt64_inj {a c : Int32} : a.toInt64 = c.toInt64 ↔ a = c := by
  constructor
  · intro h
    apply Int32.toInt_inj.mp
    rw [← Int32.toInt_toInt64, h, Int32.toInt_toInt64]
  · intro h; rw [h]
theorem wd_eq : kws = [232608281, 355412, 14631, 275358764, 411, 1903978, 419, 79, 3690, 1831769, 12532058, 397641, 11716, 361373, 6888375828, 8740238, 108802051, 82410, 239329775, 407354, 3217595, 10631, 1111, 423] := rfl
theorem wd_K : kwK.map (fun b => wdL b 0) = [8740238, 108802051, 82410, 239329775] := by decide +kernel
theorem wd_F : kwF.map (fun b => wdL b 0) = [70517, 4470938551, 923, 164222] := by decide +kernel
theorem wd_P : kwP.map (fun b => wdL b 0) = [232608281, 355412, 14631, 275358764, 411, 1903978, 419, 79, 3690, 1831769, 12532058, 397641, 11716, 361373, 6888375828, 407354, 3217595, 10631, 1111, 423] := by decide +kernel
theorem whI_map (q : tkV) : ∀ l k, whI q l k = ((l.map (fun b => wdL b 0)).findIdx? (fun w => tkW q w)).map (· + k)
  | [], _ => rfl
  | b :: l, k => by
    rw [whI, List.map_cons, List.findIdx?_cons, whI_map q l (k + 1)]
    cases tkW q (wdL b 0) with
    | true => simp
    | false =>
      simp only [Bool.false_eq_true, if_false]
      cases (l.map (fun b => wdL b 0)).findIdx? (fun w => tkW q w) with
      | none => rfl
      | some j => simp; omega
theorem whI_none (q : tkV) : ∀ l k, whI q l k = none ↔ ∀ w ∈ l.map (fun b => wdL b 0), tkW q w = false
  | [], _ => by simp [whI]
  | b :: l, k => by
    rw [whI]
    cases h : tkW q (wdL b 0) with
    | true => simp [h]
    | false => simp only [Bool.false_eq_true, if_false]; rw [whI_none q l (k + 1)]; simp [h]
theorem whI_kept {q : tkV} (h1 : q.2.2.1 = 1) : (whI q kwP 0 = none ∧ whI q kwK 0 = none) ↔ tkKp q = false := by
  rw [whI_none, whI_none, wd_P, wd_K]
  unfold tkKp kws tkW
  simp only [h1, decide_true, Bool.true_and, Bool.not_true, Bool.false_or, decide_eq_false_iff_not, List.mem_cons, List.not_mem_nil, or_false, forall_eq_or_imp, forall_eq, not_or]
  constructor
  · rintro ⟨⟨a1, a2, a3, a4, a5, a6, a7, a8, a9, a10, a11, a12, a13, a14, a15, a16, a17, a18, a19, a20⟩, b1, b2, b3, b4⟩
    exact ⟨a1, a2, a3, a4, a5, a6, a7, a8, a9, a10, a11, a12, a13, a14, a15, b1, b2, b3, b4, a16, a17, a18, a19, a20⟩
  · rintro ⟨a1, a2, a3, a4, a5, a6, a7, a8, a9, a10, a11, a12, a13, a14, a15, b1, b2, b3, b4, a16, a17, a18, a19, a20⟩
    exact ⟨⟨a1, a2, a3, a4, a5, a6, a7, a8, a9, a10, a11, a12, a13, a14, a15, a16, a17, a18, a19, a20⟩, b1, b2, b3, b4⟩
theorem whI_kind (q : tkV) : oI (whI q kwK 0) = spKind q := by
  have h1 : wdL [112, 108, 97, 105, 110] 0 = 8740238 := by decide +kernel
  have h2 : wdL [103, 111, 115, 115, 105, 112] 0 = 108802051 := by decide +kernel
  have h3 : wdL [100, 101, 97, 102] 0 = 82410 := by decide +kernel
  have h4 : wdL [112, 114, 105, 101, 115, 116] 0 = 239329775 := by decide +kernel
  unfold spKind kwK
  simp only [whI, h1, h2, h3, h4]
  split
  · rfl
  · split
    · rfl
    · split
      · rfl
      · split <;> rfl
theorem whI_fact (q : tkV) : whI q kwF 0 = if spFact q = 0 then none else some (spFact q - 1) := by
  have h1 : wdL [99, 111, 115, 116] 0 = 70517 := by decide +kernel
  have h2 : wdL [107, 110, 111, 119, 101, 114, 115] 0 = 4470938551 := by decide +kernel
  have h3 : wdL [97, 103, 101] 0 = 923 := by decide +kernel
  have h4 : wdL [104, 105, 103, 104] 0 = 164222 := by decide +kernel
  unfold spFact kwF
  simp only [whI, h1, h2, h3, h4, tkW]
  by_cases e : q.2.2.1 = 1
  · simp only [e, not_true_eq_false, if_false, decide_true, Bool.true_and, decide_eq_true_eq]
    split
    · rfl
    · split
      · rfl
      · split
        · rfl
        · split <;> rfl
  · simp [e]
section MAX
variable {G : gxG} {d : Nat} {h : gxH} {r z n i : Nat} {dv : Value} {dp : Int32} {t : Nat → Int32}
theorem c_X11init (hd : 7 ≤ d) {a : Nat} (na : gxN G ≤ a) (ha : h.1 a = some (.inr (10, [.null, .null, .null, .null, .null, .int 0, .int 0]))) (f : Int32) : gxM G mX11_init d 0 0 [.ref a, .int f] h (gxQv (fun h' => h'.2 = h.2 ∧ (∀ q, q ≠ a → h'.1 q = h.1 q) ∧ ∃ fs, h'.1 a = some (.inr (10, fs)) ∧ fs[6]? = some (.int f))) := by
  refine gxM_of rfl (Nat.le_of_ble_eq_true rfl) rfl ?_
  refine gx_aload_n (pc := 0) dX11_init_0 rfl ?_
  refine gx_thr (pc := 1) (ci := 10) (names := []) (cls0 := "java/lang/Exception") tyX11 rfl in_X11 tyX11_ok nmX11 (by decide) rfl rfl rfl rfl q747 q748 (by decide +kernel) (by decide +kernel) gxw_ch1 (Or.inl q783) (Or.inl q782) q781 ha na (by decide) rfl (by show 0 + 4 ≤ d; omega) (Nat.le_of_ble_eq_true rfl) dX11_init_1 (fun u v => ?_)
  have ha2 : (gxup h a (.inr (10, [.ref a, u, v, .null, .null, .int 0, .int 0]))).1 a = some (.inr (10, [.ref a, u, v, .null, .null, .int 0, .int 0])) := gxup_self _ _ _
  have f2 : ∀ q, q ≠ a → (gxup h a (.inr (10, [.ref a, u, v, .null, .null, .int 0, .int 0]))).1 q = h.1 q := fun q hq => gxup_ne hq
  have s2 : (gxup h a (.inr (10, [.ref a, u, v, .null, .null, .int 0, .int 0]))).2 = h.2 := rfl
  change gxV _ _ _ _ _ _ _ _ (gxup h a (.inr (10, [.ref a, u, v, .null, .null, .int 0, .int 0]))) _
  generalize gxup h a (.inr (10, [.ref a, u, v, .null, .null, .int 0, .int 0])) = h1 at *
  have ha := ha2
  refine gx_aload_n (pc := 4) dX11_init_4 rfl ?_
  refine gx_iload_n (pc := 5) dX11_init_5 rfl ?_
  refine gx_putF (pc := 6) fX11_7 rfl (by intro C T N e; cases e; rfl) ha na (by first | exact Nat.le_of_ble_eq_true rfl | simp) tX11_6 rfl rfl dX11_init_6 ?_
  exact gx_return (pc := 9) rfl dX11_init_9 ⟨rfl, s2, fun q hq => by rw [gxup_ne hq]; exact f2 q hq, _, gxup_self _ _ _, rfl⟩
theorem c_wrong (hd : 8 ≤ d) (nz : gxN G ≤ h.2) (hR : (RR G h r dv dp t z n i)) (k : Int32) : gxM G mX2_wrong d 1 7 [.ref r, .int k] h (gxQr (fun y h' => xW h.2 r h (flt t z i k) y h')) := by
  obtain ⟨so, pl, va, ⟨hr, htp, hso, hva, hpl⟩, hin, hnz, hz, hend, hq, hst, hrz⟩ := id hR
  refine gxM_of rfl (Nat.le_of_ble_eq_true rfl) rfl ?_
  refine nX2_135 (kc := 0) (ks := 0) (pc := 0) rfl dX2_wrong_0 ?_
  have ha : (gxadd h (.inr (10, [.null, .null, .null, .null, .null, .int 0, .int 0]))).1 h.2 = some (.inr (10, [.null, .null, .null, .null, .null, .int 0, .int 0])) := gxadd_self _ _
  have l1 : lowE h.2 h (gxadd h (.inr (10, [.null, .null, .null, .null, .null, .int 0, .int 0]))) := fun q hq => gxadd_ne (by omega)
  have s1 : (gxadd h (.inr (10, [.null, .null, .null, .null, .null, .int 0, .int 0]))).2 = h.2 + 1 := rfl
  generalize gxadd h (.inr (10, [.null, .null, .null, .null, .null, .int 0, .int 0])) = h1 at *
  have hr1 : RO h1 r dv 0 (nI i) dp := by show h1.1 r = _; rw [l1 r (by omega)]; exact hr
  have hpl1 : h1.1 (r + 7) = some (.inl (0, 1001, .inl pl)) := by rw [l1 _ (by omega)]; exact hpl
  clear hr hpl
  have hr := hr1
  have hpl := hpl1
  refine gx_dup (pc := 3) dX2_wrong_3 rfl ?_
  refine gx_iload_n (pc := 4) dX2_wrong_4 rfl ?_
  refine gx_bipush (pc := 5) (v := 16) dX2_wrong_5 (by decide) ?_
  refine gx_aload_n (pc := 7) dX2_wrong_7 rfl ?_
  refine gx_get (pc := 8) fX2_90 hr rfl dX2_wrong_8 ?_
  refine gx_aload_n (pc := 11) dX2_wrong_11 rfl ?_
  refine gx_get (pc := 12) fX2_132 hr rfl dX2_wrong_12 ?_
  refine gx_iald (pc := 15) (i) hpl (by first | rfl | simp only [gx_lit, nI_add, pk_mul]) (by omega) (by decide) dX2_wrong_15 ?_
  refine gx_imul (pc := 16) dX2_wrong_16 ?_
  refine gx_iadd (pc := 17) dX2_wrong_17 ?_
  rw [(hq i hin).2.1]
  refine kX2_137 (kc := 0) (ks := 0) (mc := 0) (ms := 0) (pc := 18) rfl (c_X11init (d := d - 1) (by omega) nz ha _) (by omega) (Nat.le_of_ble_eq_true rfl) dX2_wrong_18 (fun h2 e2 => ?_)
  obtain ⟨s2, f2, fs, e3, e4⟩ := e2
  refine gx_areturn (pc := 21) rfl (Or.inl ⟨_, rfl⟩) (Or.inr ⟨_, rfl⟩) dX2_wrong_21 ⟨_, rfl, ⟨fs, e3, e4⟩, Nat.le_refl _, by omega, ⟨by omega, fun q q1 _ => by rw [f2 q (by omega)]; exact l1 q q1⟩, dv, nI i, dp, ?_⟩
  show h2.1 r = _
  rw [f2 r (by omega)]; exact hr1
/-- the fault k is thrown -/
theorem gx_wrong {Y : gxY} {kc ks pc pc1 pc2 pc5 : Nat} {ls : List (Option Value)} {Q1 : Outcome → gxH → Prop} {E : Nat → gxH → Prop} (k : Int32) {ik : Int} (e1 : pc1 = pc + 1) (e2 : pc2 = pc + 2) (e5 : pc5 = pc + 5) (hY : Y.1.cls = "PaidSecrets$Reader") (hd : 9 ≤ d) (nz : gxN G ≤ h.2) (hR : (RR G h r dv dp t z n i)) (hk : ls[0]? = some (some (.ref r))) (d0 : decode Y.2.1 pc = .ok (.aload_n 0, 1)) (d1 : decode Y.2.1 pc1 = .ok (.iconst ik, 1)) (hik : Int32.ofInt ik = k) (d2 : decode Y.2.1 pc2 = .ok (.invokevirtual 154, 3)) (d5 : decode Y.2.1 pc5 = .ok (.athrow, 1)) (ho : gxout Y pc5 = true) (kk : ∀ y h', xW h.2 r h (flt t z i k) y h' → E y h') : gxV G Y d (kc + 1) (ks + 7) pc ls [] h (gxQx Q1 E) := by
  subst e1
  subst e2
  subst e5
  obtain ⟨so, pl, va, ⟨hr, _⟩, _⟩ := id hR
  refine gx_aload_n (pc := pc) d0 hk ?_
  refine gx_iconst (pc := pc + 1) (v := k) d1 hik ?_
  refine kX2_154 (kc := kc) (ks := ks) (mc := 1) (ms := 7) (pc := pc + 2) hY (c_wrong (d := d - 1) (by omega) nz hR k) (gxRc.of rfl hr) (by omega) (Nat.le_of_ble_eq_true rfl) d2 (fun y h1 e => ?_)
  exact gx_athrow (pc := pc + 5) d5 (gxT_out ho (Or.inr ⟨y, rfl, kk y h1 e⟩))
theorem c_RisWord (hd : 5 ≤ d) (hR : (RR G h r dv dp t z n i)) {sa : Nat} {bs : List Nat} (hS : SB G sa bs) : gxM G mX2_isWord d 0 0 [.ref r, .ref sa] h (gxQi (fun a h' => a = zi (tkW (tkK t z i) (wdL bs 0)) ∧ h' = h)) := by
  obtain ⟨so, pl, va, ⟨hr, htp, hso, hva, hpl⟩, hin, hnz, hz, hend, hq, hst, hrz⟩ := id hR
  obtain ⟨q1, q2, q3, q4, q5⟩ := hq i hin
  refine gxM_of rfl (Nat.le_of_ble_eq_true rfl) rfl ?_
  refine gx_aload_n (pc := 0) dX2_isWord_0 rfl ?_
  refine gx_get (pc := 1) fX2_83 hr rfl dX2_isWord_1 ?_
  refine gx_aload_n (pc := 4) dX2_isWord_4 rfl ?_
  refine gx_get (pc := 5) fX2_132 hr rfl dX2_isWord_5 ?_
  refine gx_iald (pc := 8) (i) hso (by first | rfl | simp only [gx_lit, nI_add, pk_mul]) (by omega) (by decide) dX2_isWord_8 ?_
  refine gx_iconst (pc := 9) (v := 1) dX2_isWord_9 (by decide) ?_
  rw [q1]
  refine gx_icmp_ne (pc := 10) 34 dX2_isWord_10 (by decide) (fun c1 => ?_) (fun c1 => ?_)
  · have c1' : ¬ (tkK t z i).2.2.1 = 1 := c1
    refine gx_iconst (pc := 34) (v := 0) dX2_isWord_34 (by decide) ?_
    exact gx_zreturn (pc := 35) rfl (by decide) dX2_isWord_35 (⟨_, rfl, ⟨by unfold tkW; rw [decide_eq_false c1']; rfl, rfl⟩⟩)
  · have c1' : (tkK t z i).2.2.1 = 1 := c1
    refine gx_aload_n (pc := 13) dX2_isWord_13 rfl ?_
    refine gx_get (pc := 14) fX2_86 hr rfl dX2_isWord_14 ?_
    refine gx_aload_n (pc := 17) dX2_isWord_17 rfl ?_
    refine gx_get (pc := 18) fX2_132 hr rfl dX2_isWord_18 ?_
    refine gx_lald (pc := 21) (i) hva (by first | rfl | simp only [gx_lit, nI_add, pk_mul]) (by omega) (by decide) dX2_isWord_21 ?_
    refine gx_aload_n (pc := 22) dX2_isWord_22 rfl ?_
    refine kX2_140 (kc := 0) (ks := 0) (mc := 0) (ms := 0) (pc := 23) rfl (c_word (d := d - 1) (by omega) hS) (by omega) (Nat.le_of_ble_eq_true rfl) dX2_isWord_23 (fun r1 h1 e1 => ?_)
    obtain ⟨rfl, e1⟩ := e1
    subst h1
    rw [q3 c1']
    refine gx_lcmp (pc := 26) dX2_isWord_26 ?_
    refine gx_if_ne (pc := 27) 34 dX2_isWord_27 (by decide) (fun c2 => ?_) (fun c2 => ?_)
    · have c2' : ¬ (tkK t z i).2.2.2.1 = wdL bs 0 := fun e => c2 (lgc0.mpr e)
      refine gx_iconst (pc := 34) (v := 0) dX2_isWord_34 (by decide) ?_
      exact gx_zreturn (pc := 35) rfl (by decide) dX2_isWord_35 (⟨_, rfl, ⟨by unfold tkW; rw [decide_eq_false c2', Bool.and_false]; rfl, rfl⟩⟩)
    · have c2' : (tkK t z i).2.2.2.1 = wdL bs 0 := lgc0.mp c2
      refine gx_iconst (pc := 30) (v := 1) dX2_isWord_30 (by decide) ?_
      refine gx_goto (pc := 31) 35 dX2_isWord_31 (by decide) ?_
      exact gx_zreturn (pc := 35) rfl (by decide) dX2_isWord_35 (⟨_, rfl, ⟨by unfold tkW; rw [decide_eq_true c2', decide_eq_true c1']; rfl, rfl⟩⟩)
theorem RR.nx (hR : (RR G h r dv dp t z n i)) (hn : ¬ (tkK t z i).2.2.1 = 0) : i + 1 ≤ n := by
  obtain ⟨so, pl, va, ⟨hr, htp, hso, hva, hpl⟩, hin, hnz, hz, hend, hq, hst, hrz⟩ := id hR
  rcases Nat.lt_or_ge i n with y | y
  · exact y
  · have : i = n := by omega
    subst this
    exact absurd hend hn
theorem RR.step (hR : (RR G h r dv dp t z n i)) (hn : ¬ (tkK t z i).2.2.1 = 0) : RR G (gxup h r (.inr (1, [.ref (r + 1), .ref (r + 2), .ref (r + 3), dv, .ref (r + 4), .int 0, .ref (r + 5), .ref (r + 6), .ref (r + 7), .int (nI (i + 1)), .int dp]))) r dv dp t z n (i + 1) ∧ aE r h (gxup h r (.inr (1, [.ref (r + 1), .ref (r + 2), .ref (r + 3), dv, .ref (r + 4), .int 0, .ref (r + 5), .ref (r + 6), .ref (r + 7), .int (nI (i + 1)), .int dp]))) := by
  have e : aE r h (gxup h r (.inr (1, [.ref (r + 1), .ref (r + 2), .ref (r + 3), dv, .ref (r + 4), .int 0, .ref (r + 5), .ref (r + 6), .ref (r + 7), .int (nI (i + 1)), .int dp]))) := ⟨rfl, fun q hq => gxup_ne hq⟩
  exact ⟨hR.mv (hR.nx hn) (gxup_self _ _ _) e, e⟩
theorem c_RhasWord (nr : gxN G ≤ r) (hd : 6 ≤ d) (hR : (RR G h r dv dp t z n i)) {sa : Nat} {bs : List Nat} (hS : SB G sa bs) : gxM G mX2_hasWord d 0 0 [.ref r, .ref sa] h (gxQi (fun a h' => (tkW (tkK t z i) (wdL bs 0) = true ∧ a = 1 ∧ RR G h' r dv dp t z n (i + 1) ∧ aE r h h') ∨ (tkW (tkK t z i) (wdL bs 0) = false ∧ a = 0 ∧ h' = h))) := by
  obtain ⟨so, pl, va, ⟨hr, htp, hso, hva, hpl⟩, hin, hnz, hz, hend, hq, hst, hrz⟩ := id hR
  refine gxM_of rfl (Nat.le_of_ble_eq_true rfl) rfl ?_
  refine gx_aload_n (pc := 0) dX2_hasWord_0 rfl ?_
  refine gx_aload_n (pc := 1) dX2_hasWord_1 rfl ?_
  refine kX2_144 (kc := 0) (ks := 0) (mc := 0) (ms := 0) (pc := 2) rfl (c_RisWord (d := d - 1) (by omega) hR hS) (gxRc.of rfl hr) (by omega) (Nat.le_of_ble_eq_true rfl) dX2_hasWord_2 (fun r1 h1 e1 => ?_)
  obtain ⟨rfl, e1⟩ := e1
  subst h1
  refine gx_istore_n (pc := 5) dX2_hasWord_5 (by decide) rfl ?_
  refine gx_iload_n (pc := 6) dX2_hasWord_6 rfl ?_
  refine gx_if_eq (pc := 7) 20 dX2_hasWord_7 (by decide) (fun c1 => ?_) (fun c1 => ?_)
  · have z1 := zi_eq0 c1
    refine gx_iload_n (pc := 20) dX2_hasWord_20 rfl ?_
    exact gx_zreturn (pc := 21) rfl (zi_01 _) dX2_hasWord_21 ⟨_, rfl, Or.inr ⟨z1, by rw [z1]; rfl, rfl⟩⟩
  · have z1 := zi_ne0 c1
    refine gx_aload_n (pc := 10) dX2_hasWord_10 rfl ?_
    refine gx_dup (pc := 11) dX2_hasWord_11 rfl ?_
    refine gx_get (pc := 12) fX2_132 hr rfl dX2_hasWord_12 ?_
    refine gx_iconst (pc := 15) (v := 1) dX2_hasWord_15 (by decide) ?_
    refine gx_iadd (pc := 16) dX2_hasWord_16 ?_
    rw [nI_1]
    refine gx_put (pc := 17) fX2_132 hr nr (by first | exact Nat.le_of_ble_eq_true rfl | simp) tX2_9 rfl rfl dX2_hasWord_17 ?_
    change gxV _ _ _ _ _ _ _ _ (gxup h r (.inr (1, [.ref (r + 1), .ref (r + 2), .ref (r + 3), dv, .ref (r + 4), .int 0, .ref (r + 5), .ref (r + 6), .ref (r + 7), .int (nI (i + 1)), .int dp]))) _
    obtain ⟨R2, E2⟩ := hR.step (tkW_n0 z1)
    generalize gxup h r (.inr (1, [.ref (r + 1), .ref (r + 2), .ref (r + 3), dv, .ref (r + 4), .int 0, .ref (r + 5), .ref (r + 6), .ref (r + 7), .int (nI (i + 1)), .int dp])) = h2 at *
    refine gx_iload_n (pc := 20) dX2_hasWord_20 rfl ?_
    exact gx_zreturn (pc := 21) rfl (zi_01 _) dX2_hasWord_21 ⟨_, rfl, Or.inl ⟨z1, by rw [z1]; rfl, R2, E2⟩⟩
theorem c_Rwhich (hd : 6 ≤ d) (hR : (RR G h r dv dp t z n i)) {wa : Nat} {l : List (List Nat)} (hl : l.length < 2 ^ 31) (hW : SA G h wa l) : gxM G mX2_which d 0 0 [.ref r, .ref wa] h (gxQi (fun a h' => a = oI (whI (tkK t z i) l 0) ∧ h' = h)) := by
  obtain ⟨so, pl, va, ⟨hr, htp, hso, hva, hpl⟩, hin, hnz, hz, hend, hq, hst, hrz⟩ := id hR
  obtain ⟨f, hwa, hf⟩ := hW
  refine gxM_of rfl (Nat.le_of_ble_eq_true rfl) rfl ?_
  have L : ∀ m k, m + k = l.length → whI (tkK t z i) l 0 = whI (tkK t z i) (l.drop k) k → gxV G mX2_which d 0 0 2 [some (.ref r), some (.ref wa), some (.int (nI k))] [] h (gxQi (fun a h' => a = oI (whI (tkK t z i) l 0) ∧ h' = h)) := by
    intro m
    induction m with
    | zero =>
      intro k hm hX
      have : k = l.length := by omega
      subst this
      refine gx_iload_n (pc := 2) dX2_which_2 rfl ?_
      refine gx_aload_n (pc := 3) dX2_which_3 rfl ?_
      refine gx_alen (pc := 4) hwa (fun _ => rfl) rfl dX2_which_4 ?_
      refine gx_icmp_ge (pc := 5) 26 dX2_which_5 (by decide) (fun c1 => ?_) (fun c1 => ?_)
      · refine gx_iconst (pc := 26) (v := (-1)) dX2_which_26 (by decide) ?_
        exact gx_ireturn (pc := 27) rfl dX2_which_27 (⟨_, rfl, ⟨by rw [hX, List.drop_length]; rfl, rfl⟩⟩)
      · exact absurd (nI_le (Nat.le_refl _) hl) c1
    | succ m ih =>
      intro k hm hX
      have hk : k < l.length := by omega
      obtain ⟨sa, es, hS⟩ := hf k hk
      have hdr : l.drop k = l.getD k [] :: l.drop (k + 1) := by
        rw [List.drop_eq_getElem_cons hk, List.getD_eq_getElem?_getD, List.getElem?_eq_getElem hk]; rfl
      rw [hdr, whI] at hX
      refine gx_iload_n (pc := 2) dX2_which_2 rfl ?_
      refine gx_aload_n (pc := 3) dX2_which_3 rfl ?_
      refine gx_alen (pc := 4) hwa (fun _ => rfl) rfl dX2_which_4 ?_
      refine gx_icmp_ge (pc := 5) 26 dX2_which_5 (by decide) (fun c1 => ?_) (fun c1 => ?_)
      · exact absurd c1 (nI_ge hk hl)
      · refine gx_aload_n (pc := 8) dX2_which_8 rfl ?_
        refine gx_aload_n (pc := 9) dX2_which_9 rfl ?_
        refine gx_iload_n (pc := 10) dX2_which_10 rfl ?_
        refine gx_aald (pc := 11) (k) hwa (fun _ => rfl) (by first | rfl | simp only [gx_lit, nI_add, pk_mul]) (by omega) (hl) dX2_which_11 ?_
        rw [es]
        refine kX2_144 (kc := 0) (ks := 0) (mc := 0) (ms := 0) (pc := 12) rfl (c_RisWord (d := d - 1) (by omega) hR hS) (gxRc.of rfl hr) (by omega) (Nat.le_of_ble_eq_true rfl) dX2_which_12 (fun r1 h1 e1 => ?_)
        obtain ⟨rfl, e1⟩ := e1
        subst h1
        refine gx_if_eq (pc := 15) 20 dX2_which_15 (by decide) (fun c2 => ?_) (fun c2 => ?_)
        · have z2 := zi_eq0 c2
          rw [z2] at hX
          refine gx_iincc (pc := 20) (c := 1) dX2_which_20 rfl (by decide) (by decide) rfl ?_
          refine gx_goto (pc := 23) 2 dX2_which_23 (by decide) ?_
          rw [nI_1]
          exact ih (k + 1) (by omega) hX
        · have z2 := zi_ne0 c2
          rw [z2, if_pos rfl] at hX
          refine gx_iload_n (pc := 18) dX2_which_18 rfl ?_
          exact gx_ireturn (pc := 19) rfl dX2_which_19 (⟨_, rfl, ⟨by rw [hX]; rfl, rfl⟩⟩)
  refine gx_iconst (pc := 0) (v := 0) dX2_which_0 (by decide) ?_
  refine gx_istore_n (pc := 1) dX2_which_1 (by decide) rfl ?_
  exact L l.length 0 (by omega) rfl
theorem c_RisSign (hR : (RR G h r dv dp t z n i)) (c : Int32) : gxM G mX2_isSign d 0 0 [.ref r, .int c] h (gxQi (fun a h' => a = zi (tkG t (tkK t z i) c) ∧ h' = h)) := by
  obtain ⟨so, pl, va, ⟨hr, htp, hso, hva, hpl⟩, hin, hnz, hz, hend, hq, hst, hrz⟩ := id hR
  obtain ⟨q1, q2, q3, q4, q5⟩ := hq i hin
  refine gxM_of rfl (Nat.le_of_ble_eq_true rfl) rfl ?_
  refine gx_aload_n (pc := 0) dX2_isSign_0 rfl ?_
  refine gx_get (pc := 1) fX2_83 hr rfl dX2_isSign_1 ?_
  refine gx_aload_n (pc := 4) dX2_isSign_4 rfl ?_
  refine gx_get (pc := 5) fX2_132 hr rfl dX2_isSign_5 ?_
  refine gx_iald (pc := 8) (i) hso (by first | rfl | simp only [gx_lit, nI_add, pk_mul]) (by omega) (by decide) dX2_isSign_8 ?_
  refine gx_iconst (pc := 9) (v := 3) dX2_isSign_9 (by decide) ?_
  rw [q1]
  refine gx_icmp_ne (pc := 10) 32 dX2_isSign_10 (by decide) (fun c1 => ?_) (fun c1 => ?_)
  · have c1' : ¬ (tkK t z i).2.2.1 = 3 := c1
    refine gx_iconst (pc := 32) (v := 0) dX2_isSign_32 (by decide) ?_
    exact gx_zreturn (pc := 33) rfl (by decide) dX2_isSign_33 (⟨_, rfl, ⟨by unfold tkG; rw [decide_eq_false c1']; rfl, rfl⟩⟩)
  · have c1' : (tkK t z i).2.2.1 = 3 := c1
    refine gx_aload_n (pc := 13) dX2_isSign_13 rfl ?_
    refine gx_get (pc := 14) fX2_86 hr rfl dX2_isSign_14 ?_
    refine gx_aload_n (pc := 17) dX2_isSign_17 rfl ?_
    refine gx_get (pc := 18) fX2_132 hr rfl dX2_isSign_18 ?_
    refine gx_lald (pc := 21) (i) hva (by first | rfl | simp only [gx_lit, nI_add, pk_mul]) (by omega) (by decide) dX2_isSign_21 ?_
    refine gx_iload_n (pc := 22) dX2_isSign_22 rfl ?_
    refine gx_i2l (pc := 23) dX2_isSign_23 ?_
    rw [q5 c1']
    refine gx_lcmp (pc := 24) dX2_isSign_24 ?_
    refine gx_if_ne (pc := 25) 32 dX2_isSign_25 (by decide) (fun c2 => ?_) (fun c2 => ?_)
    · have c2' : ¬ t (tkK t z i).2.1 = c := fun e => c2 (lgc0.mpr (by rw [e]))
      refine gx_iconst (pc := 32) (v := 0) dX2_isSign_32 (by decide) ?_
      exact gx_zreturn (pc := 33) rfl (by decide) dX2_isSign_33 (⟨_, rfl, ⟨by unfold tkG; rw [decide_eq_false c2', Bool.and_false]; rfl, rfl⟩⟩)
    · have c2' : t (tkK t z i).2.1 = c := toInt64_inj.mp (lgc0.mp c2)
      refine gx_iconst (pc := 28) (v := 1) dX2_isSign_28 (by decide) ?_
      refine gx_goto (pc := 29) 33 dX2_isSign_29 (by decide) ?_
      exact gx_zreturn (pc := 33) rfl (by decide) dX2_isSign_33 (⟨_, rfl, ⟨by unfold tkG; rw [decide_eq_true c2', decide_eq_true c1']; rfl, rfl⟩⟩)
theorem c_RhasSign (nr : gxN G ≤ r) (hd : 1 ≤ d) (hR : (RR G h r dv dp t z n i)) (c : Int32) : gxM G mX2_hasSign d 0 0 [.ref r, .int c] h (gxQi (fun a h' => (tkG t (tkK t z i) c = true ∧ a = 1 ∧ RR G h' r dv dp t z n (i + 1) ∧ aE r h h') ∨ (tkG t (tkK t z i) c = false ∧ a = 0 ∧ h' = h))) := by
  obtain ⟨so, pl, va, ⟨hr, htp, hso, hva, hpl⟩, hin, hnz, hz, hend, hq, hst, hrz⟩ := id hR
  refine gxM_of rfl (Nat.le_of_ble_eq_true rfl) rfl ?_
  refine gx_aload_n (pc := 0) dX2_hasSign_0 rfl ?_
  refine gx_iload_n (pc := 1) dX2_hasSign_1 rfl ?_
  refine kX2_148 (kc := 0) (ks := 0) (mc := 0) (ms := 0) (pc := 2) rfl (c_RisSign (d := d - 1) hR c) (gxRc.of rfl hr) (by omega) (Nat.le_of_ble_eq_true rfl) dX2_hasSign_2 (fun r1 h1 e1 => ?_)
  obtain ⟨rfl, e1⟩ := e1
  subst h1
  refine gx_istore_n (pc := 5) dX2_hasSign_5 (by decide) rfl ?_
  refine gx_iload_n (pc := 6) dX2_hasSign_6 rfl ?_
  refine gx_if_eq (pc := 7) 20 dX2_hasSign_7 (by decide) (fun c1 => ?_) (fun c1 => ?_)
  · have z1 := zi_eq0 c1
    refine gx_iload_n (pc := 20) dX2_hasSign_20 rfl ?_
    exact gx_zreturn (pc := 21) rfl (zi_01 _) dX2_hasSign_21 ⟨_, rfl, Or.inr ⟨z1, by rw [z1]; rfl, rfl⟩⟩
  · have z1 := zi_ne0 c1
    refine gx_aload_n (pc := 10) dX2_hasSign_10 rfl ?_
    refine gx_dup (pc := 11) dX2_hasSign_11 rfl ?_
    refine gx_get (pc := 12) fX2_132 hr rfl dX2_hasSign_12 ?_
    refine gx_iconst (pc := 15) (v := 1) dX2_hasSign_15 (by decide) ?_
    refine gx_iadd (pc := 16) dX2_hasSign_16 ?_
    rw [nI_1]
    refine gx_put (pc := 17) fX2_132 hr nr (by first | exact Nat.le_of_ble_eq_true rfl | simp) tX2_9 rfl rfl dX2_hasSign_17 ?_
    change gxV _ _ _ _ _ _ _ _ (gxup h r (.inr (1, [.ref (r + 1), .ref (r + 2), .ref (r + 3), dv, .ref (r + 4), .int 0, .ref (r + 5), .ref (r + 6), .ref (r + 7), .int (nI (i + 1)), .int dp]))) _
    obtain ⟨R2, E2⟩ := hR.step (tkG_n0 z1)
    generalize gxup h r (.inr (1, [.ref (r + 1), .ref (r + 2), .ref (r + 3), dv, .ref (r + 4), .int 0, .ref (r + 5), .ref (r + 6), .ref (r + 7), .int (nI (i + 1)), .int dp])) = h2 at *
    refine gx_iload_n (pc := 20) dX2_hasSign_20 rfl ?_
    exact gx_zreturn (pc := 21) rfl (zi_01 _) dX2_hasSign_21 ⟨_, rfl, Or.inl ⟨z1, by rw [z1]; rfl, R2, E2⟩⟩
theorem c_Rsign (nr : gxN G ≤ r) (nz : gxN G ≤ h.2) (hd : 9 ≤ d) (hR : (RR G h r dv dp t z n i)) (c : Int32) : gxM G mX2_sign d 1 7 [.ref r, .int c] h (gxQx (gxQv (fun h' => tkG t (tkK t z i) c = true ∧ RR G h' r dv dp t z n (i + 1) ∧ aE r h h')) (fun y h' => tkG t (tkK t z i) c = false ∧ xW h.2 r h (flt t z i 1) y h')) := by
  obtain ⟨so, pl, va, ⟨hr, htp, hso, hva, hpl⟩, hin, hnz, hz, hend, hq, hst, hrz⟩ := id hR
  refine gxM_of rfl (Nat.le_of_ble_eq_true rfl) rfl ?_
  refine gx_aload_n (pc := 0) dX2_sign_0 rfl ?_
  refine gx_iload_n (pc := 1) dX2_sign_1 rfl ?_
  refine kX2_151 (kc := 1) (ks := 7) (mc := 0) (ms := 0) (pc := 2) rfl (c_RhasSign (d := d - 1) nr (by omega) hR c) (gxRc.of rfl hr) (by omega) (Nat.le_of_ble_eq_true rfl) dX2_sign_2 (fun r1 h1 e1 => ?_)
  refine gx_if_ne (pc := 5) 14 dX2_sign_5 (by decide) (fun c1 => ?_) (fun c1 => ?_)
  · rcases e1 with ⟨z1, rfl, R2, E2⟩ | ⟨_, rfl, _⟩
    · exact gx_return (pc := 14) rfl dX2_sign_14 (Or.inl ⟨rfl, z1, R2, E2⟩)
    · exact absurd rfl c1
  · rcases e1 with ⟨_, rfl, _⟩ | ⟨z1, rfl, e1⟩
    · exact absurd c1 (by decide)
    · subst h1
      exact gx_wrong (kc := 0) (ks := 0) (pc := 8) (pc1 := 9) (pc2 := 10) (pc5 := 13) 1 rfl rfl rfl rfl (by omega) nz hR rfl dX2_sign_8 dX2_sign_9 (by decide) dX2_sign_10 dX2_sign_13 (by decide +kernel) (fun y h' e => ⟨z1, e⟩)
theorem c_RtakeWord (nr : gxN G ≤ r) (nz : gxN G ≤ h.2) (hd : 9 ≤ d) (hR : (RR G h r dv dp t z n i)) {sa : Nat} {bs : List Nat} (hS : SB G sa bs) : gxM G mX2_takeWord d 1 7 [.ref r, .ref sa] h (gxQx (gxQv (fun h' => tkW (tkK t z i) (wdL bs 0) = true ∧ RR G h' r dv dp t z n (i + 1) ∧ aE r h h')) (fun y h' => tkW (tkK t z i) (wdL bs 0) = false ∧ xW h.2 r h (flt t z i 1) y h')) := by
  obtain ⟨so, pl, va, ⟨hr, htp, hso, hva, hpl⟩, hin, hnz, hz, hend, hq, hst, hrz⟩ := id hR
  refine gxM_of rfl (Nat.le_of_ble_eq_true rfl) rfl ?_
  refine gx_aload_n (pc := 0) dX2_takeWord_0 rfl ?_
  refine gx_aload_n (pc := 1) dX2_takeWord_1 rfl ?_
  refine kX2_255 (kc := 1) (ks := 7) (mc := 0) (ms := 0) (pc := 2) rfl (c_RhasWord (d := d - 1) nr (by omega) hR hS) (gxRc.of rfl hr) (by omega) (Nat.le_of_ble_eq_true rfl) dX2_takeWord_2 (fun r1 h1 e1 => ?_)
  refine gx_if_ne (pc := 5) 14 dX2_takeWord_5 (by decide) (fun c1 => ?_) (fun c1 => ?_)
  · rcases e1 with ⟨z1, rfl, R2, E2⟩ | ⟨_, rfl, _⟩
    · exact gx_return (pc := 14) rfl dX2_takeWord_14 (Or.inl ⟨rfl, z1, R2, E2⟩)
    · exact absurd rfl c1
  · rcases e1 with ⟨_, rfl, _⟩ | ⟨z1, rfl, e1⟩
    · exact absurd c1 (by decide)
    · subst h1
      exact gx_wrong (kc := 0) (ks := 0) (pc := 8) (pc1 := 9) (pc2 := 10) (pc5 := 13) 1 rfl rfl rfl rfl (by omega) nz hR rfl dX2_takeWord_8 dX2_takeWord_9 (by decide) dX2_takeWord_10 dX2_takeWord_13 (by decide +kernel) (fun y h' e => ⟨z1, e⟩)
theorem c_RisName (hd : 7 ≤ d) (hR : (RR G h r dv dp t z n i)) : gxM G mX2_isName d 0 0 [.ref r] h (gxQi (fun a h' => a = zi (!tkKp (tkK t z i)) ∧ h' = h)) := by
  obtain ⟨so, pl, va, ⟨hr, htp, hso, hva, hpl⟩, hin, hnz, hz, hend, hq, hst, hrz⟩ := id hR
  obtain ⟨q1, q2, q3, q4, q5⟩ := hq i hin
  obtain ⟨st1, st2, st3⟩ := hst
  refine gxM_of rfl (Nat.le_of_ble_eq_true rfl) rfl ?_
  refine gx_aload_n (pc := 0) dX2_isName_0 rfl ?_
  refine gx_get (pc := 1) fX2_83 hr rfl dX2_isName_1 ?_
  refine gx_aload_n (pc := 4) dX2_isName_4 rfl ?_
  refine gx_get (pc := 5) fX2_132 hr rfl dX2_isName_5 ?_
  refine gx_iald (pc := 8) (i) hso (by first | rfl | simp only [gx_lit, nI_add, pk_mul]) (by omega) (by decide) dX2_isName_8 ?_
  refine gx_iconst (pc := 9) (v := 1) dX2_isName_9 (by decide) ?_
  rw [q1]
  have N : tkKp (tkK t z i) = true → gxV G mX2_isName d 0 0 41 [some (.ref r)] [] h (gxQi (fun a h' => a = zi (!tkKp (tkK t z i)) ∧ h' = h)) := by
    intro hh
    refine gx_iconst (pc := 41) (v := 0) dX2_isName_41 (by decide) ?_
    exact gx_zreturn (pc := 42) rfl (by decide) dX2_isName_42 (⟨_, rfl, ⟨by rw [hh]; rfl, rfl⟩⟩)
  refine gx_icmp_ne (pc := 10) 41 dX2_isName_10 (by decide) (fun c1 => ?_) (fun c1 => ?_)
  · have c1' : ¬ (tkK t z i).2.2.1 = 1 := c1
    exact N (by unfold tkKp; rw [decide_eq_false c1']; rfl)
  · have c1' : (tkK t z i).2.2.1 = 1 := c1
    have kp := whI_kept c1'
    have oI_1 : ∀ x : Option Nat, (∀ k, x = some k → k < 2 ^ 31) → (oI x = -1 ↔ x = none) := by
      intro x hx
      cases x with
      | none => exact ⟨fun _ => rfl, fun _ => rfl⟩
      | some k => exact ⟨fun e => absurd (show nI k < 0 by rw [show nI k = -1 from e]; decide) (nI_pos (hx k rfl)), fun e => by cases e⟩
    have wl : ∀ l, l.length ≤ 100 → ∀ k, whI (tkK t z i) l 0 = some k → k < 2 ^ 31 := by
      intro l hl k hk
      rw [whI_map] at hk
      cases e : (l.map (fun b => wdL b 0)).findIdx? (fun w => tkW (tkK t z i) w) with
      | none => rw [e] at hk; cases hk
      | some j =>
        rw [e] at hk
        have := List.findIdx?_eq_some_iff_findIdx_eq.mp e
        simp at hk
        rw [List.length_map] at this
        omega
    refine gx_aload_n (pc := 13) dX2_isName_13 rfl ?_
    refine gx_aload_n (pc := 14) dX2_isName_14 rfl ?_
    refine gx_get (pc := 15) fX2_76 hr rfl dX2_isName_15 ?_
    refine kX2_158 (kc := 0) (ks := 0) (mc := 0) (ms := 0) (pc := 18) rfl (c_Rwhich (d := d - 1) (by omega) hR (by decide) st3) (gxRc.of rfl hr) (by omega) (Nat.le_of_ble_eq_true rfl) dX2_isName_18 (fun r1 h1 e1 => ?_)
    obtain ⟨rfl, e1⟩ := e1
    subst h1
    refine gx_iconst (pc := 21) (v := (-1)) dX2_isName_21 (by decide) ?_
    refine gx_icmp_ne (pc := 22) 41 dX2_isName_22 (by decide) (fun c2 => ?_) (fun c2 => ?_)
    · exact N (by
        cases e : tkKp (tkK t z i) with
        | true => rfl
        | false => exact absurd ((oI_1 _ (wl _ (by decide))).mpr (kp.mpr e).1) c2)
    · have w1 := (oI_1 _ (wl _ (by decide))).mp c2
      refine gx_aload_n (pc := 25) dX2_isName_25 rfl ?_
      refine gx_aload_n (pc := 26) dX2_isName_26 rfl ?_
      refine gx_get (pc := 27) fX2_33 hr rfl dX2_isName_27 ?_
      refine kX2_158 (kc := 0) (ks := 0) (mc := 0) (ms := 0) (pc := 30) rfl (c_Rwhich (d := d - 1) (by omega) hR (by decide) st2) (gxRc.of rfl hr) (by omega) (Nat.le_of_ble_eq_true rfl) dX2_isName_30 (fun r1 h1 e1 => ?_)
      obtain ⟨rfl, e1⟩ := e1
      subst h1
      refine gx_iconst (pc := 33) (v := (-1)) dX2_isName_33 (by decide) ?_
      refine gx_icmp_ne (pc := 34) 41 dX2_isName_34 (by decide) (fun c3 => ?_) (fun c3 => ?_)
      · exact N (by
          cases e : tkKp (tkK t z i) with
          | true => rfl
          | false => exact absurd ((oI_1 _ (wl _ (by decide))).mpr (kp.mpr e).2) c3)
      · have w2 := (oI_1 _ (wl _ (by decide))).mp c3
        refine gx_iconst (pc := 37) (v := 1) dX2_isName_37 (by decide) ?_
        refine gx_goto (pc := 38) 42 dX2_isName_38 (by decide) ?_
        exact gx_zreturn (pc := 42) rfl (by decide) dX2_isName_42 (⟨_, rfl, ⟨by rw [kp.mp ⟨w1, w2⟩]; rfl, rfl⟩⟩)
end MAX
