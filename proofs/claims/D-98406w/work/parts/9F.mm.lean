/-! ===== COMPONENT AM: marks, counts, a person asked, the tape fed ===== -/
set_option maxRecDepth 100000
section AM0
variable {G : gxG} {Y : gxY} {d kc ks pc : Nat} {ls : List (Option Value)} {st : List Value} {h : gxH} {Q : Outcome → gxH → Prop}
theorem nX1_93n (hY : Y.1.cls = "PaidSecrets") (hd : decode Y.2.1 pc = .ok (.new 93, 3)) (kk : gxV G Y d kc ks (pc + 3) ls (.ref h.2 :: st) (gxadd h (.inr (31, [.null, .null, .null]))) Q) : gxV G Y d (kc + 1) (ks + 3) pc ls st h Q :=
  gx_new (ci := 31) tyX35 rfl in_X35 tyX35_ok (hY ▸ q534) q1742 q185 rfl hd kk
/-- stored into an array of its own class -/
theorem gx_aastS {a kd n v ci : Nat} {r : vw_C} {vs : List Value} {f : Nat → Option Nat} {i : Int32} (k : Nat) (hh : h.1 a = some (gxq kd n f)) (hN : gxN G ≤ a) (hkd : ∀ dA : Nat → ClassId, (gxTys dA)[kd]? = some (dA kd, .object r.1)) (hv : h.1 v = some (.inr (ci, vs))) (hc : gxCl[ci]? = some r) (hi : i = nI k) (hk : k < n) (hn : n < 2 ^ 31) (hd : decode Y.2.1 pc = .ok (.aastore, 1)) (kk : gxV G Y d kc ks (pc + 1) ls st (gxup h a (gxq kd n (va_up f k (some v)))) Q) : gxV G Y d kc ks pc ls (.ref v :: .int i :: .ref a :: st) h Q := by
  intro p e R s m args below meth c H locs cells slots la A
  obtain ⟨h1, h2⟩ := gx_in hi hk hn
  have hlt : i.toNatClampNeg < n := by rw [h2]; exact hk
  have h0 : ¬ i < 0 := fun q => h1 (Or.inl q)
  have hts := gx_hts A args
  have hK := gx_vK A
  obtain ⟨r', hr', cellV, g1, g2, g3, -⟩ := A.2.2.1.2.2.1 v _ hv
  have hcls := (hK.1 ci r hc).2
  obtain ⟨kA, comp, k1, k2, k3, -⟩ := (hK.2 kd _ (hkd _)).2
  obtain ⟨kE, hkE, -⟩ := Vm.findClass_spec k3
  have hcc : comp = G.2.2.1.1 ci := Option.some.inj (k3.symm.trans hcls.1)
  obtain ⟨kC, hkC, -⟩ := hcls.2
  refine W.aast A.2.1.1 A.2.1.2.1 (A.2.2.1.2.2.1 a _ hh) (fun q h => by cases h) (fun h => by cases h) k1 k2 rfl hkE ⟨h0, by show _ < (arrV _ _ _).slots.size; rw [arrV_size]; exact hlt⟩ g1 (fun q h => by rw [g3] at h; cases h) (by rw [g2]; exact hkC) (by rw [g2, hcc]; exact va_asg _ _) rfl rfl hd fun H1 e1 z oq => ?_
  refine kk p e R s m args below meth c H1 _ cells slots la ⟨A.1, A.2.1, A.2.2.1.up hN ?_ z oq, gx_app A.2.2.2.1 hN, A.2.2.2.2⟩
  rw [h2] at e1
  show H1[a]? = some (vp_cell _ _)
  rw [e1]
  rw [vp_cell_q, vp_cell_q, arrV_store]
  congr 2
  funext q
  by_cases hq : q = k
  · subst hq
    simp [updV, va_up, va_rf]
  · simp [updV, va_up, hq]
/-- an old object stored into an array of its own class -/
theorem gx_aastT {a kd n v : Nat} {E : String} {f : Nat → Option Nat} {i : Int32} (k : Nat) (hh : h.1 a = some (gxq kd n f)) (hN : gxN G ≤ a) (hkd : ∀ dA : Nat → ClassId, (gxTys dA)[kd]? = some (dA kd, .object E)) (hv : gO G E v) (hi : i = nI k) (hk : k < n) (hn : n < 2 ^ 31) (hd : decode Y.2.1 pc = .ok (.aastore, 1)) (kk : gxV G Y d kc ks (pc + 1) ls st (gxup h a (gxq kd n (va_up f k (some v)))) Q) : gxV G Y d kc ks pc ls (.ref v :: .int i :: .ref a :: st) h Q := by
  intro p e R s m args below meth c H locs cells slots la A
  obtain ⟨h1, h2⟩ := gx_in hi hk hn
  have hlt : i.toNatClampNeg < n := by rw [h2]; exact hk
  have h0 : ¬ i < 0 := fun q => h1 (Or.inl q)
  have hts := gx_hts A args
  have hK := gx_vK A
  obtain ⟨cellV, g1, g2, g3, g4⟩ := va_O.moved A.2.1.2.2.2.2.2.2.2.1.alike hv
  have g1' : H[v]? = some cellV := by rw [A.2.2.1.2.2.2.1 v (Nat.not_le.mp g4)]; exact g1
  obtain ⟨kA, comp, k1, k2, k3, -⟩ := (hK.2 kd _ (hkd _)).2
  obtain ⟨kE, hkE, -⟩ := Vm.findClass_spec k3
  have hcc : comp = cellV.cls := Option.some.inj (k3.symm.trans g3)
  obtain ⟨kC, hkC, -⟩ := Vm.findClass_spec g3
  refine W.aast A.2.1.1 A.2.1.2.1 (A.2.2.1.2.2.1 a _ hh) (fun q h => by cases h) (fun h => by cases h) k1 k2 rfl hkE ⟨h0, by show _ < (arrV _ _ _).slots.size; rw [arrV_size]; exact hlt⟩ g1' (fun q h => by rw [h] at g2; cases g2) hkC (by rw [hcc]; exact va_asg _ _) rfl rfl hd fun H1 e1 z oq => ?_
  refine kk p e R s m args below meth c H1 _ cells slots la ⟨A.1, A.2.1, A.2.2.1.up hN ?_ z oq, gx_app A.2.2.2.1 hN, A.2.2.2.2⟩
  rw [h2] at e1
  show H1[a]? = some (vp_cell _ _)
  rw [e1]
  rw [vp_cell_q, vp_cell_q, arrV_store]
  congr 2
  funext q
  by_cases hq : q = k
  · subst hq
    simp [updV, va_up, va_rf]
  · simp [updV, va_up, hq]
end AM0
section AM
variable {G : gxG} {d : Nat} {h : gxH} {x r tk tr gl sl bl py pt ng ft mk lo hi ta fa P S E se sc n be bc bn : Nat} {gg : Int64} {A : Nat → Nat → Int32} {s : Nat → Int32} {w : Option gxEv} {b : Bool} {sv : Nat → Int32} {bf : Nat → Nat}
/-- a row of boxes copied -/
theorem c_Xcopied (hd : 8 ≤ d) (nz : gxN G ≤ h.2) (hL : SN G h sl se sc n sv) (hn : n ≤ 10) : gxM G mX1_copied d 12 405 [.ref sl] h (gxQr (fun a h' => a = h.2 ∧ (∃ se' sc', SN G h' h.2 se' sc' n sv ∧ h.2 < se') ∧ h.2 < h'.2 ∧ h'.2 ≤ h.2 + 12 ∧ lowE h.2 h h')) := by
  have hL0 := hL
  obtain ⟨hsc, f, hf, hs⟩ := hL
  have nsl := hf.2.1
  have nse := hf.2.2.2.2.1
  refine gxM_of rfl (Nat.le_of_ble_eq_true rfl) rfl ?_
  have L : ∀ m k h1 e1 c1, m + k = n → SN G h1 h.2 e1 c1 k sv → h.2 < e1 → h1.2 ≤ h.2 + 2 + k → lowE h.2 h h1 → gxV G mX1_copied d (m + 0) (40 * m + 0) 11 [some (.ref sl), some (.ref h.2), some (.int (nI k))] [] h1 (gxQr (fun a h' => a = h.2 ∧ (∃ se' sc', SN G h' h.2 se' sc' n sv ∧ h.2 < se') ∧ h.2 < h'.2 ∧ h'.2 ≤ h.2 + 12 ∧ lowE h.2 h h')) := by
    intro m
    induction m with
    | zero =>
      intro k h1 e1 c1 hk N1 z0 z1 z2
      have : n = k := by omega
      subst this
      have hf1 : gxLs h1 sl n f := (hf.fr (by have := N1.2.choose_spec.1.2.1; omega) (z2 _ nsl) (z2 _ nse)).ls
      have hsl := hf1
      obtain ⟨_, _, _, _, hsl, _⟩ := hsl
      have hz := N1.2.choose_spec.1.2.1
      refine gx_iload_n (pc := 11) dX1_copied_11 rfl ?_
      refine gx_aload_n (pc := 12) dX1_copied_12 rfl ?_
      refine kX1_131 (kc := 0) (ks := 0) (mc := 0) (ms := 0) (pc := 13) rfl (c_size (d := d - 1) hf1) (gxRc.of rfl hsl) (by omega) (Nat.le_of_ble_eq_true rfl) dX1_copied_13 (fun r1 h2 e2 => ?_)
      obtain ⟨rfl, e2⟩ := e2
      subst h2
      refine gx_icmp_ge (pc := 16) 38 dX1_copied_16 (by decide) (fun c2 => ?_) (fun c2 => ?_)
      · refine gx_aload_n (pc := 38) dX1_copied_38 rfl ?_
        exact gx_areturn (pc := 39) rfl (Or.inl ⟨_, rfl⟩) (Or.inr ⟨_, rfl⟩) dX1_copied_39 (⟨_, rfl, ⟨rfl, ⟨e1, c1, N1, z0⟩, hz, by omega, z2⟩⟩)
      · exact absurd (nI_le (Nat.le_refl _) (by omega)) c2
    | succ m ih =>
      intro k h1 e1 c1 hk N1 z0 z1 z2
      have hz := N1.2.choose_spec.1.2.1
      have hf1 : gxLs h1 sl n f := (hf.fr (by omega) (z2 _ nsl) (z2 _ nse)).ls
      have hsl := hf1
      obtain ⟨_, _, _, _, hsl, _⟩ := hsl
      have hnl0 := N1.2.choose_spec.1.ls
      obtain ⟨_, _, _, _, hnl, _⟩ := hnl0
      have hI := hs k (by omega)
      refine gx_iload_n (pc := 11) dX1_copied_11 rfl ?_
      refine gx_aload_n (pc := 12) dX1_copied_12 rfl ?_
      refine kX1_131 (kc := m + 1 + 0) (ks := 40 * (m + 1) + 0) (mc := 0) (ms := 0) (pc := 13) rfl (c_size (d := d - 1) hf1) (gxRc.of rfl hsl) (by omega) (Nat.le_of_ble_eq_true rfl) dX1_copied_13 (fun r1 h2 e2 => ?_)
      obtain ⟨rfl, e2⟩ := e2
      subst h2
      refine gx_icmp_ge (pc := 16) 38 dX1_copied_16 (by decide) (fun c2 => ?_) (fun c2 => ?_)
      · exact absurd c2 (nI_ge (by omega) (by omega))
      · refine gx_aload_n (pc := 19) dX1_copied_19 rfl ?_
        refine gx_aload_n (pc := 20) dX1_copied_20 rfl ?_
        refine gx_iload_n (pc := 21) dX1_copied_21 rfl ?_
        refine kX1_153 (kc := m + 1 + 0) (ks := 40 * (m + 1) + 0) (mc := 0) (ms := 0) (pc := 22) rfl (c_get (d := d - 1) (by omega) hf1 k (by omega)) (gxRc.of rfl hsl) (by omega) (Nat.le_of_ble_eq_true rfl) dX1_copied_22 (fun r1 h2 e2 => ?_)
        obtain ⟨rfl, e2⟩ := e2
        subst h2
        refine gx_castE (pc := 25) hI.1 q1633 dX1_copied_25 ?_
        rw [show m + 1 + 0 = m + 0 + 1 by omega, show 40 * (m + 1) + 0 = 40 * m + 0 + 40 by omega]
        refine kX1_236 (kc := m + 0) (ks := 40 * m + 0) (mc := 1) (ms := 40) (pc := 28) rfl (c_SNadd (d := d - 1) (by omega) (by omega) N1 (by omega) hI) (gxRc.of rfl hnl) (by omega) (Nat.le_of_ble_eq_true rfl) dX1_copied_28 (fun r2 h2 e2 => ?_)
        obtain ⟨se', sc', b1, b2, b3⟩ := e2
        have l1 : h.2 < e1 := z0
        refine gx_pop (pc := 31) dX1_copied_31 rfl ?_
        refine gx_iincc (pc := 32) (c := 1) dX1_copied_32 rfl (by decide) (by decide) rfl ?_
        refine gx_goto (pc := 35) 11 dX1_copied_35 (by decide) ?_
        rw [nI_1]
        refine ih (k + 1) h2 se' sc' (by omega) ?_ (by rcases b2 with z | z <;> omega) (by rcases b2 with z | z <;> omega) (fun q hq => by rw [b3 q (by omega) (by omega) (by omega)]; exact z2 q hq)
        obtain ⟨y1, f2, y2, y3⟩ := b1
        refine ⟨y1, f2, y2, fun j hj => ?_⟩
        have := y3 j hj
        by_cases z : j < k
        · have e : (fun k_1 => if k_1 < k then sv k_1 else sv k) j = sv j := if_pos z
          rw [e] at this; exact this
        · have ej : j = k := by omega
          have e : (fun k_1 => if k_1 < k then sv k_1 else sv k) j = sv j := by rw [ej]; exact if_neg (Nat.lt_irrefl k)
          rw [e] at this; exact this
  refine gx_more (a := n + 0 + 1 + 1) (b := 40 * n + 0 + 2 + 3) (by omega) (by omega) ?_
  refine nX1_47 (kc := n + 0 + 1) (ks := 40 * n + 0 + 2) (pc := 0) rfl dX1_copied_0 ?_
  have ha : (gxadd h (.inr (32, [.int 0, .null, .int 0]))).1 h.2 = some (.inr (32, [.int 0, .null, .int 0])) := gxadd_self _ _
  have l0 : lowE h.2 h (gxadd h (.inr (32, [.int 0, .null, .int 0]))) := fun q hq => gxadd_ne (by omega)
  have s0 : (gxadd h (.inr (32, [.int 0, .null, .int 0]))).2 = h.2 + 1 := rfl
  generalize gxadd h (.inr (32, [.int 0, .null, .int 0])) = h1 at *
  refine gx_dup (pc := 3) dX1_copied_3 rfl ?_
  refine gx_iconst (pc := 4) (v := 2) dX1_copied_4 (by decide) ?_
  rw [show (2 : Int32) = nI 2 from rfl]
  refine kX1_49 (kc := n + 0) (ks := 40 * n + 0) (mc := 1) (ms := 2) (pc := 5) rfl (c_LVnew (d := d - 1) (by omega) nz (by omega) (by omega) 2 (by decide) (by decide) ha) (by omega) (Nat.le_of_ble_eq_true rfl) dX1_copied_5 (fun h2 e2 => ?_)
  obtain ⟨b1, b2, b3⟩ := e2
  refine gx_astore_n (pc := 8) dX1_copied_8 (by decide) rfl ?_
  refine gx_iconst (pc := 9) (v := 0) dX1_copied_9 (by decide) ?_
  refine gx_istore_n (pc := 10) dX1_copied_10 (by decide) rfl ?_
  refine L n 0 h2 h1.2 2 (by omega) ⟨by decide, _, b1, fun k hk => by omega⟩ (by omega) (by omega) (fun q hq => by rw [b3 q (by omega) (by omega)]; exact l0 q hq)
theorem c_X35init (hd : 1 ≤ d) {a t g q : Nat} (na : gxN G ≤ a) (ha : h.1 a = some (.inr (31, [.null, .null, .null]))) : gxM G mX35_init d 0 0 [.ref a, .ref t, .ref g, .ref q] h (gxQv (fun h' => h' = gxup h a (.inr (31, [.ref t, .ref g, .ref q])))) := by
  refine gxM_of rfl (Nat.le_of_ble_eq_true rfl) rfl ?_
  refine gx_aload_n (pc := 0) dX35_init_0 rfl ?_
  refine gx_objInit (pc := 1) q1749 q192 q193 (Nat.le_of_ble_eq_true rfl) (by omega) dX35_init_1 ?_
  refine gx_aload_n (pc := 4) dX35_init_4 rfl ?_
  refine gx_aload_n (pc := 5) dX35_init_5 rfl ?_
  refine gx_putF (pc := 6) fX35_7 rfl (by intro C T N e; cases e; rfl) ha na (by first | exact Nat.le_of_ble_eq_true rfl | simp) tX35_0 rfl rfl dX35_init_6 ?_
  have e1 : (gxup h a (.inr (31, [.ref t, .null, .null]))).1 a = some (.inr (31, [.ref t, .null, .null])) := gxup_self _ _ _
  change gxV _ _ _ _ _ _ _ _ (gxup h a (.inr (31, [.ref t, .null, .null]))) _
  have ha := e1
  refine gx_aload_n (pc := 9) dX35_init_9 rfl ?_
  refine gx_aload_n (pc := 10) dX35_init_10 rfl ?_
  refine gx_putF (pc := 11) fX35_13 rfl (by intro C T N e; cases e; rfl) ha na (by first | exact Nat.le_of_ble_eq_true rfl | simp) tX35_1 rfl rfl dX35_init_11 ?_
  have e2 : (gxup (gxup h a (.inr (31, [.ref t, .null, .null]))) a (.inr (31, [.ref t, .ref g, .null]))).1 a = some (.inr (31, [.ref t, .ref g, .null])) := gxup_self _ _ _
  change gxV _ _ _ _ _ _ _ _ (gxup (gxup h a (.inr (31, [.ref t, .null, .null]))) a (.inr (31, [.ref t, .ref g, .null]))) _
  have ha := e2
  refine gx_aload_n (pc := 14) dX35_init_14 rfl ?_
  refine gx_aload_n (pc := 15) dX35_init_15 rfl ?_
  refine gx_putF (pc := 16) fX35_17 rfl (by intro C T N e; cases e; rfl) ha na (by first | exact Nat.le_of_ble_eq_true rfl | simp) tX35_2 rfl rfl dX35_init_16 ?_
  have e3 : ∀ y z : gxE, gxup (gxup h a y) a z = gxup h a z := fun y z => by
    refine Prod.ext ?_ rfl
    funext q
    simp only [gxup]
    split <;> rfl
  exact gx_return (pc := 19) rfl dX35_init_19 (⟨rfl, by rw [e3, e3]; rfl⟩)
/-- a mark laid -/
theorem c_Xlays (hd : 10 ≤ d) (nz : gxN G ≤ h.2) (nmk : gxN G ≤ mk) (hmz : mk < h.2) (hxz : x < h.2) (hO : XF h x r tk tr gl sl bl py pt ng ft gg mk) (hK : TK h tk ta s b) (hlt : tk + 6 ≤ h.2) (hL : SN G h sl se sc n sv) (hn : n ≤ 10) {mf : Nat → Option Nat} (hM : h.1 mk = some (gxq 6 4 mf)) (m : Nat) (hm : m < 4) : gxV G mX1_mark d 19 483 28 [some (.ref x), some (.int (nI m)), some (.int 0)] [] h (gxQi (fun v h' => v = 1 ∧ h'.1 mk = some (gxq 6 4 (va_up mf m (some h.2))) ∧ h'.1 h.2 = some (.inr (31, [.ref (h.2 + 1), .ref gl, .ref (h.2 + 7)])) ∧ TK h' (h.2 + 1) ta s b ∧ (∃ se' sc', SN G h' (h.2 + 7) se' sc' n sv ∧ h.2 + 7 < se') ∧ h.2 + 7 < h'.2 ∧ h'.2 ≤ h.2 + 19 ∧ ∀ q, q < h.2 → q ≠ mk → h'.1 q = h.1 q)) := by
  have hx := hO
  have nsl := hL.2.choose_spec.1.2.1
  have nse := hL.2.choose_spec.1.2.2.2.2.1
  refine gx_aload_n (pc := 28) dX1_mark_28 rfl ?_
  refine gx_get (pc := 29) fX1_95 hx rfl dX1_mark_29 ?_
  refine gx_iload_n (pc := 32) dX1_mark_32 rfl ?_
  refine nX1_93n (kc := 12 + 6) (ks := 405 + 75) (pc := 33) rfl dX1_mark_33 ?_
  have ha : (gxadd h (.inr (31, [.null, .null, .null]))).1 h.2 = some (.inr (31, [.null, .null, .null])) := gxadd_self _ _
  have l0 : lowE h.2 h (gxadd h (.inr (31, [.null, .null, .null]))) := fun q hq => gxadd_ne (by omega)
  have s0 : (gxadd h (.inr (31, [.null, .null, .null]))).2 = h.2 + 1 := rfl
  generalize gxadd h (.inr (31, [.null, .null, .null])) = h1 at *
  have hx : h1.1 x = some (.inr (0, [.ref r, .ref tk, .ref tr, .ref gl, .ref sl, .ref bl, .ref py, .ref pt, .ref ng, .ref ft, .long gg, .ref mk])) := by rw [l0 x hxz]; exact hO
  have K1 : TK h1 tk ta s b := hK.fr (fun q _ q2 => l0 q (by omega))
  obtain ⟨_, _, _, _, _, htk, _⟩ := id K1
  refine gx_dup (pc := 36) dX1_mark_36 rfl ?_
  refine gx_aload_n (pc := 37) dX1_mark_37 rfl ?_
  refine gx_get (pc := 38) fX1_40 hx rfl dX1_mark_38 ?_
  refine kX1_232 (kc := 12) (ks := 405) (mc := 6) (ms := 75) (pc := 41) rfl (c_copied (d := d - 1) (by omega) (by omega) (by omega) K1) (gxRc.of rfl htk) (by omega) (Nat.le_of_ble_eq_true rfl) dX1_mark_41 (fun r2 h2 e2 => ?_)
  obtain ⟨rfl, K2, s2, l2⟩ := e2
  rw [s0] at K2 s2 l2 ⊢
  have hx : h2.1 x = some (.inr (0, [.ref r, .ref tk, .ref tr, .ref gl, .ref sl, .ref bl, .ref py, .ref pt, .ref ng, .ref ft, .long gg, .ref mk])) := by rw [l2 x (by omega), l0 x hxz]; exact hO
  have L2 : SN G h2 sl se sc n sv := by
    obtain ⟨y1, f, y2, y3⟩ := hL
    exact ⟨y1, f, y2.fr (by omega) (by rw [l2 sl (by omega)]; exact l0 sl nsl) (by rw [l2 se (by omega)]; exact l0 se nse), y3⟩
  refine gx_aload_n (pc := 44) dX1_mark_44 rfl ?_
  refine gx_get (pc := 45) fX1_52 hx rfl dX1_mark_45 ?_
  refine gx_aload_n (pc := 48) dX1_mark_48 rfl ?_
  refine gx_get (pc := 49) fX1_56 hx rfl dX1_mark_49 ?_
  refine gx_r0 ?_
  refine kX1_381 (kc := 0) (ks := 0) (mc := 12) (ms := 405) (pc := 52) rfl (c_Xcopied (d := d - 1) (by omega) (by omega) L2 hn) (by omega) (Nat.le_of_ble_eq_true rfl) dX1_mark_52 (fun r3 h3 e3 => ?_)
  obtain ⟨rfl, ⟨se', sc', N3, z3⟩, s3, s3', l3⟩ := e3
  rw [s2] at N3 s3 s3' l3 z3 ⊢
  have ha3 : h3.1 h.2 = some (.inr (31, [.null, .null, .null])) := by rw [l3 h.2 (by omega), l2 h.2 (by omega)]; exact ha
  refine kX1_384 (kc := 0) (ks := 0) (mc := 0) (ms := 0) (pc := 55) rfl (c_X35init (d := d - 1) (by omega) nz ha3) (by omega) (Nat.le_of_ble_eq_true rfl) dX1_mark_55 (fun h4 e4 => ?_)
  have hv4 : h4.1 h.2 = some (.inr (31, [.ref (h.2 + 1), .ref gl, .ref (h.2 + 1 + 6)])) := by rw [e4]; exact gxup_self _ _ _
  have f4 : ∀ q, q ≠ h.2 → h4.1 q = h3.1 q := fun q hq => by rw [e4]; exact gxup_ne hq
  have s4 : h4.2 = h3.2 := by rw [e4]; rfl
  have hM4 : h4.1 mk = some (gxq 6 4 mf) := by rw [f4 mk (by omega), l3 mk (by omega), l2 mk (by omega), l0 mk hmz]; exact hM
  refine gx_aastS (pc := 58) (kd := 6) m hM4 nmk (fun _ => rfl) hv4 rfl rfl hm (by decide) dX1_mark_58 ?_
  have f5 : ∀ q, q ≠ mk → (gxup h4 mk (gxq 6 4 (va_up mf m (some h.2)))).1 q = h4.1 q := fun q hq => gxup_ne hq
  have m5 : (gxup h4 mk (gxq 6 4 (va_up mf m (some h.2)))).1 mk = some (gxq 6 4 (va_up mf m (some h.2))) := gxup_self _ _ _
  have s5 : (gxup h4 mk (gxq 6 4 (va_up mf m (some h.2)))).2 = h4.2 := rfl
  generalize gxup h4 mk (gxq 6 4 (va_up mf m (some h.2))) = h5 at *
  have K5 : TK h5 (h.2 + 1) ta s b := K2.fr (fun q q1 q2 => by rw [f5 q (by omega), f4 q (by omega), l3 q (by omega)])
  have N5 : SN G h5 (h.2 + 1 + 6) se' sc' n sv := by
    obtain ⟨y1, f, y2, y3⟩ := N3
    have := y2.2.2.2.2.1
    exact ⟨y1, f, y2.fr (by omega) (by rw [f5 _ (by omega), f4 _ (by omega)]) (by rw [f5 _ (by omega), f4 _ (by omega)]), y3⟩
  refine gx_iconst (pc := 59) (v := 1) dX1_mark_59 (by decide) ?_
  exact gx_zreturn (pc := 60) rfl (by decide) dX1_mark_60 (⟨_, rfl, ⟨rfl, m5, by rw [f5 _ (by omega)]; exact hv4, K5, ⟨se', sc', N5, z3⟩, by omega, by omega, fun q q1 q2 => by rw [f5 q q2, f4 q (by omega), l3 q (by omega), l2 q (by omega), l0 q q1]⟩⟩)
end AM
