/-! ===== COMPONENT BE: a secret told, the rest of it ===== -/
set_option maxRecDepth 100000
theorem spSn_dL (x : dS) (S : Nat) (nm u : Int64) : spSn (dL x 12 (10 + S) nm).2 1 (S + 1) u = match spSn x.2 1 S u with
    | some j => some j
    | none => if nm = u then some S else none := by
  have h1 : ∀ k, (dL x 12 (10 + S) nm).2 12 (10 + k) = if k = S then nm else x.2 12 (10 + k) := fun k => by
    show (if (12 : Nat) = 12 then vp_updL (x.2 12) (10 + S) nm else x.2 12) (10 + k) = _
    rw [if_pos rfl]
    simp only [vp_updL]
    by_cases e : k = S
    · rw [if_pos (by omega), if_pos e]
    · rw [if_neg (by omega), if_neg e]
  have e0 : spNm (fun k => (dL x 12 (10 + S) nm).2 12 (10 * 1 + k)) u S 0 = spSn x.2 1 S u := spNm_cg S 0 (fun j _ hj => by
    show (dL x 12 (10 + S) nm).2 12 (10 + j) = x.2 12 (10 + j)
    rw [h1 j, if_neg (by omega)])
  have := spNm_add (f := fun k => (dL x 12 (10 + S) nm).2 12 (10 * 1 + k)) (w := u) (n := S) S 0 (by omega)
  rw [e0] at this
  show spNm (fun k => (dL x 12 (10 + S) nm).2 12 (10 * 1 + k)) u (S + 1) 0 = _
  rw [this]
  have e1 : (dL x 12 (10 + S) nm).2 12 (10 * 1 + S) = nm := by show (dL x 12 (10 + S) nm).2 12 (10 + S) = nm; rw [h1 S, if_pos rfl]
  simp only [e1]
  cases spSn x.2 1 S u <;> rfl
section MBE
variable {G : gxG} {d : Nat} {h : gxH} {hb r ta z n i P S E : Nat} {dp : Int32} {t : Nat → Int32} {x : dS} {w : Option gxEv} {fo fa : Nat} {la le lc ln : Nat → Nat} {lf : Nat → Nat → Nat} {wv : Value} {nv : Nat → Int64} {nc : Nat → Nat} {elo ehi : Nat} {nm : Int64}
def sp4 (t : Nat → Int32) (z P S : Nat) (x : dS) (nm : Int64) (b : Bool) (o co on : Int32) (i : Nat) : Sum Int32 (Nat × dS) := rB (spWord t z 79 i) (fun u => rB (smC t z (spPn x.2 1 P) (z + 1) 0 u) (fun v => .inr (v.1, dA (dL (dA (dA (dA (dA (dA (dA x 16 (10 + S) (zi b)) 17 (10 + S) o) 18 (10 + S) co) 19 (10 + S) on) 20 (10 + S) v.2) 21 (10 + S) 0) 12 (10 + S) nm) 10 5 (nI (S + 1)))))
def sp3 (t : Nat → Int32) (z P S : Nat) (x : dS) (nm : Int64) (b : Bool) (o co : Int32) (i : Nat) : Sum Int32 (Nat × dS) := rB (spOn t z x.2 S i) (fun c => sp4 t z P S x nm b o co c.2 c.1)
def sp2 (t : Nat → Int32) (z P S : Nat) (x : dS) (nm : Int64) (b : Bool) (i : Nat) : Sum Int32 (Nat × dS) := rB (spWord t z 411 i) (fun j => rB (spNd t z j (spPn x.2 1 P (tkK t z j).2.2.2.1)) (fun o => rB (spBoth t z 1903978 1 99 (j + 1)) (fun a => sp3 t z P S x nm b (nI o) a.2 a.1)))
theorem secret91 (nr : gxN G ≤ r) (hrb : r + 8 ≤ hb) (hd : 14 ≤ d) {S48 S50 : Nat} (hR48 : vk_R "PaidSecrets$Reader" 48 "on" S48 G.2.1) (hS48 : SB G S48 [111, 110]) (hR50 : vk_R "PaidSecrets$Reader" 50 "by" S50 G.2.1) (hS50 : SB G S50 [98, 121]) (b : Bool) (o co : Int32) (R : (RR G h r (.ref ta) dp t z n i)) (Y : (DY G h hb ta fo fa la le lc (va_up (va_up ln 0 (ln 0 + 1)) 1 (ln 1 + 1)) lf x wv (va_up nv (ln 0) nm) (va_up nc (ln 0) (20 + S)) elo ehi w)) (hNM : NMi x 1 P S (P + S) nv nc) (n0 : ln 0 = P + S) (n1 : ln 1 = P + S) (n2 : ln 2 = P) (n3 : ln 3 = S) (n4 : ln 4 = E) (hP6 : P ≤ 6) (hS9 : S < 10) (hE30 : E ≤ 30) (hwn : (w = none ↔ ¬ x.1 25 1 < x.1 26 1) ∧ (∀ e, e < E → ∃ c, c ≤ 10 ∧ x.1 24 (30 + e) = nI c) ∧ ∀ j k, j < S → k < S → j ≠ k → lf 3 j ≠ lf 3 k) (hnm : fdF nv nc nm (P + S) 0 = -1) :
    gxV G mX2_secret d (z + 6) (7 * z + 162) 91 [some (.ref r), some (.int (nI S)), some (.int (zi b)), some (.int o), some (.int co), none] [] h (gxQx (gxQv (fun h' => ∃ j x', sp3 t z P S x nm b o co i = .inr (j, x') ∧ RR G h' r (.ref ta) dp t z n j ∧ gE hb r h h' ∧ DX G h' hb ta x' P (S + 1) E w)) (fun y h' => ∃ f, sp3 t z P S x nm b o co i = .inl f ∧ xW hb r h f y h')) := by
  have hhb := Y.2.2.2.2.2.2.1
  have nz : gxN G ≤ h.2 := by have := Y.2.2.2.2.2.2.2; omega
  have w48 : wdL [111, 110] 0 = 419 := by decide +kernel
  have ln01 : (va_up (va_up ln 0 (ln 0 + 1)) 1 (ln 1 + 1)) 0 = P + S + 1 := by rw [va_n (show (0 : Nat) ≠ 1 by decide), va_s, n0]
  have ln11 : (va_up (va_up ln 0 (ln 0 + 1)) 1 (ln 1 + 1)) 1 = P + S + 1 := by rw [va_s, n1]
  obtain ⟨so, pl, va, ⟨hr, htp, hso, hva, hpl⟩, hin, hnz, hz, hend, hq, hst, hrz⟩ := id R
  refine gx_iconst (pc := 91) (v := (-1)) dX2_secret_91 (by decide) ?_
  refine gx_istore (pc := 92) dX2_secret_92 (by decide) rfl ?_
  refine gx_aload_n (pc := 94) dX2_secret_94 rfl ?_
  refine gx_ldcS (pc := 95) hR48 dX2_secret_95 ?_
  refine kX2_255 (kc := z + 6) (ks := 7 * z + 162) (mc := 0) (ms := 0) (pc := 97) rfl (c_RhasWord (d := d - 1) nr (by omega) R hS48) (gxRc.of rfl hr) (by omega) (Nat.le_of_ble_eq_true rfl) dX2_secret_97 (fun r1 h1 e1 => ?_)
  rw [w48] at e1
  have fin : ∀ h1 i1 (on : Int32), RR G h1 r (.ref ta) dp t z n i1 → aE r h h1 → spOn t z x.2 S i = .inr (i1, on) → gxV G mX2_secret d (z + 5) (7 * z + 155) 135 [some (.ref r), some (.int (nI S)), some (.int (zi b)), some (.int o), some (.int co), some (.int on)] [] h1 (gxQx (gxQv (fun h' => ∃ j x', sp3 t z P S x nm b o co i = .inr (j, x') ∧ RR G h' r (.ref ta) dp t z n j ∧ gE hb r h h' ∧ DX G h' hb ta x' P (S + 1) E w)) (fun y h' => ∃ f, sp3 t z P S x nm b o co i = .inl f ∧ xW hb r h f y h')) := by
    intro h1 i1 on R1 E1 e1
    have Y1 := E1.dy hrb Y
    refine gxV_post ?_ (secret135 (E := E) nr hrb hd hR50 hS50 b o co on R1 Y1 hNM n0 n1 n2 n3 n4 hP6 hS9 hE30 hwn hnm)
    rintro q h' (⟨rfl, j, x', e2, e3, e4, e5⟩ | ⟨y, rfl, f, e2, e3⟩)
    · exact Or.inl ⟨rfl, j, x', by unfold sp3; rw [e1]; exact e2, e3, E1.g.tr e4, e5⟩
    · exact Or.inr ⟨y, rfl, f, by unfold sp3; rw [e1]; exact e2, e3.tr E1.g⟩
  refine gx_if_eq (pc := 100) 135 dX2_secret_100 (by decide) (fun c1 => ?_) (fun c1 => ?_)
  · rcases e1 with ⟨_, rfl, _⟩ | ⟨z1, _, e1⟩
    · exact absurd c1 (by decide)
    · subst h1
      refine gx_more (a := z + 5) (b := 7 * z + 155) (by omega) (by omega) ?_
      exact fin h i (-1) R (aE.rf _ _) (by unfold spOn; rw [if_neg (by rw [z1]; decide)])
  · rcases e1 with ⟨z1, rfl, R1, E1⟩ | ⟨_, rfl, _⟩
    · have Y1 := E1.dy hrb Y
      have F1 := Y1.NF (by rw [ln01, ln11]) (by rw [ln01]; omega)
      rw [ln01, n0] at F1
      have x2 : ∀ k, k ≤ S → (dL x 12 (10 + S) nm).2 12 (10 + k) = if k = S then nm else x.2 12 (10 + k) := fun k hk => by
        show (if (12 : Nat) = 12 then vp_updL (x.2 12) (10 + S) nm else x.2 12) (10 + k) = _
        rw [if_pos rfl]
        simp only [vp_updL]
        by_cases e : k = S
        · rw [if_pos (by omega), if_pos e]
        · rw [if_neg (by omega), if_neg e]
      have nmS := (hNM.addS (x' := dL x 12 (10 + S) nm) hP6 hS9 hnm x2 (fun k hk => rfl)).S hP6 (by omega)
      have on1 : spOn t z x.2 S i = rB (spNd t z (i + 1) (spSn x.2 1 S (tkK t z (i + 1)).2.2.2.1)) (fun k => .inr (i + 1 + 1, nI k)) := by unfold spOn; rw [if_pos z1]
      have sd := spSn_dL x S nm (tkK t z (i + 1)).2.2.2.1
      clear hr hso hva hpl htp hq hst
      obtain ⟨so, pl, va, ⟨hr, htp, hso, hva, hpl⟩, hin, hnz, hz, hend, hq, hst, hrz⟩ := id R1
      refine gx_aload_n (pc := 103) dX2_secret_103 rfl ?_
      refine gx_bipush (pc := 104) (v := 20) dX2_secret_104 (by decide) ?_
      refine gx_bipush (pc := 106) (v := 10) dX2_secret_106 (by decide) ?_
      refine gx_more (a := z + 5 + 1) (b := 7 * z + 155 + 7) (by omega) (by omega) ?_
      refine kX2_225x (d' := d - 1) (kc := z + 5) (ks := 7 * z + 155) (mc := 1) (ms := 7) (pc := 108) rfl (c_Rtold (d := d - 1) (fr := 20) (many := 10) nr (by rw [E1.1]; exact nz) (by omega) rfl R1 F1 (by decide) (by decide) nmS) (gxRc.of rfl hr) (by omega) (Nat.le_of_ble_eq_true rfl) dX2_secret_108 (fun v h2 e2 => ?_) (fun y h' e => gxT_out (by decide +kernel) (Or.inr ⟨y, rfl, ?_⟩))
      · obtain ⟨k, e2, rfl, hk, e3⟩ := e2
        subst h2
        have ek := spNd_k e2
        have kp : tkKp (tkK t z (i + 1)) = false := by
          cases e : tkKp (tkK t z (i + 1)) with
          | false => rfl
          | true => unfold spNd at e2; rw [e] at e2; cases e2
        refine gx_istore (pc := 111) dX2_secret_111 (by decide) rfl ?_
        refine gx_iload (pc := 113) dX2_secret_113 rfl ?_
        refine gx_iload_n (pc := 115) dX2_secret_115 rfl ?_
        refine gx_icmp_ne (pc := 116) 125 dX2_secret_116 (by decide) (fun c2 => ?_) (fun c2 => ?_)
        · have c2' : k ≠ S := fun e => c2 (by rw [e])
          have ek2 : spSn x.2 1 S (tkK t z (i + 1)).2.2.2.1 = some k := by
            rw [sd] at ek
            cases e : spSn x.2 1 S (tkK t z (i + 1)).2.2.2.1 with
            | some j => rw [e] at ek; exact ek
            | none =>
              rw [e] at ek
              dsimp only at ek
              split at ek
              · exact absurd (Option.some.inj ek).symm c2'
              · cases ek
          have ok : spOn t z x.2 S i = .inr (i + 1 + 1, nI k) := by rw [on1, ek2]; unfold spNd; rw [kp]; rfl
          refine gx_aload_n (pc := 125) dX2_secret_125 rfl ?_
          refine gx_dup (pc := 126) dX2_secret_126 rfl ?_
          refine gx_get (pc := 127) fX2_132 hr rfl dX2_secret_127 ?_
          refine gx_iconst (pc := 130) (v := 1) dX2_secret_130 (by decide) ?_
          refine gx_iadd (pc := 131) dX2_secret_131 ?_
          rw [nI_1]
          refine gx_put (pc := 132) fX2_132 hr nr (by first | exact Nat.le_of_ble_eq_true rfl | simp) tX2_9 rfl rfl dX2_secret_132 ?_
          change gxV _ _ _ _ _ _ _ _ (gxup h1 r (.inr (1, [.ref (r + 1), .ref (r + 2), .ref (r + 3), .ref ta, .ref (r + 4), .int 0, .ref (r + 5), .ref (r + 6), .ref (r + 7), .int (nI (i + 1 + 1)), .int dp]))) _
          obtain ⟨R2, E2⟩ := R1.step (spNd_n0 e2)
          generalize gxup h1 r (.inr (1, [.ref (r + 1), .ref (r + 2), .ref (r + 3), .ref ta, .ref (r + 4), .int 0, .ref (r + 5), .ref (r + 6), .ref (r + 7), .int (nI (i + 1 + 1)), .int dp])) = h2 at *
          exact fin h2 (i + 1 + 1) (nI k) R2 (E1.tr E2) ok
        · have c2' : k = S := (nI_eq (by omega) (by omega)).mp c2
          have ek2 : spSn x.2 1 S (tkK t z (i + 1)).2.2.2.1 = none := by
            rw [sd] at ek
            cases e : spSn x.2 1 S (tkK t z (i + 1)).2.2.2.1 with
            | some j =>
              rw [e] at ek
              have : j = k := Option.some.inj ek
              have := spNm_lt0 e
              omega
            | none => rfl
          have no : spOn t z x.2 S i = .inl (flt t z (i + 1) 2) := by rw [on1, ek2]; unfold spNd; rw [kp]; rfl
          refine gx_more (a := 0 + 1) (b := 0 + 7) (by omega) (by omega) ?_
          exact gx_wrong (kc := 0) (ks := 0) (pc := 119) (pc1 := 120) (pc2 := 121) (pc5 := 124) 2 rfl rfl rfl rfl (by omega) (by rw [E1.1]; exact nz) R1 rfl dX2_secret_119 dX2_secret_120 (by decide) dX2_secret_121 dX2_secret_124 (by decide +kernel) (fun y h' e2 => ⟨_, by unfold sp3; rw [no]; rfl, (e2.mo (by rw [E1.1]; exact hhb)).tr E1.g⟩)
      · obtain ⟨f, e3, e4⟩ := e
        refine ⟨f, ?_, (e4.mo (by rw [E1.1]; exact hhb)).tr E1.g⟩
        unfold sp3
        rw [on1]
        cases e5 : tkKp (tkK t z (i + 1)) with
        | true =>
          unfold spNd at e3 ⊢
          rw [e5, if_pos rfl] at e3 ⊢
          cases e3; rfl
        | false =>
          cases e6 : spSn x.2 1 S (tkK t z (i + 1)).2.2.2.1 with
          | some j =>
            rw [sd, e6] at e3
            unfold spNd at e3
            rw [e5, if_neg (by decide)] at e3
            cases e3
          | none =>
            rw [sd, e6] at e3
            unfold spNd at e3 ⊢
            rw [e5, if_neg (by decide)] at e3 ⊢
            by_cases hq : nm = (tkK t z (i + 1)).2.2.2.1
            · dsimp only at e3
              rw [if_pos hq] at e3; cases e3
            · dsimp only at e3
              rw [if_neg hq] at e3; cases e3; rfl
    · exact absurd rfl c1
theorem secret66 (nr : gxN G ≤ r) (hrb : r + 8 ≤ hb) (hd : 14 ≤ d) {S44 S46 S48 S50 : Nat} (hR44 : vk_R "PaidSecrets$Reader" 44 "of" S44 G.2.1) (hS44 : SB G S44 [111, 102]) (hR46 : vk_R "PaidSecrets$Reader" 46 "costs" S46 G.2.1) (hS46 : SB G S46 [99, 111, 115, 116, 115]) (hR48 : vk_R "PaidSecrets$Reader" 48 "on" S48 G.2.1) (hS48 : SB G S48 [111, 110]) (hR50 : vk_R "PaidSecrets$Reader" 50 "by" S50 G.2.1) (hS50 : SB G S50 [98, 121]) (b : Bool) (R : (RR G h r (.ref ta) dp t z n i)) (Y : (DY G h hb ta fo fa la le lc (va_up (va_up ln 0 (ln 0 + 1)) 1 (ln 1 + 1)) lf x wv (va_up nv (ln 0) nm) (va_up nc (ln 0) (20 + S)) elo ehi w)) (hNM : NMi x 1 P S (P + S) nv nc) (n0 : ln 0 = P + S) (n1 : ln 1 = P + S) (n2 : ln 2 = P) (n3 : ln 3 = S) (n4 : ln 4 = E) (hP6 : P ≤ 6) (hS9 : S < 10) (hE30 : E ≤ 30) (hwn : (w = none ↔ ¬ x.1 25 1 < x.1 26 1) ∧ (∀ e, e < E → ∃ c, c ≤ 10 ∧ x.1 24 (30 + e) = nI c) ∧ ∀ j k, j < S → k < S → j ≠ k → lf 3 j ≠ lf 3 k) (hnm : fdF nv nc nm (P + S) 0 = -1) :
    gxV G mX2_secret d (z + 10) (7 * z + 190) 66 [some (.ref r), some (.int (nI S)), some (.int (zi b)), none, none, none] [] h (gxQx (gxQv (fun h' => ∃ j x', sp2 t z P S x nm b i = .inr (j, x') ∧ RR G h' r (.ref ta) dp t z n j ∧ gE hb r h h' ∧ DX G h' hb ta x' P (S + 1) E w)) (fun y h' => ∃ f, sp2 t z P S x nm b i = .inl f ∧ xW hb r h f y h')) := by
  have hhb := Y.2.2.2.2.2.2.1
  have nz : gxN G ≤ h.2 := by have := Y.2.2.2.2.2.2.2; omega
  have w44 : wdL [111, 102] 0 = 411 := by decide +kernel
  have w46 : wdL [99, 111, 115, 116, 115] 0 = 1903978 := by decide +kernel
  have ln01 : (va_up (va_up ln 0 (ln 0 + 1)) 1 (ln 1 + 1)) 0 = P + S + 1 := by rw [va_n (show (0 : Nat) ≠ 1 by decide), va_s, n0]
  have ln11 : (va_up (va_up ln 0 (ln 0 + 1)) 1 (ln 1 + 1)) 1 = P + S + 1 := by rw [va_s, n1]
  have x2 : ∀ k, k ≤ S → (dL x 12 (10 + S) nm).2 12 (10 + k) = if k = S then nm else x.2 12 (10 + k) := fun k hk => by
    show (if (12 : Nat) = 12 then vp_updL (x.2 12) (10 + S) nm else x.2 12) (10 + k) = _
    rw [if_pos rfl]
    simp only [vp_updL]
    by_cases e : k = S
    · rw [if_pos (by omega), if_pos e]
    · rw [if_neg (by omega), if_neg e]
  have nmP := (hNM.addS (x' := dL x 12 (10 + S) nm) hP6 hS9 hnm x2 (fun k hk => rfl)).P hP6 (by omega)
  obtain ⟨so, pl, va, ⟨hr, htp, hso, hva, hpl⟩, hin, hnz, hz, hend, hq, hst, hrz⟩ := id R
  refine gx_aload_n (pc := 66) dX2_secret_66 rfl ?_
  refine gx_ldcS (pc := 67) hR44 dX2_secret_67 ?_
  refine kX2_185x (kc := z + 9) (ks := 7 * z + 183) (mc := 1) (ms := 7) (pc := 69) rfl (c_RtakeWord (d := d - 1) nr nz (by omega) R hS44) (gxRc.of rfl hr) (by omega) (Nat.le_of_ble_eq_true rfl) dX2_secret_69 (fun h1 e1 => ?_) (fun y h' e => gxT_out (by decide +kernel) (Or.inr ⟨y, rfl, by rw [w44] at e; exact ⟨_, by unfold sp2 spWord; rw [e.1]; rfl, e.2.mo hhb⟩⟩))
  obtain ⟨z1, R1, E1⟩ := e1
  rw [w44] at z1
  have q1 : sp2 t z P S x nm b i = rB (spNd t z (i + 1) (spPn x.2 1 P (tkK t z (i + 1)).2.2.2.1)) (fun o => rB (spBoth t z 1903978 1 99 (i + 1 + 1)) (fun a => sp3 t z P S x nm b (nI o) a.2 a.1)) := by unfold sp2 spWord; rw [z1]; rfl
  have Y1 := E1.dy hrb Y
  have F1 := Y1.NF (by rw [ln01, ln11]) (by rw [ln01]; omega)
  rw [ln01, n0] at F1
  clear hr hso hva hpl htp hq hst
  obtain ⟨so, pl, va, ⟨hr, htp, hso, hva, hpl⟩, hin, hnz, hz, hend, hq, hst, hrz⟩ := id R1
  refine gx_aload_n (pc := 72) dX2_secret_72 rfl ?_
  refine gx_iconst (pc := 73) (v := 0) dX2_secret_73 (by decide) ?_
  refine gx_bipush (pc := 74) (v := 6) dX2_secret_74 (by decide) ?_
  refine kX2_252x (d' := d - 1) (kc := z + 8) (ks := 7 * z + 176) (mc := 1) (ms := 7) (pc := 76) rfl (c_Rtake (d := d - 1) (fr := 0) (many := 6) nr (by rw [E1.1]; exact nz) (by omega) rfl R1 F1 (by decide) (by decide) nmP) (gxRc.of rfl hr) (by omega) (Nat.le_of_ble_eq_true rfl) dX2_secret_76 (fun v h2 e2 => ?_) (fun y h' e => gxT_out (by decide +kernel) (Or.inr ⟨y, rfl, by obtain ⟨f, e3, e4⟩ := e; exact ⟨f, by rw [q1]; rw [show spNd t z (i + 1) (spPn x.2 1 P (tkK t z (i + 1)).2.2.2.1) = .inl f from e3]; rfl, (e4.mo (by rw [E1.1]; exact hhb)).tr E1.g⟩⟩))
  obtain ⟨o, e2, rfl, ho, R2, E2⟩ := e2
  have e2' : spNd t z (i + 1) (spPn x.2 1 P (tkK t z (i + 1)).2.2.2.1) = .inr o := e2
  rw [e2', rB_r] at q1
  have E12 := E1.tr E2
  have Y2 := E12.dy hrb Y
  clear hr hso hva hpl htp hq hst
  obtain ⟨so, pl, va, ⟨hr, htp, hso, hva, hpl⟩, hin, hnz, hz, hend, hq, hst, hrz⟩ := id R2
  refine gx_istore_n (pc := 79) dX2_secret_79 (by decide) rfl ?_
  refine gx_aload_n (pc := 80) dX2_secret_80 rfl ?_
  refine gx_ldcS (pc := 81) hR46 dX2_secret_81 ?_
  refine gx_iconst (pc := 83) (v := 1) dX2_secret_83 (by decide) ?_
  refine gx_bipush (pc := 84) (v := 99) dX2_secret_84 (by decide) ?_
  refine kX2_242x (d' := d - 1) (kc := z + 6) (ks := 7 * z + 162) (mc := 2) (ms := 14) (pc := 86) rfl (c_Rboth (d := d - 1) nr (by rw [E12.1]; exact nz) (by omega) R2 hS46 1 99) (gxRc.of rfl hr) (by omega) (Nat.le_of_ble_eq_true rfl) dX2_secret_86 (fun v h3 e3 => ?_) (fun y h' e => gxT_out (by decide +kernel) (Or.inr ⟨y, rfl, by obtain ⟨f, e3, e4⟩ := e; rw [w46] at e3; exact ⟨f, by rw [q1, e3]; rfl, (e4.mo (by rw [E12.1]; exact hhb)).tr E12.g⟩⟩))
  obtain ⟨e3, R3, E3⟩ := e3
  rw [w46] at e3
  rw [e3, rB_r] at q1
  have E13 := E12.tr E3
  have Y3 := E13.dy hrb Y
  refine gx_istore (pc := 89) dX2_secret_89 (by decide) rfl ?_
  refine gxV_post ?_ (secret91 (E := E) nr hrb hd hR48 hS48 hR50 hS50 b (nI o) v R3 Y3 hNM n0 n1 n2 n3 n4 hP6 hS9 hE30 hwn hnm)
  rintro q h' (⟨rfl, j, x', e2, e3, e4, e5⟩ | ⟨y, rfl, f, e2, e3⟩)
  · exact Or.inl ⟨rfl, j, x', by rw [q1]; exact e2, e3, E13.g.tr e4, e5⟩
  · exact Or.inr ⟨y, rfl, f, by rw [q1]; exact e2, e3.tr E13.g⟩
end MBE
