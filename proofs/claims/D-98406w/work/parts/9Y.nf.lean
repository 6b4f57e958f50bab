/-! ===== COMPONENT BF: a secret told, whole; ears, clashes ===== -/
set_option maxRecDepth 100000
theorem tkAt_0 {t : Nat → Int32} {z p : Nat} (h : (tkAt t z p).2.2.1 = 0) : p = z := by
  unfold tkAt at h
  split at h
  · assumption
  · split at h
    · dsimp only at h
      split at h <;> cases h
    · split at h
      · dsimp only at h
        split at h <;> cases h
      · dsimp only at h
        split at h <;> cases h
theorem tkN_0 {t : Nat → Int32} {z p : Nat} (h : (tkN t z p).2.2.1 = 0) : tkN t z p = (z, z, 0, 0, 0) := by
  have e := tkAt_0 h
  unfold tkN at h ⊢
  rw [e, tkAt, if_pos rfl]
theorem tkK_0 {t : Nat → Int32} {z : Nat} : ∀ {n}, (tkK t z n).2.2.1 = 0 → tkK t z n = (z, z, 0, 0, 0)
  | 0, h => tkN_0 h
  | n + 1, h => tkN_0 h
theorem tkK_end {t : Nat → Int32} {z n : Nat} (h : (tkK t z n).2.2.1 = 0) : ∀ k, (tkK t z (n + k)).2.2.1 = 0
  | 0 => h
  | k + 1 => by
    have ih := tkK_0 (tkK_end h k)
    show (tkN t z (tkK t z (n + k)).1).2.2.1 = 0
    rw [ih, tkN_end]
theorem clo_sm2 {t : Nat → Int32} {z n : Nat} {nm : Int64 → Option Nat} (hnm : ∀ w k, nm w = some k → k < 10) (hend : (tkK t z n).2.2.1 = 0) (hnz : n ≤ z) (u : Nat) {β : Type} (f : Nat → Nat × Int32 → Sum Int32 β) : rB (spSome t z nm (z + 1) 0 u) (fun w => rB (spClo t z w.1) (fun e => f e w)) = rB (smC t z nm (z + 1) 0 u) (fun w => rB (spClo t z w.1) (fun e => f e w)) := by
  rcases Nat.lt_or_ge n u with y | y
  · obtain ⟨k, rfl⟩ : ∃ k, u = n + k := ⟨u - n, by omega⟩
    have kp := end_kp (tkK_end hend k)
    have : ∀ x, spNd t z (n + k) x = .inl (flt t z (n + k) 1) := fun x => by unfold spNd; rw [kp]; rfl
    rw [spSome, smC, if_neg (fun y => y.1 rfl), this]; rfl
  · exact clo_sm hnm hend hnz y f
theorem spTru_b (q : tkV) : (spTru q = -1 ∧ tkW q 3217595 = false ∧ tkW q 407354 = false) ∨ ∃ b, spTru q = zi b ∧ tkW q 3217595 = b ∧ (b = false → tkW q 407354 = true) := by
  unfold spTru
  cases h1 : tkW q 407354 with
  | true =>
    right
    refine ⟨false, by simp [zi], ?_, fun _ => rfl⟩
    unfold tkW at h1 ⊢
    rw [Bool.and_eq_true, decide_eq_true_eq, decide_eq_true_eq] at h1
    rw [decide_eq_false (show ¬ q.2.2.2.1 = 3217595 by rw [h1.2]; decide), Bool.and_false]
  | false =>
    cases h2 : tkW q 3217595 with
    | true => exact Or.inr ⟨true, by simp [zi], rfl, fun e => by cases e⟩
    | false => exact Or.inl ⟨by simp, rfl, rfl⟩
def spRS1 (t : Nat → Int32) (z P S : Nat) (x : dS) (i : Nat) : Sum Int32 (Nat × dS) :=
  if S = 10 then .inl (flt t z i 5) else rB (spNew t z x.2 P S (i + 1)) (fun _ => if spTru (tkK t z (i + 1 + 1)) < 0 then .inl (flt t z (i + 1 + 1) 1) else sp2 t z P S x (tkK t z (i + 1)).2.2.2.1 (tkW (tkK t z (i + 1 + 1)) 3217595) (i + 1 + 1 + 1))
theorem spRS_1 {t : Nat → Int32} {z n : Nat} (hend : (tkK t z n).2.2.1 = 0) (hnz : n ≤ z) {P S : Nat} (hP : P ≤ 6) (x : dS) (i : Nat) : spRS t z P S x i = rB (spRS1 t z P S x i) (fun a => rB (spClo t z a.1) (fun e => .inr (e, a.2))) := by
  unfold spRS spRS1
  split
  · rfl
  · rw [rB_as]
    congr 1
    funext _
    rcases spTru_b (tkK t z (i + 1 + 1)) with ⟨h1, h2, h3⟩ | ⟨b, h1, h2, h3⟩
    · rw [h1, if_pos (by decide), if_pos (by decide)]; rfl
    · rw [h1, h2, if_neg (by cases b <;> decide), if_neg (by cases b <;> decide)]
      unfold sp2 sp3 sp4
      simp only [rB_as]
      congr 1
      funext j
      congr 1
      funext o
      congr 1
      funext a
      congr 1
      funext c
      congr 1
      funext u
      exact clo_sm2 (fun w k h => by have := spPn_lt hP k h; omega) hend hnz u _
section MBF
variable {G : gxG} {d : Nat} {h : gxH} {hb r ta z n i P S E : Nat} {dp : Int32} {t : Nat → Int32} {x : dS} {w : Option gxEv}
theorem c_Rsecret (nr : gxN G ≤ r) (hrb : r + 8 ≤ hb) (hd : 15 ≤ d) (hR : (RR G h r (.ref ta) dp t z n i)) (hi0 : ¬ (tkK t z i).2.2.1 = 0) (hD : DX G h hb ta x P S E w) : gxM G mX2_secret d (z + 13) (7 * z + 447) [.ref r] h (gxQx (gxQv (fun h' => ∃ j x', spRS1 t z P S x i = .inr (j, x') ∧ RR G h' r (.ref ta) dp t z n j ∧ gE hb r h h' ∧ DX G h' hb ta x' P (S + 1) E w)) (fun y h' => ∃ f, spRS1 t z P S x i = .inl f ∧ xW hb r h f y h')) := by
  obtain ⟨fo, fa, la, le, lc, ln, lf, wv, nv, nc, elo, ehi, Y, hNM, n0, n1, n2, n3, n4, hP6, hS10, hE30, hwn⟩ := hD
  have hhb := Y.2.2.2.2.2.2.1
  have nz : gxN G ≤ h.2 := by have := Y.2.2.2.2.2.2.2; omega
  refine gxM_K (fun hK => ?_)
  obtain ⟨S44, hR44, hS44⟩ := st_44 hK
  obtain ⟨S46, hR46, hS46⟩ := st_46 hK
  obtain ⟨S48, hR48, hS48⟩ := st_48 hK
  obtain ⟨S50, hR50, hS50⟩ := st_50 hK
  obtain ⟨S66, hR66, hS66⟩ := st_66 hK
  obtain ⟨S68, hR68, hS68⟩ := st_68 hK
  have w66 : wdL [116, 114, 117, 101] 0 = 407354 := by decide +kernel
  have w68 : wdL [102, 97, 108, 115, 101] 0 = 3217595 := by decide +kernel
  obtain ⟨so, pl, va, ⟨hr, htp, hso, hva, hpl⟩, hin, hnz, hz, hend, hq, hst, hrz⟩ := id hR
  refine gxM_of rfl (Nat.le_of_ble_eq_true rfl) rfl ?_
  have hta := Y.2.1.2.2.2.2.2.1
  have l3 := (Y.1.1 3 (by decide)).2.2.2.ls
  obtain ⟨_, hl3⟩ := (Y.1.1 3 (by decide)).2.2.2.ob
  rw [n3] at l3
  have K27 : gxV G mX2_secret d (z + 13) (7 * z + 447) 27 [some (.ref r), some (.int (nI S)), none, none, none, none] [.int (nI (20 + S)), .int (zi (decide (S = 10))), .ref r] h (gxQx (gxQv (fun h' => ∃ j x', spRS1 t z P S x i = .inr (j, x') ∧ RR G h' r (.ref ta) dp t z n j ∧ gE hb r h h' ∧ DX G h' hb ta x' P (S + 1) E w)) (fun y h' => ∃ f, spRS1 t z P S x i = .inl f ∧ xW hb r h f y h')) := by
    refine kX2_238x (d' := d - 1) (kc := z + 10) (ks := 7 * z + 190) (mc := 3) (ms := 257) (pc := 27) rfl (c_newName (d := d - 1) nr hrb (by omega) hR hi0 Y (by omega) (by omega) (decide (S = 10)) (20 + S) (by omega)) (gxRc.of rfl hr) (by omega) (Nat.le_of_ble_eq_true rfl) dX2_secret_27 (fun h1 e1 => ?_) (fun y h' e => gxT_out (by decide +kernel) (Or.inr ⟨y, rfl, ?_⟩))
    · obtain ⟨e1, R1, E1, s1, le1, lc1, lf1, Y1, g2, g3, g4⟩ := e1
      rw [n0, nwS_new hNM hP6 hS10] at e1
      have hS9 : ¬ S = 10 := fun e => by rw [decide_eq_true e, if_pos rfl] at e1; cases e1
      rw [decide_eq_false hS9, if_neg (by decide)] at e1
      have sp : spRS1 t z P S x i = if spTru (tkK t z (i + 1 + 1)) < 0 then .inl (flt t z (i + 1 + 1) 1) else sp2 t z P S x (tkK t z (i + 1)).2.2.2.1 (tkW (tkK t z (i + 1 + 1)) 3217595) (i + 1 + 1 + 1) := by
        unfold spRS1; rw [if_neg hS9, e1]; rfl
      have hnm : fdF nv nc (tkK t z (i + 1)).2.2.2.1 (P + S) 0 = -1 := by
        have c := cdF_1 (a := spPn x.2 1 P (tkK t z (i + 1)).2.2.2.1) (b := spSn x.2 1 S (tkK t z (i + 1)).2.2.2.1) (spPn_lt hP6) (spSn_lt hS10)
        rw [hNM.1]
        refine c.mpr ?_
        unfold spNew at e1
        split at e1
        · cases e1
        · split at e1
          · rename_i hh; exact hh
          · cases e1
      have nz1 : gxN G ≤ h1.2 := Nat.le_trans nz E1.1
      have hh1 : hb ≤ h1.2 := Nat.le_trans hhb E1.1
      clear hr hso hva hpl htp hq hst
      obtain ⟨so, pl, va, ⟨hr, htp, hso, hva, hpl⟩, hin, hnz, hz, hend, hq, hst, hrz⟩ := id R1
      have K56 : ∀ b : Bool, spTru (tkK t z (i + 2)) = zi b → tkW (tkK t z (i + 2)) 3217595 = b → gxV G mX2_secret d (z + 10) (7 * z + 190) 56 [some (.ref r), some (.int (nI S)), some (.int (zi b)), none, none, none] [] h1 (gxQx (gxQv (fun h' => ∃ j x', spRS1 t z P S x i = .inr (j, x') ∧ RR G h' r (.ref ta) dp t z n j ∧ gE hb r h h' ∧ DX G h' hb ta x' P (S + 1) E w)) (fun y h' => ∃ f, spRS1 t z P S x i = .inl f ∧ xW hb r h f y h')) := by
        intro b hb1 hb2
        have n2t : ¬ (tkK t z (i + 2)).2.2.1 = 0 := fun e => by
          have : spTru (tkK t z (i + 2)) = -1 := by
            unfold spTru tkW
            rw [decide_eq_false (show ¬ (tkK t z (i + 2)).2.2.1 = 1 by rw [e]; decide)]
            rfl
          rw [hb1] at this
          cases b <;> exact absurd this (by decide)
        have sp' : spRS1 t z P S x i = sp2 t z P S x (tkK t z (i + 1)).2.2.2.1 b (i + 2 + 1) := by
          rw [sp]
          show (if spTru (tkK t z (i + 2)) < 0 then _ else _) = _
          rw [hb1, if_neg (by cases b <;> decide)]
          show sp2 t z P S x (tkK t z (i + 1)).2.2.2.1 (tkW (tkK t z (i + 2)) 3217595) (i + 2 + 1) = _
          rw [hb2]
        refine gx_aload_n (pc := 56) dX2_secret_56 rfl ?_
        refine gx_dup (pc := 57) dX2_secret_57 rfl ?_
        refine gx_get (pc := 58) fX2_132 hr rfl dX2_secret_58 ?_
        refine gx_iconst (pc := 61) (v := 1) dX2_secret_61 (by decide) ?_
        refine gx_iadd (pc := 62) dX2_secret_62 ?_
        rw [nI_1]
        refine gx_put (pc := 63) fX2_132 hr nr (by first | exact Nat.le_of_ble_eq_true rfl | simp) tX2_9 rfl rfl dX2_secret_63 ?_
        change gxV _ _ _ _ _ _ _ _ (gxup h1 r (.inr (1, [.ref (r + 1), .ref (r + 2), .ref (r + 3), .ref ta, .ref (r + 4), .int 0, .ref (r + 5), .ref (r + 6), .ref (r + 7), .int (nI (i + 2 + 1)), .int dp]))) _
        obtain ⟨R2, E2⟩ := R1.step n2t
        generalize gxup h1 r (.inr (1, [.ref (r + 1), .ref (r + 2), .ref (r + 3), .ref ta, .ref (r + 4), .int 0, .ref (r + 5), .ref (r + 6), .ref (r + 7), .int (nI (i + 2 + 1)), .int dp])) = h2 at *
        have Y2 := E2.dy hrb Y1
        have g2' : gE hb r h h2 := E1.tr E2.g
        refine gxV_post ?_ (secret66 (E := E) nr hrb (by omega) hR44 hS44 hR46 hS46 hR48 hS48 hR50 hS50 b R2 Y2 hNM n0 n1 n2 n3 n4 hP6 (by omega) hE30 ⟨hwn.1, hwn.2.1, by rw [g3]; exact hwn.2.2⟩ hnm)
        rintro q h' (⟨rfl, j, x', e1, e2, e3, e4⟩ | ⟨y, rfl, f, e1, e2⟩)
        · exact Or.inl ⟨rfl, j, x', by rw [sp']; exact e1, e2, g2'.tr e3, e4⟩
        · exact Or.inr ⟨y, rfl, f, by rw [sp']; exact e1, e2.tr g2'⟩
      refine gx_aload_n (pc := 30) dX2_secret_30 rfl ?_
      refine gx_ldcS (pc := 31) hR68 dX2_secret_31 ?_
      refine kX2_144 (kc := z + 10) (ks := 7 * z + 190) (mc := 0) (ms := 0) (pc := 33) rfl (c_RisWord (d := d - 1) (by omega) R1 hS68) (gxRc.of rfl hr) (by omega) (Nat.le_of_ble_eq_true rfl) dX2_secret_33 (fun r2 h2 e2 => ?_)
      obtain ⟨rfl, e2⟩ := e2
      subst h2
      rw [w68]
      refine gx_istore_n (pc := 36) dX2_secret_36 (by decide) rfl ?_
      refine gx_iload_n (pc := 37) dX2_secret_37 rfl ?_
      rcases spTru_b (tkK t z (i + 2)) with ⟨t1, t2, t3⟩ | ⟨b, t1, t2, t3⟩
      · rw [t2]
        refine gx_if_ne (pc := 38) 56 dX2_secret_38 (by decide) (fun c1 => ?_) (fun c1 => ?_)
        · exact absurd rfl c1
        · refine gx_aload_n (pc := 41) dX2_secret_41 rfl ?_
          refine gx_ldcS (pc := 42) hR66 dX2_secret_42 ?_
          refine kX2_144 (kc := z + 10) (ks := 7 * z + 190) (mc := 0) (ms := 0) (pc := 44) rfl (c_RisWord (d := d - 1) (by omega) R1 hS66) (gxRc.of rfl hr) (by omega) (Nat.le_of_ble_eq_true rfl) dX2_secret_44 (fun r2 h2 e2 => ?_)
          obtain ⟨rfl, e2⟩ := e2
          subst h2
          rw [w66, t3]
          refine gx_if_ne (pc := 47) 56 dX2_secret_47 (by decide) (fun c2 => ?_) (fun c2 => ?_)
          · exact absurd rfl c2
          · have sp' : spRS1 t z P S x i = .inl (flt t z (i + 2) 1) := by
              rw [sp]
              show (if spTru (tkK t z (i + 2)) < 0 then _ else _) = _
              rw [t1, if_pos (by decide)]
            refine gx_more (a := 0 + 1) (b := 0 + 7) (by omega) (by omega) ?_
            exact gx_wrong (kc := 0) (ks := 0) (pc := 50) (pc1 := 51) (pc2 := 52) (pc5 := 55) 1 rfl rfl rfl rfl (by omega) nz1 R1 rfl dX2_secret_50 dX2_secret_51 (by decide) dX2_secret_52 dX2_secret_55 (by decide +kernel) (fun y h' e2 => ⟨_, sp', (e2.mo hh1).tr E1⟩)
      · have K := K56 b t1 t2
        rw [t2]
        refine gx_if_ne (pc := 38) 56 dX2_secret_38 (by decide) (fun c1 => ?_) (fun c1 => ?_)
        · exact K
        · have hb0 : b = false := zi_eq0 c1
          refine gx_aload_n (pc := 41) dX2_secret_41 rfl ?_
          refine gx_ldcS (pc := 42) hR66 dX2_secret_42 ?_
          refine kX2_144 (kc := z + 10) (ks := 7 * z + 190) (mc := 0) (ms := 0) (pc := 44) rfl (c_RisWord (d := d - 1) (by omega) R1 hS66) (gxRc.of rfl hr) (by omega) (Nat.le_of_ble_eq_true rfl) dX2_secret_44 (fun r2 h2 e2 => ?_)
          obtain ⟨rfl, e2⟩ := e2
          subst h2
          rw [w66, t3 hb0]
          refine gx_if_ne (pc := 47) 56 dX2_secret_47 (by decide) (fun c2 => ?_) (fun c2 => ?_)
          · exact K
          · exact absurd c2 (by decide)
    · obtain ⟨f, e3, e4⟩ := e
      rw [n0, nwS_new hNM hP6 hS10] at e3
      refine ⟨f, ?_, e4⟩
      unfold spRS1
      by_cases z6 : S = 10
      · rw [if_pos z6]
        rw [decide_eq_true z6, if_pos rfl] at e3
        cases e3; rfl
      · rw [if_neg z6]
        rw [decide_eq_false z6, if_neg (by decide)] at e3
        rw [e3]; rfl
  refine gx_aload_n (pc := 0) dX2_secret_0 rfl ?_
  refine gx_get (pc := 1) fX2_168 hr rfl dX2_secret_1 ?_
  refine gx_get (pc := 4) fX2_249 hta rfl dX2_secret_4 ?_
  refine kX2_235 (kc := z + 13) (ks := 7 * z + 447) (mc := 0) (ms := 0) (pc := 7) rfl (c_size (d := d - 1) l3) (gxRc.of rfl hl3) (by omega) (Nat.le_of_ble_eq_true rfl) dX2_secret_7 (fun r1 h1 e1 => ?_)
  obtain ⟨rfl, e1⟩ := e1
  subst h1
  refine gx_istore_n (pc := 10) dX2_secret_10 (by decide) rfl ?_
  refine gx_aload_n (pc := 11) dX2_secret_11 rfl ?_
  refine gx_iload_n (pc := 12) dX2_secret_12 rfl ?_
  refine gx_bipush (pc := 13) (v := 10) dX2_secret_13 (by decide) ?_
  have e20 : (20 : Int32) + nI S = nI (20 + S) := nI_add 20 S
  rw [← e20] at K27
  refine gx_icmp_ne (pc := 15) 22 dX2_secret_15 (by decide) (fun c1 => ?_) (fun c1 => ?_)
  · have : ¬ S = 10 := fun e => c1 (by rw [e]; rfl)
    refine gx_iconst (pc := 22) (v := 0) dX2_secret_22 (by decide) ?_
    refine gx_bipush (pc := 23) (v := 20) dX2_secret_23 (by decide) ?_
    refine gx_iload_n (pc := 25) dX2_secret_25 rfl ?_
    refine gx_iadd (pc := 26) dX2_secret_26 ?_
    rw [decide_eq_false this] at K27
    exact K27
  · have : S = 10 := (nI_eq (b := 10) (by omega) (by decide)).mp c1
    refine gx_iconst (pc := 18) (v := 1) dX2_secret_18 (by decide) ?_
    refine gx_goto (pc := 19) 23 dX2_secret_19 (by decide) ?_
    refine gx_bipush (pc := 23) (v := 20) dX2_secret_23 (by decide) ?_
    refine gx_iload_n (pc := 25) dX2_secret_25 rfl ?_
    refine gx_iadd (pc := 26) dX2_secret_26 ?_
    rw [decide_eq_true this] at K27
    exact K27
end MBF
