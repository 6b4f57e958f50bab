/-! ===== COMPONENT BA: names given, people told ===== -/
set_option maxRecDepth 100000
section MBA
variable {G : gxG} {d : Nat} {h : gxH} {hb r ta fo fa z n i : Nat} {dp : Int32} {t : Nat → Int32} {la le lc ln : Nat → Nat} {lf : Nat → Nat → Nat} {x : dS} {wv : Value} {nv : Nat → Int64} {nc : Nat → Nat} {elo ehi : Nat} {w : Option gxEv}
theorem DY.NF (y : (DY G h hb ta fo fa la le lc ln lf x wv nv nc elo ehi w)) (h01 : ln 0 = ln 1) (h30 : ln 0 ≤ 30) : NF G h ta (ln 0) nv nc := by
  obtain ⟨y1, y2, y3, y4, y5, y6, y7, y8⟩ := y
  have l0 := (y1.1 0 (by decide)).2.2.2
  have l1 := (y1.1 1 (by decide)).2.2.2
  refine ⟨_, _, _, _, _, _, _, _, lf 0, lf 1, y2.2.2.2.2.2.1, l0.ls, by rw [h01]; exact l1.ls, fun k hk => ?_, fun k hk => ?_, by omega⟩
  · rcases (y2.2.2.2.2.2.2 0 k (by decide) hk).2 with z | z
    · exact Or.inl z
    · exact Or.inr z.2
  · exact (y2.2.2.2.2.2.2 1 k (by decide) (by omega)).2
theorem DY.cg {x' : dS} {nv' : Nat → Int64} {nc' : Nat → Nat} (y : (DY G h hb ta fo fa la le lc ln lf x wv nv nc elo ehi w)) (h7 : x'.1 10 7 = x.1 10 7) (hx : ∀ j k a, j < 5 → k < ln j → El G h hb x nv nc j k a → El G h hb x' nv' nc' j k a) : DY G h hb ta fo fa la le lc ln lf x' wv nv' nc' elo ehi w := by
  obtain ⟨y1, y2, y3⟩ := y
  exact ⟨y1, ⟨y2.1, y2.2.1, y2.2.2.1, y2.2.2.2.1, y2.2.2.2.2.1, by rw [h7]; exact y2.2.2.2.2.2.1, fun j k hj hk => hx j k _ hj hk (y2.2.2.2.2.2.2 j k hj hk)⟩, y3⟩
theorem DY.nm (y : (DY G h hb ta fo fa la le lc ln lf x wv nv nc elo ehi w)) (h01 : ln 0 = ln 1) (u : Int64) (c : Nat) : DY G h hb ta fo fa la le lc ln lf x wv (va_up nv (ln 0) u) (va_up nc (ln 0) c) elo ehi w := by
  refine y.cg rfl (fun j k a hj hk e => ?_)
  match j, hj, e with
  | 0, _, e => exact ⟨e.1, by rw [va_n (show k ≠ ln 0 by omega)]; exact e.2⟩
  | 1, _, e => exact ⟨e.1, by rw [va_n (show k ≠ ln 0 by omega)]; exact e.2⟩
  | 2, _, e => exact e
  | 3, _, e => exact e
  | 4, _, e => exact e
theorem aE.dy {h' : gxH} (e : aE r h h') (hrb : r + 8 ≤ hb) (y : (DY G h hb ta fo fa la le lc ln lf x wv nv nc elo ehi w)) : DY G h' hb ta fo fa la le lc ln lf x wv nv nc elo ehi w := y.gr (by rw [e.1]; exact Nat.le_refl _) (fun q a _ => e.2 q (by omega))
/-- a new name: may it be -/
def nwS (t : Nat → Int32) (z : Nat) (full : Bool) (F : Int64 → Int32) (i : Nat) : Sum Int32 Unit := if full = true then .inl (flt t z i 5) else if tkKp (tkK t z (i + 1)) = true then .inl (flt t z (i + 1) 1) else if F (tkK t z (i + 1)).2.2.2.1 = -1 then .inr () else .inl (flt t z (i + 1) 3)
theorem c_newName (nr : gxN G ≤ r) (hrb : r + 8 ≤ hb) (hd : 9 ≤ d) (hR : (RR G h r (.ref ta) dp t z n i)) (hi0 : ¬ (tkK t z i).2.2.1 = 0) (hD : (DY G h hb ta fo fa la le lc ln lf x wv nv nc elo ehi w)) (h01 : ln 0 = ln 1) (h30 : ln 0 ≤ 29) (full : Bool) (c : Nat) (hc : c < 128) : gxM G mX2_newName d 3 257 [.ref r, .int (zi full), .int (nI c)] h (gxQx (gxQv (fun h' => nwS t z full (fun u => fdF nv nc u (ln 0) 0) i = .inr () ∧ RR G h' r (.ref ta) dp t z n (i + 2) ∧ gE hb r h h' ∧ h'.2 ≤ h.2 + 3 ∧ ∃ le' lc' lf', DY G h' hb ta fo fa la le' lc' (va_up (va_up ln 0 (ln 0 + 1)) 1 (ln 1 + 1)) lf' x wv (va_up nv (ln 0) (tkK t z (i + 1)).2.2.2.1) (va_up nc (ln 0) c) elo ehi w ∧ lf' 2 = lf 2 ∧ lf' 3 = lf 3 ∧ lf' 4 = lf 4)) (fun y h' => ∃ f, nwS t z full (fun u => fdF nv nc u (ln 0) 0) i = .inl f ∧ xW hb r h f y h')) := by
  have hhb := hD.2.2.2.2.2.2.1
  have nz : gxN G ≤ h.2 := by have := hD.2.2.2.2.2.2.2; omega
  obtain ⟨so, pl, va, ⟨hr, htp, hso, hva, hpl⟩, hin, hnz, hz, hend, hq, hst, hrz⟩ := id hR
  refine gxM_of rfl (Nat.le_of_ble_eq_true rfl) rfl ?_
  refine gx_iload_n (pc := 0) dX2_newName_0 rfl ?_
  refine gx_if_eq (pc := 1) 10 dX2_newName_1 (by decide) (fun c1 => ?_) (fun c1 => ?_)
  · have z1 := zi_eq0 c1
    subst z1
    refine gx_aload_n (pc := 10) dX2_newName_10 rfl ?_
    refine gx_dup (pc := 11) dX2_newName_11 rfl ?_
    refine gx_get (pc := 12) fX2_132 hr rfl dX2_newName_12 ?_
    refine gx_iconst (pc := 15) (v := 1) dX2_newName_15 (by decide) ?_
    refine gx_iadd (pc := 16) dX2_newName_16 ?_
    rw [nI_1]
    refine gx_put (pc := 17) fX2_132 hr nr (by first | exact Nat.le_of_ble_eq_true rfl | simp) tX2_9 rfl rfl dX2_newName_17 ?_
    change gxV _ _ _ _ _ _ _ _ (gxup h r (.inr (1, [.ref (r + 1), .ref (r + 2), .ref (r + 3), .ref ta, .ref (r + 4), .int 0, .ref (r + 5), .ref (r + 6), .ref (r + 7), .int (nI (i + 1)), .int dp]))) _
    obtain ⟨R1, E1⟩ := hR.step hi0
    generalize gxup h r (.inr (1, [.ref (r + 1), .ref (r + 2), .ref (r + 3), .ref ta, .ref (r + 4), .int 0, .ref (r + 5), .ref (r + 6), .ref (r + 7), .int (nI (i + 1)), .int dp])) = h1 at *
    have D1 := E1.dy hrb hD
    have F1 := D1.NF h01 (by omega)
    have nz1 : gxN G ≤ h1.2 := by rw [E1.1]; exact nz
    have up : ∀ {f y h'}, xW h1.2 r h1 f y h' → xW hb r h f y h' := fun e => (e.mo (by rw [E1.1]; exact hhb)).tr E1.g
    clear hr hso hva hpl htp hq
    obtain ⟨so, pl, va, ⟨hr, htp, hso, hva, hpl⟩, hin, hnz, hz, hend, hq, hst, hrz⟩ := id R1
    obtain ⟨q1, q2, q3, q4, q5⟩ := hq (i + 1) hin
    refine gx_aload_n (pc := 20) dX2_newName_20 rfl ?_
    refine kX2_193 (kc := 3) (ks := 257) (mc := 0) (ms := 0) (pc := 21) rfl (c_RisName (d := d - 1) (by omega) R1) (gxRc.of rfl hr) (by omega) (Nat.le_of_ble_eq_true rfl) dX2_newName_21 (fun r1 h2 e1 => ?_)
    obtain ⟨rfl, e1⟩ := e1
    subst h2
    refine gx_if_ne (pc := 24) 33 dX2_newName_24 (by decide) (fun c2 => ?_) (fun c2 => ?_)
    · have z1 := zi_ne0 c2
      have kp : tkKp (tkK t z (i + 1)) = false := by cases e : tkKp (tkK t z (i + 1)); rfl; rw [e] at z1; cases z1
      have s1 : (tkK t z (i + 1)).2.2.1 = 1 := by
        have kp2 := kp
        unfold tkKp at kp2
        rw [Bool.or_eq_false_iff] at kp2
        simpa using kp2.1
      have hta := D1.2.1.2.2.2.2.2.1
      refine gx_aload_n (pc := 33) dX2_newName_33 rfl ?_
      refine gx_get (pc := 34) fX2_168 hr rfl dX2_newName_34 ?_
      refine gx_aload_n (pc := 37) dX2_newName_37 rfl ?_
      refine gx_get (pc := 38) fX2_86 hr rfl dX2_newName_38 ?_
      refine gx_aload_n (pc := 41) dX2_newName_41 rfl ?_
      refine gx_get (pc := 42) fX2_132 hr rfl dX2_newName_42 ?_
      refine gx_lald (pc := 45) ((i+1)) hva (by first | rfl | simp only [gx_lit, nI_add, pk_mul]) (by omega) (by decide) dX2_newName_45 ?_
      rw [q3 s1]
      refine kX2_197 (kc := 3) (ks := 257) (mc := 0) (ms := 0) (pc := 46) rfl (c_Tfind (d := d - 1) (by omega) F1 _) (gxRc.of rfl hta) (by omega) (Nat.le_of_ble_eq_true rfl) dX2_newName_46 (fun r1 h2 e1 => ?_)
      obtain ⟨rfl, e1⟩ := e1
      subst h2
      refine gx_iconst (pc := 49) (v := (-1)) dX2_newName_49 (by decide) ?_
      refine gx_icmp_eq (pc := 50) 59 dX2_newName_50 (by decide) (fun c3 => ?_) (fun c3 => ?_)
      · have c3' : fdF nv nc (tkK t z (i + 1)).2.2.2.1 (ln 0) 0 = -1 := c3
        have ok : nwS t z false (fun u => fdF nv nc u (ln 0) 0) i = .inr () := by unfold nwS; rw [kp, if_neg (by decide), if_neg (by decide), if_pos c3']
        refine gx_aload_n (pc := 59) dX2_newName_59 rfl ?_
        refine gx_get (pc := 60) fX2_168 hr rfl dX2_newName_60 ?_
        refine gx_get (pc := 63) fX2_201 hta rfl dX2_newName_63 ?_
        refine gx_aload_n (pc := 66) dX2_newName_66 rfl ?_
        refine gx_get (pc := 67) fX2_86 hr rfl dX2_newName_67 ?_
        refine gx_aload_n (pc := 70) dX2_newName_70 rfl ?_
        refine gx_get (pc := 71) fX2_132 hr rfl dX2_newName_71 ?_
        refine gx_lald (pc := 74) ((i+1)) hva (by first | rfl | simp only [gx_lit, nI_add, pk_mul]) (by omega) (by decide) dX2_newName_74 ?_
        rw [q3 s1]
        refine kX2_205 (kc := 2) (ks := 256) (mc := 1) (ms := 1) (pc := 75) rfl (c_LvalueOf (d := d - 1) (by omega) nz1 _) (by omega) (Nat.le_of_ble_eq_true rfl) dX2_newName_75 (fun bx h2 e2 => ?_)
        have hz2 : h1.2 ≤ h2.2 ∧ h2.2 ≤ h1.2 + 1 := by rcases e2 with ⟨e, _⟩ | ⟨_, e, _⟩; rw [e]; omega; omega
        have f2 : ∀ q, q < h1.2 → h2.1 q = h1.1 q := fun q hq => by
          rcases e2 with ⟨e, _⟩ | ⟨_, _, _, e⟩
          · rw [e]
          · exact e q (by omega)
        have D2 := (D1.gr hz2.1 (fun q _ b => f2 q b)).nm h01 (tkK t z (i + 1)).2.2.2.1 c
        have R2 := R1.gr hz2.1 (fun q a b => f2 q (by omega))
        have el0 : El G h2 hb x (va_up nv (ln 0) (tkK t z (i + 1)).2.2.2.1) (va_up nc (ln 0) c) 0 (ln 0) bx := by
          rcases e2 with ⟨e, hl⟩ | ⟨rfl, e, hl, _⟩
          · have := hl.1.lt
            exact ⟨by omega, Or.inl (by rw [va_s]; exact hl)⟩
          · exact ⟨by omega, Or.inr ⟨by rw [E1.1]; exact hhb, by rw [va_s]; exact hl⟩⟩
        obtain ⟨_, hl0⟩ := (D2.1.1 0 (by decide)).2.2.2.ob
        refine kX2_211 (kc := 1) (ks := 128) (mc := 1) (ms := 128) (pc := 78) rfl (c_Dadd (d := d - 1) (by omega) D2 0 (by decide) (by omega) el0) (gxRc.of rfl hl0) (by omega) (Nat.le_of_ble_eq_true rfl) dX2_newName_78 (fun r3 h3 e3 => ?_)
        obtain ⟨e3a, c3a, D3, s3, s3', f3⟩ := e3
        have R3 := R2.gr s3' (fun q a b => f3 q (by omega))
        clear hr hso hva hpl htp hq q1 q2 q3 q4 q5
        obtain ⟨so, pl, va, ⟨hr, htp, hso, hva, hpl⟩, hin, hnz, hz, hend, hq, hst, hrz⟩ := id R3
        have hta := D3.2.1.2.2.2.2.2.1
        have el1 : ∀ (bx : Nat), IB G bx (nI c) → El G h3 hb x (va_up nv (ln 0) (tkK t z (i + 1)).2.2.2.1) (va_up nc (ln 0) c) 1 (va_up ln 0 (ln 0 + 1) 1) bx := fun bx hb1 => by
          have := hb1.1.lt
          refine ⟨by omega, ?_⟩
          rw [va_n (show (1 : Nat) ≠ 0 by decide), ← h01, va_s]
          exact hb1
        refine gx_pop (pc := 81) dX2_newName_81 rfl ?_
        refine gx_aload_n (pc := 82) dX2_newName_82 rfl ?_
        refine gx_get (pc := 83) fX2_168 hr rfl dX2_newName_83 ?_
        refine gx_get (pc := 86) fX2_217 hta rfl dX2_newName_86 ?_
        refine gx_iload_n (pc := 89) dX2_newName_89 rfl ?_
        refine kX2_220 (kc := 1) (ks := 128) (mc := 0) (ms := 0) (pc := 90) rfl (c_IvalueOf (d := d - 1) (by omega)) (by omega) (Nat.le_of_ble_eq_true rfl) dX2_newName_90 (fun bx1 h4 e4 => ?_)
        obtain ⟨hI, e4⟩ := e4
        subst h4
        obtain ⟨_, hl1⟩ := (D3.1.1 1 (by decide)).2.2.2.ob
        refine gx_r0 ?_
        refine kX2_211 (kc := 0) (ks := 0) (mc := 1) (ms := 128) (pc := 93) rfl (c_Dadd (d := d - 1) (by omega) D3 1 (by decide) (by rw [va_n (show (1 : Nat) ≠ 0 by decide)]; omega) (el1 _ hI)) (gxRc.of rfl hl1) (by omega) (Nat.le_of_ble_eq_true rfl) dX2_newName_93 (fun r5 h5 e5 => ?_)
        obtain ⟨e5a, c5a, D5, s5, s5', f5⟩ := e5
        have R5 := R3.gr s5' (fun q a b => f5 q (by omega))
        clear hr hso hva hpl htp hq
        obtain ⟨so, pl, va, ⟨hr, htp, hso, hva, hpl⟩, hin, hnz, hz, hend, hq, hst, hrz⟩ := id R5
        refine gx_pop (pc := 96) dX2_newName_96 rfl ?_
        refine gx_aload_n (pc := 97) dX2_newName_97 rfl ?_
        refine gx_dup (pc := 98) dX2_newName_98 rfl ?_
        refine gx_get (pc := 99) fX2_132 hr rfl dX2_newName_99 ?_
        refine gx_iconst (pc := 102) (v := 1) dX2_newName_102 (by decide) ?_
        refine gx_iadd (pc := 103) dX2_newName_103 ?_
        rw [nI_1]
        refine gx_put (pc := 104) fX2_132 hr nr (by first | exact Nat.le_of_ble_eq_true rfl | simp) tX2_9 rfl rfl dX2_newName_104 ?_
        change gxV _ _ _ _ _ _ _ _ (gxup h5 r (.inr (1, [.ref (r + 1), .ref (r + 2), .ref (r + 3), .ref ta, .ref (r + 4), .int 0, .ref (r + 5), .ref (r + 6), .ref (r + 7), .int (nI (i + 1 + 1)), .int dp]))) _
        obtain ⟨R6, E6⟩ := R5.step (by rw [s1]; decide)
        generalize gxup h5 r (.inr (1, [.ref (r + 1), .ref (r + 2), .ref (r + 3), .ref ta, .ref (r + 4), .int 0, .ref (r + 5), .ref (r + 6), .ref (r + 7), .int (nI (i + 1 + 1)), .int dp])) = h6 at *
        have D6 := E6.dy hrb D5
        rw [va_n (show (1 : Nat) ≠ 0 by decide)] at D6
        have s1e := E1.1
        have s6e := E6.1
        refine gx_return (pc := 107) rfl dX2_newName_107 (Or.inl ⟨rfl, ok, R6, ⟨by omega, fun q a b => ?_⟩, by omega, _, _, _, D6, ?_, ?_, ?_⟩)
        · rw [E6.2 q b, f5 q a, f3 q a, f2 q (by omega), E1.2 q b]
        · rw [va_n (show (2 : Nat) ≠ 1 by decide), va_n (show (2 : Nat) ≠ 0 by decide)]
        · rw [va_n (show (3 : Nat) ≠ 1 by decide), va_n (show (3 : Nat) ≠ 0 by decide)]
        · rw [va_n (show (4 : Nat) ≠ 1 by decide), va_n (show (4 : Nat) ≠ 0 by decide)]
      · have c3' : ¬ fdF nv nc (tkK t z (i + 1)).2.2.2.1 (ln 0) 0 = -1 := c3
        exact gx_wrong (kc := 2) (ks := 250) (pc := 53) (pc1 := 54) (pc2 := 55) (pc5 := 58) 3 rfl rfl rfl rfl (by omega) nz1 R1 rfl dX2_newName_53 dX2_newName_54 (by decide) dX2_newName_55 dX2_newName_58 (by decide +kernel) (fun y h' e2 => ⟨_, by unfold nwS; rw [kp, if_neg (by decide), if_neg (by decide), if_neg c3'], up e2⟩)
    · have z1 := zi_eq0 c2
      have kp : tkKp (tkK t z (i + 1)) = true := by cases e : tkKp (tkK t z (i + 1)); rw [e] at z1; cases z1; rfl
      exact gx_wrong (kc := 2) (ks := 250) (pc := 27) (pc1 := 28) (pc2 := 29) (pc5 := 32) 1 rfl rfl rfl rfl (by omega) nz1 R1 rfl dX2_newName_27 dX2_newName_28 (by decide) dX2_newName_29 dX2_newName_32 (by decide +kernel) (fun y h' e2 => ⟨_, by unfold nwS; rw [if_neg (by decide), if_pos kp], up e2⟩)
  · have z1 := zi_ne0 c1
    subst z1
    exact gx_wrong (kc := 2) (ks := 250) (pc := 4) (pc1 := 5) (pc2 := 6) (pc5 := 9) 5 rfl rfl rfl rfl (by omega) nz hR rfl dX2_newName_4 dX2_newName_5 (by decide) dX2_newName_6 dX2_newName_9 (by decide +kernel) (fun y h' e2 => ⟨_, by unfold nwS; rw [if_pos rfl], e2.mo hhb⟩)
end MBA
