/-! ===== COMPONENT BM: a part of the worth read ===== -/
set_option maxRecDepth 100000
/-- how many tokens are used -/
def kR (n i : Nat) (x : Sum Int32 rdR) : Nat := match x with
  | .inl _ => n + 1 - i
  | .inr a => a.1 - i
/-! how far it is read -/
def prg (n : Nat) (P : Nat → Sum Int32 rdR) : Prop := ∀ i a, i ≤ n → P i = .inr a → i < a.1 ∧ a.1 ≤ n
theorem nend {t : Nat → Int32} {z n i : Nat} (he : (tkK t z n).2.2.1 = 0) (hi : i ≤ n) (h : ¬ (tkK t z i).2.2.1 = 0) : i + 1 ≤ n := by
  rcases Nat.lt_or_ge i n with y | y
  · exact y
  · have : i = n := by omega
    subst this
    exact absurd he h
section PRG
variable {t : Nat → Int32} {z n : Nat}
theorem prg_lpT (he : (tkK t z n).2.2.1 = 0) {P : Nat → Sum Int32 rdR} (hP : prg n P) : ∀ m a b, a.1 ≤ n → lpT t z P m a = .inr b → a.1 ≤ b.1 ∧ b.1 ≤ n
  | 0, _, _, _, h => by cases h
  | m + 1, a, b, ha, h => by
    rw [lpT] at h
    split at h
    · rename_i g
      obtain ⟨c, h1, h2⟩ := rB_inv h
      have n1 := nend he ha (tkG_n0 g)
      have p := hP _ _ n1 h1
      have ih := fun q => prg_lpT he hP m _ b q h2
      have := ih p.2
      dsimp only at this
      omega
    · cases h; exact ⟨Nat.le_refl _, ha⟩
theorem prg_T (he : (tkK t z n).2.2.1 = 0) {P : Nat → Sum Int32 rdR} (hP : prg n P) : prg n (prT t z P) := by
  intro i a hi h
  unfold prT at h
  obtain ⟨c, h1, h2⟩ := rB_inv h
  have p := hP _ _ hi h1
  have := prg_lpT he hP _ _ _ p.2 h2
  omega
theorem prg_lpS (he : (tkK t z n).2.2.1 = 0) {P : Nat → Sum Int32 rdR} (hP : prg n P) : ∀ m a b, a.1 ≤ n → lpS t z P m a = .inr b → a.1 ≤ b.1 ∧ b.1 ≤ n
  | 0, _, _, _, h => by cases h
  | m + 1, a, b, ha, h => by
    rw [lpS] at h
    split at h
    · rename_i g
      obtain ⟨c, h1, h2⟩ := rB_inv h
      have n1 := nend he ha (tkG_n0 g)
      have p := hP _ _ n1 h1
      have ih := fun q => prg_lpS he hP m _ b q h2
      have := ih p.2
      dsimp only at this
      omega
    · split at h
      · rename_i g
        obtain ⟨c, h1, h2⟩ := rB_inv h
        have n1 := nend he ha (tkG_n0 g)
        have p := hP _ _ n1 h1
        have ih := fun q => prg_lpS he hP m _ b q h2
        have := ih p.2
        dsimp only at this
        omega
      · cases h; exact ⟨Nat.le_refl _, ha⟩
theorem prg_S (he : (tkK t z n).2.2.1 = 0) {P : Nat → Sum Int32 rdR} (hP : prg n P) : prg n (prS t z P) := by
  intro i a hi h
  unfold prS at h
  obtain ⟨c, h1, h2⟩ := rB_inv h
  have p := prg_T he hP _ _ hi h1
  have := prg_lpS he (prg_T he hP) _ _ _ p.2 h2
  omega
theorem prg_E (he : (tkK t z n).2.2.1 = 0) {P : Nat → Sum Int32 rdR} (hP : prg n P) : prg n (prE t z P) := by
  intro i a hi h
  unfold prE at h
  obtain ⟨c, h1, h2⟩ := rB_inv h
  have p := prg_S he hP _ _ hi h1
  split at h2
  · rename_i g
    obtain ⟨b, h3, h4⟩ := rB_inv h2
    have p2 := prg_S he hP _ _ (nend he p.2 (tkG_n0 g)) h3
    cases h4
    dsimp only
    omega
  · split at h2
    · rename_i g
      obtain ⟨b, h3, h4⟩ := rB_inv h2
      have p2 := prg_S he hP _ _ (nend he p.2 (tkG_n0 g)) h3
      cases h4
      dsimp only
      omega
    · cases h2; exact p
theorem prg_lpA (he : (tkK t z n).2.2.1 = 0) {P : Nat → Sum Int32 rdR} (hP : prg n P) : ∀ m a b, a.1 ≤ n → lpA t z P m a = .inr b → a.1 ≤ b.1 ∧ b.1 ≤ n
  | 0, _, _, _, h => by cases h
  | m + 1, a, b, ha, h => by
    rw [lpA] at h
    split at h
    · rename_i g
      obtain ⟨c, h1, h2⟩ := rB_inv h
      have n1 := nend he ha (tkW_n0 g)
      have p := hP _ _ n1 h1
      have ih := fun q => prg_lpA he hP m _ b q h2
      have := ih p.2
      dsimp only at this
      omega
    · split at h
      · rename_i g
        obtain ⟨c, h1, h2⟩ := rB_inv h
        have n1 := nend he ha (tkW_n0 g)
        have p := hP _ _ n1 h1
        have ih := fun q => prg_lpA he hP m _ b q h2
        have := ih p.2
        dsimp only at this
        omega
      · cases h; exact ⟨Nat.le_refl _, ha⟩
theorem prg_A (he : (tkK t z n).2.2.1 = 0) {P : Nat → Sum Int32 rdR} (hP : prg n P) : prg n (prA t z P) := by
  intro i a hi h
  unfold prA at h
  obtain ⟨c, h1, h2⟩ := rB_inv h
  have p := prg_E he hP _ _ hi h1
  have := prg_lpA he (prg_E he hP) _ _ _ p.2 h2
  omega
theorem prg_P (he : (tkK t z n).2.2.1 = 0) : ∀ k, prg n (prP t z k) := by
  intro k
  induction k with
  | zero =>
    intro i a hi h
    rw [prP] at h
    split at h <;> cases h
  | succ k ih =>
    intro i a hi h
    rw [prP] at h
    split at h
    · cases h
    · rename_i hN
      have n0 : ¬ (tkK t z i).2.2.1 = 0 := fun e => hN ⟨Decidable.byContradiction (fun y => spFact_n0 y e), by cases y : tkW (tkK t z i) 10631; rfl; exact absurd e (tkW_n0 y), by cases y : tkG t (tkK t z i) 40; rfl; exact absurd e (tkG_n0 y), by rw [e]; decide⟩
      have n1 := nend he hi n0
      split at h
      · cases h; exact ⟨by dsimp only; omega, n1⟩
      · split at h
        · cases h; exact ⟨by dsimp only; omega, n1⟩
        · split at h
          · obtain ⟨b, h1, h2⟩ := rB_inv h
            have p := ih _ _ n1 h1
            cases h2
            dsimp only
            omega
          · obtain ⟨b, h1, h2⟩ := rB_inv h
            have p := prg_A he ih _ _ n1 h1
            split at h2
            · rename_i g
              have := nend he p.2 (tkG_n0 g)
              cases h2
              dsimp only
              omega
            · cases h2
end PRG
/-- the contract of a method that reads an expression -/
def XC (G : gxG) (Y : gxY) (r z n : Nat) (t : Nat → Int32) (dv : Value) (dp : Int32) (d m : Nat) (spec : Nat → Sum Int32 rdR) : Prop := ∀ h i, gxN G ≤ h.2 → RR G h r dv dp t z n i → gxM G Y d (10 * kR n i (spec i)) (2100 * kR n i (spec i)) [.ref r] h (gxQx (gxQr (fun a h' => ∃ j ev cs, spec i = .inr (j, ev, cs) ∧ i < j ∧ RR G h' r dv dp t z n j ∧ gE h.2 r h h' ∧ exE h.2 h'.2 h' m a ev)) (fun y h' => ∃ f, spec i = .inl f ∧ xW h.2 r h f y h'))
section MBM
variable {G : gxG} {d : Nat} {h : gxH} {r z n i : Nat} {dv : Value} {t : Nat → Int32}
theorem gE.of {r : Nat} {h h' : gxH} (hz : h.2 ≤ h'.2) (e : ∀ q, q < h.2 → h'.1 q = h.1 q) : gE h.2 r h h' := ⟨hz, fun q a _ => e q a⟩
theorem part130 (nr : gxN G ≤ r) (k : Nat) (hk5 : k + 1 ≤ 5) (hd : 12 ≤ d) (IHp : XC G mX2_part r z n t dv (nI (5 - k)) (d - 1) (4 * k) (prP t z k)) (IHa : XC G mX2_all r z n t dv (nI (5 - k)) (d - 1) (4 * k + 4) (prA t z (prP t z k))) (nz : gxN G ≤ h.2) (fv : Int32) (hR : RR G h r dv (nI (5 - (k + 1))) t z n (i + 1)) (hF : spFact (tkK t z i) = 0) (h2 : ¬ (tkK t z i).2.2.1 = 2) (hN : ¬ (spFact (tkK t z i) = 0 ∧ tkW (tkK t z i) 10631 = false ∧ tkG t (tkK t z i) 40 = false ∧ ¬ (tkK t z i).2.2.1 = 2)) :
    gxV G mX2_part d (10 * kR n i (prP t z (k + 1) i)) (2100 * kR n i (prP t z (k + 1) i)) 130 [some (.ref r), some (.int fv), some (.int (zi (tkW (tkK t z i) 10631))), none] [] h (gxQx (gxQr (fun a h' => ∃ j ev cs, prP t z (k + 1) i = .inr (j, ev, cs) ∧ i < j ∧ RR G h' r dv (nI (5 - (k + 1))) t z n j ∧ gE h.2 r h h' ∧ exE h.2 h'.2 h' (4 * (k + 1)) a ev)) (fun y h' => ∃ f, prP t z (k + 1) i = .inl f ∧ xW h.2 r h f y h')) := by
  have hl := hR.lt
  have sp : prP t z (k + 1) i = if tkW (tkK t z i) 10631 = true then rB (prP t z k (i + 1)) (fun a => .inr (a.1, (fun x y u v => if a.2.1 x y u v = 0 then 1 else 0), 30 :: a.2.2)) else rB (prA t z (prP t z k) (i + 1)) (fun a => if tkG t (tkK t z a.1) 41 = true then .inr (a.1 + 1, a.2.1, 28 :: (a.2.2 ++ [29])) else .inl (flt t z a.1 1)) := by
    rw [prP, if_neg hN]
    simp only [hF, not_true_eq_false, if_false, h2]
  have e5 : nI (5 - (k + 1)) + 1 = nI (5 - k) := by rw [nI_1]; congr 1; omega
  have e5' : nI (5 - k) - 1 = nI (5 - (k + 1)) := by
    have := nI_pred (5 - (k + 1))
    rw [show 5 - (k + 1) + 1 = 5 - k by omega] at this
    exact this
  obtain ⟨so, pl, va, ⟨hr, htp, hso, hva, hpl⟩, hin, hnz, hz, hend, hq, hst, hrz⟩ := id hR
  refine gx_aload_n (pc := 130) dX2_part_130 rfl ?_
  refine gx_dup (pc := 131) dX2_part_131 rfl ?_
  refine gx_get (pc := 132) fX2_312 hr rfl dX2_part_132 ?_
  refine gx_iconst (pc := 135) (v := 1) dX2_part_135 (by decide) ?_
  refine gx_iadd (pc := 136) dX2_part_136 ?_
  rw [e5]
  refine gx_put (pc := 137) fX2_312 hr nr (by first | exact Nat.le_of_ble_eq_true rfl | simp) tX2_10 rfl rfl dX2_part_137 ?_
  change gxV _ _ _ _ _ _ _ _ (gxup h r (.inr (1, [.ref (r + 1), .ref (r + 2), .ref (r + 3), dv, .ref (r + 4), .int 0, .ref (r + 5), .ref (r + 6), .ref (r + 7), .int (nI (i + 1)), .int (nI (5 - k))]))) _
  have E1 : aE r h (gxup h r (.inr (1, [.ref (r + 1), .ref (r + 2), .ref (r + 3), dv, .ref (r + 4), .int 0, .ref (r + 5), .ref (r + 6), .ref (r + 7), .int (nI (i + 1)), .int (nI (5 - k))]))) := ⟨rfl, fun q hq => gxup_ne hq⟩
  have R1 : RR G (gxup h r (.inr (1, [.ref (r + 1), .ref (r + 2), .ref (r + 3), dv, .ref (r + 4), .int 0, .ref (r + 5), .ref (r + 6), .ref (r + 7), .int (nI (i + 1)), .int (nI (5 - k))]))) r dv (nI (5 - k)) t z n (i + 1) := hR.mv hl.1 (gxup_self _ _ _) E1
  generalize gxup h r (.inr (1, [.ref (r + 1), .ref (r + 2), .ref (r + 3), dv, .ref (r + 4), .int 0, .ref (r + 5), .ref (r + 6), .ref (r + 7), .int (nI (i + 1)), .int (nI (5 - k))])) = h1 at *
  have s1 := E1.1
  have nz1 : gxN G ≤ h1.2 := by omega
  /- deep is put back -/
  have K173 : ∀ (h3 : gxH) (a j : Nat) (ev : gxEv) (cs : List Int32), prP t z (k + 1) i = .inr (j, ev, cs) → i < j → RR G h3 r dv (nI (5 - k)) t z n j → gE h.2 r h h3 → exE h.2 h3.2 h3 (4 * (k + 1)) a ev → gxV G mX2_part d 0 0 173 [some (.ref r), some (.int fv), some (.int (zi (tkW (tkK t z i) 10631))), some (.ref a)] [] h3 (gxQx (gxQr (fun a h' => ∃ j ev cs, prP t z (k + 1) i = .inr (j, ev, cs) ∧ i < j ∧ RR G h' r dv (nI (5 - (k + 1))) t z n j ∧ gE h.2 r h h' ∧ exE h.2 h'.2 h' (4 * (k + 1)) a ev)) (fun y h' => ∃ f, prP t z (k + 1) i = .inl f ∧ xW h.2 r h f y h')) := by
    intro h3 a j ev cs es hij R3 g3 x3
    have hl3 := R3.lt
    clear hr hso hva hpl htp hq hst
    obtain ⟨so, pl, va, ⟨hr, htp, hso, hva, hpl⟩, hin, hnz, hz, hend, hq, hst, hrz⟩ := id R3
    refine gx_aload_n (pc := 173) dX2_part_173 rfl ?_
    refine gx_dup (pc := 174) dX2_part_174 rfl ?_
    refine gx_get (pc := 175) fX2_312 hr rfl dX2_part_175 ?_
    refine gx_iconst (pc := 178) (v := 1) dX2_part_178 (by decide) ?_
    refine gx_isub (pc := 179) dX2_part_179 ?_
    rw [e5']
    refine gx_put (pc := 180) fX2_312 hr nr (by first | exact Nat.le_of_ble_eq_true rfl | simp) tX2_10 rfl rfl dX2_part_180 ?_
    change gxV _ _ _ _ _ _ _ _ (gxup h3 r (.inr (1, [.ref (r + 1), .ref (r + 2), .ref (r + 3), dv, .ref (r + 4), .int 0, .ref (r + 5), .ref (r + 6), .ref (r + 7), .int (nI j), .int (nI (5 - (k + 1)))]))) _
    have E4 : aE r h3 (gxup h3 r (.inr (1, [.ref (r + 1), .ref (r + 2), .ref (r + 3), dv, .ref (r + 4), .int 0, .ref (r + 5), .ref (r + 6), .ref (r + 7), .int (nI j), .int (nI (5 - (k + 1)))]))) := ⟨rfl, fun q hq => gxup_ne hq⟩
    have R4 : RR G (gxup h3 r (.inr (1, [.ref (r + 1), .ref (r + 2), .ref (r + 3), dv, .ref (r + 4), .int 0, .ref (r + 5), .ref (r + 6), .ref (r + 7), .int (nI j), .int (nI (5 - (k + 1)))]))) r dv (nI (5 - (k + 1))) t z n j := R3.mv hl3.1 (gxup_self _ _ _) E4
    generalize gxup h3 r (.inr (1, [.ref (r + 1), .ref (r + 2), .ref (r + 3), dv, .ref (r + 4), .int 0, .ref (r + 5), .ref (r + 6), .ref (r + 7), .int (nI j), .int (nI (5 - (k + 1)))])) = h4 at *
    refine gx_aload_n (pc := 183) dX2_part_183 rfl ?_
    refine gx_areturn (pc := 184) rfl (Or.inl ⟨_, rfl⟩) (Or.inr ⟨_, rfl⟩) dX2_part_184 (Or.inl ⟨_, rfl, j, ev, cs, es, hij, R4, g3.tr E4.g, ?_⟩)
    rw [E4.1]
    exact x3.gr (fun q q1 _ => E4.2 q (by omega))
  have gg : gE h.2 r h h1 := E1.g
  clear hr hso hva hpl htp hq hst
  obtain ⟨so, pl, va, ⟨hr, htp, hso, hva, hpl⟩, hin, hnz, hz, hend, hq, hst, hrz⟩ := id R1
  cases hn : tkW (tkK t z i) 10631 with
  | true =>
    rw [hn] at K173
    rw [hn, if_pos rfl] at sp
    refine gx_iload_n (pc := 140) dX2_part_140 rfl ?_
    refine gx_if_eq (pc := 141) 158 dX2_part_141 (by decide) (fun c1 => ?_) (fun c1 => ?_)
    · exact absurd c1 (by decide)
    · have room : kR n (i + 1) (prP t z k (i + 1)) + 1 ≤ kR n i (prP t z (k + 1) i) := by
        cases es : prP t z k (i + 1) with
        | inl f => rw [sp, es]; show n + 1 - (i + 1) + 1 ≤ n + 1 - i; omega
        | inr b =>
          have := prg_P (RR_end hR) k _ _ hl.1 es
          rw [sp, es]; show b.1 - (i + 1) + 1 ≤ b.1 - i; omega
      generalize hK : kR n (i + 1) (prP t z k (i + 1)) = K at *
      refine gx_more (a := 10 * K + 1) (b := 2100 * K + 1) (by omega) (by omega) ?_
      refine nX2_369 (kc := 10 * K) (ks := 2100 * K) (pc := 144) rfl dX2_part_144 ?_
      have ha : (gxadd h1 (.inr (18, [.null]))).1 h1.2 = some (.inr (18, [.null])) := gxadd_self _ _
      have f2 : ∀ q, q ≠ h1.2 → (gxadd h1 (.inr (18, [.null]))).1 q = h1.1 q := fun q hq => gxadd_ne hq
      have s2 : (gxadd h1 (.inr (18, [.null]))).2 = h1.2 + 1 := rfl
      generalize gxadd h1 (.inr (18, [.null])) = h2 at *
      have R2 := R1.gr (h' := h2) (by omega) (fun q _ b => f2 q (by omega))
      clear hr hso hva hpl htp hq hst
      obtain ⟨so, pl, va, ⟨hr, htp, hso, hva, hpl⟩, hin, hnz, hz, hend, hq, hst, hrz⟩ := id R2
      have IH := IHp h2 (i + 1) (by omega) R2
      rw [hK] at IH
      refine gx_dup (pc := 147) dX2_part_147 rfl ?_
      refine gx_aload_n (pc := 148) dX2_part_148 rfl ?_
      refine gx_more (a := 0 + 10 * K) (b := 0 + 2100 * K) (by omega) (by omega) ?_
      refine kX2_357x (d' := d - 1) (kc := 0) (ks := 0) (mc := 10 * K) (ms := 2100 * K) (pc := 149) rfl IH (gxRc.of rfl hr) (by omega) (Nat.le_of_ble_eq_true rfl) dX2_part_149 (fun a2 h3 e3 => ?_) (fun y h' e => gxT_out (by decide +kernel) (Or.inr ⟨y, rfl, ?_⟩))
      · obtain ⟨j, ev, cs, e3, hij, R3, g3, x3⟩ := e3
        rw [e3, rB_r] at sp
        have s3 := g3.1
        have hrz3 := R3.lt
        have ha3 : h3.1 h1.2 = some (.inr (18, [.null])) := by rw [g3.2 _ (by omega) (by omega)]; exact ha
        refine kX2_371 (kc := 0) (ks := 0) (mc := 0) (ms := 0) (pc := 152) rfl (c_noti (d := d - 1) (by omega) (by omega) ha3 a2) (by omega) (Nat.le_of_ble_eq_true rfl) dX2_part_152 (fun h4 e4 => ?_)
        obtain ⟨s4, e4, f4⟩ := e4
        have R4 := R3.gr (h' := h4) (by omega) (fun q _ b => f4 q (by omega))
        refine gx_goto (pc := 155) 162 dX2_part_155 (by decide) ?_
        refine gx_astore_n (pc := 162) dX2_part_162 (by decide) rfl ?_
        refine gx_iload_n (pc := 163) dX2_part_163 rfl ?_
        refine gx_if_ne (pc := 164) 173 dX2_part_164 (by decide) (fun c2 => ?_) (fun c2 => ?_)
        · refine K173 h4 h1.2 j _ _ sp (by omega) R4 ⟨by omega, fun q a b => by rw [f4 q (by omega), g3.2 q (by omega) b, f2 q (by omega), E1.2 q b]⟩ ?_
          rw [show 4 * (k + 1) = 4 * k + 3 + 1 by omega]
          refine ⟨⟨by omega, by omega⟩, Or.inr (Or.inr (Or.inl ⟨a2, ev, e4, ?_, rfl⟩))⟩
          exact (((x3.gr (fun q a _ => f4 q (by omega))).mo (by omega) (by omega)).up (by omega))
        · exact absurd c2 (by decide)
      · obtain ⟨f, e3, e4⟩ := e
        refine ⟨f, by rw [sp, e3]; rfl, (e4.mo (by omega)).tr ⟨by omega, fun q a b => by rw [f2 q (by omega), E1.2 q b]⟩⟩
  | false =>
    rw [hn] at K173
    rw [hn, if_neg (by decide)] at sp
    have room : kR n (i + 1) (prA t z (prP t z k) (i + 1)) + 1 ≤ kR n i (prP t z (k + 1) i) := by
      cases es : prA t z (prP t z k) (i + 1) with
      | inl f => rw [sp, es]; show n + 1 - (i + 1) + 1 ≤ n + 1 - i; omega
      | inr b =>
        have := prg_A (RR_end hR) (prg_P (RR_end hR) k) _ _ hl.1 es
        rw [sp, es, rB_r]
        split
        · show b.1 - (i + 1) + 1 ≤ b.1 + 1 - i; omega
        · show b.1 - (i + 1) + 1 ≤ n + 1 - i; omega
    generalize hK : kR n (i + 1) (prA t z (prP t z k) (i + 1)) = K at *
    have IH := IHa h1 (i + 1) nz1 R1
    rw [hK] at IH
    refine gx_iload_n (pc := 140) dX2_part_140 rfl ?_
    refine gx_if_eq (pc := 141) 158 dX2_part_141 (by decide) (fun c1 => ?_) (fun c1 => ?_)
    · refine gx_aload_n (pc := 158) dX2_part_158 rfl ?_
      refine gx_more (a := 1 + 10 * K) (b := 7 + 2100 * K) (by omega) (by omega) ?_
      refine kX2_315x (d' := d - 1) (kc := 1) (ks := 7) (mc := 10 * K) (ms := 2100 * K) (pc := 159) rfl IH (gxRc.of rfl hr) (by omega) (Nat.le_of_ble_eq_true rfl) dX2_part_159 (fun a2 h3 e3 => ?_) (fun y h' e => gxT_out (by decide +kernel) (Or.inr ⟨y, rfl, ?_⟩))
      · obtain ⟨j, ev, cs, e3, hij, R3, g3, x3⟩ := e3
        rw [e3, rB_r] at sp
        dsimp only at sp
        have s3 := g3.1
        have hrz3 := R3.lt
        clear hr hso hva hpl htp hq hst
        obtain ⟨so, pl, va, ⟨hr, htp, hso, hva, hpl⟩, hin, hnz, hz, hend, hq, hst, hrz⟩ := id R3
        refine gx_astore_n (pc := 162) dX2_part_162 (by decide) rfl ?_
        refine gx_iload_n (pc := 163) dX2_part_163 rfl ?_
        refine gx_if_ne (pc := 164) 173 dX2_part_164 (by decide) (fun c2 => ?_) (fun c2 => ?_)
        · exact absurd rfl c2
        · refine gx_r0 ?_
          refine gx_aload_n (pc := 167) dX2_part_167 rfl ?_
          refine gx_bipush (pc := 168) (v := 41) dX2_part_168 (by decide) ?_
          refine kX2_182x (kc := 0) (ks := 0) (mc := 1) (ms := 7) (pc := 170) rfl (c_Rsign (d := d - 1) nr (by omega) (by omega) R3 41) (gxRc.of rfl hr) (by omega) (Nat.le_of_ble_eq_true rfl) dX2_part_170 (fun h4 e4 => ?_) (fun y h' e => gxT_out (by decide +kernel) (Or.inr ⟨y, rfl, _, by rw [sp, if_neg (by rw [e.1]; decide)], (e.2.mo (by omega)).tr ⟨by omega, fun q a b => by rw [g3.2 q (by omega) b, E1.2 q b]⟩⟩))
          obtain ⟨e4, R4, E4⟩ := e4
          rw [if_pos e4] at sp
          have s4 := E4.1
          refine K173 h4 a2 (j + 1) _ _ sp (by omega) R4 ⟨by omega, fun q a b => by rw [E4.2 q b, g3.2 q (by omega) b, E1.2 q b]⟩ ?_
          rw [s4]
          exact ((x3.gr (fun q a _ => E4.2 q (by omega))).mo (by omega) (Nat.le_refl _)).up (by omega)
      · obtain ⟨f, e3, e4⟩ := e
        exact ⟨f, by rw [sp, e3]; rfl, (e4.mo (by omega)).tr ⟨by omega, fun q a b => by rw [E1.2 q b]⟩⟩
    · exact absurd rfl c1
end MBM
