/-! ===== COMPONENT AR: a person; fed ===== -/
set_option maxRecDepth 100000
section AR
variable {G : gxG} {d : Nat} {h : gxH} {x r tk tr gl sl bl py pt ng ft mk lo hi ta fa P S E be bc n se sc sn : Nat} {gg : Int64} {A : Nat → Nat → Int32} {s : Nat → Int32} {w : Option gxEv} {b : Bool} {bf : Nat → Nat} {sv : Nat → Int32}
theorem spNtS_net (A : Nat → Nat → Int32) (s : Nat → Int32) (p : Nat) : ∀ o, spNtS s p o = spNet (setS A s) p o
  | 0 => rfl
  | o + 1 => by rw [spNtS, spNet, spNtS_net A s p o, setS_50]
theorem c_Xperson (nz : gxN G ≤ h.2) (hN : gxN G ≤ lo) (hd : 96 ≤ d) (hO : XF h x r tk tr gl sl bl py pt ng ft gg mk) (hX : TT h lo hi tk ta fa A s P S E w true) (p what : Int32) : gxM G mX1_person d 1 6 [.ref x, .int p, .int what] h (gxQx (gxQi (fun v h' => (0 ≤ what ∧ what ≤ 7) ∧ ∃ p', p' < P ∧ p = nI p' ∧ v = spPerson w (setS A s) P S p' what ∧ fE fa h h')) (fun y h' => ¬ (inN p P ∧ (0 ≤ what ∧ what ≤ 7)) ∧ y = h.2 ∧ h'.2 = h.2 + 1 ∧ lowE h.2 h h' ∧ ∃ fs, h'.1 h.2 = some (.inr (35, fs)))) := by
  have hx := hO
  have hX0 := hX
  obtain ⟨hT, hK, hM⟩ := hX; have hT0 := hT; obtain ⟨i1, i2, hf, nl, ol, pl, sl, el, fo, wv, pa, sa, ea, i3, ht, hfo, hpl, hsl, hel, hpa, hsa, hea, hwv⟩ := hT; have hpl0 := hpl.ls; have hsl0 := hsl.ls; have hel0 := hel.ls; have hpl := hpl0; have hsl := hsl0; have hel := hel0; obtain ⟨_, _, _, _, hpl, _⟩ := hpl; obtain ⟨_, _, _, _, hsl, _⟩ := hsl; obtain ⟨_, _, _, _, hel, _⟩ := hel
  obtain ⟨kn, aw, rk, fi, ne, htk, hkn, haw, hrk, hfi, hne, ekn, eaw, erk, efi, ene⟩ := id hK
  have hP6 := hM.2.1
  refine gxM_of rfl (Nat.le_of_ble_eq_true rfl) rfl ?_
  have N : ¬ (inN p P ∧ (0 ≤ what ∧ what ≤ 7)) → gxV G mX1_person d (0 + 1) (0 + 6) 18 [some (.ref x), some (.int p), some (.int what)] [] h (gxQx (gxQi (fun v h' => (0 ≤ what ∧ what ≤ 7) ∧ ∃ p', p' < P ∧ p = nI p' ∧ v = spPerson w (setS A s) P S p' what ∧ fE fa h h')) (fun y h' => ¬ (inN p P ∧ (0 ≤ what ∧ what ≤ 7)) ∧ y = h.2 ∧ h'.2 = h.2 + 1 ∧ lowE h.2 h h' ∧ ∃ fs, h'.1 h.2 = some (.inr (35, fs)))) := fun hh => gx_nsee (pc := 18) (pc3 := 21) (pc4 := 22) (pc7 := 25) rfl rfl rfl rfl nz (by omega) dX1_person_18 dX1_person_21 dX1_person_22 dX1_person_25 (by decide +kernel) (fun h' a b c => Or.inr ⟨h.2, rfl, hh, rfl, a, b, c⟩)
  refine gx_aload_n (pc := 0) dX1_person_0 rfl ?_
  refine gx_iload_n (pc := 1) dX1_person_1 rfl ?_
  refine kX1_146 (kc := 1) (ks := 6) (mc := 0) (ms := 0) (pc := 2) rfl (c_XisPerson (d := d - 1) (by omega) hO.O hX0 p) (gxRc.of rfl hx) (by omega) (Nat.le_of_ble_eq_true rfl) dX1_person_2 (fun r1 h1 e1 => ?_)
  obtain ⟨e1, e2⟩ := e1
  subst h1
  refine gx_if_eq (pc := 5) 18 dX1_person_5 (by decide) (fun c1 => ?_) (fun c1 => ?_)
  · rcases e1 with ⟨z, rfl⟩ | ⟨z, rfl⟩
    · exact absurd c1 (by decide)
    · exact N (fun hh => z hh.1)
  · rcases e1 with ⟨⟨p', hp', ep⟩, rfl⟩ | ⟨z, rfl⟩
    · refine gx_iload_n (pc := 8) dX1_person_8 rfl ?_
      refine gx_iconst (pc := 9) (v := 0) dX1_person_9 (by decide) ?_
      refine gx_bipush (pc := 10) (v := 7) dX1_person_10 (by decide) ?_
      refine kX1_140 (kc := 1) (ks := 6) (mc := 0) (ms := 0) (pc := 12) rfl (c_Xwithin (d := d - 1) what 0 7) (by omega) (Nat.le_of_ble_eq_true rfl) dX1_person_12 (fun r1 h1 e1 => ?_)
      obtain ⟨rfl, e1⟩ := e1
      subst h1
      refine gx_if_ne (pc := 15) 26 dX1_person_15 (by decide) (fun c2 => ?_) (fun c2 => ?_)
      · have hw := wi_in c2
        subst ep
        obtain ⟨_, hpe⟩ := hpa p' hp'
        obtain ⟨m, hm, rfl⟩ := nI_of2 (M := 7) (n := 7) (by decide) (Int32.not_lt.mpr hw.1) hw.2
        have fin : ∀ v h1, fE fa h h1 → v = spPerson w (setS A s) P S p' (nI m) → (fun v h' => (0 ≤ nI m ∧ nI m ≤ 7) ∧ ∃ p2, p2 < P ∧ nI p' = nI p2 ∧ v = spPerson w (setS A s) P S p2 (nI m) ∧ fE fa h h') v h1 := fun v h1 e1 e2 => ⟨hw, p', hp', rfl, e2, e1⟩
        have hm8 : m = 0 ∨ m = 1 ∨ m = 2 ∨ m = 3 ∨ m = 4 ∨ m = 5 ∨ m = 6 ∨ m = 7 := by omega
        refine gx_iload_n (pc := 26) dX1_person_26 rfl ?_
        rcases hm8 with e | e | e | e | e | e | e | e <;> subst e
        · refine gx_tableIn (pc := 27) 68 dX1_person_27 (by decide) (by decide) rfl rfl ?_
          refine gx_aload_n (pc := 68) dX1_person_68 rfl ?_
          refine kX1_119 (kc := 1) (ks := 6) (mc := 0) (ms := 0) (pc := 69) rfl (c_now (d := d - 1) hO.O hX0) (gxRc.of rfl hx) (by omega) (Nat.le_of_ble_eq_true rfl) dX1_person_69 (fun r1 h1 e3 => ?_)
          obtain ⟨rfl, e3⟩ := e3
          subst h1
          refine gx_get (pc := 72) fX1_128 ht rfl dX1_person_72 ?_
          refine gx_iload_n (pc := 75) dX1_person_75 rfl ?_
          refine kX1_153 (kc := 1) (ks := 6) (mc := 0) (ms := 0) (pc := 76) rfl (c_get (d := d - 1) (by omega) hpl0 p' hp') (gxRc.of rfl hpl) (by omega) (Nat.le_of_ble_eq_true rfl) dX1_person_76 (fun r1 h1 e3 => ?_)
          obtain ⟨rfl, e3⟩ := e3
          subst h1
          refine gx_castP (pc := 79) hpe q996 dX1_person_79 ?_
          refine kPX1_157 (pc := 82) hpe rfl (by omega) (Nat.le_of_ble_eq_true rfl) dX1_person_82 ?_
          exact gx_ireturn (pc := 85) rfl dX1_person_85 (Or.inl (⟨_, rfl, fin _ _ (fE.rf _ _) rfl⟩))
        · refine gx_tableIn (pc := 27) 86 dX1_person_27 (by decide) (by decide) rfl rfl ?_
          refine gx_aload_n (pc := 86) dX1_person_86 rfl ?_
          refine gx_get (pc := 87) fX1_40 hx rfl dX1_person_87 ?_
          refine gx_get (pc := 90) fX1_160 htk rfl dX1_person_90 ?_
          refine gx_iload_n (pc := 93) dX1_person_93 rfl ?_
          refine gx_iald (pc := 94) (p') hrk (by first | rfl | simp only [gx_lit, nI_add, pk_mul]) (by omega) (by decide) dX1_person_94 ?_
          rw [erk p' (by omega)]
          exact gx_ireturn (pc := 95) rfl dX1_person_95 (Or.inl (⟨_, rfl, fin _ _ (fE.rf _ _) rfl⟩))
        · refine gx_tableIn (pc := 27) 96 dX1_person_27 (by decide) (by decide) rfl rfl ?_
          refine gx_aload_n (pc := 96) dX1_person_96 rfl ?_
          refine kX1_119 (kc := 1) (ks := 6) (mc := 0) (ms := 0) (pc := 97) rfl (c_now (d := d - 1) hO.O hX0) (gxRc.of rfl hx) (by omega) (Nat.le_of_ble_eq_true rfl) dX1_person_97 (fun r1 h1 e3 => ?_)
          obtain ⟨rfl, e3⟩ := e3
          subst h1
          refine gx_get (pc := 100) fX1_128 ht rfl dX1_person_100 ?_
          refine gx_iload_n (pc := 103) dX1_person_103 rfl ?_
          refine kX1_153 (kc := 1) (ks := 6) (mc := 0) (ms := 0) (pc := 104) rfl (c_get (d := d - 1) (by omega) hpl0 p' hp') (gxRc.of rfl hpl) (by omega) (Nat.le_of_ble_eq_true rfl) dX1_person_104 (fun r1 h1 e3 => ?_)
          obtain ⟨rfl, e3⟩ := e3
          subst h1
          refine gx_castP (pc := 107) hpe q996 dX1_person_107 ?_
          refine kFX1_164 (pc := 110) hpe rfl dX1_person_110 ?_
          exact gx_ireturn (pc := 113) rfl dX1_person_113 (Or.inl (⟨_, rfl, fin _ _ (fE.rf _ _) rfl⟩))
        · refine gx_tableIn (pc := 27) 114 dX1_person_27 (by decide) (by decide) rfl rfl ?_
          refine gx_aload_n (pc := 114) dX1_person_114 rfl ?_
          refine gx_get (pc := 115) fX1_40 hx rfl dX1_person_115 ?_
          refine gx_iload_n (pc := 118) dX1_person_118 rfl ?_
          refine kX1_167 (kc := 1) (ks := 6) (mc := 0) (ms := 0) (pc := 119) rfl (c_Tknown (d := d - 1) (by omega) hX0 (nI p')) (gxRc.of rfl htk) (by omega) (Nat.le_of_ble_eq_true rfl) dX1_person_119 (fun r1 h1 e1 => ?_)
          obtain ⟨rfl, e1⟩ := e1
          subst h1
          exact gx_ireturn (pc := 122) rfl dX1_person_122 (Or.inl (⟨_, rfl, fin _ _ (fE.rf _ _) rfl⟩))
        · refine gx_tableIn (pc := 27) 123 dX1_person_27 (by decide) (by decide) rfl rfl ?_
          refine gx_aload_n (pc := 123) dX1_person_123 rfl ?_
          refine gx_get (pc := 124) fX1_40 hx rfl dX1_person_124 ?_
          refine gx_iload_n (pc := 127) dX1_person_127 rfl ?_
          refine kX1_171 (kc := 1) (ks := 6) (mc := 0) (ms := 0) (pc := 128) rfl (c_Tpurse (d := d - 1) hN (by omega) hX0 (nI p')) (gxRc.of rfl htk) (by omega) (Nat.le_of_ble_eq_true rfl) dX1_person_128 (fun r1 h1 e1 => ?_)
          obtain ⟨rfl, e1⟩ := e1
          exact gx_ireturn (pc := 131) rfl dX1_person_131 (Or.inl (⟨_, rfl, fin _ _ e1 rfl⟩))
        · refine gx_tableIn (pc := 27) 132 dX1_person_27 (by decide) (by decide) rfl rfl ?_
          have bb := bit01 (s 78 >>> (nI p' &&& 31))
          refine gx_aload_n (pc := 132) dX1_person_132 rfl ?_
          refine gx_get (pc := 133) fX1_40 hx rfl dX1_person_133 ?_
          refine gx_get (pc := 136) fX1_174 htk rfl dX1_person_136 ?_
          refine gx_iload_n (pc := 139) dX1_person_139 rfl ?_
          refine kX1_176 (kc := 1) (ks := 6) (mc := 0) (ms := 0) (pc := 140) rfl (c_has (d := d - 1) (s 78) (nI p')) (by omega) (Nat.le_of_ble_eq_true rfl) dX1_person_140 (fun r1 h1 e3 => ?_)
          obtain ⟨rfl, e3⟩ := e3
          subst h1
          refine gx_if_eq (pc := 143) 150 dX1_person_143 (by decide) (fun c3 => ?_) (fun c3 => ?_)
          · have z := zi_eq0 c3
            rw [hs, decide_eq_false_iff_not] at z
            refine gx_iconst (pc := 150) (v := 0) dX1_person_150 (by decide) ?_
            exact gx_ireturn (pc := 151) rfl dX1_person_151 (Or.inl (⟨_, rfl, fin _ _ (fE.rf _ _) (bb.resolve_right z).symm⟩))
          · have z := zi_ne0 c3
            rw [hs, decide_eq_true_eq] at z
            refine gx_iconst (pc := 146) (v := 1) dX1_person_146 (by decide) ?_
            refine gx_goto (pc := 147) 151 dX1_person_147 (by decide) ?_
            exact gx_ireturn (pc := 151) rfl dX1_person_151 (Or.inl (⟨_, rfl, fin _ _ (fE.rf _ _) z.symm⟩))
        · refine gx_tableIn (pc := 27) 152 dX1_person_27 (by decide) (by decide) rfl rfl ?_
          refine gx_aload_n (pc := 152) dX1_person_152 rfl ?_
          refine gx_get (pc := 153) fX1_40 hx rfl dX1_person_153 ?_
          refine gx_get (pc := 156) fX1_180 htk rfl dX1_person_156 ?_
          refine gx_iload_n (pc := 159) dX1_person_159 rfl ?_
          refine gx_iald (pc := 160) (p') hfi (by first | rfl | simp only [gx_lit, nI_add, pk_mul]) (by omega) (by decide) dX1_person_160 ?_
          rw [efi p' (by omega)]
          exact gx_ireturn (pc := 161) rfl dX1_person_161 (Or.inl (⟨_, rfl, fin _ _ (fE.rf _ _) rfl⟩))
        · refine gx_tableOut (pc := 27) 162 dX1_person_27 (Or.inr (by decide)) rfl ?_
          refine gx_aload_n (pc := 162) dX1_person_162 rfl ?_
          refine gx_get (pc := 163) fX1_40 hx rfl dX1_person_163 ?_
          refine gx_get (pc := 166) fX1_183 htk rfl dX1_person_166 ?_
          refine gx_iload_n (pc := 169) dX1_person_169 rfl ?_
          refine gx_iald (pc := 170) (p') hne (by first | rfl | simp only [gx_lit, nI_add, pk_mul]) (by omega) (by decide) dX1_person_170 ?_
          rw [ene p' (by omega) rfl]
          exact gx_ireturn (pc := 171) rfl dX1_person_171 (Or.inl (⟨_, rfl, fin _ _ (fE.rf _ _) (spNtS_net A s p' 6)⟩))
      · exact N (fun hh => wi_out c2 hh.2)
    · exact absurd rfl c1
/-- what one word does to the tape -/
def spFd (v : Int64) (q : tpT) : Nat → tpT
  | 0 => q
  | k + 1 => tpStep (spFd v q k) (spByte v k)
theorem spFd_le {v : Int64} {q : tpT} (hq : q.1 ≤ 1000) : ∀ k, (spFd v q k).1 ≤ 1000
  | 0 => hq
  | k + 1 => by rw [spFd]; exact tpStep_le (spFd_le hq k)
theorem spFd_feed (x y z : Int64) (q : tpT) : spFd z (spFd y (spFd x q 8) 8) 8 = spFeed q x y z 24 := by
  have b : ∀ v k, spByte v (k + 8) = spByte v k := fun v k => by unfold spByte; rw [Nat.add_mod_right]
  have b2 : ∀ v k, spByte v (k + 16) = spByte v k := fun v k => by unfold spByte; rw [show k + 16 = k + 8 + 8 from rfl, Nat.add_mod_right, Nat.add_mod_right]
  have h1 : ∀ k, k ≤ 8 → spFeed q x y z k = spFd x q k := by
    intro k
    induction k with
    | zero => intro _; rfl
    | succ k ih => intro hk; rw [spFeed, spFd, ih (by omega), if_pos (by omega)]
  have h2 : ∀ k, k ≤ 8 → spFeed q x y z (k + 8) = spFd y (spFd x q 8) k := by
    intro k
    induction k with
    | zero => intro _; exact h1 8 (by decide)
    | succ k ih => intro hk; rw [show k + 1 + 8 = k + 8 + 1 from rfl, spFeed, spFd, ih (by omega), if_neg (by omega), if_pos (by omega), b]
  have h3 : ∀ k, k ≤ 8 → spFeed q x y z (k + 16) = spFd z (spFd y (spFd x q 8) 8) k := by
    intro k
    induction k with
    | zero => intro _; exact h2 8 (by decide)
    | succ k ih => intro hk; rw [show k + 1 + 16 = k + 16 + 1 from rfl, spFeed, spFd, ih (by omega), if_neg (by omega), if_neg (by omega), b2]
  exact (h3 8 (by decide)).symm
/-- the reader's cell and its tape -/
def RT (h : gxH) (r : Nat) (dv : Value) (q : tpT) (at' dp : Int32) : Prop := RO h r dv (nI q.1) at' dp ∧ h.1 (r + 4) = some (.inl (0, 1000, .inl q.2))
theorem c_Rfeed (nr : gxN G ≤ r) (hd : 1 ≤ d) {h : gxH} {dv : Value} {at' dp : Int32} {q : tpT} (hR : RT h r dv q at' dp) (hq : q.1 ≤ 1000) (v : Int64) : gxM G mX2_feed d 0 0 [.ref r, .long v] h (gxQv (fun h' => RT h' r dv (spFd v q 8) at' dp ∧ h'.2 = h.2 ∧ ∀ a, a ≠ r → a ≠ r + 4 → h'.1 a = h.1 a)) := by
  have ntp : gxN G ≤ r + 4 := by omega
  refine gxM_of rfl (Nat.le_of_ble_eq_true rfl) rfl ?_
  have L : ∀ m k h1 (x4 : Option Value), m + k = 8 → RT h1 r dv (spFd v q k) at' dp → h1.2 = h.2 → (∀ a, a ≠ r → a ≠ r + 4 → h1.1 a = h.1 a) → gxV G mX2_feed d 0 0 3 [some (.ref r), some (.long v), none, some (.int (nI 56 - 8 * nI k)), x4] [] h1 (gxQv (fun h' => RT h' r dv (spFd v q 8) at' dp ∧ h'.2 = h.2 ∧ ∀ a, a ≠ r → a ≠ r + 4 → h'.1 a = h.1 a)) := by
    intro m
    induction m with
    | zero =>
      intro k h1 x4 hm R1 z1 z2
      have : k = 8 := by omega
      subst this
      refine gx_iload_n (pc := 3) dX2_feed_3 rfl ?_
      refine gx_if_lt (pc := 4) 73 dX2_feed_4 (by decide) (fun c1 => ?_) (fun c1 => ?_)
      · exact gx_return (pc := 73) rfl dX2_feed_73 (⟨rfl, ⟨R1, z1, z2⟩⟩)
      · exact absurd (show nI 56 - 8 * nI 8 < 0 by decide) c1
    | succ m ih =>
      intro k h1 x4 hm R1 z1 z2
      have hk8 : k < 8 := by omega
      have hidx : nI 56 - 8 * nI k = nI (56 - 8 * (k % 8)) := by
        rw [Nat.mod_eq_of_lt hk8]
        have : k = 0 ∨ k = 1 ∨ k = 2 ∨ k = 3 ∨ k = 4 ∨ k = 5 ∨ k = 6 ∨ k = 7 := by omega
        rcases this with e | e | e | e | e | e | e | e <;> subst e <;> rfl
      have hnn : ¬ (nI (56 - 8 * (k % 8)) : Int32) < 0 := Int32.not_lt.mpr (nI_le (a := 0) (by omega) (by omega))
      have hnx : nI (56 - 8 * (k % 8)) + (-8) = nI 56 - 8 * nI (k + 1) := by
        have : k = 0 ∨ k = 1 ∨ k = 2 ∨ k = 3 ∨ k = 4 ∨ k = 5 ∨ k = 6 ∨ k = 7 := by omega
        rcases this with e | e | e | e | e | e | e | e <;> subst e <;> rfl
      rw [hidx]
      have hr := R1.1
      have htp := R1.2
      generalize hq1 : spFd v q k = q1 at *
      have hq1l : q1.1 ≤ 1000 := by rw [← hq1]; exact spFd_le hq k
      have stp : spFd v q (k + 1) = tpStep q1 (spByte v k) := by rw [spFd, hq1]
      have K67 : ∀ h2, RT h2 r dv (spFd v q (k + 1)) at' dp → h2.2 = h.2 → (∀ a, a ≠ r → a ≠ r + 4 → h2.1 a = h.1 a) → gxV G mX2_feed d 0 0 67 [some (.ref r), some (.long v), none, some (.int (nI (56 - 8 * (k % 8)))), some (.int (spByte v k))] [] h2 (gxQv (fun h' => RT h' r dv (spFd v q 8) at' dp ∧ h'.2 = h.2 ∧ ∀ a, a ≠ r → a ≠ r + 4 → h'.1 a = h.1 a)) := by
        intro h2 R2 y1 y2
        refine gx_iincc (pc := 67) (c := (-8)) dX2_feed_67 rfl (by decide) (by decide) rfl ?_
        refine gx_goto (pc := 70) 3 dX2_feed_70 (by decide) ?_
        rw [hnx]
        exact ih (k + 1) h2 _ (by omega) R2 y1 y2
      have K36 : spSign (spByte v k) = true → gxV G mX2_feed d 0 0 36 [some (.ref r), some (.long v), none, some (.int (nI (56 - 8 * (k % 8)))), some (.int (spByte v k))] [] h1 (gxQv (fun h' => RT h' r dv (spFd v q 8) at' dp ∧ h'.2 = h.2 ∧ ∀ a, a ≠ r → a ≠ r + 4 → h'.1 a = h.1 a)) := by
        intro hsg
        refine gx_aload_n (pc := 36) dX2_feed_36 rfl ?_
        refine gx_get (pc := 37) fX2_99 hr rfl dX2_feed_37 ?_
        refine gx_sipush (pc := 40) (v := 1000) dX2_feed_40 (by decide) ?_
        refine gx_icmp_ge (pc := 43) 67 dX2_feed_43 (by decide) (fun c3 => ?_) (fun c3 => ?_)
        · have : ¬ q1.1 < 1000 := fun hh => absurd (nI_lt hh (by omega)) (Int32.not_lt.mpr c3)
          exact K67 h1 (by rw [stp, tpStep, if_neg (fun hh => this hh.1)]; exact R1) z1 z2
        · have hlt : q1.1 < 1000 := by
            rcases Nat.lt_or_ge q1.1 1000 with z | z
            · exact z
            · exact absurd (nI_le z (by omega)) c3
          refine gx_aload_n (pc := 46) dX2_feed_46 rfl ?_
          refine gx_get (pc := 47) fX2_79 hr rfl dX2_feed_47 ?_
          refine gx_aload_n (pc := 50) dX2_feed_50 rfl ?_
          refine gx_get (pc := 51) fX2_99 hr rfl dX2_feed_51 ?_
          refine gx_iload (pc := 54) dX2_feed_54 rfl ?_
          refine gx_iast (pc := 56) (q1.1) htp ntp (by first | rfl | simp only [gx_lit, nI_add, pk_mul]) (by omega) (by decide) dX2_feed_56 ?_
          have htp2 : (gxup h1 (r + 4) (.inl (0, 1000, .inl (upd q1.2 q1.1 (spByte v k))))).1 (r + 4) = some (.inl (0, 1000, .inl (upd q1.2 q1.1 (spByte v k)))) := gxup_self _ _ _
          have f2 : ∀ a, a ≠ r + 4 → (gxup h1 (r + 4) (.inl (0, 1000, .inl (upd q1.2 q1.1 (spByte v k))))).1 a = h1.1 a := fun a ha => gxup_ne ha
          have s2 : (gxup h1 (r + 4) (.inl (0, 1000, .inl (upd q1.2 q1.1 (spByte v k))))).2 = h1.2 := rfl
          generalize gxup h1 (r + 4) (.inl (0, 1000, .inl (upd q1.2 q1.1 (spByte v k)))) = h2 at *
          have hr2 : RO h2 r dv (nI q1.1) at' dp := by show h2.1 r = _; rw [f2 r (by omega)]; exact hr
          clear hr
          have hr := hr2
          refine gx_aload_n (pc := 57) dX2_feed_57 rfl ?_
          refine gx_dup (pc := 58) dX2_feed_58 rfl ?_
          refine gx_get (pc := 59) fX2_99 hr rfl dX2_feed_59 ?_
          refine gx_iconst (pc := 62) (v := 1) dX2_feed_62 (by decide) ?_
          refine gx_iadd (pc := 63) dX2_feed_63 ?_
          refine gx_put (pc := 64) fX2_99 hr nr (by first | exact Nat.le_of_ble_eq_true rfl | simp) tX2_5 rfl rfl dX2_feed_64 ?_
          change gxV _ _ _ _ _ _ _ _ (gxup h2 r (.inr (1, [.ref (r + 1), .ref (r + 2), .ref (r + 3), dv, .ref (r + 4), .int (nI q1.1 + 1), .ref (r + 5), .ref (r + 6), .ref (r + 7), .int at', .int dp]))) _
          have hr3 : (gxup h2 r (.inr (1, [.ref (r + 1), .ref (r + 2), .ref (r + 3), dv, .ref (r + 4), .int (nI q1.1 + 1), .ref (r + 5), .ref (r + 6), .ref (r + 7), .int at', .int dp]))).1 r = some (.inr (1, [.ref (r + 1), .ref (r + 2), .ref (r + 3), dv, .ref (r + 4), .int (nI q1.1 + 1), .ref (r + 5), .ref (r + 6), .ref (r + 7), .int at', .int dp])) := gxup_self _ _ _
          have f3 : ∀ a, a ≠ r → (gxup h2 r (.inr (1, [.ref (r + 1), .ref (r + 2), .ref (r + 3), dv, .ref (r + 4), .int (nI q1.1 + 1), .ref (r + 5), .ref (r + 6), .ref (r + 7), .int at', .int dp]))).1 a = h2.1 a := fun a ha => gxup_ne ha
          have s3 : (gxup h2 r (.inr (1, [.ref (r + 1), .ref (r + 2), .ref (r + 3), dv, .ref (r + 4), .int (nI q1.1 + 1), .ref (r + 5), .ref (r + 6), .ref (r + 7), .int at', .int dp]))).2 = h2.2 := rfl
          generalize gxup h2 r (.inr (1, [.ref (r + 1), .ref (r + 2), .ref (r + 3), dv, .ref (r + 4), .int (nI q1.1 + 1), .ref (r + 5), .ref (r + 6), .ref (r + 7), .int at', .int dp])) = h3 at *
          rw [nI_1] at hr3
          refine K67 h3 ?_ (by rw [s3, s2]; exact z1) (fun a a1 a2 => by rw [f3 a a1, f2 a a2]; exact z2 a a1 a2)
          rw [stp, tpStep, if_pos ⟨hlt, hsg⟩]
          exact ⟨hr3, by rw [f3 _ (by omega)]; exact htp2⟩
      refine gx_iload_n (pc := 3) dX2_feed_3 rfl ?_
      refine gx_if_lt (pc := 4) 73 dX2_feed_4 (by decide) (fun c1 => ?_) (fun c1 => ?_)
      · exact absurd c1 hnn
      · refine gx_lload_n (pc := 7) dX2_feed_7 rfl ?_
        refine gx_iload_n (pc := 8) dX2_feed_8 rfl ?_
        refine gx_lushr (pc := 9) dX2_feed_9 ?_
        refine gx_ldc2 (pc := 10) q585 dX2_feed_10 ?_
        refine gx_land (pc := 13) dX2_feed_13 ?_
        refine gx_l2i (pc := 14) dX2_feed_14 ?_
        refine gx_istore (pc := 15) dX2_feed_15 (by decide) rfl ?_
        change gxV _ _ _ _ _ _ [some (.ref r), some (.long v), none, some (.int (nI (56 - 8 * (k % 8)))), some (.int (spByte v k))] _ _ _
        refine gx_iload (pc := 17) dX2_feed_17 rfl ?_
        refine gx_bipush (pc := 19) (v := 10) dX2_feed_19 (by decide) ?_
        refine gx_icmp_eq (pc := 21) 36 dX2_feed_21 (by decide) (fun c2 => ?_) (fun c2 => ?_)
        · exact K36 (by unfold spSign; rw [c2]; rfl)
        · refine gx_iload (pc := 24) dX2_feed_24 rfl ?_
          refine gx_bipush (pc := 26) (v := 32) dX2_feed_26 (by decide) ?_
          refine gx_bipush (pc := 28) (v := 126) dX2_feed_28 (by decide) ?_
          refine kX2_95 (kc := 0) (ks := 0) (mc := 0) (ms := 0) (pc := 30) rfl (c_Xwithin (d := d - 1) (spByte v k) 32 126) (by omega) (Nat.le_of_ble_eq_true rfl) dX2_feed_30 (fun r1 h2 e1 => ?_)
          obtain ⟨rfl, e1⟩ := e1
          subst h2
          refine gx_if_eq (pc := 33) 67 dX2_feed_33 (by decide) (fun c3 => ?_) (fun c3 => ?_)
          · have z := zi_eq0 c3
            refine K67 h1 ?_ z1 z2
            rw [stp, tpStep, if_neg (fun hh => ?_)]
            · exact R1
            · have hh2 := hh.2
              unfold spSign at hh2
              rw [decide_eq_false c2] at hh2
              first | (rw [z] at hh2; cases hh2) | (simp [z] at hh2)
          · have z := zi_ne0 c3
            exact K36 (by unfold spSign; simp only [z, Bool.or_true])
  refine gx_bipush (pc := 0) (v := 56) dX2_feed_0 (by decide) ?_
  refine gx_istore_n (pc := 2) dX2_feed_2 (by decide) rfl ?_
  exact L 8 0 h none (by omega) hR rfl (fun _ _ _ => rfl)
theorem c_Xfeed (nr : gxN G ≤ r) (hd : 2 ≤ d) (hO : XF h x r tk tr gl sl bl py pt ng ft gg mk) (hxr : x ≠ r ∧ x ≠ r + 4) {dv : Value} {at' dp : Int32} {q : tpT} (hR : RT h r dv q at' dp) (hq : q.1 ≤ 1000) (u v z : Int64) : gxM G mX1_feed d 0 0 [.ref x, .long u, .long v, .long z] h (gxQi (fun a h' => a = nI (spFeed q u v z 24).1 ∧ RT h' r dv (spFeed q u v z 24) at' dp ∧ h'.2 = h.2 ∧ ∀ a, a ≠ r → a ≠ r + 4 → h'.1 a = h.1 a)) := by
  have hx := hO
  refine gxM_of rfl (Nat.le_of_ble_eq_true rfl) rfl ?_
  have hr := hR.1
  refine gx_aload_n (pc := 0) dX1_feed_0 rfl ?_
  refine gx_get (pc := 1) fX1_24 hx rfl dX1_feed_1 ?_
  refine gx_lload_n (pc := 4) dX1_feed_4 rfl ?_
  refine kX1_99 (kc := 0) (ks := 0) (mc := 0) (ms := 0) (pc := 5) rfl (c_Rfeed (d := d - 1) nr (by omega) hR hq u) (gxRc.of rfl hr) (by omega) (Nat.le_of_ble_eq_true rfl) dX1_feed_5 (fun h1 e1 => ?_)
  obtain ⟨R1, s1, f1⟩ := e1
  have hx : h1.1 x = some (.inr (0, [.ref r, .ref tk, .ref tr, .ref gl, .ref sl, .ref bl, .ref py, .ref pt, .ref ng, .ref ft, .long gg, .ref mk])) := by rw [f1 x hxr.1 hxr.2]; exact hO
  have hr := R1.1
  refine gx_aload_n (pc := 8) dX1_feed_8 rfl ?_
  refine gx_get (pc := 9) fX1_24 hx rfl dX1_feed_9 ?_
  refine gx_lload_n (pc := 12) dX1_feed_12 rfl ?_
  refine kX1_99 (kc := 0) (ks := 0) (mc := 0) (ms := 0) (pc := 13) rfl (c_Rfeed (d := d - 1) nr (by omega) R1 (spFd_le hq 8) v) (gxRc.of rfl hr) (by omega) (Nat.le_of_ble_eq_true rfl) dX1_feed_13 (fun h2 e2 => ?_)
  obtain ⟨R2, s2, f2⟩ := e2
  have hx : h2.1 x = some (.inr (0, [.ref r, .ref tk, .ref tr, .ref gl, .ref sl, .ref bl, .ref py, .ref pt, .ref ng, .ref ft, .long gg, .ref mk])) := by rw [f2 x hxr.1 hxr.2, f1 x hxr.1 hxr.2]; exact hO
  have hr := R2.1
  refine gx_aload_n (pc := 16) dX1_feed_16 rfl ?_
  refine gx_get (pc := 17) fX1_24 hx rfl dX1_feed_17 ?_
  refine gx_lload (pc := 20) dX1_feed_20 rfl ?_
  refine kX1_99 (kc := 0) (ks := 0) (mc := 0) (ms := 0) (pc := 22) rfl (c_Rfeed (d := d - 1) nr (by omega) R2 (spFd_le (spFd_le hq 8) 8) z) (gxRc.of rfl hr) (by omega) (Nat.le_of_ble_eq_true rfl) dX1_feed_22 (fun h3 e3 => ?_)
  obtain ⟨R3, s3, f3⟩ := e3
  have hx : h3.1 x = some (.inr (0, [.ref r, .ref tk, .ref tr, .ref gl, .ref sl, .ref bl, .ref py, .ref pt, .ref ng, .ref ft, .long gg, .ref mk])) := by rw [f3 x hxr.1 hxr.2, f2 x hxr.1 hxr.2, f1 x hxr.1 hxr.2]; exact hO
  rw [spFd_feed] at R3
  have hr := R3.1
  refine gx_aload_n (pc := 25) dX1_feed_25 rfl ?_
  refine gx_get (pc := 26) fX1_24 hx rfl dX1_feed_26 ?_
  refine gx_get (pc := 29) fX1_103 hr rfl dX1_feed_29 ?_
  exact gx_ireturn (pc := 32) rfl dX1_feed_32 (⟨_, rfl, ⟨rfl, R3, by omega, fun a a1 a2 => by rw [f3 a a1 a2, f2 a a1 a2, f1 a a1 a2]⟩⟩)
end AR
