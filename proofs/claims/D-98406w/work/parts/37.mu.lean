/-! ===== MODEL U: night, nights, mean, holds ===== -/
set_option maxRecDepth 100000
def spCh (hr : Nat → Int32) (now thn : Nat) : Nat → Int64
  | 0 => 1000000
  | p + 1 => if (nI now >>> (nI p &&& 31)) &&& 1 = 0 then spCh hr now thn p * (if (nI thn >>> (nI p &&& 31)) &&& 1 = 1 then hr p else 1000000 - hr p).toInt64 / 1000000 else spCh hr now thn p
theorem spCh_congr {hr hr' : Nat → Int32} {now thn : Nat} : ∀ n, (∀ p, p < n → hr' p = hr p) → spCh hr' now thn n = spCh hr now thn n
  | 0, _ => rfl
  | n + 1, h => by rw [spCh, spCh, spCh_congr n (fun p hp => h p (by omega)), h n (by omega)]
theorem spChance_congr {A B : Nat → Nat → Int32} (h13 : B 13 = A 13) (h22 : B 22 = A 22) (h24 : B 24 = A 24) (e : Nat) : spChance B e = spChance A e := by
  unfold spChance; rw [h13, h22, h24]
theorem spHe_congr {A B : Nat → Nat → Int32} (h13 : B 13 = A 13) (h22 : B 22 = A 22) (h23 : B 23 = A 23) (h24 : B 24 = A 24) (p f : Nat) (x : Int32) : ∀ e, spHe B p f x e = spHe A p f x e
  | 0 => rfl
  | e + 1 => by rw [spHe, spHe, spHe_congr h13 h22 h23 h24 p f x e, h22, h23, spChance_congr h13 h22 h24]
theorem spHf_congr {A B : Nat → Nat → Int32} (h13 : B 13 = A 13) (h22 : B 22 = A 22) (h23 : B 23 = A 23) (h24 : B 24 = A 24) (E : Nat) (set : Int32) (p : Nat) : ∀ f, spHf B E set p f = spHf A E set p f
  | 0 => rfl
  | f + 1 => by rw [spHf, spHf, spHf_congr h13 h22 h23 h24 E set p f, spHe_congr h13 h22 h23 h24, spSpeaks, spSpeaks, h13]
theorem spHr_congr {A B : Nat → Nat → Int32} (h13 : B 13 = A 13) (h22 : B 22 = A 22) (h23 : B 23 = A 23) (h24 : B 24 = A 24) (P E : Nat) (set : Int32) (f0 : Nat → Int32) : ∀ n, spHr B P E set f0 n = spHr A P E set f0 n
  | 0 => rfl
  | n + 1 => by rw [spHr, spHr, spHr_congr h13 h22 h23 h24 P E set f0 n, spHf_congr h13 h22 h23 h24]
theorem spHr_at {A : Nat → Nat → Int32} {P E : Nat} {set : Int32} {f0 : Nat → Int32} : ∀ n p, p < n → spHr A P E set f0 n p = 1000000 - spHf A E set p P
  | 0, _, h => by omega
  | n + 1, p, h => by
    rw [spHr]
    by_cases e : p = n
    · subst e; simp [upd]
    · simp only [upd]; rw [if_neg e]; exact spHr_at n p (by omega)
/-- what comes of one set now, over the sets from it on -/
def spTn (A : Nat → Nat → Int32) (P E : Nat) (od : Nat → Int32) (now : Nat) (g : Nat → Int32) : Nat → Nat → Int32
  | 0 => g
  | k + 1 => if nI now &&& (nI (now + k) ^^^ -1) = 0 then upd (spTn A P E od now g k) (now + k) (spTn A P E od now g k (now + k) + (spCh (fun p => 1000000 - spHf A E (nI now) p P) now (now + k) P * (od now).toInt64 / 1000000).toInt32) else spTn A P E od now g k
def spNo (A : Nat → Nat → Int32) (P E : Nat) (od g : Nat → Int32) : Nat → Nat → Int32
  | 0 => g
  | n + 1 => if od n = 0 then spNo A P E od g n else spTn A P E od n (spNo A P E od g n) (2 ^ P - n)
def spFil (f : Nat → Int32) (v : Int32) : Nat → Nat → Int32
  | 0 => f
  | n + 1 => upd (spFil f v n) n v
def spCpy (f g : Nat → Int32) : Nat → Nat → Int32
  | 0 => f
  | n + 1 => upd (spCpy f g n) n (g n)
def spNi (A : Nat → Nat → Int32) (P E : Nat) : Nat → Int32 := spNo A P E (A 62) (spFil (A 63) 0 64) (2 ^ P)
section MU
variable {G : gxG} {d : Nat} {h : gxH} {b : Nat} {σ : mS} {P S E : Nat} {w : Option gxEv}
theorem c_night (hb : gxN G ≤ b) (hd : 3 ≤ d) (hT : mT σ.2.2.1 P S E w) : mMv G mX10_night d [.ref b] h b σ (fun σ' => ∃ hr, σ' = mSA σ (setJ (setJ (setJ σ.2.2.1 62 (spCpy (σ.2.2.1 62) (spNi σ.2.2.1 P E) 64)) 63 (spNi σ.2.2.1 P E)) 64 hr)) := by
  have hP := hT.1
  have hP6 := hT.2.1
  obtain ⟨hsh, h64⟩ := shl_P hP6
  have hN1 : 0 < 2 ^ P := Nat.pow_pos (by decide)
  refine gxM_of rfl (Nat.le_of_ble_eq_true rfl) rfl ?_
  have hM : ∀ g hr : Nat → Int32, mT (mSA σ (setJ (setJ σ.2.2.1 63 g) 64 hr)).2.2.1 P S E w := fun g hr => (hT.J (by omega) _).J (by omega) _
  have q : ∀ (g hr : Nat → Int32) j, j ≠ 63 → j ≠ 64 → (mSA σ (setJ (setJ σ.2.2.1 63 g) 64 hr)).2.2.1 j = σ.2.2.1 j := fun g hr j h1 h2 => by rw [mSA_A, setJ_ne h2, setJ_ne h1]
  have q63 : ∀ (g hr : Nat → Int32), (mSA σ (setJ (setJ σ.2.2.1 63 g) 64 hr)).2.2.1 63 = g := fun g hr => by rw [mSA_A, setJ_ne (by decide), setJ_j]
  have q64 : ∀ (g hr : Nat → Int32), (mSA σ (setJ (setJ σ.2.2.1 63 g) 64 hr)).2.2.1 64 = hr := fun g hr => by rw [mSA_A, setJ_j]
  have u63 : ∀ (g hr : Nat → Int32) i v, mA (mSA σ (setJ (setJ σ.2.2.1 63 g) 64 hr)) 63 i v = mSA σ (setJ (setJ σ.2.2.1 63 (upd g i v)) 64 hr) := fun g hr i v => by
    rw [mA_eq, upA_setJ, q63, mSA_A, mSA_mSA]
    congr 1
    funext z
    simp only [setJ]
    by_cases h1 : z = 63 <;> by_cases h2 : z = 64 <;> simp [h1, h2]
  have L4 : ∀ m i, m + i = 64 → ∀ hr (x1 : Int32) (x3 x4 x5 x6 : Option Value), gxV G mX10_night d 0 0 187 [some (.ref b), some (.int x1), some (.int (nI i)), x3, x4, x5, x6] [] (mput h b (mSA σ (setJ (setJ (setJ σ.2.2.1 62 (spCpy (σ.2.2.1 62) (spNi σ.2.2.1 P E) i)) 63 (spNi σ.2.2.1 P E)) 64 hr))) (mQv h b (fun σ' => ∃ hr, σ' = mSA σ (setJ (setJ (setJ σ.2.2.1 62 (spCpy (σ.2.2.1 62) (spNi σ.2.2.1 P E) 64)) 63 (spNi σ.2.2.1 P E)) 64 hr))) := by
    intro m
    induction m with
    | zero =>
      intro i hi hr x1 x3 x4 x5 x6
      have : i = 64 := by omega
      subst this
      refine gx_iload_n (pc := 187) dX10_night_187 rfl ?_
      refine gx_bipush (pc := 188) (v := 64) dX10_night_188 (by decide) ?_
      refine gx_icmp_ge (pc := 190) 211 dX10_night_190 (by decide) (fun c1 => ?_) (fun c1 => ?_)
      · exact m_retv (pc := 211) rfl dX10_night_211 (⟨_, rfl⟩)
      · exact absurd (by decide) c1
    | succ m ih =>
      intro i hi hr x1 x3 x4 x5 x6
      refine gx_iload_n (pc := 187) dX10_night_187 rfl ?_
      refine gx_bipush (pc := 188) (v := 64) dX10_night_188 (by decide) ?_
      refine gx_icmp_ge (pc := 190) 211 dX10_night_190 (by decide) (fun c1 => ?_) (fun c1 => ?_)
      · exact absurd c1 (nI_ge (a := i) (b := 64) (by omega) (by omega))
      · refine gx_aload_n (pc := 193) dX10_night_193 rfl ?_
        refine m_getA (pc := 194) rfl fX10_157 rfl (by decide) dX10_night_194 ?_
        refine gx_iload_n (pc := 197) dX10_night_197 rfl ?_
        refine gx_aload_n (pc := 198) dX10_night_198 rfl ?_
        refine m_getA (pc := 199) rfl fX10_160 rfl (by decide) dX10_night_199 ?_
        refine gx_iload_n (pc := 202) dX10_night_202 rfl ?_
        refine m_iald (pc := 203) 63 (i) 64 rfl (by decide) rfl (by first | rfl | simp only [gx_lit, nI_add, pk_mul]) (by omega) (by decide) dX10_night_203 ?_
        rw [mSA_A, setJ_ne (by decide), setJ_j]
        refine m_iast (pc := 204) hb 62 (i) 64 rfl (by decide) rfl (by first | rfl | simp only [gx_lit, nI_add, pk_mul]) (by omega) (by decide) dX10_night_204 ?_
        have e : ∀ v, mA (mSA σ (setJ (setJ (setJ σ.2.2.1 62 (spCpy (σ.2.2.1 62) (spNi σ.2.2.1 P E) i)) 63 (spNi σ.2.2.1 P E)) 64 hr)) 62 i v = mSA σ (setJ (setJ (setJ σ.2.2.1 62 (upd (spCpy (σ.2.2.1 62) (spNi σ.2.2.1 P E) i) i v)) 63 (spNi σ.2.2.1 P E)) 64 hr) := fun v => by
          rw [mA_eq, upA_setJ, mSA_A, setJ_ne (by decide), setJ_ne (by decide), setJ_j, mSA_mSA]
          congr 1
          funext z
          simp only [setJ]
          by_cases h0 : z = 62 <;> by_cases h1 : z = 63 <;> by_cases h2 : z = 64 <;> simp [h0, h1, h2]
        rw [e]
        refine gx_iincc (pc := 205) (c := 1) dX10_night_205 rfl (by decide) (by decide) rfl ?_
        refine gx_goto (pc := 208) 187 dX10_night_208 (by decide) ?_
        rw [nI_1]
        exact ih (i + 1) (by omega) hr _ _ _ _ _
  have L2 : ∀ m now, m + now = 2 ^ P → ∀ hr (x3 x4 x5 x6 : Option Value), gxV G mX10_night d 0 0 34 [some (.ref b), some (.int (nI (2 ^ P - 1))), some (.int (nI now)), x3, x4, x5, x6] [] (mput h b (mSA σ (setJ (setJ σ.2.2.1 63 (spNo σ.2.2.1 P E (σ.2.2.1 62) (spFil (σ.2.2.1 63) 0 64) now)) 64 hr))) (mQv h b (fun σ' => ∃ hr, σ' = mSA σ (setJ (setJ (setJ σ.2.2.1 62 (spCpy (σ.2.2.1 62) (spNi σ.2.2.1 P E) 64)) 63 (spNi σ.2.2.1 P E)) 64 hr))) := by
    intro m
    induction m with
    | zero =>
      intro now hnow hr x3 x4 x5 x6
      have : now = 2 ^ P := by omega
      subst this
      refine gx_iload_n (pc := 34) dX10_night_34 rfl ?_
      refine gx_iload_n (pc := 35) dX10_night_35 rfl ?_
      refine gx_icmp_gt (pc := 36) 185 dX10_night_36 (by decide) (fun c1 => ?_) (fun c1 => ?_)
      · refine gx_iconst (pc := 185) (v := 0) dX10_night_185 (by decide) ?_
        refine gx_istore_n (pc := 186) dX10_night_186 (by decide) rfl ?_
        have := L4 64 0 rfl hr (nI (2 ^ P - 1)) x3 x4 x5 x6
        rw [spCpy, setJ_self] at this
        exact this
      · exact absurd (nI_lt (by omega) (by omega)) c1
    | succ m ih =>
      intro now hnow hr x3 x4 x5 x6
      have K179 : ∀ g hr (x3 x4 x5 x6 : Option Value), g = spNo σ.2.2.1 P E (σ.2.2.1 62) (spFil (σ.2.2.1 63) 0 64) (now + 1) → gxV G mX10_night d 0 0 179 [some (.ref b), some (.int (nI (2 ^ P - 1))), some (.int (nI now)), x3, x4, x5, x6] [] (mput h b (mSA σ (setJ (setJ σ.2.2.1 63 g) 64 hr))) (mQv h b (fun σ' => ∃ hr, σ' = mSA σ (setJ (setJ (setJ σ.2.2.1 62 (spCpy (σ.2.2.1 62) (spNi σ.2.2.1 P E) 64)) 63 (spNi σ.2.2.1 P E)) 64 hr))) := by
        intro g hr x3 x4 x5 x6 hg
        subst hg
        refine gx_iincc (pc := 179) (c := 1) dX10_night_179 rfl (by decide) (by decide) rfl ?_
        refine gx_goto (pc := 182) 34 dX10_night_182 (by decide) ?_
        rw [nI_1]
        exact ih (now + 1) (by omega) hr _ _ _ _
      refine gx_iload_n (pc := 34) dX10_night_34 rfl ?_
      refine gx_iload_n (pc := 35) dX10_night_35 rfl ?_
      refine gx_icmp_gt (pc := 36) 185 dX10_night_36 (by decide) (fun c1 => ?_) (fun c1 => ?_)
      · exact absurd c1 (nI_nlt (by omega) (by omega))
      · refine gx_aload_n (pc := 39) dX10_night_39 rfl ?_
        refine m_getA (pc := 40) rfl fX10_157 rfl (by decide) dX10_night_40 ?_
        refine gx_iload_n (pc := 43) dX10_night_43 rfl ?_
        refine m_iald (pc := 44) 62 (now) 64 rfl (by decide) rfl (by first | rfl | simp only [gx_lit, nI_add, pk_mul]) (by omega) (by decide) dX10_night_44 ?_
        rw [q _ _ 62 (by decide) (by decide)]
        refine gx_if_ne (pc := 45) 51 dX10_night_45 (by decide) (fun c2 => ?_) (fun c2 => ?_)
        · refine gx_aload_n (pc := 51) dX10_night_51 rfl ?_
          refine gx_iload_n (pc := 52) dX10_night_52 rfl ?_
          refine kX10_518 (pc := 53) rfl (c_laysHears (d := d - 1) hb (by omega) (hM _ _) _) (by omega) (Nat.le_of_ble_eq_true rfl) dX10_night_53 (fun σ1 e1 => ?_)
          subst σ1
          generalize hg0 : spNo σ.2.2.1 P E (σ.2.2.1 62) (spFil (σ.2.2.1 63) 0 64) now = g0 at *
          have hfin : spTn σ.2.2.1 P E (σ.2.2.1 62) now g0 (2 ^ P - now) = spNo σ.2.2.1 P E (σ.2.2.1 62) (spFil (σ.2.2.1 63) 0 64) (now + 1) := by rw [spNo, if_neg c2, hg0]
          obtain ⟨hr1, hh1, hh2⟩ : ∃ hr1, (∀ p, p < P → hr1 p = 1000000 - spHf σ.2.2.1 E (nI now) p P) ∧ mSA (mSA σ (setJ (setJ σ.2.2.1 63 g0) 64 hr)) (setJ (mSA σ (setJ (setJ σ.2.2.1 63 g0) 64 hr)).2.2.1 64 (spHr (mSA σ (setJ (setJ σ.2.2.1 63 g0) 64 hr)).2.2.1 P E (nI now) ((mSA σ (setJ (setJ σ.2.2.1 63 g0) 64 hr)).2.2.1 64) P)) = mSA σ (setJ (setJ σ.2.2.1 63 g0) 64 hr1) := by
            refine ⟨_, fun p hp => ?_, by rw [mSA_mSA, mSA_A, setJ_setJ]⟩
            rw [spHr_at P p hp]
            exact congrArg (fun z => 1000000 - z) (spHf_congr (q g0 hr 13 (by decide) (by decide)) (q g0 hr 22 (by decide) (by decide)) (q g0 hr 23 (by decide) (by decide)) (q g0 hr 24 (by decide) (by decide)) E (nI now) p P)
          rw [hh2]
          have L3 : ∀ m3 k, m3 + k = 2 ^ P - now → ∀ (x4 x5 x6 : Option Value), gxV G mX10_night d 0 0 58 [some (.ref b), some (.int (nI (2 ^ P - 1))), some (.int (nI now)), some (.int (nI (now + k))), x4, x5, x6] [] (mput h b (mSA σ (setJ (setJ σ.2.2.1 63 (spTn σ.2.2.1 P E (σ.2.2.1 62) now g0 k)) 64 hr1))) (mQv h b (fun σ' => ∃ hr, σ' = mSA σ (setJ (setJ (setJ σ.2.2.1 62 (spCpy (σ.2.2.1 62) (spNi σ.2.2.1 P E) 64)) 63 (spNi σ.2.2.1 P E)) 64 hr))) := by
            intro m3
            induction m3 with
            | zero =>
              intro k hk x4 x5 x6
              have : k = 2 ^ P - now := by omega
              subst this
              refine gx_iload_n (pc := 58) dX10_night_58 rfl ?_
              refine gx_iload_n (pc := 59) dX10_night_59 rfl ?_
              refine gx_icmp_gt (pc := 60) 179 dX10_night_60 (by decide) (fun c3 => ?_) (fun c3 => ?_)
              · exact K179 _ hr1 _ _ _ _ hfin
              · exact absurd (nI_lt (by omega) (by omega)) c3
            | succ m3 ih3 =>
              intro k hk x4 x5 x6
              have K173 : ∀ g (x4 x5 x6 : Option Value), g = spTn σ.2.2.1 P E (σ.2.2.1 62) now g0 (k + 1) → gxV G mX10_night d 0 0 173 [some (.ref b), some (.int (nI (2 ^ P - 1))), some (.int (nI now)), some (.int (nI (now + k))), x4, x5, x6] [] (mput h b (mSA σ (setJ (setJ σ.2.2.1 63 g) 64 hr1))) (mQv h b (fun σ' => ∃ hr, σ' = mSA σ (setJ (setJ (setJ σ.2.2.1 62 (spCpy (σ.2.2.1 62) (spNi σ.2.2.1 P E) 64)) 63 (spNi σ.2.2.1 P E)) 64 hr))) := by
                intro g x4 x5 x6 hg
                subst hg
                refine gx_iincc (pc := 173) (c := 1) dX10_night_173 rfl (by decide) (by decide) rfl ?_
                refine gx_goto (pc := 176) 58 dX10_night_176 (by decide) ?_
                rw [nI_1]
                exact ih3 (k + 1) (by omega) _ _ _
              generalize hg1 : spTn σ.2.2.1 P E (σ.2.2.1 62) now g0 k = g1 at *
              refine gx_iload_n (pc := 58) dX10_night_58 rfl ?_
              refine gx_iload_n (pc := 59) dX10_night_59 rfl ?_
              refine gx_icmp_gt (pc := 60) 179 dX10_night_60 (by decide) (fun c3 => ?_) (fun c3 => ?_)
              · exact absurd c3 (nI_nlt (by omega) (by omega))
              · refine gx_iload_n (pc := 63) dX10_night_63 rfl ?_
                refine gx_iload_n (pc := 64) dX10_night_64 rfl ?_
                refine gx_iconst (pc := 65) (v := (-1)) dX10_night_65 (by decide) ?_
                refine gx_ixor (pc := 66) dX10_night_66 ?_
                refine gx_iand (pc := 67) dX10_night_67 ?_
                refine gx_if_eq (pc := 68) 74 dX10_night_68 (by decide) (fun c4 => ?_) (fun c4 => ?_)
                · have hspec : ∀ v, v = spCh (fun p => 1000000 - spHf σ.2.2.1 E (nI now) p P) now (now + k) P → upd g1 (now + k) (g1 (now + k) + (v * (σ.2.2.1 62 now).toInt64 / 1000000).toInt32) = spTn σ.2.2.1 P E (σ.2.2.1 62) now g0 (k + 1) := by
                    intro v hv
                    rw [spTn, if_pos c4, hg1, hv]
                  have L5 : ∀ m5 p, m5 + p = P → gxV G mX10_night d 0 0 82 [some (.ref b), some (.int (nI (2 ^ P - 1))), some (.int (nI now)), some (.int (nI (now + k))), some (.long (spCh hr1 now (now + k) p)), none, some (.int (nI p))] [] (mput h b (mSA σ (setJ (setJ σ.2.2.1 63 g1) 64 hr1))) (mQv h b (fun σ' => ∃ hr, σ' = mSA σ (setJ (setJ (setJ σ.2.2.1 62 (spCpy (σ.2.2.1 62) (spNi σ.2.2.1 P E) 64)) 63 (spNi σ.2.2.1 P E)) 64 hr))) := by
                    intro m5
                    induction m5 with
                    | zero =>
                      intro p hp
                      have : p = P := by omega
                      subst this
                      generalize hth : now + k = th at *
                      refine gx_iload (pc := 82) dX10_night_82 rfl ?_
                      refine gx_aload_n (pc := 84) dX10_night_84 rfl ?_
                      refine m_getA (pc := 85) rfl fX10_13 rfl (by decide) dX10_night_85 ?_
                      refine gx_iconst (pc := 88) (v := 0) dX10_night_88 (by decide) ?_
                      refine m_iald (pc := 89) 10 (0) 8 rfl (by decide) rfl (by first | rfl | simp only [gx_lit, nI_add, pk_mul]) (by omega) (by decide) dX10_night_89 ?_
                      rw [q _ _ 10 (by decide) (by decide), hP]
                      refine gx_icmp_ge (pc := 90) 149 dX10_night_90 (by decide) (fun c5 => ?_) (fun c5 => ?_)
                      · refine gx_aload_n (pc := 149) dX10_night_149 rfl ?_
                        refine m_getA (pc := 150) rfl fX10_160 rfl (by decide) dX10_night_150 ?_
                        refine gx_iload_n (pc := 153) dX10_night_153 rfl ?_
                        refine gx_dup2 (pc := 154) dX10_night_154 rfl rfl ?_
                        refine m_iald (pc := 155) 63 (th) 64 rfl (by decide) rfl (by first | rfl | simp only [gx_lit, nI_add, pk_mul]) (by omega) (by decide) dX10_night_155 ?_
                        refine gx_lload (pc := 156) dX10_night_156 rfl ?_
                        refine gx_aload_n (pc := 158) dX10_night_158 rfl ?_
                        refine m_getA (pc := 159) rfl fX10_157 rfl (by decide) dX10_night_159 ?_
                        refine gx_iload_n (pc := 162) dX10_night_162 rfl ?_
                        refine m_iald (pc := 163) 62 (now) 64 rfl (by decide) rfl (by first | rfl | simp only [gx_lit, nI_add, pk_mul]) (by omega) (by decide) dX10_night_163 ?_
                        rw [q63, q _ _ 62 (by decide) (by decide)]
                        refine gx_i2l (pc := 164) dX10_night_164 ?_
                        refine gx_lmul (pc := 165) dX10_night_165 ?_
                        refine gx_ldc2 (pc := 166) q2461 dX10_night_166 ?_
                        refine gx_ldiv (pc := 169) dX10_night_169 (by decide) ?_
                        refine gx_l2i (pc := 170) dX10_night_170 ?_
                        refine gx_iadd (pc := 171) dX10_night_171 ?_
                        refine m_iast (pc := 172) hb 63 (th) 64 rfl (by decide) rfl (by first | rfl | simp only [gx_lit, nI_add, pk_mul]) (by omega) (by decide) dX10_night_172 ?_
                        rw [u63]
                        exact K173 _ _ _ _ (hspec _ (spCh_congr _ (fun p hp => hh1 p hp)))
                      · exact absurd (nI_le (by omega) (by omega)) c5
                    | succ m5 ih5 =>
                      intro p hp
                      have K143 : ∀ v, v = spCh hr1 now (now + k) (p + 1) → gxV G mX10_night d 0 0 143 [some (.ref b), some (.int (nI (2 ^ P - 1))), some (.int (nI now)), some (.int (nI (now + k))), some (.long v), none, some (.int (nI p))] [] (mput h b (mSA σ (setJ (setJ σ.2.2.1 63 g1) 64 hr1))) (mQv h b (fun σ' => ∃ hr, σ' = mSA σ (setJ (setJ (setJ σ.2.2.1 62 (spCpy (σ.2.2.1 62) (spNi σ.2.2.1 P E) 64)) 63 (spNi σ.2.2.1 P E)) 64 hr))) := by
                        intro v hv
                        subst hv
                        refine gx_iincc (pc := 143) (c := 1) dX10_night_143 rfl (by decide) (by decide) rfl ?_
                        refine gx_goto (pc := 146) 82 dX10_night_146 (by decide) ?_
                        rw [nI_1]
                        exact ih5 (p + 1) (by omega)
                      have K135 : ∀ v : Int32, spCh hr1 now (now + k) p * v.toInt64 / 1000000 = spCh hr1 now (now + k) (p + 1) → gxV G mX10_night d 0 0 135 [some (.ref b), some (.int (nI (2 ^ P - 1))), some (.int (nI now)), some (.int (nI (now + k))), some (.long (spCh hr1 now (now + k) p)), none, some (.int (nI p))] [.int v, .long (spCh hr1 now (now + k) p)] (mput h b (mSA σ (setJ (setJ σ.2.2.1 63 g1) 64 hr1))) (mQv h b (fun σ' => ∃ hr, σ' = mSA σ (setJ (setJ (setJ σ.2.2.1 62 (spCpy (σ.2.2.1 62) (spNi σ.2.2.1 P E) 64)) 63 (spNi σ.2.2.1 P E)) 64 hr))) := by
                        intro v hv
                        refine gx_i2l (pc := 135) dX10_night_135 ?_
                        refine gx_lmul (pc := 136) dX10_night_136 ?_
                        refine gx_ldc2 (pc := 137) q2461 dX10_night_137 ?_
                        refine gx_ldiv (pc := 140) dX10_night_140 (by decide) ?_
                        refine gx_lstore (pc := 141) dX10_night_141 (by decide) rfl ?_
                        exact K143 _ hv
                      refine gx_iload (pc := 82) dX10_night_82 rfl ?_
                      refine gx_aload_n (pc := 84) dX10_night_84 rfl ?_
                      refine m_getA (pc := 85) rfl fX10_13 rfl (by decide) dX10_night_85 ?_
                      refine gx_iconst (pc := 88) (v := 0) dX10_night_88 (by decide) ?_
                      refine m_iald (pc := 89) 10 (0) 8 rfl (by decide) rfl (by first | rfl | simp only [gx_lit, nI_add, pk_mul]) (by omega) (by decide) dX10_night_89 ?_
                      rw [q _ _ 10 (by decide) (by decide), hP]
                      refine gx_icmp_ge (pc := 90) 149 dX10_night_90 (by decide) (fun c5 => ?_) (fun c5 => ?_)
                      · exact absurd c5 (nI_ge (by omega) (by omega))
                      · refine gx_iload_n (pc := 93) dX10_night_93 rfl ?_
                        refine gx_iload (pc := 94) dX10_night_94 rfl ?_
                        refine gx_ishr (pc := 96) dX10_night_96 ?_
                        refine gx_iconst (pc := 97) (v := 1) dX10_night_97 (by decide) ?_
                        refine gx_iand (pc := 98) dX10_night_98 ?_
                        refine gx_if_ne (pc := 99) 143 dX10_night_99 (by decide) (fun c6 => ?_) (fun c6 => ?_)
                        · exact K143 _ (by rw [spCh, if_neg c6])
                        · refine gx_lload (pc := 102) dX10_night_102 rfl ?_
                          refine gx_iload_n (pc := 104) dX10_night_104 rfl ?_
                          refine gx_iload (pc := 105) dX10_night_105 rfl ?_
                          refine gx_ishr (pc := 107) dX10_night_107 ?_
                          refine gx_iconst (pc := 108) (v := 1) dX10_night_108 (by decide) ?_
                          refine gx_iand (pc := 109) dX10_night_109 ?_
                          refine gx_iconst (pc := 110) (v := 1) dX10_night_110 (by decide) ?_
                          refine gx_icmp_ne (pc := 111) 124 dX10_night_111 (by decide) (fun c7 => ?_) (fun c7 => ?_)
                          · refine gx_ldcw (pc := 124) q2452 dX10_night_124 ?_
                            refine gx_aload_n (pc := 127) dX10_night_127 rfl ?_
                            refine m_getA (pc := 128) rfl fX10_163 rfl (by decide) dX10_night_128 ?_
                            refine gx_iload (pc := 131) dX10_night_131 rfl ?_
                            refine m_iald (pc := 133) 64 (p) 6 rfl (by decide) rfl (by first | rfl | simp only [gx_lit, nI_add, pk_mul]) (by omega) (by decide) dX10_night_133 ?_
                            refine gx_isub (pc := 134) dX10_night_134 ?_
                            rw [q64]
                            exact K135 _ (by rw [spCh, if_pos c6, if_neg c7])
                          · refine gx_aload_n (pc := 114) dX10_night_114 rfl ?_
                            refine m_getA (pc := 115) rfl fX10_163 rfl (by decide) dX10_night_115 ?_
                            refine gx_iload (pc := 118) dX10_night_118 rfl ?_
                            refine m_iald (pc := 120) 64 (p) 6 rfl (by decide) rfl (by first | rfl | simp only [gx_lit, nI_add, pk_mul]) (by omega) (by decide) dX10_night_120 ?_
                            refine gx_goto (pc := 121) 135 dX10_night_121 (by decide) ?_
                            rw [q64]
                            exact K135 _ (by rw [spCh, if_pos c6, if_pos c7])
                  refine gx_ldc2 (pc := 74) q2461 dX10_night_74 ?_
                  refine gx_lstore (pc := 77) dX10_night_77 (by decide) rfl ?_
                  refine gx_iconst (pc := 79) (v := 0) dX10_night_79 (by decide) ?_
                  refine gx_istore (pc := 80) dX10_night_80 (by decide) rfl ?_
                  exact L5 P 0 rfl
                · refine gx_goto (pc := 71) 173 dX10_night_71 (by decide) ?_
                  exact K173 _ _ _ _ (by rw [spTn, if_neg c4, hg1])
          refine gx_iload_n (pc := 56) dX10_night_56 rfl ?_
          refine gx_istore_n (pc := 57) dX10_night_57 (by decide) rfl ?_
          exact L3 (2 ^ P - now) 0 rfl _ _ _
        · refine gx_goto (pc := 48) 179 dX10_night_48 (by decide) ?_
          exact K179 _ _ _ _ _ _ (by rw [spNo, if_pos c2])
  have L1 : ∀ m i, m + i = 64 → gxV G mX10_night d 0 0 13 [some (.ref b), some (.int (nI (2 ^ P - 1))), some (.int (nI i)), none, none, none, none] [] (mput h b (mSA σ (setJ (setJ σ.2.2.1 63 (spFil (σ.2.2.1 63) 0 i)) 64 (σ.2.2.1 64)))) (mQv h b (fun σ' => ∃ hr, σ' = mSA σ (setJ (setJ (setJ σ.2.2.1 62 (spCpy (σ.2.2.1 62) (spNi σ.2.2.1 P E) 64)) 63 (spNi σ.2.2.1 P E)) 64 hr))) := by
    intro m
    induction m with
    | zero =>
      intro i hi
      have : i = 64 := by omega
      subst this
      refine gx_iload_n (pc := 13) dX10_night_13 rfl ?_
      refine gx_bipush (pc := 14) (v := 64) dX10_night_14 (by decide) ?_
      refine gx_icmp_ge (pc := 16) 32 dX10_night_16 (by decide) (fun c1 => ?_) (fun c1 => ?_)
      · refine gx_iconst (pc := 32) (v := 0) dX10_night_32 (by decide) ?_
        refine gx_istore_n (pc := 33) dX10_night_33 (by decide) rfl ?_
        exact L2 (2 ^ P) 0 rfl _ _ _ _ _
      · exact absurd (by decide) c1
    | succ m ih =>
      intro i hi
      refine gx_iload_n (pc := 13) dX10_night_13 rfl ?_
      refine gx_bipush (pc := 14) (v := 64) dX10_night_14 (by decide) ?_
      refine gx_icmp_ge (pc := 16) 32 dX10_night_16 (by decide) (fun c1 => ?_) (fun c1 => ?_)
      · exact absurd c1 (nI_ge (a := i) (b := 64) (by omega) (by omega))
      · refine gx_aload_n (pc := 19) dX10_night_19 rfl ?_
        refine m_getA (pc := 20) rfl fX10_160 rfl (by decide) dX10_night_20 ?_
        refine gx_iload_n (pc := 23) dX10_night_23 rfl ?_
        refine gx_iconst (pc := 24) (v := 0) dX10_night_24 (by decide) ?_
        refine m_iast (pc := 25) hb 63 (i) 64 rfl (by decide) rfl (by first | rfl | simp only [gx_lit, nI_add, pk_mul]) (by omega) (by decide) dX10_night_25 ?_
        rw [u63]
        refine gx_iincc (pc := 26) (c := 1) dX10_night_26 rfl (by decide) (by decide) rfl ?_
        refine gx_goto (pc := 29) 13 dX10_night_29 (by decide) ?_
        rw [nI_1]
        exact ih (i + 1) (by omega)
  refine gx_iconst (pc := 0) (v := 1) dX10_night_0 (by decide) ?_
  refine gx_aload_n (pc := 1) dX10_night_1 rfl ?_
  refine m_getA (pc := 2) rfl fX10_13 rfl (by decide) dX10_night_2 ?_
  refine gx_iconst (pc := 5) (v := 0) dX10_night_5 (by decide) ?_
  refine m_iald (pc := 6) 10 (0) 8 rfl (by decide) rfl (by first | rfl | simp only [gx_lit, nI_add, pk_mul]) (by omega) (by decide) dX10_night_6 ?_
  rw [hP]
  refine gx_ishl (pc := 7) dX10_night_7 ?_
  rw [hsh]
  refine gx_iconst (pc := 8) (v := 1) dX10_night_8 (by decide) ?_
  refine gx_isub (pc := 9) dX10_night_9 ?_
  rw [show nI (2 ^ P) - 1 = nI (2 ^ P - 1) from pk_sub (b := 1) (by omega)]
  refine gx_istore_n (pc := 10) dX10_night_10 (by decide) rfl ?_
  refine gx_iconst (pc := 11) (v := 0) dX10_night_11 (by decide) ?_
  refine gx_istore_n (pc := 12) dX10_night_12 (by decide) rfl ?_
  have := L1 64 0 rfl
  rw [spFil, setJ_self, show setJ σ.2.2.1 64 (σ.2.2.1 64) = σ.2.2.1 from setJ_self _ _] at this
  exact this
end MU
