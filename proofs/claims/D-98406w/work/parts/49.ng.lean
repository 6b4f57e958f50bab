/-! ===== MODEL NG: reads, an expression as codes ===== -/
set_option maxRecDepth 100000
/-- wants, depth, opened, compared, token, code, codes -/
abbrev auX : Type := Bool × Nat × (Nat → Int32) × (Nat → Int32) × Nat × Nat × (Nat → Int32)
def popD (op : Nat → Int32) : Nat → Nat
  | 0 => 0
  | d + 1 => if op (d + 1) = 1 then popD op d else d + 1
theorem popD_le (op : Nat → Int32) : ∀ d, popD op d ≤ d
  | 0 => Nat.le_refl _
  | d + 1 => by have := popD_le op d; rw [popD]; split <;> omega
def auW (t : Nat → Int32) (z dp : Nat) (op cp : Nat → Int32) (i c : Nat) (C : Nat → Int32) : Sum (Sum Int32 auX) auX :=
  if spFact (tkK t z i) = 0 ∧ tkW (tkK t z i) 10631 = false ∧ tkG t (tkK t z i) 40 = false ∧ ¬ (tkK t z i).2.2.1 = 2 then .inl (.inl (flt t z i 1))
  else if dp = 5 then .inl (.inl (flt t z i 5))
  else if tkW (tkK t z i) 10631 = true ∨ tkG t (tkK t z i) 40 = true then .inr (true, dp + 1, upd op (dp + 1) (if tkW (tkK t z i) 10631 = true then 1 else 2), upd cp (dp + 1) 0, i + 1, c + 1, upd C c (if tkW (tkK t z i) 10631 = true then 30 else 28))
  else .inr (false, popD op dp, op, cp, i + 1, c + 1, upd C c (if spFact (tkK t z i) = 0 then 100 + (tkK t z i).2.2.2.2 else nI (spFact (tkK t z i))))
def auL (t : Nat → Int32) (z dp : Nat) (op cp : Nat → Int32) (i c : Nat) (C : Nat → Int32) : Sum (Sum Int32 auX) auX :=
  if tkG t (tkK t z i) 43 = true ∨ tkG t (tkK t z i) 45 = true ∨ tkG t (tkK t z i) 42 = true then .inr (true, dp, op, cp, i + 1, c + 1, upd C c (if tkG t (tkK t z i) 43 = true then 20 else if tkG t (tkK t z i) 45 = true then 21 else 22))
  else if (tkG t (tkK t z i) 60 = true ∨ tkG t (tkK t z i) 61 = true) ∧ cp dp = 0 then .inr (true, dp, op, upd cp dp 1, i + 1, c + 1, upd C c (if tkG t (tkK t z i) 60 = true then 24 else 25))
  else if tkW (tkK t z i) 1111 = true ∨ tkW (tkK t z i) 423 = true then .inr (true, dp, op, upd cp dp 0, i + 1, c + 1, upd C c (if tkW (tkK t z i) 1111 = true then 26 else 27))
  else if tkG t (tkK t z i) 41 = true ∧ 0 < dp then .inr (false, popD op (dp - 1), op, cp, i + 1, c + 1, upd C c 29)
  else if dp = 0 ∧ tkG t (tkK t z i) 59 = true then .inl (.inr (false, dp, op, cp, i + 1, c, C))
  else .inl (.inl (flt t z i 1))
def auRun (t : Nat → Int32) (z : Nat) : Nat → auX → Sum Int32 auX
  | 0, _ => .inl 0
  | m + 1, x => match (if x.1 then auW t z x.2.1 x.2.2.1 x.2.2.2.1 x.2.2.2.2.1 x.2.2.2.2.2.1 x.2.2.2.2.2.2 else auL t z x.2.1 x.2.2.1 x.2.2.2.1 x.2.2.2.2.1 x.2.2.2.2.2.1 x.2.2.2.2.2.2) with
    | .inl r => r
    | .inr y => auRun t z m y
theorem auRunT (t : Nat → Int32) (z m dp : Nat) (op cp : Nat → Int32) (i c : Nat) (C : Nat → Int32) : auRun t z (m + 1) (true, dp, op, cp, i, c, C) = match auW t z dp op cp i c C with
    | .inl r => r
    | .inr y => auRun t z m y := rfl
theorem auRunF (t : Nat → Int32) (z m dp : Nat) (op cp : Nat → Int32) (i c : Nat) (C : Nat → Int32) : auRun t z (m + 1) (false, dp, op, cp, i, c, C) = match auL t z dp op cp i c C with
    | .inl r => r
    | .inr y => auRun t z m y := rfl
theorem tkAt_pl {t : Nat → Int32} {z p : Nat} (hp : p ≤ z) (h : ¬ (tkAt t z p).2.2.1 = 0) : (tkAt t z p).2.1 < (tkAt t z p).1 := by
  unfold tkAt at h ⊢
  split at h
  · exact absurd rfl h
  · rename_i h1
    rw [if_neg h1]
    split at h
    · rename_i h2
      rw [if_pos h2]
      dsimp only
      obtain ⟨m, hm⟩ : ∃ m, z - p = m + 1 := ⟨z - p - 1, by omega⟩
      rw [hm, tkLt, if_pos h2]
      have := tkLt_le t m (p + 1) (0 + 1) (if 0 < 8 then 0 * 27 + (t p).toInt64 - 96 else 0)
      omega
    · rename_i h2
      rw [if_neg h2]
      split at h
      · rename_i h3
        rw [if_pos h3]
        dsimp only
        obtain ⟨m, hm⟩ : ∃ m, z - p = m + 1 := ⟨z - p - 1, by omega⟩
        rw [hm, tkDg, if_pos h3]
        have := tkDg_le t m (p + 1) (0 + 1) (if 0 < 4 then 0 * 10 + t p - 48 else 0)
        omega
      · rename_i h3
        rw [if_neg h3]
        dsimp only
        omega
theorem tkN_pl {t : Nat → Int32} {z p : Nat} (hp : p ≤ z) (h : ¬ (tkN t z p).2.2.1 = 0) : (tkN t z p).2.1 < (tkN t z p).1 :=
  tkAt_pl (by have := tkSk_le t (z - p) p; omega) h
theorem tkK_pl {t : Nat → Int32} {z : Nat} : ∀ {i}, ¬ (tkK t z i).2.2.1 = 0 → (tkK t z i).2.1 < (tkK t z i).1
  | 0, h => tkN_pl (by omega) h
  | i + 1, h => tkN_pl (tkK_le t z i).2 h
/-- the next token begins behind this one -/
theorem tkK_lt {t : Nat → Int32} {z i : Nat} (h : ¬ (tkK t z i).2.2.1 = 0) : (tkK t z i).2.1 < (tkK t z (i + 1)).2.1 := by
  have h1 := tkK_pl h
  have h2 := tkN_le (t := t) (tkK_le t z i).2
  have : tkK t z (i + 1) = tkN t z (tkK t z i).1 := rfl
  rw [this]; omega
theorem tkW_n0 {q : tkV} {w : Int64} (h : tkW q w = true) : ¬ q.2.2.1 = 0 := by
  intro e; rw [tkW, e] at h; exact absurd h (by simp)
theorem tkG_n0 {t : Nat → Int32} {q : tkV} {w : Int32} (h : tkG t q w = true) : ¬ q.2.2.1 = 0 := by
  intro e; rw [tkG, e] at h; exact absurd h (by simp)
theorem spFact_n0 {q : tkV} (h : ¬ spFact q = 0) : ¬ q.2.2.1 = 0 := by
  intro e; apply h; rw [spFact, if_pos (by rw [e]; decide)]
theorem spFact_lt (q : tkV) : spFact q < 5 := by
  unfold spFact; repeat' split
  all_goals omega
/-- the state of the reader at a place of the automaton -/
def rS (t : Nat → Int32) (z : Nat) (σ : mS) (op cp : Nat → Int32) (i c : Nat) (C : Nat → Int32) (ρ : mS) : Prop :=
  tS t z i ρ ∧ rE σ ρ ∧ ρ.1 28 = nI c ∧ ρ.2.2.2 = σ.2.2.2 ∧ ρ.2.2.1 27 = C ∧ ρ.2.2.1 29 = op ∧ ρ.2.2.1 30 = cp ∧ ∀ j, j ≠ 27 → j ≠ 29 → j ≠ 30 → ρ.2.2.1 j = σ.2.2.1 j
section NG
variable {G : gxG} {d : Nat} {h : gxH} {b : Nat} {σ : mS} {t : Nat → Int32} {z i : Nat}
theorem rS.nx {op cp : Nat → Int32} {c : Nat} {C : Nat → Int32} {ρ : mS} (hR : rS t z σ op cp i c C ρ) : rS t z σ op cp (i + 1) c C (tkP ρ (tkK t z (i + 1))) :=
  ⟨hR.1.nx, hR.2.1.tr (rE.tk _ _), (tkPne ρ _ (by decide) (by decide) (by decide) (by decide)).trans hR.2.2.1, hR.2.2.2.1, hR.2.2.2.2.1, hR.2.2.2.2.2.1, hR.2.2.2.2.2.2.1, hR.2.2.2.2.2.2.2⟩
theorem rS.pt {op cp : Nat → Int32} {c : Nat} {C : Nat → Int32} {ρ : mS} (hR : rS t z σ op cp i c C ρ) (v : Int32) : rS t z σ op cp i (c + 1) (upd C c v) (mI (mA ρ 27 c v) 28 (nI (c + 1))) := by
  obtain ⟨h1, h2, h3, h4, h5, h6, h7, h8⟩ := hR
  refine ⟨(h1.mA (by decide) _ _).I rfl _, h2.tr (rE.I (mA ρ 27 c v) rfl _), mI_eq _ _ _, h4, ?_, ?_, ?_, fun j j1 j2 j3 => ?_⟩
  · show (mA ρ 27 c v).2.2.1 27 = _
    rw [mA_eq, mSA_A, upA_setJ, setJ_j, h5]
  · show (mA ρ 27 c v).2.2.1 29 = _
    rw [mA_nj _ (by decide)]; exact h6
  · show (mA ρ 27 c v).2.2.1 30 = _
    rw [mA_nj _ (by decide)]; exact h7
  · show (mA ρ 27 c v).2.2.1 j = _
    rw [mA_nj _ j1]; exact h8 j j1 j2 j3
theorem rS.op {op cp : Nat → Int32} {c : Nat} {C : Nat → Int32} {ρ : mS} (hR : rS t z σ op cp i c C ρ) (k : Nat) (v : Int32) : rS t z σ (upd op k v) cp i c C (mA ρ 29 k v) := by
  obtain ⟨h1, h2, h3, h4, h5, h6, h7, h8⟩ := hR
  refine ⟨h1.mA (by decide) _ _, h2, h3, h4, ?_, ?_, ?_, fun j j1 j2 j3 => ?_⟩
  · rw [mA_nj _ (by decide)]; exact h5
  · rw [mA_eq, mSA_A, upA_setJ, setJ_j, h6]
  · rw [mA_nj _ (by decide)]; exact h7
  · rw [mA_nj _ j2]; exact h8 j j1 j2 j3
theorem rS.cp {op cp : Nat → Int32} {c : Nat} {C : Nat → Int32} {ρ : mS} (hR : rS t z σ op cp i c C ρ) (k : Nat) (v : Int32) : rS t z σ op (upd cp k v) i c C (mA ρ 30 k v) := by
  obtain ⟨h1, h2, h3, h4, h5, h6, h7, h8⟩ := hR
  refine ⟨h1.mA (by decide) _ _, h2, h3, h4, ?_, ?_, ?_, fun j j1 j2 j3 => ?_⟩
  · rw [mA_nj _ (by decide)]; exact h5
  · rw [mA_nj _ (by decide)]; exact h6
  · rw [mA_eq, mSA_A, upA_setJ, setJ_j, h7]
  · rw [mA_nj _ j3]; exact h8 j j1 j2 j3
/-- what is left of the reader's memory by an expression -/
def rX (σ σ' : mS) : Prop := rE σ σ' ∧ σ'.2.2.2 = σ.2.2.2 ∧ (∀ k, k < 1000 → σ'.2.2.1 27 k = σ.2.2.1 27 k) ∧ ∀ j, j ≠ 27 → j ≠ 29 → j ≠ 30 → σ'.2.2.1 j = σ.2.2.1 j
theorem rS.X {op cp : Nat → Int32} {c : Nat} {C : Nat → Int32} {ρ : mS} (hR : rS t z σ op cp i c C ρ) (hC : ∀ k, k < 1000 → C k = σ.2.2.1 27 k) : rX σ ρ :=
  ⟨hR.2.1, hR.2.2.2.1, fun k hk => by rw [hR.2.2.2.2.1]; exact hC k hk, hR.2.2.2.2.2.2.2⟩
/-- the arrays behind an expression -/
def rdX (y : (Nat → Nat → Int32) × (Nat → Nat → Int64)) (x : auX) : (Nat → Nat → Int32) × (Nat → Nat → Int64) := (fun j => if j = 27 then x.2.2.2.2.2.2 else if j = 29 then x.2.2.1 else if j = 30 then x.2.2.2.1 else y.1 j, y.2)
theorem rS.rdE {op cp : Nat → Int32} {c : Nat} {C : Nat → Int32} {ρ : mS} (hR : rS t z σ op cp i c C ρ) (wn : Bool) (dp : Nat) (i' : Nat) : ρ.2.2 = rdX σ.2.2 (wn, dp, op, cp, i', c, C) := by
  obtain ⟨h1, h2, h3, h4, h5, h6, h7, h8⟩ := hR
  refine Prod.ext ?_ h4
  funext j
  simp only [rdX]
  split
  · rename_i e; rw [e, h5]
  · split
    · rename_i e; rw [e, h6]
    · split
      · rename_i e; rw [e, h7]
      · rename_i a b c; exact h8 j a b c
theorem c_reads (hb : gxN G ≤ b) (hd : 2 ≤ d) (hS : tS t z i σ) (hcd : σ.1 28 = nI 1000) : mMi G mX10_reads d [.ref b] h b σ (fun r σ' => rX σ σ' ∧ rR (auRun t z (z + 1) (true, 0, σ.2.2.1 29, upd (σ.2.2.1 30) 0 0, i, 1000, σ.2.2.1 27)) r σ' (fun x => tS t z x.2.2.2.2.1 σ' ∧ σ'.1 28 = nI x.2.2.2.2.2.1 ∧ x.2.2.2.2.2.1 ≤ 2000 ∧ σ'.2.2 = rdX σ.2.2 x)) := by
  have hz := hS.le
  refine gxM_of rfl (Nat.le_of_ble_eq_true rfl) rfl ?_
  generalize hX : auRun t z (z + 1) (true, 0, σ.2.2.1 29, upd (σ.2.2.1 30) 0 0, i, 1000, σ.2.2.1 27) = X
  have L : ∀ m wants dp op cp i c C ρ (x3 x4 x5 : Option Value), auRun t z m (wants, dp, op, cp, i, c, C) = X → z + 1 ≤ m + (tkK t z i).2.1 → dp ≤ 5 → 1000 ≤ c → c ≤ 1000 + (tkK t z i).2.1 → (∀ k, k < 1000 → C k = σ.2.2.1 27 k) → rS t z σ op cp i c C ρ → gxV G mX10_reads d 0 0 11 [some (.ref b), some (.int (nI dp)), some (.int (zi wants)), x3, x4, x5] [] (mput h b ρ) (mQi h b (fun r σ' => rX σ σ' ∧ rR X r σ' (fun x => tS t z x.2.2.2.2.1 σ' ∧ σ'.1 28 = nI x.2.2.2.2.2.1 ∧ x.2.2.2.2.2.1 ≤ 2000 ∧ σ'.2.2 = rdX σ.2.2 x))) := by
    intro m
    induction m with
    | zero =>
      intro wants dp op cp i c C ρ x3 x4 x5 _ hm
      have := tkK_le t z i
      omega
    | succ m ih =>
      intro wants dp op cp i c C ρ x3 x4 x5 hX hm hdp hc0 hc hC hR
      have hS := hR.1
      have hl := tkK_le t z i
      have hCs : ∀ v k, k < 1000 → upd C c v k = σ.2.2.1 27 k := fun v k hk => by rw [upd, if_neg (by omega)]; exact hC k hk
      -- a failure
      cases wants with
      | true =>
        rw [auRunT] at hX
        refine gx_iload_n (pc := 11) dX10_reads_11 rfl ?_
        refine gx_if_eq (pc := 12) 179 dX10_reads_12 (by decide) (fun c0 => ?_) (fun c0 => ?_)
        · exact absurd c0 (by decide)
        refine gx_aload_n (pc := 15) dX10_reads_15 rfl ?_
        refine kX10_225 (pc := 16) rfl (c_fact (d := d - 1) hS) (by omega) (Nat.le_of_ble_eq_true rfl) dX10_reads_16 (fun r1 σ1 e1 => ?_)
        obtain ⟨rfl, hσ⟩ := e1
        subst σ1
        refine gx_istore_n (pc := 19) dX10_reads_19 (by decide) rfl ?_
        refine gx_aload_n (pc := 20) dX10_reads_20 rfl ?_
        refine gx_ldc2 (pc := 21) q2126 dX10_reads_21 ?_
        refine kX10_231 (pc := 24) rfl (c_isWord (d := d - 1) hS 10631) (by omega) (Nat.le_of_ble_eq_true rfl) dX10_reads_24 (fun r1 σ1 e1 => ?_)
        obtain ⟨rfl, hσ⟩ := e1
        subst σ1
        refine gx_istore (pc := 27) dX10_reads_27 (by decide) rfl ?_
        refine gx_aload_n (pc := 29) dX10_reads_29 rfl ?_
        refine gx_bipush (pc := 30) (v := 40) dX10_reads_30 (by decide) ?_
        refine kX10_235 (pc := 32) rfl (c_isSign (d := d - 1) hS 40) (by omega) (Nat.le_of_ble_eq_true rfl) dX10_reads_32 (fun r1 σ1 e1 => ?_)
        obtain ⟨rfl, hσ⟩ := e1
        subst σ1
        generalize hf : spFact (tkK t z i) = f at *
        have hf5 : f < 5 := by rw [← hf]; exact spFact_lt _
        generalize hn : tkW (tkK t z i) 10631 = n at *
        generalize ho : tkG t (tkK t z i) 40 = o at *
        have K65 : ¬ (f = 0 ∧ n = false ∧ o = false ∧ ¬ (tkK t z i).2.2.1 = 2) → gxV G mX10_reads d 0 0 65 [some (.ref b), some (.int (nI dp)), some (.int 1), some (.int (nI f)), some (.int (zi n)), some (.int (zi o))] [] (mput h b ρ) (mQi h b (fun r σ' => rX σ σ' ∧ rR X r σ' (fun x => tS t z x.2.2.2.2.1 σ' ∧ σ'.1 28 = nI x.2.2.2.2.2.1 ∧ x.2.2.2.2.2.1 ≤ 2000 ∧ σ'.2.2 = rdX σ.2.2 x))) := by
          intro hg
          have hn0 : ¬ (tkK t z i).2.2.1 = 0 := by
            intro e
            apply hg
            refine ⟨?_, ?_, ?_, by rw [e]; decide⟩
            · rcases Nat.eq_zero_or_pos f with q | q
              · exact q
              · exact absurd e (spFact_n0 (by rw [hf]; omega))
            · cases n with
              | false => rfl
              | true => exact absurd e (tkW_n0 hn)
            · cases o with
              | false => rfl
              | true => exact absurd e (tkG_n0 ho)
          have hlt := tkK_lt hn0
          have hl2 := tkK_le t z (i + 1)
          unfold auW at hX
          rw [hf, hn, ho, if_neg hg] at hX
          refine gx_iload_n (pc := 65) dX10_reads_65 rfl ?_
          refine gx_iconst (pc := 66) (v := 5) dX10_reads_66 (by decide) ?_
          refine gx_icmp_ne (pc := 67) 76 dX10_reads_67 (by decide) (fun c5 => ?_) (fun c5 => ?_)
          · have hd5 : ¬ dp = 5 := fun e => c5 (by rw [e]; rfl)
            rw [if_neg hd5] at hX
            have K86 : (n = true ∨ o = true) → gxV G mX10_reads d 0 0 86 [some (.ref b), some (.int (nI dp)), some (.int 1), some (.int (nI f)), some (.int (zi n)), some (.int (zi o))] [] (mput h b ρ) (mQi h b (fun r σ' => rX σ σ' ∧ rR X r σ' (fun x => tS t z x.2.2.2.2.1 σ' ∧ σ'.1 28 = nI x.2.2.2.2.2.1 ∧ x.2.2.2.2.2.1 ≤ 2000 ∧ σ'.2.2 = rdX σ.2.2 x))) := by
              intro hno
              rw [if_pos hno] at hX
              have K99 : ∀ v, v = (if n = true then 30 else 28) → gxV G mX10_reads d 0 0 99 [some (.ref b), some (.int (nI dp)), some (.int 1), some (.int (nI f)), some (.int (zi n)), some (.int (zi o))] [.int v, .ref b] (mput h b ρ) (mQi h b (fun r σ' => rX σ σ' ∧ rR X r σ' (fun x => tS t z x.2.2.2.2.1 σ' ∧ σ'.1 28 = nI x.2.2.2.2.2.1 ∧ x.2.2.2.2.2.1 ≤ 2000 ∧ σ'.2.2 = rdX σ.2.2 x))) := by
                intro v hv
                refine kX10_242 (pc := 99) rfl (c_puts (d := d - 1) hb c (by omega) hR.2.2.1 v) (by omega) (Nat.le_of_ble_eq_true rfl) dX10_reads_99 (fun σ1 e1 => ?_)
                subst σ1
                have R1 := hR.pt v
                generalize mI (mA ρ 27 c v) 28 (nI (c + 1)) = ρ1 at *
                refine gx_iincc (pc := 102) (c := 1) dX10_reads_102 rfl (by decide) (by decide) rfl ?_
                rw [nI_1]
                have K120 : ∀ v1, v1 = (if n = true then 1 else 2) → gxV G mX10_reads d 0 0 120 [some (.ref b), some (.int (nI (dp + 1))), some (.int 1), some (.int (nI f)), some (.int (zi n)), some (.int (zi o))] [.int v1, .int (nI (dp + 1)), .ref (b + moff 29)] (mput h b ρ1) (mQi h b (fun r σ' => rX σ σ' ∧ rR X r σ' (fun x => tS t z x.2.2.2.2.1 σ' ∧ σ'.1 28 = nI x.2.2.2.2.2.1 ∧ x.2.2.2.2.2.1 ≤ 2000 ∧ σ'.2.2 = rdX σ.2.2 x))) := by
                  intro v1 hv1
                  refine m_iast (pc := 120) hb 29 ((dp+1)) 7 rfl (by decide) rfl (by first | rfl | simp only [gx_lit, nI_add, pk_mul]) (by omega) (by decide) dX10_reads_120 ?_
                  have R2 := R1.op (dp + 1) v1
                  generalize mA ρ1 29 (dp + 1) v1 = ρ2 at *
                  refine gx_aload_n (pc := 121) dX10_reads_121 rfl ?_
                  refine m_getA (pc := 122) rfl fX10_71 rfl (by decide) dX10_reads_122 ?_
                  refine gx_iload_n (pc := 125) dX10_reads_125 rfl ?_
                  refine gx_iconst (pc := 126) (v := 0) dX10_reads_126 (by decide) ?_
                  refine m_zast (pc := 127) hb 30 ((dp+1)) 7 (by decide) rfl (by decide) rfl (by first | rfl | simp only [gx_lit, nI_add, pk_mul]) (by omega) (by decide) dX10_reads_127 ?_
                  have R3 := R2.cp (dp + 1) 0
                  generalize mA ρ2 30 (dp + 1) 0 = ρ3 at *
                  refine gx_goto (pc := 128) 172 dX10_reads_128 (by decide) ?_
                  refine gx_aload_n (pc := 172) dX10_reads_172 rfl ?_
                  refine kX10_246 (pc := 173) rfl (c_next (d := d - 1) hb (by omega) R3.1) (by omega) (Nat.le_of_ble_eq_true rfl) dX10_reads_173 (fun σ1 e1 => ?_)
                  subst σ1
                  refine gx_goto (pc := 176) 11 dX10_reads_176 (by decide) ?_
                  refine ih true (dp + 1) _ _ (i + 1) (c + 1) _ _ _ _ _ ?_ (by omega) (by omega) (by omega) (by omega) (hCs _) R3.nx
                  rw [hv, hv1]; exact hX
                refine gx_aload_n (pc := 105) dX10_reads_105 rfl ?_
                refine m_getA (pc := 106) rfl fX10_68 rfl (by decide) dX10_reads_106 ?_
                refine gx_iload_n (pc := 109) dX10_reads_109 rfl ?_
                refine gx_iload (pc := 110) dX10_reads_110 rfl ?_
                refine gx_if_eq (pc := 112) 119 dX10_reads_112 (by decide) (fun c7 => ?_) (fun c7 => ?_)
                · have : ¬ n = true := fun e => by rw [e] at c7; exact absurd c7 (by decide)
                  refine gx_iconst (pc := 119) (v := 2) dX10_reads_119 (by decide) ?_
                  exact K120 _ (by rw [if_neg this])
                · have : n = true := zi_ne0 c7
                  refine gx_iconst (pc := 115) (v := 1) dX10_reads_115 (by decide) ?_
                  refine gx_goto (pc := 116) 120 dX10_reads_116 (by decide) ?_
                  exact K120 _ (by rw [if_pos this])
              refine gx_aload_n (pc := 86) dX10_reads_86 rfl ?_
              refine gx_iload (pc := 87) dX10_reads_87 rfl ?_
              refine gx_if_eq (pc := 89) 97 dX10_reads_89 (by decide) (fun c6 => ?_) (fun c6 => ?_)
              · have : ¬ n = true := fun e => by rw [e] at c6; exact absurd c6 (by decide)
                refine gx_bipush (pc := 97) (v := 28) dX10_reads_97 (by decide) ?_
                exact K99 _ (by rw [if_neg this])
              · have : n = true := zi_ne0 c6
                refine gx_bipush (pc := 92) (v := 30) dX10_reads_92 (by decide) ?_
                refine gx_goto (pc := 94) 99 dX10_reads_94 (by decide) ?_
                exact K99 _ (by rw [if_pos this])
            have K131 : ¬ (n = true ∨ o = true) → gxV G mX10_reads d 0 0 131 [some (.ref b), some (.int (nI dp)), some (.int 1), some (.int (nI f)), some (.int (zi n)), some (.int (zi o))] [] (mput h b ρ) (mQi h b (fun r σ' => rX σ σ' ∧ rR X r σ' (fun x => tS t z x.2.2.2.2.1 σ' ∧ σ'.1 28 = nI x.2.2.2.2.2.1 ∧ x.2.2.2.2.2.1 ≤ 2000 ∧ σ'.2.2 = rdX σ.2.2 x))) := by
              intro hno
              rw [if_neg hno] at hX
              have K147 : ∀ v, v = (if f = 0 then 100 + (tkK t z i).2.2.2.2 else nI f) → gxV G mX10_reads d 0 0 147 [some (.ref b), some (.int (nI dp)), some (.int 1), some (.int (nI f)), some (.int (zi n)), some (.int (zi o))] [.int v, .ref b] (mput h b ρ) (mQi h b (fun r σ' => rX σ σ' ∧ rR X r σ' (fun x => tS t z x.2.2.2.2.1 σ' ∧ σ'.1 28 = nI x.2.2.2.2.2.1 ∧ x.2.2.2.2.2.1 ≤ 2000 ∧ σ'.2.2 = rdX σ.2.2 x))) := by
                intro v hv
                refine kX10_242 (pc := 147) rfl (c_puts (d := d - 1) hb c (by omega) hR.2.2.1 v) (by omega) (Nat.le_of_ble_eq_true rfl) dX10_reads_147 (fun σ1 e1 => ?_)
                subst σ1
                have R1 := hR.pt v
                generalize mI (mA ρ 27 c v) 28 (nI (c + 1)) = ρ1 at *
                have K172 : ∀ dp', dp' = popD op dp → gxV G mX10_reads d 0 0 172 [some (.ref b), some (.int (nI dp')), some (.int 0), some (.int (nI f)), some (.int (zi n)), some (.int (zi o))] [] (mput h b ρ1) (mQi h b (fun r σ' => rX σ σ' ∧ rR X r σ' (fun x => tS t z x.2.2.2.2.1 σ' ∧ σ'.1 28 = nI x.2.2.2.2.2.1 ∧ x.2.2.2.2.2.1 ≤ 2000 ∧ σ'.2.2 = rdX σ.2.2 x))) := by
                  intro dp' hdp'
                  refine gx_aload_n (pc := 172) dX10_reads_172 rfl ?_
                  refine kX10_246 (pc := 173) rfl (c_next (d := d - 1) hb (by omega) R1.1) (by omega) (Nat.le_of_ble_eq_true rfl) dX10_reads_173 (fun σ1 e1 => ?_)
                  subst σ1
                  refine gx_goto (pc := 176) 11 dX10_reads_176 (by decide) ?_
                  have := popD_le op dp
                  refine ih false dp' _ _ (i + 1) (c + 1) _ _ _ _ _ ?_ (by omega) (by omega) (by omega) (by omega) (hCs _) R1.nx
                  rw [hv, hdp']; exact hX
                have P : ∀ e, e ≤ dp → popD op e = popD op dp → gxV G mX10_reads d 0 0 152 [some (.ref b), some (.int (nI e)), some (.int 0), some (.int (nI f)), some (.int (zi n)), some (.int (zi o))] [] (mput h b ρ1) (mQi h b (fun r σ' => rX σ σ' ∧ rR X r σ' (fun x => tS t z x.2.2.2.2.1 σ' ∧ σ'.1 28 = nI x.2.2.2.2.2.1 ∧ x.2.2.2.2.2.1 ≤ 2000 ∧ σ'.2.2 = rdX σ.2.2 x))) := by
                  intro e
                  induction e with
                  | zero =>
                    intro he hp
                    refine gx_iload_n (pc := 152) dX10_reads_152 rfl ?_
                    refine gx_if_le (pc := 153) 172 dX10_reads_153 (by decide) (fun k1 => ?_) (fun k1 => ?_)
                    · exact K172 0 hp
                    · exact absurd (by decide) k1
                  | succ e ihe =>
                    intro he hp
                    rw [popD] at hp
                    refine gx_iload_n (pc := 152) dX10_reads_152 rfl ?_
                    refine gx_if_le (pc := 153) 172 dX10_reads_153 (by decide) (fun k1 => ?_) (fun k1 => ?_)
                    · exact absurd k1 (nI_ge (a := 0) (b := e + 1) (by omega) (by omega))
                    · refine gx_aload_n (pc := 156) dX10_reads_156 rfl ?_
                      refine m_getA (pc := 157) rfl fX10_68 rfl (by decide) dX10_reads_157 ?_
                      refine gx_iload_n (pc := 160) dX10_reads_160 rfl ?_
                      refine m_iald (pc := 161) 29 ((e+1)) 7 rfl (by decide) rfl (by first | rfl | simp only [gx_lit, nI_add, pk_mul]) (by omega) (by decide) dX10_reads_161 ?_
                      rw [R1.2.2.2.2.2.1]
                      refine gx_iconst (pc := 162) (v := 1) dX10_reads_162 (by decide) ?_
                      refine gx_icmp_ne (pc := 163) 172 dX10_reads_163 (by decide) (fun k2 => ?_) (fun k2 => ?_)
                      · rw [if_neg k2] at hp
                        exact K172 _ hp
                      · rw [if_pos (show op (e + 1) = 1 from k2)] at hp
                        refine gx_iincc (pc := 166) (c := (-1)) dX10_reads_166 rfl (by decide) (by decide) rfl ?_
                        refine gx_goto (pc := 169) 152 dX10_reads_169 (by decide) ?_
                        rw [nI_m1]
                        exact ihe (by omega) hp
                refine gx_iconst (pc := 150) (v := 0) dX10_reads_150 (by decide) ?_
                refine gx_istore_n (pc := 151) dX10_reads_151 (by decide) rfl ?_
                exact P dp (Nat.le_refl _) rfl
              refine gx_aload_n (pc := 131) dX10_reads_131 rfl ?_
              refine gx_iload_n (pc := 132) dX10_reads_132 rfl ?_
              refine gx_if_le (pc := 133) 140 dX10_reads_133 (by decide) (fun c6 => ?_) (fun c6 => ?_)
              · have : f = 0 := by
                  rcases Nat.eq_zero_or_pos f with q | q
                  · exact q
                  · exact absurd c6 (nI_ge (a := 0) q (by omega))
                refine gx_bipush (pc := 140) (v := 100) dX10_reads_140 (by decide) ?_
                refine gx_aload_n (pc := 142) dX10_reads_142 rfl ?_
                refine m_getI (pc := 143) rfl fX10_197 rfl (by decide) dX10_reads_143 ?_
                rw [hS.i8]
                refine gx_iadd (pc := 146) dX10_reads_146 ?_
                exact K147 _ (by rw [if_pos this])
              · have : ¬ f = 0 := fun e => c6 (by rw [e]; decide)
                refine gx_iload_n (pc := 136) dX10_reads_136 rfl ?_
                refine gx_goto (pc := 137) 147 dX10_reads_137 (by decide) ?_
                exact K147 _ (by rw [if_neg this])
            refine gx_iload (pc := 76) dX10_reads_76 rfl ?_
            refine gx_if_ne (pc := 78) 86 dX10_reads_78 (by decide) (fun c6 => ?_) (fun c6 => ?_)
            · exact K86 (Or.inl (zi_ne0 c6))
            · have n0 : n = false := zi_eq0 c6
              refine gx_iload (pc := 81) dX10_reads_81 rfl ?_
              refine gx_if_eq (pc := 83) 131 dX10_reads_83 (by decide) (fun c7 => ?_) (fun c7 => ?_)
              · have o0 : o = false := zi_eq0 c7
                exact K131 (by rw [n0, o0]; decide)
              · exact K86 (Or.inr (zi_ne0 c7))
          · have hd5 : dp = 5 := (nI_eq (b := 5) (by omega) (by decide)).mp c5
            rw [if_pos hd5] at hX
            refine gx_aload_n (pc := 70) dX10_reads_70 rfl ?_
            refine gx_iconst (pc := 71) (v := 5) dX10_reads_71 (by decide) ?_
            refine kX10_239 (pc := 72) rfl (c_fails (d := d - 1) hb hS 5) (by omega) (Nat.le_of_ble_eq_true rfl) dX10_reads_72 (fun r1 σ1 e1 => ?_)
            obtain ⟨rfl, hσ⟩ := e1
            subst σ1
            exact m_retz (pc := 75) rfl (by decide) dX10_reads_75 (⟨⟨hR.2.1.tr (rE.I _ rfl _), (hR.X hC).2⟩, by rw [← hX]; exact ⟨rfl, mI_eq _ _ _⟩⟩)
        refine gx_istore (pc := 35) dX10_reads_35 (by decide) rfl ?_
        refine gx_iload_n (pc := 37) dX10_reads_37 rfl ?_
        refine gx_if_ne (pc := 38) 65 dX10_reads_38 (by decide) (fun k1 => ?_) (fun k1 => ?_)
        · exact K65 (fun hh => k1 (by rw [hh.1]; rfl))
        · have f0 : f = 0 := (nI_eq (b := 0) (by omega) (by decide)).mp k1
          refine gx_iload (pc := 41) dX10_reads_41 rfl ?_
          refine gx_if_ne (pc := 43) 65 dX10_reads_43 (by decide) (fun k2 => ?_) (fun k2 => ?_)
          · exact K65 (fun hh => by rw [hh.2.1] at k2; exact k2 rfl)
          · have n0 : n = false := zi_eq0 k2
            refine gx_iload (pc := 46) dX10_reads_46 rfl ?_
            refine gx_if_ne (pc := 48) 65 dX10_reads_48 (by decide) (fun k3 => ?_) (fun k3 => ?_)
            · exact K65 (fun hh => by rw [hh.2.2.1] at k3; exact k3 rfl)
            · have o0 : o = false := zi_eq0 k3
              refine gx_aload_n (pc := 51) dX10_reads_51 rfl ?_
              refine m_getI (pc := 52) rfl fX10_200 rfl (by decide) dX10_reads_52 ?_
              rw [hS.i6]
              refine gx_iconst (pc := 55) (v := 2) dX10_reads_55 (by decide) ?_
              refine gx_icmp_eq (pc := 56) 65 dX10_reads_56 (by decide) (fun k4 => ?_) (fun k4 => ?_)
              · exact K65 (fun hh => hh.2.2.2 k4)
              · unfold auW at hX
                rw [hf, hn, ho, if_pos ⟨f0, n0, o0, k4⟩] at hX
                refine gx_aload_n (pc := 59) dX10_reads_59 rfl ?_
                refine gx_iconst (pc := 60) (v := 1) dX10_reads_60 (by decide) ?_
                refine kX10_239 (pc := 61) rfl (c_fails (d := d - 1) hb hS 1) (by omega) (Nat.le_of_ble_eq_true rfl) dX10_reads_61 (fun r1 σ1 e1 => ?_)
                obtain ⟨rfl, hσ⟩ := e1
                subst σ1
                exact m_retz (pc := 64) rfl (by decide) dX10_reads_64 (⟨⟨hR.2.1.tr (rE.I _ rfl _), (hR.X hC).2⟩, by rw [← hX]; exact ⟨rfl, mI_eq _ _ _⟩⟩)
      | false =>
        rw [auRunF] at hX
        unfold auL at hX
        generalize g43 : tkG t (tkK t z i) 43 = b43 at *
        generalize g45 : tkG t (tkK t z i) 45 = b45 at *
        generalize g42 : tkG t (tkK t z i) 42 = b42 at *
        generalize g60 : tkG t (tkK t z i) 60 = b60 at *
        generalize g61 : tkG t (tkK t z i) 61 = b61 at *
        generalize w11 : tkW (tkK t z i) 1111 = v11 at *
        generalize w42 : tkW (tkK t z i) 423 = v42 at *
        generalize g41 : tkG t (tkK t z i) 41 = b41 at *
        generalize g59 : tkG t (tkK t z i) 59 = b59 at *
        have s43 := c_isSign (G := G) (d := d - 1) (h := h) (b := b) hS 43
        have s45 := c_isSign (G := G) (d := d - 1) (h := h) (b := b) hS 45
        have s42 := c_isSign (G := G) (d := d - 1) (h := h) (b := b) hS 42
        have s60 := c_isSign (G := G) (d := d - 1) (h := h) (b := b) hS 60
        have s61 := c_isSign (G := G) (d := d - 1) (h := h) (b := b) hS 61
        have s41 := c_isSign (G := G) (d := d - 1) (h := h) (b := b) hS 41
        have s59 := c_isSign (G := G) (d := d - 1) (h := h) (b := b) hS 59
        have u11 := c_isWord (G := G) (d := d - 1) (h := h) (b := b) hS 1111
        have u42 := c_isWord (G := G) (d := d - 1) (h := h) (b := b) hS 423
        rw [g43] at s43; rw [g45] at s45; rw [g42] at s42; rw [g60] at s60; rw [g61] at s61; rw [g41] at s41; rw [g59] at s59; rw [w11] at u11; rw [w42] at u42
        have adv : ¬ (tkK t z i).2.2.1 = 0 → (tkK t z i).2.1 < (tkK t z (i + 1)).2.1 ∧ (tkK t z (i + 1)).2.1 ≤ z := fun hh => ⟨tkK_lt hh, by have := tkK_le t z (i + 1); omega⟩
        have K424 : ∀ (wn : Bool) dp' op' cp' C' (x3 x4 x5 : Option Value) ρ1, ¬ (tkK t z i).2.2.1 = 0 → auRun t z m (wn, dp', op', cp', i + 1, c + 1, C') = X → dp' ≤ 5 → (∀ k, k < 1000 → C' k = σ.2.2.1 27 k) → rS t z σ op' cp' i (c + 1) C' ρ1 → gxV G mX10_reads d 0 0 424 [some (.ref b), some (.int (nI dp')), some (.int (zi wn)), x3, x4, x5] [] (mput h b ρ1) (mQi h b (fun r σ' => rX σ σ' ∧ rR X r σ' (fun x => tS t z x.2.2.2.2.1 σ' ∧ σ'.1 28 = nI x.2.2.2.2.2.1 ∧ x.2.2.2.2.2.1 ≤ 2000 ∧ σ'.2.2 = rdX σ.2.2 x))) := by
          intro wn dp' op' cp' C' x3 x4 x5 ρ1 hn0 hX1 hdp1 hC1 R1
          have ha := adv hn0
          refine gx_aload_n (pc := 424) dX10_reads_424 rfl ?_
          refine kX10_246 (pc := 425) rfl (c_next (d := d - 1) hb (by omega) R1.1) (by omega) (Nat.le_of_ble_eq_true rfl) dX10_reads_425 (fun σ1 e1 => ?_)
          subst σ1
          refine gx_goto (pc := 428) 11 dX10_reads_428 (by decide) ?_
          exact ih wn dp' op' cp' (i + 1) (c + 1) C' _ _ _ _ hX1 (by omega) hdp1 (by omega) (by omega) hC1 R1.nx
        have K418 : (Sum.inl (flt t z i 1) : Sum Int32 auX) = X → gxV G mX10_reads d 0 0 418 [some (.ref b), some (.int (nI dp)), some (.int 0), x3, x4, x5] [] (mput h b ρ) (mQi h b (fun r σ' => rX σ σ' ∧ rR X r σ' (fun x => tS t z x.2.2.2.2.1 σ' ∧ σ'.1 28 = nI x.2.2.2.2.2.1 ∧ x.2.2.2.2.2.1 ≤ 2000 ∧ σ'.2.2 = rdX σ.2.2 x))) := by
          intro hX1
          refine gx_aload_n (pc := 418) dX10_reads_418 rfl ?_
          refine gx_iconst (pc := 419) (v := 1) dX10_reads_419 (by decide) ?_
          refine kX10_239 (pc := 420) rfl (c_fails (d := d - 1) hb hS 1) (by omega) (Nat.le_of_ble_eq_true rfl) dX10_reads_420 (fun r1 σ1 e1 => ?_)
          obtain ⟨rfl, hσ⟩ := e1
          subst σ1
          exact m_retz (pc := 423) rfl (by decide) dX10_reads_423 (⟨⟨hR.2.1.tr (rE.I _ rfl _), (hR.X hC).2⟩, by rw [← hX1]; exact ⟨rfl, mI_eq _ _ _⟩⟩)
        have K399 : (match (if dp = 0 ∧ b59 = true then (.inl (.inr (false, dp, op, cp, i + 1, c, C)) : Sum (Sum Int32 auX) auX) else .inl (.inl (flt t z i 1))) with
            | .inl r => r
            | .inr y => auRun t z m y) = X → gxV G mX10_reads d 0 0 399 [some (.ref b), some (.int (nI dp)), some (.int 0), x3, x4, x5] [] (mput h b ρ) (mQi h b (fun r σ' => rX σ σ' ∧ rR X r σ' (fun x => tS t z x.2.2.2.2.1 σ' ∧ σ'.1 28 = nI x.2.2.2.2.2.1 ∧ x.2.2.2.2.2.1 ≤ 2000 ∧ σ'.2.2 = rdX σ.2.2 x))) := by
          intro hX1
          refine gx_iload_n (pc := 399) dX10_reads_399 rfl ?_
          refine gx_if_ne (pc := 400) 418 dX10_reads_400 (by decide) (fun k1 => ?_) (fun k1 => ?_)
          · rw [if_neg (fun hh => k1 (by rw [hh.1]; rfl))] at hX1
            exact K418 hX1
          · have d0 : dp = 0 := (nI_eq (b := 0) (by omega) (by decide)).mp k1
            refine gx_aload_n (pc := 403) dX10_reads_403 rfl ?_
            refine gx_bipush (pc := 404) (v := 59) dX10_reads_404 (by decide) ?_
            refine kX10_235 (pc := 406) rfl (s59) (by omega) (Nat.le_of_ble_eq_true rfl) dX10_reads_406 (fun r1 σ1 e1 => ?_)
            obtain ⟨rfl, hσ⟩ := e1
            subst σ1
            refine gx_if_eq (pc := 409) 418 dX10_reads_409 (by decide) (fun k2 => ?_) (fun k2 => ?_)
            · rw [if_neg (fun hh => by rw [hh.2] at k2; exact absurd k2 (by decide))] at hX1
              exact K418 hX1
            · rw [if_pos ⟨d0, zi_ne0 k2⟩] at hX1
              refine gx_aload_n (pc := 412) dX10_reads_412 rfl ?_
              refine kX10_246 (pc := 413) rfl (c_next (d := d - 1) hb (by omega) hS) (by omega) (Nat.le_of_ble_eq_true rfl) dX10_reads_413 (fun σ1 e1 => ?_)
              subst σ1
              refine gx_iconst (pc := 416) (v := 1) dX10_reads_416 (by decide) ?_
              exact m_retz (pc := 417) rfl (by decide) dX10_reads_417 (⟨hR.nx.X hC, by rw [← hX1]; exact ⟨rfl, hR.nx.1, hR.nx.2.2.1, (by show c ≤ 2000; omega), hR.nx.rdE _ _ _⟩⟩)
        have K357 : (match (if b41 = true ∧ 0 < dp then (.inr (false, popD op (dp - 1), op, cp, i + 1, c + 1, upd C c 29) : Sum (Sum Int32 auX) auX) else if dp = 0 ∧ b59 = true then .inl (.inr (false, dp, op, cp, i + 1, c, C)) else .inl (.inl (flt t z i 1))) with
            | .inl r => r
            | .inr y => auRun t z m y) = X → gxV G mX10_reads d 0 0 357 [some (.ref b), some (.int (nI dp)), some (.int 0), x3, x4, x5] [] (mput h b ρ) (mQi h b (fun r σ' => rX σ σ' ∧ rR X r σ' (fun x => tS t z x.2.2.2.2.1 σ' ∧ σ'.1 28 = nI x.2.2.2.2.2.1 ∧ x.2.2.2.2.2.1 ≤ 2000 ∧ σ'.2.2 = rdX σ.2.2 x))) := by
          intro hX1
          refine gx_aload_n (pc := 357) dX10_reads_357 rfl ?_
          refine gx_bipush (pc := 358) (v := 41) dX10_reads_358 (by decide) ?_
          refine kX10_235 (pc := 360) rfl (s41) (by omega) (Nat.le_of_ble_eq_true rfl) dX10_reads_360 (fun r1 σ1 e1 => ?_)
          obtain ⟨rfl, hσ⟩ := e1
          subst σ1
          refine gx_if_eq (pc := 363) 399 dX10_reads_363 (by decide) (fun k1 => ?_) (fun k1 => ?_)
          · rw [if_neg (fun hh => by rw [hh.1] at k1; exact absurd k1 (by decide))] at hX1
            exact K399 hX1
          · have b41t := zi_ne0 k1
            refine gx_iload_n (pc := 366) dX10_reads_366 rfl ?_
            refine gx_if_le (pc := 367) 399 dX10_reads_367 (by decide) (fun k2 => ?_) (fun k2 => ?_)
            · have : ¬ 0 < dp := fun hh => absurd k2 (nI_ge (a := 0) hh (by omega))
              rw [if_neg (fun hh => this hh.2)] at hX1
              exact K399 hX1
            · have d0 : 0 < dp := by
                rcases Nat.eq_zero_or_pos dp with q | q
                · exact absurd (by rw [q]; decide) k2
                · exact q
              rw [if_pos ⟨b41t, d0⟩] at hX1
              have hn0 : ¬ (tkK t z i).2.2.1 = 0 := tkG_n0 (g41.trans b41t)
              have ha := adv hn0
              refine gx_aload_n (pc := 370) dX10_reads_370 rfl ?_
              refine gx_bipush (pc := 371) (v := 29) dX10_reads_371 (by decide) ?_
              refine kX10_242 (pc := 373) rfl (c_puts (d := d - 1) hb c (by omega) hR.2.2.1 29) (by omega) (Nat.le_of_ble_eq_true rfl) dX10_reads_373 (fun σ1 e1 => ?_)
              subst σ1
              have R1 := hR.pt 29
              generalize mI (mA ρ 27 c 29) 28 (nI (c + 1)) = ρ1 at *
              have P : ∀ e, e ≤ dp → popD op e = popD op (dp - 1) → gxV G mX10_reads d 0 0 379 [some (.ref b), some (.int (nI e)), some (.int 0), x3, x4, x5] [] (mput h b ρ1) (mQi h b (fun r σ' => rX σ σ' ∧ rR X r σ' (fun x => tS t z x.2.2.2.2.1 σ' ∧ σ'.1 28 = nI x.2.2.2.2.2.1 ∧ x.2.2.2.2.2.1 ≤ 2000 ∧ σ'.2.2 = rdX σ.2.2 x))) := by
                intro e
                induction e with
                | zero =>
                  intro he hp
                  refine gx_iload_n (pc := 379) dX10_reads_379 rfl ?_
                  refine gx_if_le (pc := 380) 424 dX10_reads_380 (by decide) (fun k1 => ?_) (fun k1 => ?_)
                  · exact K424 false 0 _ _ _ _ _ _ _ hn0 (by rw [← hX1, ← hp]; rfl) (by omega) (hCs _) R1
                  · exact absurd (by decide) k1
                | succ e ihe =>
                  intro he hp
                  rw [popD] at hp
                  refine gx_iload_n (pc := 379) dX10_reads_379 rfl ?_
                  refine gx_if_le (pc := 380) 424 dX10_reads_380 (by decide) (fun k1 => ?_) (fun k1 => ?_)
                  · exact absurd k1 (nI_ge (a := 0) (b := e + 1) (by omega) (by omega))
                  · refine gx_aload_n (pc := 383) dX10_reads_383 rfl ?_
                    refine m_getA (pc := 384) rfl fX10_68 rfl (by decide) dX10_reads_384 ?_
                    refine gx_iload_n (pc := 387) dX10_reads_387 rfl ?_
                    refine m_iald (pc := 388) 29 ((e+1)) 7 rfl (by decide) rfl (by first | rfl | simp only [gx_lit, nI_add, pk_mul]) (by omega) (by decide) dX10_reads_388 ?_
                    rw [R1.2.2.2.2.2.1]
                    refine gx_iconst (pc := 389) (v := 1) dX10_reads_389 (by decide) ?_
                    refine gx_icmp_ne (pc := 390) 424 dX10_reads_390 (by decide) (fun k2 => ?_) (fun k2 => ?_)
                    · rw [if_neg k2] at hp
                      exact K424 false (e + 1) _ _ _ _ _ _ _ hn0 (by rw [← hX1, ← hp]) (by omega) (hCs _) R1
                    · rw [if_pos (show op (e + 1) = 1 from k2)] at hp
                      refine gx_iincc (pc := 393) (c := (-1)) dX10_reads_393 rfl (by decide) (by decide) rfl ?_
                      refine gx_goto (pc := 396) 379 dX10_reads_396 (by decide) ?_
                      rw [nI_m1]
                      exact ihe (by omega) hp
              refine gx_iincc (pc := 376) (c := (-1)) dX10_reads_376 rfl (by decide) (by decide) rfl ?_
              obtain ⟨e, rfl⟩ : ∃ e, dp = e + 1 := ⟨dp - 1, by omega⟩
              rw [nI_m1]
              exact P e (by omega) rfl
        have K304 : (match (if v11 = true ∨ v42 = true then (.inr (true, dp, op, upd cp dp 0, i + 1, c + 1, upd C c (if v11 = true then 26 else 27)) : Sum (Sum Int32 auX) auX) else if b41 = true ∧ 0 < dp then .inr (false, popD op (dp - 1), op, cp, i + 1, c + 1, upd C c 29) else if dp = 0 ∧ b59 = true then .inl (.inr (false, dp, op, cp, i + 1, c, C)) else .inl (.inl (flt t z i 1))) with
            | .inl r => r
            | .inr y => auRun t z m y) = X → gxV G mX10_reads d 0 0 304 [some (.ref b), some (.int (nI dp)), some (.int 0), x3, x4, x5] [] (mput h b ρ) (mQi h b (fun r σ' => rX σ σ' ∧ rR X r σ' (fun x => tS t z x.2.2.2.2.1 σ' ∧ σ'.1 28 = nI x.2.2.2.2.2.1 ∧ x.2.2.2.2.2.1 ≤ 2000 ∧ σ'.2.2 = rdX σ.2.2 x))) := by
          intro hX1
          have K324 : (v11 = true ∨ v42 = true) → gxV G mX10_reads d 0 0 324 [some (.ref b), some (.int (nI dp)), some (.int 0), x3, x4, x5] [] (mput h b ρ) (mQi h b (fun r σ' => rX σ σ' ∧ rR X r σ' (fun x => tS t z x.2.2.2.2.1 σ' ∧ σ'.1 28 = nI x.2.2.2.2.2.1 ∧ x.2.2.2.2.2.1 ≤ 2000 ∧ σ'.2.2 = rdX σ.2.2 x))) := by
            intro hv
            rw [if_pos hv] at hX1
            have hn0 : ¬ (tkK t z i).2.2.1 = 0 := by
              rcases hv with hv | hv
              · exact tkW_n0 (w11.trans hv)
              · exact tkW_n0 (w42.trans hv)
            have ha := adv hn0
            have K342 : ∀ v, v = (if v11 = true then 26 else 27) → gxV G mX10_reads d 0 0 342 [some (.ref b), some (.int (nI dp)), some (.int 0), x3, x4, x5] [.int v, .ref b] (mput h b ρ) (mQi h b (fun r σ' => rX σ σ' ∧ rR X r σ' (fun x => tS t z x.2.2.2.2.1 σ' ∧ σ'.1 28 = nI x.2.2.2.2.2.1 ∧ x.2.2.2.2.2.1 ≤ 2000 ∧ σ'.2.2 = rdX σ.2.2 x))) := by
              intro v hv
              refine kX10_242 (pc := 342) rfl (c_puts (d := d - 1) hb c (by omega) hR.2.2.1 v) (by omega) (Nat.le_of_ble_eq_true rfl) dX10_reads_342 (fun σ1 e1 => ?_)
              subst σ1
              have R1 := hR.pt v
              generalize mI (mA ρ 27 c v) 28 (nI (c + 1)) = ρ1 at *
              refine gx_aload_n (pc := 345) dX10_reads_345 rfl ?_
              refine m_getA (pc := 346) rfl fX10_71 rfl (by decide) dX10_reads_346 ?_
              refine gx_iload_n (pc := 349) dX10_reads_349 rfl ?_
              refine gx_iconst (pc := 350) (v := 0) dX10_reads_350 (by decide) ?_
              refine m_zast (pc := 351) hb 30 (dp) 7 (by decide) rfl (by decide) rfl (by first | rfl | simp only [gx_lit, nI_add, pk_mul]) (by omega) (by decide) dX10_reads_351 ?_
              have R2 := R1.cp dp 0
              refine gx_iconst (pc := 352) (v := 1) dX10_reads_352 (by decide) ?_
              refine gx_istore_n (pc := 353) dX10_reads_353 (by decide) rfl ?_
              refine gx_goto (pc := 354) 424 dX10_reads_354 (by decide) ?_
              exact K424 true dp _ _ _ _ _ _ _ hn0 (by rw [hv]; exact hX1) hdp (hCs _) R2
            refine gx_aload_n (pc := 324) dX10_reads_324 rfl ?_
            refine gx_aload_n (pc := 325) dX10_reads_325 rfl ?_
            refine gx_ldc2 (pc := 326) q2127 dX10_reads_326 ?_
            refine kX10_231 (pc := 329) rfl (u11) (by omega) (Nat.le_of_ble_eq_true rfl) dX10_reads_329 (fun r1 σ1 e1 => ?_)
            obtain ⟨rfl, hσ⟩ := e1
            subst σ1
            refine gx_if_eq (pc := 332) 340 dX10_reads_332 (by decide) (fun k1 => ?_) (fun k1 => ?_)
            · refine gx_bipush (pc := 340) (v := 27) dX10_reads_340 (by decide) ?_
              exact K342 _ (by rw [zi_eq0 k1]; rfl)
            · refine gx_bipush (pc := 335) (v := 26) dX10_reads_335 (by decide) ?_
              refine gx_goto (pc := 337) 342 dX10_reads_337 (by decide) ?_
              exact K342 _ (by rw [zi_ne0 k1]; rfl)
          refine gx_aload_n (pc := 304) dX10_reads_304 rfl ?_
          refine gx_ldc2 (pc := 305) q2127 dX10_reads_305 ?_
          refine kX10_231 (pc := 308) rfl (u11) (by omega) (Nat.le_of_ble_eq_true rfl) dX10_reads_308 (fun r1 σ1 e1 => ?_)
          obtain ⟨rfl, hσ⟩ := e1
          subst σ1
          refine gx_if_ne (pc := 311) 324 dX10_reads_311 (by decide) (fun k1 => ?_) (fun k1 => ?_)
          · exact K324 (Or.inl (zi_ne0 k1))
          · have z1 := zi_eq0 k1
            refine gx_aload_n (pc := 314) dX10_reads_314 rfl ?_
            refine gx_ldc2 (pc := 315) q2128 dX10_reads_315 ?_
            refine kX10_231 (pc := 318) rfl (u42) (by omega) (Nat.le_of_ble_eq_true rfl) dX10_reads_318 (fun r1 σ1 e1 => ?_)
            obtain ⟨rfl, hσ⟩ := e1
            subst σ1
            refine gx_if_eq (pc := 321) 357 dX10_reads_321 (by decide) (fun k2 => ?_) (fun k2 => ?_)
            · have z2 := zi_eq0 k2
              rw [if_neg (by rw [z1, z2]; decide)] at hX1
              exact K357 hX1
            · exact K324 (Or.inr (zi_ne0 k2))
        have K245 : (match (if (b60 = true ∨ b61 = true) ∧ cp dp = 0 then (.inr (true, dp, op, upd cp dp 1, i + 1, c + 1, upd C c (if b60 = true then 24 else 25)) : Sum (Sum Int32 auX) auX) else if v11 = true ∨ v42 = true then .inr (true, dp, op, upd cp dp 0, i + 1, c + 1, upd C c (if v11 = true then 26 else 27)) else if b41 = true ∧ 0 < dp then .inr (false, popD op (dp - 1), op, cp, i + 1, c + 1, upd C c 29) else if dp = 0 ∧ b59 = true then .inl (.inr (false, dp, op, cp, i + 1, c, C)) else .inl (.inl (flt t z i 1))) with
            | .inl r => r
            | .inr y => auRun t z m y) = X → gxV G mX10_reads d 0 0 245 [some (.ref b), some (.int (nI dp)), some (.int 0), x3, x4, x5] [] (mput h b ρ) (mQi h b (fun r σ' => rX σ σ' ∧ rR X r σ' (fun x => tS t z x.2.2.2.2.1 σ' ∧ σ'.1 28 = nI x.2.2.2.2.2.1 ∧ x.2.2.2.2.2.1 ≤ 2000 ∧ σ'.2.2 = rdX σ.2.2 x))) := by
          intro hX1
          have K263 : (b60 = true ∨ b61 = true) → gxV G mX10_reads d 0 0 263 [some (.ref b), some (.int (nI dp)), some (.int 0), x3, x4, x5] [] (mput h b ρ) (mQi h b (fun r σ' => rX σ σ' ∧ rR X r σ' (fun x => tS t z x.2.2.2.2.1 σ' ∧ σ'.1 28 = nI x.2.2.2.2.2.1 ∧ x.2.2.2.2.2.1 ≤ 2000 ∧ σ'.2.2 = rdX σ.2.2 x))) := by
            intro hv
            refine gx_aload_n (pc := 263) dX10_reads_263 rfl ?_
            refine m_getA (pc := 264) rfl fX10_71 rfl (by decide) dX10_reads_264 ?_
            refine gx_iload_n (pc := 267) dX10_reads_267 rfl ?_
            refine m_zald (pc := 268) 30 (dp) 7 rfl (by decide) rfl (by first | rfl | simp only [gx_lit, nI_add, pk_mul]) (by omega) (by decide) dX10_reads_268 ?_
            rw [hR.2.2.2.2.2.2.1]
            refine gx_if_ne (pc := 269) 304 dX10_reads_269 (by decide) (fun k0 => ?_) (fun k0 => ?_)
            · rw [if_neg (fun hh => k0 hh.2)] at hX1
              exact K304 hX1
            · rw [if_pos ⟨hv, k0⟩] at hX1
              have hn0 : ¬ (tkK t z i).2.2.1 = 0 := by
                rcases hv with hv | hv
                · exact tkG_n0 (g60.trans hv)
                · exact tkG_n0 (g61.trans hv)
              have ha := adv hn0
              have K289 : ∀ v, v = (if b60 = true then 24 else 25) → gxV G mX10_reads d 0 0 289 [some (.ref b), some (.int (nI dp)), some (.int 0), x3, x4, x5] [.int v, .ref b] (mput h b ρ) (mQi h b (fun r σ' => rX σ σ' ∧ rR X r σ' (fun x => tS t z x.2.2.2.2.1 σ' ∧ σ'.1 28 = nI x.2.2.2.2.2.1 ∧ x.2.2.2.2.2.1 ≤ 2000 ∧ σ'.2.2 = rdX σ.2.2 x))) := by
                intro v hv
                refine kX10_242 (pc := 289) rfl (c_puts (d := d - 1) hb c (by omega) hR.2.2.1 v) (by omega) (Nat.le_of_ble_eq_true rfl) dX10_reads_289 (fun σ1 e1 => ?_)
                subst σ1
                have R1 := hR.pt v
                generalize mI (mA ρ 27 c v) 28 (nI (c + 1)) = ρ1 at *
                refine gx_aload_n (pc := 292) dX10_reads_292 rfl ?_
                refine m_getA (pc := 293) rfl fX10_71 rfl (by decide) dX10_reads_293 ?_
                refine gx_iload_n (pc := 296) dX10_reads_296 rfl ?_
                refine gx_iconst (pc := 297) (v := 1) dX10_reads_297 (by decide) ?_
                refine m_zast (pc := 298) hb 30 (dp) 7 (by decide) rfl (by decide) rfl (by first | rfl | simp only [gx_lit, nI_add, pk_mul]) (by omega) (by decide) dX10_reads_298 ?_
                have R2 := R1.cp dp 1
                refine gx_iconst (pc := 299) (v := 1) dX10_reads_299 (by decide) ?_
                refine gx_istore_n (pc := 300) dX10_reads_300 (by decide) rfl ?_
                refine gx_goto (pc := 301) 424 dX10_reads_301 (by decide) ?_
                exact K424 true dp _ _ _ _ _ _ _ hn0 (by rw [hv]; exact hX1) hdp (hCs _) R2
              refine gx_aload_n (pc := 272) dX10_reads_272 rfl ?_
              refine gx_aload_n (pc := 273) dX10_reads_273 rfl ?_
              refine gx_bipush (pc := 274) (v := 60) dX10_reads_274 (by decide) ?_
              refine kX10_235 (pc := 276) rfl (s60) (by omega) (Nat.le_of_ble_eq_true rfl) dX10_reads_276 (fun r1 σ1 e1 => ?_)
              obtain ⟨rfl, hσ⟩ := e1
              subst σ1
              refine gx_if_eq (pc := 279) 287 dX10_reads_279 (by decide) (fun k1 => ?_) (fun k1 => ?_)
              · refine gx_bipush (pc := 287) (v := 25) dX10_reads_287 (by decide) ?_
                exact K289 _ (by rw [zi_eq0 k1]; rfl)
              · refine gx_bipush (pc := 282) (v := 24) dX10_reads_282 (by decide) ?_
                refine gx_goto (pc := 284) 289 dX10_reads_284 (by decide) ?_
                exact K289 _ (by rw [zi_ne0 k1]; rfl)
          refine gx_aload_n (pc := 245) dX10_reads_245 rfl ?_
          refine gx_bipush (pc := 246) (v := 60) dX10_reads_246 (by decide) ?_
          refine kX10_235 (pc := 248) rfl (s60) (by omega) (Nat.le_of_ble_eq_true rfl) dX10_reads_248 (fun r1 σ1 e1 => ?_)
          obtain ⟨rfl, hσ⟩ := e1
          subst σ1
          refine gx_if_ne (pc := 251) 263 dX10_reads_251 (by decide) (fun k1 => ?_) (fun k1 => ?_)
          · exact K263 (Or.inl (zi_ne0 k1))
          · have z1 := zi_eq0 k1
            refine gx_aload_n (pc := 254) dX10_reads_254 rfl ?_
            refine gx_bipush (pc := 255) (v := 61) dX10_reads_255 (by decide) ?_
            refine kX10_235 (pc := 257) rfl (s61) (by omega) (Nat.le_of_ble_eq_true rfl) dX10_reads_257 (fun r1 σ1 e1 => ?_)
            obtain ⟨rfl, hσ⟩ := e1
            subst σ1
            refine gx_if_eq (pc := 260) 304 dX10_reads_260 (by decide) (fun k2 => ?_) (fun k2 => ?_)
            · have z2 := zi_eq0 k2
              rw [if_neg (by rw [z1, z2]; simp)] at hX1
              exact K304 hX1
            · exact K263 (Or.inr (zi_ne0 k2))
        have K206 : (b43 = true ∨ b45 = true ∨ b42 = true) → gxV G mX10_reads d 0 0 206 [some (.ref b), some (.int (nI dp)), some (.int 0), x3, x4, x5] [] (mput h b ρ) (mQi h b (fun r σ' => rX σ σ' ∧ rR X r σ' (fun x => tS t z x.2.2.2.2.1 σ' ∧ σ'.1 28 = nI x.2.2.2.2.2.1 ∧ x.2.2.2.2.2.1 ≤ 2000 ∧ σ'.2.2 = rdX σ.2.2 x))) := by
          intro hv
          rw [if_pos hv] at hX
          have hn0 : ¬ (tkK t z i).2.2.1 = 0 := by
            rcases hv with hv | hv | hv
            · exact tkG_n0 (g43.trans hv)
            · exact tkG_n0 (g45.trans hv)
            · exact tkG_n0 (g42.trans hv)
          have ha := adv hn0
          have K237 : ∀ v, v = (if b43 = true then 20 else if b45 = true then 21 else 22) → gxV G mX10_reads d 0 0 237 [some (.ref b), some (.int (nI dp)), some (.int 0), x3, x4, x5] [.int v, .ref b] (mput h b ρ) (mQi h b (fun r σ' => rX σ σ' ∧ rR X r σ' (fun x => tS t z x.2.2.2.2.1 σ' ∧ σ'.1 28 = nI x.2.2.2.2.2.1 ∧ x.2.2.2.2.2.1 ≤ 2000 ∧ σ'.2.2 = rdX σ.2.2 x))) := by
            intro v hv
            refine kX10_242 (pc := 237) rfl (c_puts (d := d - 1) hb c (by omega) hR.2.2.1 v) (by omega) (Nat.le_of_ble_eq_true rfl) dX10_reads_237 (fun σ1 e1 => ?_)
            subst σ1
            have R1 := hR.pt v
            generalize mI (mA ρ 27 c v) 28 (nI (c + 1)) = ρ1 at *
            refine gx_iconst (pc := 240) (v := 1) dX10_reads_240 (by decide) ?_
            refine gx_istore_n (pc := 241) dX10_reads_241 (by decide) rfl ?_
            refine gx_goto (pc := 242) 424 dX10_reads_242 (by decide) ?_
            exact K424 true dp _ _ _ _ _ _ _ hn0 (by rw [hv]; exact hX) hdp (hCs _) R1
          refine gx_aload_n (pc := 206) dX10_reads_206 rfl ?_
          refine gx_aload_n (pc := 207) dX10_reads_207 rfl ?_
          refine gx_bipush (pc := 208) (v := 43) dX10_reads_208 (by decide) ?_
          refine kX10_235 (pc := 210) rfl (s43) (by omega) (Nat.le_of_ble_eq_true rfl) dX10_reads_210 (fun r1 σ1 e1 => ?_)
          obtain ⟨rfl, hσ⟩ := e1
          subst σ1
          refine gx_if_eq (pc := 213) 221 dX10_reads_213 (by decide) (fun k1 => ?_) (fun k1 => ?_)
          · refine gx_aload_n (pc := 221) dX10_reads_221 rfl ?_
            refine gx_bipush (pc := 222) (v := 45) dX10_reads_222 (by decide) ?_
            refine kX10_235 (pc := 224) rfl (s45) (by omega) (Nat.le_of_ble_eq_true rfl) dX10_reads_224 (fun r1 σ1 e1 => ?_)
            obtain ⟨rfl, hσ⟩ := e1
            subst σ1
            refine gx_if_eq (pc := 227) 235 dX10_reads_227 (by decide) (fun k2 => ?_) (fun k2 => ?_)
            · refine gx_bipush (pc := 235) (v := 22) dX10_reads_235 (by decide) ?_
              exact K237 _ (by rw [zi_eq0 k1, zi_eq0 k2]; rfl)
            · refine gx_bipush (pc := 230) (v := 21) dX10_reads_230 (by decide) ?_
              refine gx_goto (pc := 232) 237 dX10_reads_232 (by decide) ?_
              exact K237 _ (by rw [zi_eq0 k1, zi_ne0 k2]; rfl)
          · refine gx_bipush (pc := 216) (v := 20) dX10_reads_216 (by decide) ?_
            refine gx_goto (pc := 218) 237 dX10_reads_218 (by decide) ?_
            exact K237 _ (by rw [zi_ne0 k1]; rfl)
        refine gx_iload_n (pc := 11) dX10_reads_11 rfl ?_
        refine gx_if_eq (pc := 12) 179 dX10_reads_12 (by decide) (fun c0 => ?_) (fun c0 => ?_)
        · refine gx_aload_n (pc := 179) dX10_reads_179 rfl ?_
          refine gx_bipush (pc := 180) (v := 43) dX10_reads_180 (by decide) ?_
          refine kX10_235 (pc := 182) rfl (s43) (by omega) (Nat.le_of_ble_eq_true rfl) dX10_reads_182 (fun r1 σ1 e1 => ?_)
          obtain ⟨rfl, hσ⟩ := e1
          subst σ1
          refine gx_if_ne (pc := 185) 206 dX10_reads_185 (by decide) (fun k1 => ?_) (fun k1 => ?_)
          · exact K206 (Or.inl (zi_ne0 k1))
          · have z1 := zi_eq0 k1
            refine gx_aload_n (pc := 188) dX10_reads_188 rfl ?_
            refine gx_bipush (pc := 189) (v := 45) dX10_reads_189 (by decide) ?_
            refine kX10_235 (pc := 191) rfl (s45) (by omega) (Nat.le_of_ble_eq_true rfl) dX10_reads_191 (fun r1 σ1 e1 => ?_)
            obtain ⟨rfl, hσ⟩ := e1
            subst σ1
            refine gx_if_ne (pc := 194) 206 dX10_reads_194 (by decide) (fun k2 => ?_) (fun k2 => ?_)
            · exact K206 (Or.inr (Or.inl (zi_ne0 k2)))
            · have z2 := zi_eq0 k2
              refine gx_aload_n (pc := 197) dX10_reads_197 rfl ?_
              refine gx_bipush (pc := 198) (v := 42) dX10_reads_198 (by decide) ?_
              refine kX10_235 (pc := 200) rfl (s42) (by omega) (Nat.le_of_ble_eq_true rfl) dX10_reads_200 (fun r1 σ1 e1 => ?_)
              obtain ⟨rfl, hσ⟩ := e1
              subst σ1
              refine gx_if_eq (pc := 203) 245 dX10_reads_203 (by decide) (fun k3 => ?_) (fun k3 => ?_)
              · have z3 := zi_eq0 k3
                rw [if_neg (by rw [z1, z2, z3]; simp)] at hX
                exact K245 hX
              · exact K206 (Or.inr (Or.inr (zi_ne0 k3)))
        · exact absurd rfl c0
  refine gx_iconst (pc := 0) (v := 0) dX10_reads_0 (by decide) ?_
  refine gx_istore_n (pc := 1) dX10_reads_1 (by decide) rfl ?_
  refine gx_iconst (pc := 2) (v := 1) dX10_reads_2 (by decide) ?_
  refine gx_istore_n (pc := 3) dX10_reads_3 (by decide) rfl ?_
  refine gx_aload_n (pc := 4) dX10_reads_4 rfl ?_
  refine m_getA (pc := 5) rfl fX10_71 rfl (by decide) dX10_reads_5 ?_
  refine gx_iconst (pc := 8) (v := 0) dX10_reads_8 (by decide) ?_
  refine gx_iconst (pc := 9) (v := 0) dX10_reads_9 (by decide) ?_
  refine m_zast (pc := 10) hb 30 (0) 7 (by decide) rfl (by decide) rfl (by first | rfl | simp only [gx_lit, nI_add, pk_mul]) (by omega) (by decide) dX10_reads_10 ?_
  refine L (z + 1) true 0 _ _ i 1000 _ _ none none none hX (by omega) (by omega) (by omega) (by omega) (fun _ _ => rfl) ?_
  refine ⟨hS.mA (by decide) _ _, rE.rf σ, hcd, rfl, mA_nj _ (by decide) _ _, mA_nj _ (by decide) _ _, ?_, fun j _ _ j3 => mA_nj _ j3 _ _⟩
  rw [mA_eq, mSA_A, upA_setJ, setJ_j]
end NG
