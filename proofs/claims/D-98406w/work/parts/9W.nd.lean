/-! ===== COMPONENT BD: a secret told ===== -/
set_option maxRecDepth 100000
section MBD0
variable {G : gxG} {d : Nat} {h : gxH}
theorem c_Sinit (hd : 1 ≤ d) {a : Nat} (na : gxN G ≤ a) (ha : h.1 a = some (.inr (15, [.int 0, .int 0, .int 0, .int 0, .int 0, .int 0]))) (b : Bool) (u v s y : Int32) : gxM G mX16_init d 0 0 [.ref a, .int (zi b), .int u, .int v, .int s, .int y] h (gxQv (fun h' => h'.2 = h.2 ∧ h'.1 a = some (.inr (15, [.int (zi b), .int u, .int v, .int s, .int y, .int 0])) ∧ ∀ q, q ≠ a → h'.1 q = h.1 q)) := by
  refine gxM_of rfl (Nat.le_of_ble_eq_true rfl) rfl ?_
  refine gx_aload_n (pc := 0) dX16_init_0 rfl ?_
  refine gx_objInit (pc := 1) q1026 q192 q193 (Nat.le_of_ble_eq_true rfl) (by omega) dX16_init_1 ?_
  refine gx_aload_n (pc := 4) dX16_init_4 rfl ?_
  refine gx_iload_n (pc := 5) dX16_init_5 rfl ?_
  refine gx_putF (pc := 6) fX16_7 rfl (by intro C T N e; cases e; rfl) ha na (by first | exact Nat.le_of_ble_eq_true rfl | simp) tX16_0 (by cases b <;> rfl) (by cases b <;> rfl) dX16_init_6 ?_
  change gxV _ _ _ _ _ _ _ _ (gxup h a (.inr (15, [.int (zi b), .int 0, .int 0, .int 0, .int 0, .int 0]))) _
  have e1 : (gxup h a (.inr (15, [.int (zi b), .int 0, .int 0, .int 0, .int 0, .int 0]))).1 a = some (.inr (15, [.int (zi b), .int 0, .int 0, .int 0, .int 0, .int 0])) := gxup_self _ _ _
  have f1 : ∀ q, q ≠ a → (gxup h a (.inr (15, [.int (zi b), .int 0, .int 0, .int 0, .int 0, .int 0]))).1 q = h.1 q := fun q hq => gxup_ne hq
  have s1 : (gxup h a (.inr (15, [.int (zi b), .int 0, .int 0, .int 0, .int 0, .int 0]))).2 = h.2 := rfl
  generalize gxup h a (.inr (15, [.int (zi b), .int 0, .int 0, .int 0, .int 0, .int 0])) = h1 at *
  clear ha
  have ha := e1
  refine gx_aload_n (pc := 9) dX16_init_9 rfl ?_
  refine gx_iload_n (pc := 10) dX16_init_10 rfl ?_
  refine gx_putF (pc := 11) fX16_13 rfl (by intro C T N e; cases e; rfl) ha na (by first | exact Nat.le_of_ble_eq_true rfl | simp) tX16_1 rfl rfl dX16_init_11 ?_
  change gxV _ _ _ _ _ _ _ _ (gxup h1 a (.inr (15, [.int (zi b), .int u, .int 0, .int 0, .int 0, .int 0]))) _
  have e2 : (gxup h1 a (.inr (15, [.int (zi b), .int u, .int 0, .int 0, .int 0, .int 0]))).1 a = some (.inr (15, [.int (zi b), .int u, .int 0, .int 0, .int 0, .int 0])) := gxup_self _ _ _
  have f2 : ∀ q, q ≠ a → (gxup h1 a (.inr (15, [.int (zi b), .int u, .int 0, .int 0, .int 0, .int 0]))).1 q = h1.1 q := fun q hq => gxup_ne hq
  have s2 : (gxup h1 a (.inr (15, [.int (zi b), .int u, .int 0, .int 0, .int 0, .int 0]))).2 = h1.2 := rfl
  generalize gxup h1 a (.inr (15, [.int (zi b), .int u, .int 0, .int 0, .int 0, .int 0])) = h2 at *
  clear ha
  have ha := e2
  refine gx_aload_n (pc := 14) dX16_init_14 rfl ?_
  refine gx_iload_n (pc := 15) dX16_init_15 rfl ?_
  refine gx_putF (pc := 16) fX16_17 rfl (by intro C T N e; cases e; rfl) ha na (by first | exact Nat.le_of_ble_eq_true rfl | simp) tX16_2 rfl rfl dX16_init_16 ?_
  change gxV _ _ _ _ _ _ _ _ (gxup h2 a (.inr (15, [.int (zi b), .int u, .int v, .int 0, .int 0, .int 0]))) _
  have e3 : (gxup h2 a (.inr (15, [.int (zi b), .int u, .int v, .int 0, .int 0, .int 0]))).1 a = some (.inr (15, [.int (zi b), .int u, .int v, .int 0, .int 0, .int 0])) := gxup_self _ _ _
  have f3 : ∀ q, q ≠ a → (gxup h2 a (.inr (15, [.int (zi b), .int u, .int v, .int 0, .int 0, .int 0]))).1 q = h2.1 q := fun q hq => gxup_ne hq
  have s3 : (gxup h2 a (.inr (15, [.int (zi b), .int u, .int v, .int 0, .int 0, .int 0]))).2 = h2.2 := rfl
  generalize gxup h2 a (.inr (15, [.int (zi b), .int u, .int v, .int 0, .int 0, .int 0])) = h3 at *
  clear ha
  have ha := e3
  refine gx_aload_n (pc := 19) dX16_init_19 rfl ?_
  refine gx_iload (pc := 20) dX16_init_20 rfl ?_
  refine gx_putF (pc := 22) fX16_20 rfl (by intro C T N e; cases e; rfl) ha na (by first | exact Nat.le_of_ble_eq_true rfl | simp) tX16_3 rfl rfl dX16_init_22 ?_
  change gxV _ _ _ _ _ _ _ _ (gxup h3 a (.inr (15, [.int (zi b), .int u, .int v, .int s, .int 0, .int 0]))) _
  have e4 : (gxup h3 a (.inr (15, [.int (zi b), .int u, .int v, .int s, .int 0, .int 0]))).1 a = some (.inr (15, [.int (zi b), .int u, .int v, .int s, .int 0, .int 0])) := gxup_self _ _ _
  have f4 : ∀ q, q ≠ a → (gxup h3 a (.inr (15, [.int (zi b), .int u, .int v, .int s, .int 0, .int 0]))).1 q = h3.1 q := fun q hq => gxup_ne hq
  have s4 : (gxup h3 a (.inr (15, [.int (zi b), .int u, .int v, .int s, .int 0, .int 0]))).2 = h3.2 := rfl
  generalize gxup h3 a (.inr (15, [.int (zi b), .int u, .int v, .int s, .int 0, .int 0])) = h4 at *
  clear ha
  have ha := e4
  refine gx_aload_n (pc := 25) dX16_init_25 rfl ?_
  refine gx_iload (pc := 26) dX16_init_26 rfl ?_
  refine gx_putF (pc := 28) fX16_23 rfl (by intro C T N e; cases e; rfl) ha na (by first | exact Nat.le_of_ble_eq_true rfl | simp) tX16_4 rfl rfl dX16_init_28 ?_
  change gxV _ _ _ _ _ _ _ _ (gxup h4 a (.inr (15, [.int (zi b), .int u, .int v, .int s, .int y, .int 0]))) _
  have e5 : (gxup h4 a (.inr (15, [.int (zi b), .int u, .int v, .int s, .int y, .int 0]))).1 a = some (.inr (15, [.int (zi b), .int u, .int v, .int s, .int y, .int 0])) := gxup_self _ _ _
  have f5 : ∀ q, q ≠ a → (gxup h4 a (.inr (15, [.int (zi b), .int u, .int v, .int s, .int y, .int 0]))).1 q = h4.1 q := fun q hq => gxup_ne hq
  have s5 : (gxup h4 a (.inr (15, [.int (zi b), .int u, .int v, .int s, .int y, .int 0]))).2 = h4.2 := rfl
  generalize gxup h4 a (.inr (15, [.int (zi b), .int u, .int v, .int s, .int y, .int 0])) = h5 at *
  clear ha
  have ha := e5
  exact gx_return (pc := 31) rfl dX16_init_31 (⟨rfl, ⟨by rw [s5, s4, s3, s2, s1], e5, fun q hq => by rw [f5 q hq, f4 q hq, f3 q hq, f2 q hq, f1 q hq]⟩⟩)
end MBD0
theorem or_ne0 {x : Int32} {k : Nat} (hk : k < 10) : ¬ x ||| (1 <<< (nI k &&& 31)) = 0 := by
  intro h
  have h2 := congrArg Int32.toBitVec h
  rw [Int32.toBitVec_or] at h2
  have h3 := (BitVec.or_eq_zero_iff.mp h2).2
  have : ∀ k, k < 10 → ¬ ((1 : Int32) <<< (nI k &&& 31)).toBitVec = 0#32 := by decide +kernel
  exact this k hk h3
theorem end_kp {q : tkV} (h : q.2.2.1 = 0) : tkKp q = true := by unfold tkKp; rw [decide_eq_false (by rw [h]; decide)]; rfl
theorem smC_some {t : Nat → Int32} {z n : Nat} {nm : Int64 → Option Nat} (hnm : ∀ w k, nm w = some k → k < 10) (hend : (tkK t z n).2.2.1 = 0) : ∀ k i set f f', n - i ≤ k → i ≤ n → n + 1 - i ≤ f → n + 1 - i ≤ f' → (¬ set = 0 → tkKp (tkK t z i) = false) → spSome t z nm f' set i = rB (smC t z nm f set i) (fun a => if tkG t (tkK t z a.1) 59 = true then .inr a else .inl (flt t z a.1 1)) := by
  intro k
  induction k with
  | zero =>
    intro i set f f' hk hi hf hf' hs
    have : i = n := by omega
    subst this
    obtain ⟨f, rfl⟩ : ∃ g, f = g + 1 := ⟨f - 1, by omega⟩
    obtain ⟨f', rfl⟩ : ∃ g, f' = g + 1 := ⟨f' - 1, by omega⟩
    have kp := end_kp hend
    have s0 : set = 0 := Decidable.byContradiction (fun e => by rw [hs e] at kp; cases kp)
    rw [spSome, smC, if_neg (fun y => y.1 s0)]
    have : ∀ x, spNd t z i x = .inl (flt t z i 1) := fun x => by unfold spNd; rw [kp]; rfl
    rw [this]; rfl
  | succ k ih =>
    intro i set f f' hk hi hf hf' hs
    obtain ⟨f, rfl⟩ : ∃ g, f = g + 1 := ⟨f - 1, by omega⟩
    obtain ⟨f', rfl⟩ : ∃ g, f' = g + 1 := ⟨f' - 1, by omega⟩
    have ng : ¬ (¬ set = 0 ∧ tkG t (tkK t z i) 59 = true) := fun y => by
      have kp := hs y.1
      unfold tkKp at kp
      rw [Bool.or_eq_false_iff] at kp
      have k1 : (tkK t z i).2.2.1 = 1 := by simpa using kp.1
      have := y.2
      unfold tkG at this
      rw [decide_eq_false (by rw [k1]; decide)] at this
      cases this
    rw [spSome, smC, if_neg ng]
    cases e : spNd t z i (nm (tkK t z i).2.2.2.1) with
    | inl f => rfl
    | inr c =>
      rw [rB_r, rB_r]
      have hc : c < 10 := hnm _ _ (spNd_k e)
      by_cases d : (set >>> (nI c &&& 31)) &&& 1 = 1
      · rw [if_pos d, if_pos d]; rfl
      · rw [if_neg d, if_neg d]
        have hin : i < n := by
          rcases Nat.lt_or_ge i n with y | y
          · exact y
          · have : i = n := by omega
            subst this
            exact absurd hend (spNd_n0 e)
        cases kp : tkKp (tkK t z (i + 1)) with
        | true =>
          rw [if_pos rfl]
          obtain ⟨f', rfl⟩ : ∃ g, f' = g + 1 := ⟨f' - 1, by omega⟩
          rw [spSome]
          show _ = if tkG t (tkK t z (i + 1)) 59 = true then _ else _
          by_cases g : tkG t (tkK t z (i + 1)) 59 = true
          · rw [if_pos ⟨or_ne0 hc, g⟩, if_pos g]
          · rw [if_neg (fun y => g y.2), if_neg g]
            have : ∀ x, spNd t z (i + 1) x = .inl (flt t z (i + 1) 1) := fun x => by unfold spNd; rw [kp]; rfl
            rw [this]; rfl
        | false =>
          rw [if_neg (by decide)]
          exact ih (i + 1) _ f f' (by omega) (by omega) (by omega) (by omega) (fun _ => kp)
def spOn0 (t : Nat → Int32) (z : Nat) (L : Nat → Nat → Int64) (S i : Nat) : Sum Int32 (Nat × Int32) := spOn t z L S i
def spRS0 (t : Nat → Int32) (z P S : Nat) (x : dS) (i : Nat) : Sum Int32 (Nat × dS) :=
  if S = 10 then .inl (flt t z i 5) else rB (spNew t z x.2 P S (i + 1)) (fun _ =>
    if spTru (tkK t z (i + 1 + 1)) < 0 then .inl (flt t z (i + 1 + 1) 1) else rB (spWord t z 411 (i + 1 + 1 + 1)) (fun j => rB (spNd t z j (spPn x.2 1 P (tkK t z j).2.2.2.1)) (fun o => rB (spBoth t z 1903978 1 99 (j + 1)) (fun a => rB (spOn t z x.2 S a.1) (fun c => rB (spWord t z 79 c.1) (fun u => rB (smC t z (spPn x.2 1 P) (z + 1) 0 u) (fun w =>
      .inr (w.1, dA (dL (dA (dA (dA (dA (dA (dA x 16 (10 + S) (spTru (tkK t z (i + 1 + 1)))) 17 (10 + S) (nI o)) 18 (10 + S) a.2) 19 (10 + S) c.2) 20 (10 + S) w.2) 21 (10 + S) 0) 12 (10 + S) (tkK t z (i + 1)).2.2.2.1) 10 5 (nI (S + 1))))))))))
theorem rB_cg {α β : Type} {x : Sum Int32 α} {f g : α → Sum Int32 β} (h : ∀ a, x = .inr a → f a = g a) : rB x f = rB x g := by
  cases x with
  | inl e => rfl
  | inr a => exact h a rfl
theorem spWord_n {t : Nat → Int32} {z i : Nat} {w : Int64} {j n : Nat} (hend : (tkK t z n).2.2.1 = 0) (hi : i ≤ n) (h : spWord t z w i = .inr j) : j ≤ n := by
  have e := spWord_i h
  unfold spWord at h
  split at h
  · rename_i hw
    have : i ≠ n := fun y => by subst y; exact tkW_n0 hw hend
    omega
  · cases h
theorem clo_sm {t : Nat → Int32} {z n : Nat} {nm : Int64 → Option Nat} (hnm : ∀ w k, nm w = some k → k < 10) (hend : (tkK t z n).2.2.1 = 0) (hnz : n ≤ z) {u : Nat} (hu : u ≤ n) {β : Type} (f : Nat → Nat × Int32 → Sum Int32 β) : rB (spSome t z nm (z + 1) 0 u) (fun w => rB (spClo t z w.1) (fun e => f e w)) = rB (smC t z nm (z + 1) 0 u) (fun w => rB (spClo t z w.1) (fun e => f e w)) := by
  rw [smC_some hnm hend (n - u) u 0 (z + 1) (z + 1) (Nat.le_refl _) hu (by omega) (by omega) (fun e => absurd rfl e), rB_as]
  refine rB_cg (fun a _ => ?_)
  by_cases g : tkG t (tkK t z a.1) 59 = true
  · rw [if_pos g]; rfl
  · rw [if_neg g]; unfold spClo; rw [if_neg g]; rfl
/-- after the bits that are read, nothing stands beyond the end -/
theorem RR_end {G : gxG} {h : gxH} {r : Nat} {dv : Value} {dp : Int32} {t : Nat → Int32} {z n i : Nat} (x : RR G h r dv dp t z n i) : (tkK t z n).2.2.1 = 0 := by
  obtain ⟨_, _, _, _, _, _, _, h4, _⟩ := x
  exact h4
section MBD
variable {G : gxG} {d : Nat} {h : gxH} {hb r ta z n i P S E : Nat} {dp : Int32} {t : Nat → Int32} {x : dS} {w : Option gxEv} {fo fa : Nat} {la le lc ln : Nat → Nat} {lf : Nat → Nat → Nat} {wv : Value} {nv : Nat → Int64} {nc : Nat → Nat} {elo ehi : Nat} {nm : Int64}
theorem secret135 (nr : gxN G ≤ r) (hrb : r + 8 ≤ hb) (hd : 14 ≤ d) {S50 : Nat} (hR50 : vk_R "PaidSecrets$Reader" 50 "by" S50 G.2.1) (hS50 : SB G S50 [98, 121]) (b : Bool) (o co on : Int32)
    (R : (RR G h r (.ref ta) dp t z n i)) (Y : (DY G h hb ta fo fa la le lc (va_up (va_up ln 0 (ln 0 + 1)) 1 (ln 1 + 1)) lf x wv (va_up nv (ln 0) nm) (va_up nc (ln 0) (20 + S)) elo ehi w)) (hNM : NMi x 1 P S (P + S) nv nc) (n0 : ln 0 = P + S) (n1 : ln 1 = P + S) (n2 : ln 2 = P) (n3 : ln 3 = S) (n4 : ln 4 = E) (hP6 : P ≤ 6) (hS9 : S < 10) (hE30 : E ≤ 30) (hwn : (w = none ↔ ¬ x.1 25 1 < x.1 26 1) ∧ (∀ e, e < E → ∃ c, c ≤ 10 ∧ x.1 24 (30 + e) = nI c) ∧ ∀ j k, j < S → k < S → j ≠ k → lf 3 j ≠ lf 3 k) (hnm : fdF nv nc nm (P + S) 0 = -1) :
    gxV G mX2_secret d (z + 5) (7 * z + 155) 135 [some (.ref r), some (.int (nI S)), some (.int (zi b)), some (.int o), some (.int co), some (.int on)] [] h (gxQx (gxQv (fun h' => ∃ j x', (rB (spWord t z 79 i) (fun u => rB (smC t z (spPn x.2 1 P) (z + 1) 0 u) (fun v => .inr (v.1, (dA (dL (dA (dA (dA (dA (dA (dA x 16 (10 + S) (zi b)) 17 (10 + S) o) 18 (10 + S) co) 19 (10 + S) on) 20 (10 + S) v.2) 21 (10 + S) 0) 12 (10 + S) nm) 10 5 (nI (S + 1))))))) = .inr (j, x') ∧ RR G h' r (.ref ta) dp t z n j ∧ gE hb r h h' ∧ DX G h' hb ta x' P (S + 1) E w)) (fun y h' => ∃ f, (rB (spWord t z 79 i) (fun u => rB (smC t z (spPn x.2 1 P) (z + 1) 0 u) (fun v => .inr (v.1, (dA (dL (dA (dA (dA (dA (dA (dA x 16 (10 + S) (zi b)) 17 (10 + S) o) 18 (10 + S) co) 19 (10 + S) on) 20 (10 + S) v.2) 21 (10 + S) 0) 12 (10 + S) nm) 10 5 (nI (S + 1))))))) = .inl f ∧ xW hb r h f y h')) := by
  have hhb := Y.2.2.2.2.2.2.1
  have nz : gxN G ≤ h.2 := by have := Y.2.2.2.2.2.2.2; omega
  have w50 : wdL [98, 121] 0 = 79 := by decide +kernel
  obtain ⟨so, pl, va, ⟨hr, htp, hso, hva, hpl⟩, hin, hnz, hz, hend, hq, hst, hrz⟩ := id R
  refine gx_aload_n (pc := 135) dX2_secret_135 rfl ?_
  refine gx_ldcS (pc := 136) hR50 dX2_secret_136 ?_
  refine kX2_185x (kc := z + 4) (ks := 7 * z + 148) (mc := 1) (ms := 7) (pc := 138) rfl (c_RtakeWord (d := d - 1) nr nz (by omega) R hS50) (gxRc.of rfl hr) (by omega) (Nat.le_of_ble_eq_true rfl) dX2_secret_138 (fun h1 e1 => ?_) (fun y h' e => gxT_out (by decide +kernel) (Or.inr ⟨y, rfl, by rw [w50] at e; exact ⟨_, by unfold spWord; rw [e.1]; rfl, e.2.mo hhb⟩⟩))
  obtain ⟨z1, R1, E1⟩ := e1
  rw [w50] at z1
  have sp1 : (rB (spWord t z 79 i) (fun u => rB (smC t z (spPn x.2 1 P) (z + 1) 0 u) (fun v => .inr (v.1, (dA (dL (dA (dA (dA (dA (dA (dA x 16 (10 + S) (zi b)) 17 (10 + S) o) 18 (10 + S) co) 19 (10 + S) on) 20 (10 + S) v.2) 21 (10 + S) 0) 12 (10 + S) nm) 10 5 (nI (S + 1))))))) = rB (smC t z (spPn x.2 1 P) (z + 1) 0 (i + 1)) (fun v => .inr (v.1, (dA (dL (dA (dA (dA (dA (dA (dA x 16 (10 + S) (zi b)) 17 (10 + S) o) 18 (10 + S) co) 19 (10 + S) on) 20 (10 + S) v.2) 21 (10 + S) 0) 12 (10 + S) nm) 10 5 (nI (S + 1))))) := by unfold spWord; rw [z1]; rfl
  have Y1 := E1.dy hrb Y
  have hta := Y1.2.1.2.2.2.2.2.1
  clear hr hso hva hpl htp hq hst
  obtain ⟨so, pl, va, ⟨hr, htp, hso, hva, hpl⟩, hin, hnz, hz, hend, hq, hst, hrz⟩ := id R1
  refine gx_aload_n (pc := 141) dX2_secret_141 rfl ?_
  refine gx_get (pc := 142) fX2_168 hr rfl dX2_secret_142 ?_
  refine gx_get (pc := 145) fX2_249 hta rfl dX2_secret_145 ?_
  refine gx_more (a := z + 3 + 1) (b := 7 * z + 142 + 6) (by omega) (by omega) ?_
  refine nX2_258 (kc := z + 3) (ks := 7 * z + 142) (pc := 148) rfl dX2_secret_148 ?_
  have ha : (gxadd h1 (.inr (15, [.int 0, .int 0, .int 0, .int 0, .int 0, .int 0]))).1 h1.2 = some (.inr (15, [.int 0, .int 0, .int 0, .int 0, .int 0, .int 0])) := gxadd_self _ _
  have f2 : ∀ q, q ≠ h1.2 → (gxadd h1 (.inr (15, [.int 0, .int 0, .int 0, .int 0, .int 0, .int 0]))).1 q = h1.1 q := fun q hq => gxadd_ne hq
  have s2 : (gxadd h1 (.inr (15, [.int 0, .int 0, .int 0, .int 0, .int 0, .int 0]))).2 = h1.2 + 1 := rfl
  generalize gxadd h1 (.inr (15, [.int 0, .int 0, .int 0, .int 0, .int 0, .int 0])) = h2 at *
  have s1 := E1.1
  have Y2 := Y1.gr (by omega) (fun q _ b => f2 q (by omega))
  have R2 := R1.gr (by omega) (fun q _ b => f2 q (by omega))
  have g2 : gE hb r h h2 := ⟨by omega, fun q a b => by rw [f2 q (by omega), E1.2 q b]⟩
  have ln01 : (va_up (va_up ln 0 (ln 0 + 1)) 1 (ln 1 + 1)) 0 = P + S + 1 := by rw [va_n (show (0 : Nat) ≠ 1 by decide), va_s, n0]
  have ln11 : (va_up (va_up ln 0 (ln 0 + 1)) 1 (ln 1 + 1)) 1 = P + S + 1 := by rw [va_s, n1]
  have ln31 : (va_up (va_up ln 0 (ln 0 + 1)) 1 (ln 1 + 1)) 3 = S := by rw [va_n (show (3 : Nat) ≠ 1 by decide), va_n (show (3 : Nat) ≠ 0 by decide), n3]
  have F2 := Y2.NF (by rw [ln01, ln11]) (by rw [ln01]; omega)
  have hNM' : ∀ x' : dS, (∀ k, k ≤ S → x'.2 12 (10 + k) = if k = S then nm else x.2 12 (10 + k)) → (∀ k, k < P → x'.2 11 (6 + k) = x.2 11 (6 + k)) → NMi x' 1 P (S + 1) (P + S + 1) (va_up nv (P + S) nm) (va_up nc (P + S) (20 + S)) := fun x' a b => hNM.addS hP6 hS9 hnm a b
  have x2 : ∀ k, k ≤ S → (dL x 12 (10 + S) nm).2 12 (10 + k) = if k = S then nm else x.2 12 (10 + k) := fun k hk => by
    show (if (12 : Nat) = 12 then vp_updL (x.2 12) (10 + S) nm else x.2 12) (10 + k) = _
    rw [if_pos rfl]
    simp only [vp_updL]
    by_cases e : k = S
    · rw [if_pos (by omega), if_pos e]
    · rw [if_neg (by omega), if_neg e]
  have nmP := (hNM' (dL x 12 (10 + S) nm) x2 (fun k hk => rfl)).P hP6 (by omega)
  clear hr hso hva hpl htp hq hst
  obtain ⟨so, pl, va, ⟨hr, htp, hso, hva, hpl⟩, hin, hnz, hz, hend, hq, hst, hrz⟩ := id R2
  rw [ln01, n0] at F2
  have hta := Y2.2.1.2.2.2.2.2.1
  refine gx_dup (pc := 151) dX2_secret_151 rfl ?_
  refine gx_iload_n (pc := 152) dX2_secret_152 rfl ?_
  refine gx_iload_n (pc := 153) dX2_secret_153 rfl ?_
  refine gx_iload (pc := 154) dX2_secret_154 rfl ?_
  refine gx_iload (pc := 156) dX2_secret_156 rfl ?_
  refine gx_aload_n (pc := 158) dX2_secret_158 rfl ?_
  refine gx_iconst (pc := 159) (v := 0) dX2_secret_159 (by decide) ?_
  refine gx_bipush (pc := 160) (v := 6) dX2_secret_160 (by decide) ?_
  have some1 := c_Rsome (G := G) (d := d - 1) nr (by omega) (by omega) rfl R2 F2 (by decide) (by decide) nmP (z + 1) (by omega)
  refine gx_more (a := 1 + (z + 2)) (b := 128 + (7 * z + 14)) (by omega) (by omega) ?_
  refine kX2_260x (d' := d - 1) (kc := 1) (ks := 128) (mc := z + 2) (ms := 7 * z + 14) (pc := 162) rfl (gxM_room (by omega) (by omega) some1) (gxRc.of rfl hr) (by omega) (Nat.le_of_ble_eq_true rfl) dX2_secret_162 (fun v h3 e3 => ?_) (fun y h' e => gxT_out (by decide +kernel) (Or.inr ⟨y, rfl, by obtain ⟨f, e3, e4⟩ := e; exact ⟨f, by rw [sp1]; show rB (smC t z (spPn x.2 1 P) (z + 1) 0 (i + 1)) _ = _; rw [show smC t z (spPn x.2 1 P) (z + 1) 0 (i + 1) = .inl f from e3]; rfl, (e4.mo (by omega)).tr g2⟩⟩))
  obtain ⟨j, e3, R3, E3⟩ := e3
  have e3' : smC t z (spPn x.2 1 P) (z + 1) 0 (i + 1) = .inr (j, v) := e3
  rw [e3', rB_r] at sp1
  have Y3 := E3.dy hrb Y2
  have s3 := E3.1
  have ha3 : h3.1 h1.2 = some (.inr (15, [.int 0, .int 0, .int 0, .int 0, .int 0, .int 0])) := by rw [E3.2 _ (by omega)]; exact ha
  refine kX2_263 (kc := 1) (ks := 128) (mc := 0) (ms := 0) (pc := 165) rfl (c_Sinit (d := d - 1) (by omega) (by omega) ha3 b o co on v) (by omega) (Nat.le_of_ble_eq_true rfl) dX2_secret_165 (fun h4 e4 => ?_)
  obtain ⟨s4, e4, f4⟩ := e4
  have f14 : ∀ q, q < h1.2 → q ≠ r → h4.1 q = h1.1 q := fun q a b => by rw [f4 q (by omega), E3.2 q b, f2 q (by omega)]
  have Y4 := Y1.gr (h' := h4) (by omega) (fun q a b => f14 q b (by omega))
  have R4 := R3.gr (h' := h4) (by omega) (fun q a b => f4 q (by omega))
  clear Y2 Y3 F2 nmP R2 R3 some1
  generalize hx' : dA (dL (dA (dA (dA (dA (dA (dA x 16 (10 + S) (zi b)) 17 (10 + S) o) 18 (10 + S) co) 19 (10 + S) on) 20 (10 + S) v) 21 (10 + S) 0) 12 (10 + S) nm) 10 5 (nI (S + 1)) = x' at *
  have x1 : ∀ j k, ¬ (16 ≤ j ∧ j ≤ 21 ∧ k = 10 + S) → ¬ (j = 10 ∧ k = 5) → x'.1 j k = x.1 j k := fun j k a1 a2 => by
    rw [← hx', dA_at, if_neg a2, dL_1, dA_at, if_neg (by omega), dA_at, if_neg (by omega), dA_at, if_neg (by omega), dA_at, if_neg (by omega), dA_at, if_neg (by omega), dA_at, if_neg (by omega)]
  have x16 : x'.1 16 (10 + S) = zi b := by rw [← hx']; simp [dA_at, dL_1]
  have x17 : x'.1 17 (10 + S) = o := by rw [← hx']; simp [dA_at, dL_1]
  have x18 : x'.1 18 (10 + S) = co := by rw [← hx']; simp [dA_at, dL_1]
  have x19 : x'.1 19 (10 + S) = on := by rw [← hx']; simp [dA_at, dL_1]
  have x20 : x'.1 20 (10 + S) = v := by rw [← hx']; simp [dA_at, dL_1]
  have x21 : x'.1 21 (10 + S) = 0 := by rw [← hx']; simp [dA_at, dL_1]
  have Y6 : DY G h4 hb ta fo fa la le lc (va_up (va_up ln 0 (ln 0 + 1)) 1 (ln 1 + 1)) lf x' wv (va_up nv (ln 0) nm) (va_up nc (ln 0) (20 + S)) elo ehi w := by
    refine Y4.cg (x1 10 7 (by omega) (by omega)) (fun j k a hj hk e => ?_)
    match j, hj, hk, e with
    | 0, _, _, e => exact e
    | 1, _, _, e => exact e
    | 2, _, _, e =>
      refine ⟨e.1, ?_⟩
      rw [x1 13 _ (by omega) (by omega), x1 14 _ (by omega) (by omega), x1 15 _ (by omega) (by omega)]
      exact e.2
    | 3, _, hk, e =>
      rw [ln31] at hk
      refine ⟨e.1, ?_⟩
      rw [x1 16 _ (by omega) (by omega), x1 17 _ (by omega) (by omega), x1 18 _ (by omega) (by omega), x1 19 _ (by omega) (by omega), x1 20 _ (by omega) (by omega), x1 21 _ (by omega) (by omega)]
      exact e.2
    | 4, _, _, e =>
      obtain ⟨e1, g, e2, e3, e4, e5⟩ := e
      exact ⟨e1, g, e2, by rw [x1 22 _ (by omega) (by omega)]; exact e3, by rw [x1 23 _ (by omega) (by omega)]; exact e4, by rw [x1 24 _ (by omega) (by omega)]; exact e5⟩
  have el3 : El G h4 hb x' (va_up nv (ln 0) nm) (va_up nc (ln 0) (20 + S)) 3 ((va_up (va_up ln 0 (ln 0 + 1)) 1 (ln 1 + 1)) 3) h1.2 := by
    rw [ln31]
    exact ⟨⟨by omega, by omega⟩, by rw [x16, x17, x18, x19, x20, x21]; exact e4⟩
  obtain ⟨_, hl3⟩ := (Y6.1.1 3 (by decide)).2.2.2.ob
  refine gx_r0 ?_
  refine kX2_211 (kc := 0) (ks := 0) (mc := 1) (ms := 128) (pc := 168) rfl (c_Dadd (d := d - 1) (by omega) Y6 3 (by decide) (by rw [ln31]; omega) el3) (gxRc.of rfl hl3) (by omega) (Nat.le_of_ble_eq_true rfl) dX2_secret_168 (fun r7 h7 e7 => ?_)
  obtain ⟨e7a, c7a, Y7, s7, s7', f7⟩ := e7
  refine gx_pop (pc := 171) dX2_secret_171 rfl ?_
  have R7 := R4.gr s7' (fun q _ b => f7 q (by omega))
  refine gx_return (pc := 172) rfl dX2_secret_172 (Or.inl ⟨rfl, _, x', sp1, R7, ⟨by omega, fun q a b => by rw [f7 q a, f14 q (by omega) b, E1.2 q b]⟩, ?_⟩)
  rw [ln31, n0] at Y7
  refine ⟨fo, fa, la, _, _, _, _, wv, _, _, elo, ehi, Y7, hNM' x' (fun k hk => ?_) (fun k hk => ?_), ?_, ?_, ?_, ?_, ?_, hP6, by omega, hE30, by rw [x1 25 1 (by omega) (by omega), x1 26 1 (by omega) (by omega)]; exact hwn.1, fun e he => by rw [x1 24 _ (by omega) (by omega)]; exact hwn.2.1 e he, fun j k hj hk hjk => ?_⟩
  · rw [← hx']; exact x2 k hk
  · rw [← hx']; rfl
  · rw [va_n (show (0 : Nat) ≠ 3 by decide), va_n (show (0 : Nat) ≠ 1 by decide), va_s]; omega
  · rw [va_n (show (1 : Nat) ≠ 3 by decide), va_s]; omega
  · rw [va_n (show (2 : Nat) ≠ 3 by decide), va_n (show (2 : Nat) ≠ 1 by decide), va_n (show (2 : Nat) ≠ 0 by decide), n2]
  · rw [va_s]
  · rw [va_n (show (4 : Nat) ≠ 3 by decide), va_n (show (4 : Nat) ≠ 1 by decide), va_n (show (4 : Nat) ≠ 0 by decide), n4]
  · rw [va_s]
    have old : ∀ j, j < S → lf 3 j < h1.2 := fun j hj => (Y1.2.1.2.2.2.2.2.2 3 j (by decide) (by rw [ln31]; exact hj)).1.2
    by_cases a : j < S
    · rw [if_pos a]
      by_cases b : k < S
      · rw [if_pos b]; exact hwn.2.2 j k a b hjk
      · rw [if_neg b]; have := old j a; omega
    · rw [if_neg a]
      by_cases b : k < S
      · rw [if_pos b]; have := old k b; omega
      · omega
end MBD
