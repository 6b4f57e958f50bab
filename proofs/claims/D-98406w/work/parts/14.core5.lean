/-! ===== CORE 5: the model's memory: one object and its arrays, side by side ===== -/
set_option maxRecDepth 100000
/-- ints by field; word, g; int and boolean arrays by field; long arrays by field -/
abbrev mS : Type := (Nat → Int32) × (Int64 × Int64) × (Nat → Nat → Int32) × (Nat → Nat → Int64)
/-- 0 an int, 1 word, 2 g, 3 an int array, 4 a boolean array, 5 a long array -/
def mknd (k : Nat) : Nat := ([0, 0, 3, 0, 0, 0, 0, 1, 0, 0, 3, 5, 5, 3, 3, 3, 3, 3, 3, 3, 3, 3, 3, 3, 3, 3, 3, 3, 0, 3, 4, 3, 3, 3, 3, 3, 3, 3, 3, 3, 3, 0, 3, 3, 3, 3, 3, 3, 3, 4, 3, 3, 3, 3, 4, 0, 4, 4, 3, 3, 0, 0, 3, 3, 3, 3, 3, 3, 0, 2] : List Nat).getD k 9
def moff (k : Nat) : Nat := ([0, 0, 1, 0, 0, 0, 0, 0, 0, 0, 2, 3, 4, 5, 6, 7, 8, 9, 10, 11, 12, 13, 14, 15, 16, 17, 18, 19, 0, 20, 21, 22, 23, 24, 25, 26, 27, 28, 29, 30, 31, 0, 32, 33, 34, 35, 36, 37, 38, 39, 40, 41, 42, 43, 44, 0, 45, 46, 47, 48, 0, 0, 49, 50, 51, 52, 53, 54, 0, 0] : List Nat).getD k 0
def mlen (k : Nat) : Nat := ([0, 0, 1000, 0, 0, 0, 0, 0, 0, 0, 8, 12, 20, 12, 12, 12, 20, 20, 20, 20, 20, 20, 60, 60, 60, 2, 2, 2000, 0, 7, 7, 7, 7, 7, 7, 7, 7, 7, 7, 7, 20, 0, 6, 180, 180, 180, 180, 5, 50, 50, 123, 246, 492, 1968, 4, 0, 65536, 6144, 2, 2, 0, 0, 64, 64, 6, 64, 3, 3, 0, 0] : List Nat).getD k 0
def mAL : List Nat := [2, 10, 11, 12, 13, 14, 15, 16, 17, 18, 19, 20, 21, 22, 23, 24, 25, 26, 27, 29, 30, 31, 32, 33, 34, 35, 36, 37, 38, 39, 40, 42, 43, 44, 45, 46, 47, 48, 49, 50, 51, 52, 53, 54, 56, 57, 58, 59, 62, 63, 64, 65, 66, 67]
abbrev mN : Nat := 55
def mfv (b : Nat) (σ : mS) (k : Nat) : Value := match mknd k with
  | 0 => .int (σ.1 k)
  | 1 => .long σ.2.1.1
  | 2 => .long σ.2.1.2
  | _ => .ref (b + moff k)
def mfs (b : Nat) (σ : mS) : List Value := (List.range 70).map (mfv b σ)
def marr (σ : mS) (k : Nat) : gxE := match mknd k with
  | 3 => .inl (0, mlen k, .inl (σ.2.2.1 k))
  | 4 => .inl (2, mlen k, .inl (σ.2.2.1 k))
  | _ => .inl (1, mlen k, .inr (.inl (σ.2.2.2 k)))
def mblk (b : Nat) (σ : mS) (i : Nat) : gxE := match i with
  | 0 => .inr (9, mfs b σ)
  | i + 1 => marr σ (mAL.getD i 0)
/-- the heap h with the model σ at b -/
def mput (h : gxH) (b : Nat) (σ : mS) : gxH := (fun q => if b ≤ q ∧ q < b + mN then some (mblk b σ (q - b)) else h.1 q, h.2)
/-- the writes -/
def mI (σ : mS) (k : Nat) (v : Int32) : mS := (upd σ.1 k v, σ.2)
def mW (σ : mS) (v : Int64) : mS := (σ.1, (v, σ.2.1.2), σ.2.2)
def mG (σ : mS) (v : Int64) : mS := (σ.1, (σ.2.1.1, v), σ.2.2)
def mA (σ : mS) (j k : Nat) (v : Int32) : mS := (σ.1, σ.2.1, (fun q => if q = j then upd (σ.2.2.1 j) k v else σ.2.2.1 q), σ.2.2.2)
def mB (σ : mS) (j k : Nat) (v : Int64) : mS := (σ.1, σ.2.1, σ.2.2.1, (fun q => if q = j then vp_updL (σ.2.2.2 j) k v else σ.2.2.2 q))
theorem mfs_at {b : Nat} {σ : mS} {k : Nat} (hk : k < 70) : (mfs b σ)[k]? = some (mfv b σ k) := by
  simp [mfs, hk]
theorem mput_obj (h : gxH) (b : Nat) (σ : mS) : (mput h b σ).1 b = some (.inr (9, mfs b σ)) := by
  simp [mput, mblk]
theorem mput_arr (h : gxH) (b : Nat) (σ : mS) {k : Nat} (hk : 1 ≤ moff k ∧ moff k < mN ∧ mAL.getD (moff k - 1) 0 = k) : (mput h b σ).1 (b + moff k) = some (marr σ k) := by
  obtain ⟨h1, h2, h3⟩ := hk
  have e : b + moff k - b = moff k := by omega
  simp only [mput]
  rw [if_pos ⟨by omega, by omega⟩, e]
  obtain ⟨i, hi⟩ : ∃ i, moff k = i + 1 := ⟨moff k - 1, by omega⟩
  rw [hi] at h3 ⊢
  simp only [mblk]
  rw [show i + 1 - 1 = i by omega] at h3
  rw [h3]
theorem mput_out {h : gxH} {b : Nat} {σ : mS} {q : Nat} (hq : q < b ∨ b + mN ≤ q) : (mput h b σ).1 q = h.1 q := by
  simp only [mput]
  rw [if_neg (by omega)]
theorem mput_mput (h : gxH) (b : Nat) (σ σ' : mS) : mput (mput h b σ) b σ' = mput h b σ' := by
  refine Prod.ext (funext fun q => ?_) rfl
  simp only [mput]
  by_cases hq : b ≤ q ∧ q < b + mN
  · rw [if_pos hq, if_pos hq]
  · rw [if_neg hq, if_neg hq, if_neg hq]
theorem m_offs : ∀ i, i < 54 → moff (mAL.getD i 0) = i + 1 := by decide +kernel
theorem mput_upA {h : gxH} {b : Nat} {σ σ' : mS} {j : Nat} {x : gxE} (hj : 1 ≤ moff j ∧ moff j < mN ∧ mAL.getD (moff j - 1) 0 = j) (h1 : σ'.1 = σ.1) (h2 : σ'.2.1 = σ.2.1) (hx : marr σ' j = x) (ho : ∀ k, k ≠ j → marr σ' k = marr σ k) : gxup (mput h b σ) (b + moff j) x = mput h b σ' := by
  refine Prod.ext (funext fun q => ?_) rfl
  obtain ⟨j1, j2, j3⟩ := hj
  simp only [gxup, mput]
  by_cases hq : q = b + moff j
  · subst hq
    rw [if_pos rfl, if_pos ⟨by omega, by omega⟩]
    rw [show b + moff j - b = moff j by omega]
    obtain ⟨i, hi⟩ : ∃ i, moff j = i + 1 := ⟨moff j - 1, by omega⟩
    rw [hi] at j3 ⊢
    simp only [mblk]
    rw [show i + 1 - 1 = i by omega] at j3
    rw [j3, hx]
  · rw [if_neg hq]
    by_cases hr : b ≤ q ∧ q < b + mN
    · rw [if_pos hr, if_pos hr]
      obtain ⟨i, hi⟩ : ∃ i, q = b + i := ⟨q - b, by omega⟩
      subst hi
      rw [show b + i - b = i by omega]
      cases i with
      | zero =>
        simp only [mblk, mfs]
        congr 4
        funext k
        simp only [mfv, h1, h2]
      | succ i =>
        simp only [mblk]
        have h56 : i < 54 := by have := hr.2; unfold mN at this; omega
        rw [ho _ (fun e => hq (by rw [← e, m_offs i h56]))]
    · rw [if_neg hr, if_neg hr]
theorem mput_upI {h : gxH} {b : Nat} {σ σ' : mS} {k : Nat} {v : Value} (hk : k < 70) (hv : mfv b σ' k = v) (h2 : σ'.2.2 = σ.2.2) (ho : ∀ q, q ≠ k → mfv b σ' q = mfv b σ q) : gxup (mput h b σ) b (.inr (9, (mfs b σ).set k v)) = mput h b σ' := by
  have e : (mfs b σ).set k v = mfs b σ' := by
    apply List.ext_getElem?
    intro i
    by_cases hi : i < 70
    · rw [mfs_at hi]
      by_cases hik : i = k
      · subst hik
        rw [List.getElem?_set_self (by simp [mfs, hi]), hv]
      · rw [List.getElem?_set_ne (Ne.symm hik), mfs_at hi, ho i hik]
    · rw [List.getElem?_eq_none (by simp [mfs]; omega), List.getElem?_eq_none (by simp [mfs]; omega)]
  rw [e]
  refine Prod.ext (funext fun q => ?_) rfl
  simp only [gxup, mput]
  by_cases hq : q = b
  · subst hq
    rw [if_pos rfl, if_pos ⟨by omega, by unfold mN; omega⟩]
    simp [mblk]
  · rw [if_neg hq]
    by_cases hr : b ≤ q ∧ q < b + mN
    · rw [if_pos hr, if_pos hr]
      obtain ⟨i, hi⟩ : ∃ i, q = b + (i + 1) := ⟨q - b - 1, by omega⟩
      subst hi
      rw [show b + (i + 1) - b = i + 1 by omega]
      simp only [mblk, marr, h2]
    · rw [if_neg hr, if_neg hr]
theorem mI_I {h : gxH} {b : Nat} {σ : mS} {k : Nat} {v : Int32} (hk : mknd k = 0) (hk7 : k < 70) : gxup (mput h b σ) b (.inr (9, (mfs b σ).set k (.int v))) = mput h b (mI σ k v) := by
  refine mput_upI hk7 ?_ rfl ?_
  · simp [mfv, hk, mI, upd]
  · intro q hq
    simp [mfv, mI, upd, hq]
theorem mW_I {h : gxH} {b : Nat} {σ : mS} {v : Int64} : gxup (mput h b σ) b (.inr (9, (mfs b σ).set 7 (.long v))) = mput h b (mW σ v) := by
  refine mput_upI (by omega) rfl rfl ?_
  intro q hq
  have : mknd q ≠ 1 := by
    intro e
    by_cases h7 : q < 70
    · revert hq e; revert q; decide +kernel
    · unfold mknd at e
      rw [List.getD_eq_getElem?_getD, List.getElem?_eq_none (by simp; omega)] at e
      cases e
  unfold mfv mW
  split <;> simp_all
theorem mG_I {h : gxH} {b : Nat} {σ : mS} {v : Int64} : gxup (mput h b σ) b (.inr (9, (mfs b σ).set 69 (.long v))) = mput h b (mG σ v) := by
  refine mput_upI (by omega) rfl rfl ?_
  intro q hq
  have : mknd q ≠ 2 := by
    intro e
    by_cases h7 : q < 70
    · revert hq e; revert q; decide +kernel
    · unfold mknd at e
      rw [List.getD_eq_getElem?_getD, List.getElem?_eq_none (by simp; omega)] at e
      cases e
  unfold mfv mG
  split <;> simp_all
theorem mA_A3 {h : gxH} {b : Nat} {σ : mS} {j k n : Nat} {v : Int32} (hk : mknd j = 3) (hj : 1 ≤ moff j ∧ moff j < mN ∧ mAL.getD (moff j - 1) 0 = j) (hn : mlen j = n) : gxup (mput h b σ) (b + moff j) (.inl (0, n, .inl (upd (σ.2.2.1 j) k v))) = mput h b (mA σ j k v) := by
  subst hn
  refine mput_upA hj rfl rfl ?_ ?_
  · simp [marr, hk, mA]
  · intro q hq
    simp [marr, mA, hq]
theorem mA_A4 {h : gxH} {b : Nat} {σ : mS} {j k n : Nat} {v : Int32} (hk : mknd j = 4) (hj : 1 ≤ moff j ∧ moff j < mN ∧ mAL.getD (moff j - 1) 0 = j) (hn : mlen j = n) : gxup (mput h b σ) (b + moff j) (.inl (2, n, .inl (upd (σ.2.2.1 j) k v))) = mput h b (mA σ j k v) := by
  subst hn
  refine mput_upA hj rfl rfl ?_ ?_
  · simp [marr, hk, mA]
  · intro q hq
    simp [marr, mA, hq]
theorem mB_A5 {h : gxH} {b : Nat} {σ : mS} {j k n : Nat} {v : Int64} (hk : mknd j = 5) (hj : 1 ≤ moff j ∧ moff j < mN ∧ mAL.getD (moff j - 1) 0 = j) (hn : mlen j = n) : gxup (mput h b σ) (b + moff j) (.inl (1, n, .inr (.inl (vp_updL (σ.2.2.2 j) k v)))) = mput h b (mB σ j k v) := by
  subst hn
  refine mput_upA hj rfl rfl ?_ ?_
  · simp [marr, hk, mB]
  · intro q hq
    simp [marr, mB, hq]
section CORE5
variable {G : gxG} {Y Y' : gxY} {d d' pc idx b k j n : Nat} {ls : List (Option Value)} {st : List Value} {h : gxH} {σ : mS} {Q : Outcome → gxH → Prop} {fin : Bool}
theorem m_getI (hY : Y.1.cls = "PaidSecretsModel") (hF : gxF "PaidSecretsModel" idx 9 k fin) (hk : mknd k = 0) (hk7 : k < 70) (hd : decode Y.2.1 pc = .ok (.getfield idx, 3)) (kk : gxV G Y d 0 0 (pc + 3) ls (.int (σ.1 k) :: st) (mput h b σ) Q) : gxV G Y d 0 0 pc ls (.ref b :: st) (mput h b σ) Q :=
  gx_get (hY ▸ hF) (mput_obj h b σ) (by rw [mfs_at hk7]; simp [mfv, hk]) hd kk
theorem m_getW (hY : Y.1.cls = "PaidSecretsModel") (hF : gxF "PaidSecretsModel" idx 9 7 fin) (hd : decode Y.2.1 pc = .ok (.getfield idx, 3)) (kk : gxV G Y d 0 0 (pc + 3) ls (.long σ.2.1.1 :: st) (mput h b σ) Q) : gxV G Y d 0 0 pc ls (.ref b :: st) (mput h b σ) Q :=
  gx_get (hY ▸ hF) (mput_obj h b σ) (by rw [mfs_at (by omega)]; rfl) hd kk
theorem m_getG (hY : Y.1.cls = "PaidSecretsModel") (hF : gxF "PaidSecretsModel" idx 9 69 fin) (hd : decode Y.2.1 pc = .ok (.getfield idx, 3)) (kk : gxV G Y d 0 0 (pc + 3) ls (.long σ.2.1.2 :: st) (mput h b σ) Q) : gxV G Y d 0 0 pc ls (.ref b :: st) (mput h b σ) Q :=
  gx_get (hY ▸ hF) (mput_obj h b σ) (by rw [mfs_at (by omega)]; rfl) hd kk
theorem m_getA (hY : Y.1.cls = "PaidSecretsModel") (hF : gxF "PaidSecretsModel" idx 9 k fin) (hk : mfv b σ k = .ref (b + moff k)) (hk7 : k < 70) (hd : decode Y.2.1 pc = .ok (.getfield idx, 3)) (kk : gxV G Y d 0 0 (pc + 3) ls (.ref (b + moff k) :: st) (mput h b σ) Q) : gxV G Y d 0 0 pc ls (.ref b :: st) (mput h b σ) Q :=
  gx_get (hY ▸ hF) (mput_obj h b σ) (by rw [mfs_at hk7, hk]) hd kk
theorem m_putI {v : Int32} (hY : Y.1.cls = "PaidSecretsModel") (hb : gxN G ≤ b) (hF : gxF "PaidSecretsModel" idx 9 k false) (hk : mknd k = 0) (hk7 : k < 70) (hty : ∀ C T N, gxCl[9]? = some (C, T, N) → parseFieldDescriptor (T k).2.2.1 = some .int) (hd : decode Y.2.1 pc = .ok (.putfield idx, 3)) (kk : gxV G Y d 0 0 (pc + 3) ls st (mput h b (mI σ k v)) Q) : gxV G Y d 0 0 pc ls (.int v :: .ref b :: st) (mput h b σ) Q := by
  refine gx_put (hY ▸ hF) (mput_obj h b σ) hb (by simp [mfs, hk7]) hty rfl rfl hd ?_
  rw [mI_I hk hk7]
  exact kk
theorem m_putW {v : Int64} (hY : Y.1.cls = "PaidSecretsModel") (hb : gxN G ≤ b) (hF : gxF "PaidSecretsModel" idx 9 7 false) (hty : ∀ C T N, gxCl[9]? = some (C, T, N) → parseFieldDescriptor (T 7).2.2.1 = some .long) (hd : decode Y.2.1 pc = .ok (.putfield idx, 3)) (kk : gxV G Y d 0 0 (pc + 3) ls st (mput h b (mW σ v)) Q) : gxV G Y d 0 0 pc ls (.long v :: .ref b :: st) (mput h b σ) Q := by
  refine gx_put (hY ▸ hF) (mput_obj h b σ) hb (by simp [mfs]) hty rfl rfl hd ?_
  rw [mW_I]
  exact kk
theorem m_putG {v : Int64} (hY : Y.1.cls = "PaidSecretsModel") (hb : gxN G ≤ b) (hF : gxF "PaidSecretsModel" idx 9 69 false) (hty : ∀ C T N, gxCl[9]? = some (C, T, N) → parseFieldDescriptor (T 69).2.2.1 = some .long) (hd : decode Y.2.1 pc = .ok (.putfield idx, 3)) (kk : gxV G Y d 0 0 (pc + 3) ls st (mput h b (mG σ v)) Q) : gxV G Y d 0 0 pc ls (.long v :: .ref b :: st) (mput h b σ) Q := by
  refine gx_put (hY ▸ hF) (mput_obj h b σ) hb (by simp [mfs]) hty rfl rfl hd ?_
  rw [mG_I]
  exact kk
abbrev mOk (j : Nat) : Prop := 1 ≤ moff j ∧ moff j < mN ∧ mAL.getD (moff j - 1) 0 = j
theorem m_iald {i : Int32} (j k n : Nat) (hj : mknd j = 3) (ho : mOk j) (hn : mlen j = n) (hi : i = nI k) (hk : k < n) (hb : n < 2 ^ 31) (hd : decode Y.2.1 pc = .ok (.iaload, 1)) (kk : gxV G Y d 0 0 (pc + 1) ls (.int (σ.2.2.1 j k) :: st) (mput h b σ) Q) : gxV G Y d 0 0 pc ls (.int i :: .ref (b + moff j) :: st) (mput h b σ) Q :=
  gx_iald k (by rw [mput_arr h b σ ho]; simp [marr, hj, hn]) hi hk hb hd kk
theorem m_zald {i : Int32} (j k n : Nat) (hj : mknd j = 4) (ho : mOk j) (hn : mlen j = n) (hi : i = nI k) (hk : k < n) (hb : n < 2 ^ 31) (hd : decode Y.2.1 pc = .ok (.baload, 1)) (kk : gxV G Y d 0 0 (pc + 1) ls (.int (σ.2.2.1 j k) :: st) (mput h b σ) Q) : gxV G Y d 0 0 pc ls (.int i :: .ref (b + moff j) :: st) (mput h b σ) Q :=
  gx_zald k (by rw [mput_arr h b σ ho]; simp [marr, hj, hn]) hi hk hb hd kk
theorem m_lald {i : Int32} (j k n : Nat) (hj : mknd j = 5) (ho : mOk j) (hn : mlen j = n) (hi : i = nI k) (hk : k < n) (hb : n < 2 ^ 31) (hd : decode Y.2.1 pc = .ok (.laload, 1)) (kk : gxV G Y d 0 0 (pc + 1) ls (.long (σ.2.2.2 j k) :: st) (mput h b σ) Q) : gxV G Y d 0 0 pc ls (.int i :: .ref (b + moff j) :: st) (mput h b σ) Q :=
  gx_lald k (by rw [mput_arr h b σ ho]; simp [marr, hj, hn]) hi hk hb hd kk
theorem m_iast {i x : Int32} (hN : gxN G ≤ b) (j k n : Nat) (hj : mknd j = 3) (ho : mOk j) (hn : mlen j = n) (hi : i = nI k) (hk : k < n) (hb : n < 2 ^ 31) (hd : decode Y.2.1 pc = .ok (.iastore, 1)) (kk : gxV G Y d 0 0 (pc + 1) ls st (mput h b (mA σ j k x)) Q) : gxV G Y d 0 0 pc ls (.int x :: .int i :: .ref (b + moff j) :: st) (mput h b σ) Q := by
  refine gx_iast (n := n) (f := σ.2.2.1 j) k (by rw [mput_arr h b σ ho]; simp [marr, hj, hn]) (by omega) hi hk hb hd ?_
  rw [mA_A3 hj ho hn]
  exact kk
theorem m_zast {i x : Int32} (hN : gxN G ≤ b) (j k n : Nat) (hx : x = 0 ∨ x = 1) (hj : mknd j = 4) (ho : mOk j) (hn : mlen j = n) (hi : i = nI k) (hk : k < n) (hb : n < 2 ^ 31) (hd : decode Y.2.1 pc = .ok (.bastore, 1)) (kk : gxV G Y d 0 0 (pc + 1) ls st (mput h b (mA σ j k x)) Q) : gxV G Y d 0 0 pc ls (.int x :: .int i :: .ref (b + moff j) :: st) (mput h b σ) Q := by
  refine gx_zast (n := n) (f := σ.2.2.1 j) k (by rw [mput_arr h b σ ho]; simp [marr, hj, hn]) (by omega) hx hi hk hb hd ?_
  rw [mA_A4 hj ho hn]
  exact kk
theorem m_last {i : Int32} {x : Int64} (hN : gxN G ≤ b) (j k n : Nat) (hj : mknd j = 5) (ho : mOk j) (hn : mlen j = n) (hi : i = nI k) (hk : k < n) (hb : n < 2 ^ 31) (hd : decode Y.2.1 pc = .ok (.lastore, 1)) (kk : gxV G Y d 0 0 (pc + 1) ls st (mput h b (mB σ j k x)) Q) : gxV G Y d 0 0 pc ls (.long x :: .int i :: .ref (b + moff j) :: st) (mput h b σ) Q := by
  refine gx_last (n := n) (f := σ.2.2.2 j) k (by rw [mput_arr h b σ ho]; simp [marr, hj, hn]) (by omega) hi hk hb hd ?_
  rw [mB_A5 hj ho hn]
  exact kk
/-- contracts of the model's methods -/
abbrev mQi (h : gxH) (b : Nat) (P : Int32 → mS → Prop) : Outcome → gxH → Prop := gxQi fun r h' => ∃ σ', h' = mput h b σ' ∧ P r σ'
abbrev mQv (h : gxH) (b : Nat) (P : mS → Prop) : Outcome → gxH → Prop := gxQv fun h' => ∃ σ', h' = mput h b σ' ∧ P σ'
def mMi (G : gxG) (Y : gxY) (d : Nat) (av : List Value) (h : gxH) (b : Nat) (σ : mS) (P : Int32 → mS → Prop) : Prop := gxM G Y d 0 0 av (mput h b σ) (mQi h b P)
def mMv (G : gxG) (Y : gxY) (d : Nat) (av : List Value) (h : gxH) (b : Nat) (σ : mS) (P : mS → Prop) : Prop := gxM G Y d 0 0 av (mput h b σ) (mQv h b P)
theorem m_rc (hc : gxCl[9]? = some (RX10, TX10, 70)) : gxRc G (mput h b σ) "PaidSecretsModel" b := gxRc.of hc (mput_obj h b σ)
theorem mMi_post {av : List Value} {P P' : Int32 → mS → Prop} (hp : ∀ r σ', P r σ' → P' r σ') (hM : mMi G Y d av h b σ P) : mMi G Y d av h b σ P' :=
  gxM_post (fun _ _ ⟨r, e, σ', e', q⟩ => ⟨r, e, σ', e', hp r σ' q⟩) hM
theorem m_ret {v : Int32} {P : Int32 → mS → Prop} (hr : Y.2.2.2.1 = some .int) (hd : decode Y.2.1 pc = .ok (.ireturn, 1)) (hq : P v σ) : gxV G Y d 0 0 pc ls [.int v] (mput h b σ) (mQi h b P) :=
  gx_ireturn hr hd ⟨v, rfl, σ, rfl, hq⟩
theorem m_retz {v : Int32} {P : Int32 → mS → Prop} (hr : Y.2.2.2.1 = some .boolean) (hv : v = 0 ∨ v = 1) (hd : decode Y.2.1 pc = .ok (.ireturn, 1)) (hq : P v σ) : gxV G Y d 0 0 pc ls [.int v] (mput h b σ) (mQi h b P) :=
  gx_zreturn hr hv hd ⟨v, rfl, σ, rfl, hq⟩
theorem m_retv {P : mS → Prop} (hr : Y.2.2.2.1 = none) (hd : decode Y.2.1 pc = .ok (.return_, 1)) (hq : P σ) : gxV G Y d 0 0 pc ls [] (mput h b σ) (mQv h b P) :=
  gx_return hr hd ⟨rfl, σ, rfl, hq⟩
end CORE5
