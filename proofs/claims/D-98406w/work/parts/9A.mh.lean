/-! ===== COMPONENT AH: boxes, strings ===== -/
set_option maxRecDepth 100000
section AH0
variable {G : gxG} {Y : gxY} {d kc ks pc : Nat} {ls : List (Option Value)} {st : List Value} {h : gxH} {Q : Outcome → gxH → Prop}
theorem gx_nreturn {v : Int32} {rt : FieldType} (hr : Y.2.2.2.1 = some rt) (hn : narrow rt (.int v) = .int v) (hd : decode Y.2.1 pc = .ok (.ireturn, 1)) (hq : Q (.returned (some (.int v))) h) : gxV G Y d kc ks pc ls [.int v] h Q := by
  intro p e R s m args below meth c H locs cells slots la A
  exact gx_retA A hq (W.zret A.2.1.1 A.2.1.2.1 (A.2.1.2.2.1.trans hr) hn (fun t ht _ => ⟨rfl, ht⟩) A.2.2.2.1 hd (hlocks := A.2.1.2.2.2.1))
end AH0
/-- a cache of boxes -/
theorem bx_Cof {args : Array Value} {s : State} {A : Nat → Prop} {st : Term} {C n dd : String} {tm : Term} {cf : Nat → Value} (hc : st.closed = true) (hlen : (Term.length st).eval args s none [] s = some (.int (Int32.ofNat 256)))
    (hall : (Cond.all st (.and (.exactly (.elem st (.index 0)) C) (.eq (.field (.elem st (.index 0)) C n dd) tm))).before args s = true) (htm : ∀ k, k < 256 → tm.eval args s none [k] s = some (cf k)) (hA : ∀ a : Nat, a < s.heap.size → ¬ A a) :
    ∃ ad : Nat → Nat, (∀ k, k < 256 → va_O C (ad k) A s s.heap ∧ va_OF C n dd (cf k) (ad k) A s s.heap) ∧ ∀ j : Nat, j < 256 → (Term.elem st (.int (Int32.ofNat j))).eval args s none [] s = some (.ref (ad j)) := by
  obtain ⟨b, cell, ht, hat, hv⟩ := Term.length_spec hlen
  have hsz : ∀ k : Nat, k < 256 → k < cell.slots.size := by
    intro k hk
    apply Nat.not_le.mp
    intro hle
    have e : Int32.ofNat cell.slots.size = Int32.ofNat 256 := (Value.int.inj hv).symm
    have h1 : (Int32.ofNat cell.slots.size).toNatClampNeg = cell.slots.size := Int32.toNatClampNeg_ofNat_of_lt (by omega)
    have h2 : (Int32.ofNat 256).toNatClampNeg = 256 := Int32.toNatClampNeg_ofNat_of_lt (by omega)
    rw [e, h2] at h1
    omega
  have hall' := Cond.all_elim ht hat (by simpa [Cond.before, Cond.holds] using hall)
  have h0 : ∀ k : Nat, ∃ a : Nat, k < 256 → (Term.elem st (.int (Int32.ofNat k))).eval args s none [] s = some (.ref a) ∧ va_O C a A s s.heap ∧ va_OF C n dd (cf k) a A s s.heap := by
    intro k
    by_cases hk : k < 256
    · obtain ⟨hE, hF⟩ := va_andE (hall' k (hsz k hk))
      obtain ⟨a, c, cA, kA, q1, q2, q3, q4, q5, q6, -⟩ := Cond.exactly_spec (args := args) (first := s) (o := none) (s := s) (idx := [k]) (t := .elem st (.index 0)) (cls := C) (by simp [Cond.holds, hE])
      have hfv := va_eqI hF (htm k hk)
      refine ⟨a, fun _ => ⟨?_, ⟨cA, q3, q5, by rw [q6]; exact q2, hA a (Array.getElem?_eq_some_iff.mp q3).1⟩, ?_⟩⟩
      · rw [← q1]
        simp only [Term.eval, Term.eval_closed none [k] st s hc]
        rfl
      · cases hfo : s.fieldFound? C n dd with
        | none =>
          rw [va_fe q1] at hfv
          simp [State.fieldOf?, State.fieldNamed?, hfo] at hfv
        | some x =>
          obtain ⟨cf, kf, fi, f⟩ := x
          obtain ⟨g1, cell2, g2, g3, -, -, g6⟩ := Term.field_spec hfo q1 hfv
          exact ⟨cf, kf, fi, f, cell2, hfo, g1, g2, g3, g6, hA _ (Array.getElem?_eq_some_iff.mp g2).1⟩
    · exact ⟨0, fun h => absurd h hk⟩
  obtain ⟨ad, had⟩ := Classical.axiomOfChoice h0
  exact ⟨ad, fun k hk => (had k hk).2, fun k hk => (had k hk).1⟩
/-- the empty array of lists made without a size -/
def dArr (G : gxG) (t : Nat) : Prop := gZ G "java/util/ArrayList" "DEFAULTCAPACITY_EMPTY_ELEMENTDATA" "[Ljava/lang/Object;" (.ref t) ∧ gTa G (.object "java/lang/Object") t 0 (fun _ => .null)
theorem nw_dc {G : gxG} (hK : gxK G) : ∃ t, dArr G t := by
  have h := cd_r hK.2.2.1
  obtain ⟨t, ht, hT⟩ := va_Tof (f := fun _ => .null) (A := fun q => gxN G ≤ q) (N := 0) (by decide) (cd_l (cd_r (cd_l (cd_r (cd_l (cd_l (cd_l (cd_l (cd_l h))))))))) (va_eqt (cd_l (cd_r (cd_r (cd_l (cd_l (cd_l (cd_l (cd_l h))))))))) (fun j hj => absurd hj (Nat.not_lt_zero j)) nw_old
  exact ⟨t, va_Zref (hK.1 _ q437) (hK.1 _ (lw_all_tbl q135)) ht nw_old, hT⟩
/-- boxes that were there before -/
def IB (G : gxG) (r : Nat) (v : Int32) : Prop := gO G "java/lang/Integer" r ∧ gOF G "java/lang/Integer" "value" "I" (.int v) r
def LB0 (G : gxG) (r : Nat) (v : Int64) : Prop := gO G "java/lang/Long" r ∧ gOF G "java/lang/Long" "value" "J" (.long v) r
theorem nw_ih {G : gxG} (hK : gxK G) : gZ G "java/lang/Integer$IntegerCache" "high" "I" (.int 127) := by
  have h := cd_r hK.2.2.1
  exact va_Zof (hK.1 _ q926) (hK.1 _ (lw_all_tbl q159)) (va_eqi (cd_r (cd_l (cd_r (cd_r (cd_r (cd_l (cd_l (cd_l (cd_l h)))))))))) nw_old
theorem nw_ic {G : gxG} (hK : gxK G) : ∃ (t : Nat) (ad : Nat → Nat), gZ G "java/lang/Integer$IntegerCache" "cache" "[Ljava/lang/Integer;" (.ref t) ∧ gTa G (.object "java/lang/Integer") t 256 (fun j => .ref (ad j)) ∧ ∀ k, k < 256 → IB G (ad k) (vb_c k) := by
  have h := cd_r hK.2.2.1
  have hl := va_eqt (cd_l (cd_l (cd_l (cd_l (cd_r (cd_l (cd_l (cd_l h))))))))
  obtain ⟨ad, hC, hel⟩ := bx_Cof (A := fun q => gxN G ≤ q) (cf := fun k => .int (vb_c k)) (st := .static "java/lang/Integer$IntegerCache" "cache" "[Ljava/lang/Integer;") rfl hl (cd_l (cd_r (cd_l (cd_l (cd_l (cd_r (cd_l (cd_l (cd_l h))))))))) (fun k hk => by simp [Term.eval, vb_c]) nw_old
  obtain ⟨t, ht, hT⟩ := va_Tof (f := fun j => .ref (ad j)) (A := fun q => gxN G ≤ q) (N := 256) (by decide) (cd_r (cd_r (cd_r (cd_r (cd_r (cd_l (cd_l (cd_l (cd_l h))))))))) hl hel nw_old
  exact ⟨t, ad, va_Zref (hK.1 _ q928) (hK.1 _ (lw_all_tbl q159)) ht nw_old, hT, fun k hk => hC k hk⟩
theorem nw_lc {G : gxG} (hK : gxK G) : ∃ (t : Nat) (ad : Nat → Nat), gZ G "java/lang/Long$LongCache" "cache" "[Ljava/lang/Long;" (.ref t) ∧ gTa G (.object "java/lang/Long") t 256 (fun j => .ref (ad j)) ∧ ∀ k, k < 256 → LB0 G (ad k) (vb_c k).toInt64 := by
  have h := cd_r hK.2.2.1
  have hl := va_eqt (cd_r (cd_r (cd_l (cd_r (cd_r (cd_l (cd_l (cd_l (cd_l h)))))))))
  obtain ⟨ad, hC, hel⟩ := bx_Cof (A := fun q => gxN G ≤ q) (cf := fun k => .long (vb_c k).toInt64) (st := .static "java/lang/Long$LongCache" "cache" "[Ljava/lang/Long;") rfl hl (cd_l (cd_l (cd_r (cd_r (cd_r (cd_l (cd_l (cd_l (cd_l h))))))))) (fun k hk => by simp [Term.eval, Unary.apply, vb_c]) nw_old
  obtain ⟨t, ht, hT⟩ := va_Tof (f := fun j => .ref (ad j)) (A := fun q => gxN G ≤ q) (N := 256) (by decide) (cd_l (cd_r (cd_l (cd_r (cd_r (cd_l (cd_l (cd_l (cd_l h))))))))) hl hel nw_old
  exact ⟨t, ad, va_Zref (hK.1 _ q831) (hK.1 _ (lw_all_tbl q154)) ht nw_old, hT, fun k hk => hC k hk⟩
/-- a String of plain letters -/
def SB (G : gxG) (sa : Nat) (bs : List Nat) : Prop := gO G "java/lang/String" sa ∧ gOF G "java/lang/String" "coder" "B" (.int 0) sa ∧ bs.length < 2 ^ 31 ∧ (∀ b ∈ bs, b < 128) ∧ ∃ va, gOF G "java/lang/String" "value" "[B" (.ref va) sa ∧ gTa G .byte va bs.length (fun j => .int (nI (bs.getD j 0)))
theorem st_of {G : gxG} {own : String} {k : Nat} {tx : String} {bs : List Nat} (hN : bs.length < 2 ^ 31) (hr : (Cond.stringRef own k tx).before #[Value.ref G.2.2.2.2] G.2.1 = true) (hex : (Cond.exactly (.string own k) "java/lang/String").before #[Value.ref G.2.2.2.2] G.2.1 = true) (hco : (Cond.eq (.field (.string own k) "java/lang/String" "coder" "B") (.int 0)).before #[Value.ref G.2.2.2.2] G.2.1 = true)
    (har : (Cond.arrayOf (.field (.string own k) "java/lang/String" "value" "[B") .byte).before #[Value.ref G.2.2.2.2] G.2.1 = true) (hle : (Cond.eq (.length (.field (.string own k) "java/lang/String" "value" "[B")) (.int (Int32.ofNat bs.length))).before #[Value.ref G.2.2.2.2] G.2.1 = true)
    (hel : ∀ j : Nat, j < bs.length → (Term.elem (.field (.string own k) "java/lang/String" "value" "[B") (.int (Int32.ofNat j))).eval #[Value.ref G.2.2.2.2] G.2.1 none [] G.2.1 = some (.int (nI (bs.getD j 0)))) (hb : ∀ b ∈ bs, b < 128) : ∃ sa, vk_R own k tx sa G.2.1 ∧ SB G sa bs := by
  obtain ⟨a, c, cA, kA, q1, q2, q3, q4, q5, q6, -⟩ := Cond.exactly_spec (idx := []) (t := .string own k) (cls := "java/lang/String") hex
  obtain ⟨t, ht, hT⟩ := va_Tof (f := fun j => .int (nI (bs.getD j 0))) (A := fun q => gxN G ≤ q) hN har (va_eqt hle) hel nw_old
  exact ⟨a, vk_R.of hr q1, ⟨cA, q3, q5, by rw [q6]; exact q2, nw_old a (Array.getElem?_eq_some_iff.mp q3).1⟩, vk_OFof q1 (va_eqt hco) nw_old, hN, hb, t, vk_OFof q1 ht nw_old, hT⟩
theorem st_11 {G : gxG} (hK : gxK G) : ∃ sa, vk_R "PaidSecrets$Reader" 11 "cost" sa G.2.1 ∧ SB G sa [99, 111, 115, 116] := by
  have h := cd_r hK.2.2.1
  refine st_of (by decide) (hK.1 _ q202) (cd_r (cd_r (cd_r (cd_l (cd_r (cd_l (cd_r (cd_r (cd_l h))))))))) (cd_l (cd_l (cd_r (cd_r (cd_l (cd_r (cd_r (cd_l h)))))))) (cd_l (cd_r (cd_l (cd_r (cd_r (cd_l (cd_r (cd_r (cd_l h))))))))) (cd_r (cd_r (cd_l (cd_r (cd_r (cd_l (cd_r (cd_r (cd_l h))))))))) (fun j hj => ?_) (by decide)
  match j, hj with
    | 0, _ => exact va_eqt (cd_l (cd_l (cd_r (cd_r (cd_r (cd_l (cd_r (cd_r (cd_l h)))))))))
    | 1, _ => exact va_eqt (cd_r (cd_l (cd_r (cd_r (cd_r (cd_l (cd_r (cd_r (cd_l h)))))))))
    | 2, _ => exact va_eqt (cd_l (cd_r (cd_r (cd_r (cd_r (cd_l (cd_r (cd_r (cd_l h)))))))))
    | 3, _ => exact va_eqt (cd_r (cd_r (cd_r (cd_r (cd_r (cd_l (cd_r (cd_r (cd_l h)))))))))
    | j + 4, hj => exact absurd hj (by simp)
theorem st_13 {G : gxG} (hK : gxK G) : ∃ sa, vk_R "PaidSecrets$Reader" 13 "knowers" sa G.2.1 ∧ SB G sa [107, 110, 111, 119, 101, 114, 115] := by
  have h := cd_r hK.2.2.1
  refine st_of (by decide) (hK.1 _ q203) (cd_l (cd_l (cd_l (cd_l (cd_r (cd_r (cd_r (cd_l h)))))))) (cd_l (cd_r (cd_l (cd_l (cd_l (cd_r (cd_r (cd_r (cd_l h))))))))) (cd_r (cd_r (cd_l (cd_l (cd_l (cd_r (cd_r (cd_r (cd_l h))))))))) (cd_l (cd_r (cd_l (cd_l (cd_r (cd_r (cd_r (cd_l h)))))))) (fun j hj => ?_) (by decide)
  match j, hj with
    | 0, _ => exact va_eqt (cd_l (cd_r (cd_r (cd_l (cd_l (cd_r (cd_r (cd_r (cd_l h)))))))))
    | 1, _ => exact va_eqt (cd_r (cd_r (cd_r (cd_l (cd_l (cd_r (cd_r (cd_r (cd_l h)))))))))
    | 2, _ => exact va_eqt (cd_l (cd_l (cd_r (cd_l (cd_r (cd_r (cd_r (cd_l h))))))))
    | 3, _ => exact va_eqt (cd_l (cd_r (cd_l (cd_r (cd_l (cd_r (cd_r (cd_r (cd_l h)))))))))
    | 4, _ => exact va_eqt (cd_r (cd_r (cd_l (cd_r (cd_l (cd_r (cd_r (cd_r (cd_l h)))))))))
    | 5, _ => exact va_eqt (cd_l (cd_l (cd_r (cd_r (cd_l (cd_r (cd_r (cd_r (cd_l h)))))))))
    | 6, _ => exact va_eqt (cd_r (cd_l (cd_r (cd_r (cd_l (cd_r (cd_r (cd_r (cd_l h)))))))))
    | j + 7, hj => exact absurd hj (by simp)
theorem st_15 {G : gxG} (hK : gxK G) : ∃ sa, vk_R "PaidSecrets$Reader" 15 "age" sa G.2.1 ∧ SB G sa [97, 103, 101] := by
  have h := cd_r hK.2.2.1
  refine st_of (by decide) (hK.1 _ q204) (cd_l (cd_r (cd_r (cd_r (cd_l (cd_r (cd_r (cd_r (cd_l h))))))))) (cd_r (cd_r (cd_r (cd_r (cd_l (cd_r (cd_r (cd_r (cd_l h))))))))) (cd_l (cd_l (cd_l (cd_r (cd_r (cd_r (cd_r (cd_l h)))))))) (cd_l (cd_r (cd_l (cd_l (cd_r (cd_r (cd_r (cd_r (cd_l h))))))))) (fun j hj => ?_) (by decide)
  match j, hj with
    | 0, _ => exact va_eqt (cd_r (cd_r (cd_l (cd_l (cd_r (cd_r (cd_r (cd_r (cd_l h)))))))))
    | 1, _ => exact va_eqt (cd_l (cd_r (cd_l (cd_r (cd_r (cd_r (cd_r (cd_l h))))))))
    | 2, _ => exact va_eqt (cd_l (cd_r (cd_r (cd_l (cd_r (cd_r (cd_r (cd_r (cd_l h)))))))))
    | j + 3, hj => exact absurd hj (by simp)
theorem st_17 {G : gxG} (hK : gxK G) : ∃ sa, vk_R "PaidSecrets$Reader" 17 "high" sa G.2.1 ∧ SB G sa [104, 105, 103, 104] := by
  have h := cd_r hK.2.2.1
  refine st_of (by decide) (hK.1 _ q205) (cd_r (cd_r (cd_r (cd_l (cd_r (cd_r (cd_r (cd_r (cd_l h))))))))) (cd_l (cd_l (cd_r (cd_r (cd_r (cd_r (cd_r (cd_l h)))))))) (cd_l (cd_r (cd_l (cd_r (cd_r (cd_r (cd_r (cd_r (cd_l h))))))))) (cd_r (cd_r (cd_l (cd_r (cd_r (cd_r (cd_r (cd_r (cd_l h))))))))) (fun j hj => ?_) (by decide)
  match j, hj with
    | 0, _ => exact va_eqt (cd_l (cd_l (cd_r (cd_r (cd_r (cd_r (cd_r (cd_r (cd_l h)))))))))
    | 1, _ => exact va_eqt (cd_r (cd_l (cd_r (cd_r (cd_r (cd_r (cd_r (cd_r (cd_l h)))))))))
    | 2, _ => exact va_eqt (cd_l (cd_r (cd_r (cd_r (cd_r (cd_r (cd_r (cd_r (cd_l h)))))))))
    | 3, _ => exact va_eqt (cd_r (cd_r (cd_r (cd_r (cd_r (cd_r (cd_r (cd_r (cd_l h)))))))))
    | j + 4, hj => exact absurd hj (by simp)
theorem st_25 {G : gxG} (hK : gxK G) : ∃ sa, vk_R "PaidSecrets$Reader" 25 "plain" sa G.2.1 ∧ SB G sa [112, 108, 97, 105, 110] := by
  have h := cd_r hK.2.2.1
  refine st_of (by decide) (hK.1 _ q206) (cd_l (cd_l (cd_l (cd_l (cd_l (cd_l (cd_l (cd_r h)))))))) (cd_l (cd_r (cd_l (cd_l (cd_l (cd_l (cd_l (cd_l (cd_r h))))))))) (cd_r (cd_r (cd_l (cd_l (cd_l (cd_l (cd_l (cd_l (cd_r h))))))))) (cd_l (cd_r (cd_l (cd_l (cd_l (cd_l (cd_l (cd_r h)))))))) (fun j hj => ?_) (by decide)
  match j, hj with
    | 0, _ => exact va_eqt (cd_l (cd_r (cd_r (cd_l (cd_l (cd_l (cd_l (cd_l (cd_r h)))))))))
    | 1, _ => exact va_eqt (cd_r (cd_r (cd_r (cd_l (cd_l (cd_l (cd_l (cd_l (cd_r h)))))))))
    | 2, _ => exact va_eqt (cd_l (cd_l (cd_r (cd_l (cd_l (cd_l (cd_l (cd_r h))))))))
    | 3, _ => exact va_eqt (cd_l (cd_r (cd_l (cd_r (cd_l (cd_l (cd_l (cd_l (cd_r h)))))))))
    | 4, _ => exact va_eqt (cd_r (cd_r (cd_l (cd_r (cd_l (cd_l (cd_l (cd_l (cd_r h)))))))))
    | j + 5, hj => exact absurd hj (by simp)
theorem st_27 {G : gxG} (hK : gxK G) : ∃ sa, vk_R "PaidSecrets$Reader" 27 "gossip" sa G.2.1 ∧ SB G sa [103, 111, 115, 115, 105, 112] := by
  have h := cd_r hK.2.2.1
  refine st_of (by decide) (hK.1 _ q207) (cd_l (cd_r (cd_r (cd_l (cd_l (cd_l (cd_l (cd_r h)))))))) (cd_l (cd_r (cd_r (cd_r (cd_l (cd_l (cd_l (cd_l (cd_r h))))))))) (cd_r (cd_r (cd_r (cd_r (cd_l (cd_l (cd_l (cd_l (cd_r h))))))))) (cd_l (cd_l (cd_l (cd_r (cd_l (cd_l (cd_l (cd_r h)))))))) (fun j hj => ?_) (by decide)
  match j, hj with
    | 0, _ => exact va_eqt (cd_l (cd_r (cd_l (cd_l (cd_r (cd_l (cd_l (cd_l (cd_r h)))))))))
    | 1, _ => exact va_eqt (cd_r (cd_r (cd_l (cd_l (cd_r (cd_l (cd_l (cd_l (cd_r h)))))))))
    | 2, _ => exact va_eqt (cd_l (cd_r (cd_l (cd_r (cd_l (cd_l (cd_l (cd_r h))))))))
    | 3, _ => exact va_eqt (cd_l (cd_r (cd_r (cd_l (cd_r (cd_l (cd_l (cd_l (cd_r h)))))))))
    | 4, _ => exact va_eqt (cd_r (cd_r (cd_r (cd_l (cd_r (cd_l (cd_l (cd_l (cd_r h)))))))))
    | 5, _ => exact va_eqt (cd_l (cd_l (cd_r (cd_r (cd_l (cd_l (cd_l (cd_r h))))))))
    | j + 6, hj => exact absurd hj (by simp)
theorem st_29 {G : gxG} (hK : gxK G) : ∃ sa, vk_R "PaidSecrets$Reader" 29 "deaf" sa G.2.1 ∧ SB G sa [100, 101, 97, 102] := by
  have h := cd_r hK.2.2.1
  refine st_of (by decide) (hK.1 _ q208) (cd_l (cd_r (cd_l (cd_r (cd_r (cd_l (cd_l (cd_l (cd_r h))))))))) (cd_r (cd_r (cd_l (cd_r (cd_r (cd_l (cd_l (cd_l (cd_r h))))))))) (cd_l (cd_l (cd_r (cd_r (cd_r (cd_l (cd_l (cd_l (cd_r h))))))))) (cd_r (cd_l (cd_r (cd_r (cd_r (cd_l (cd_l (cd_l (cd_r h))))))))) (fun j hj => ?_) (by decide)
  match j, hj with
    | 0, _ => exact va_eqt (cd_l (cd_r (cd_r (cd_r (cd_r (cd_l (cd_l (cd_l (cd_r h)))))))))
    | 1, _ => exact va_eqt (cd_r (cd_r (cd_r (cd_r (cd_r (cd_l (cd_l (cd_l (cd_r h)))))))))
    | 2, _ => exact va_eqt (cd_l (cd_l (cd_l (cd_l (cd_r (cd_l (cd_l (cd_r h))))))))
    | 3, _ => exact va_eqt (cd_l (cd_r (cd_l (cd_l (cd_l (cd_r (cd_l (cd_l (cd_r h)))))))))
    | j + 4, hj => exact absurd hj (by simp)
theorem st_31 {G : gxG} (hK : gxK G) : ∃ sa, vk_R "PaidSecrets$Reader" 31 "priest" sa G.2.1 ∧ SB G sa [112, 114, 105, 101, 115, 116] := by
  have h := cd_r hK.2.2.1
  refine st_of (by decide) (hK.1 _ q209) (cd_r (cd_r (cd_l (cd_l (cd_l (cd_r (cd_l (cd_l (cd_r h))))))))) (cd_l (cd_r (cd_l (cd_l (cd_r (cd_l (cd_l (cd_r h)))))))) (cd_l (cd_r (cd_r (cd_l (cd_l (cd_r (cd_l (cd_l (cd_r h))))))))) (cd_r (cd_r (cd_r (cd_l (cd_l (cd_r (cd_l (cd_l (cd_r h))))))))) (fun j hj => ?_) (by decide)
  match j, hj with
    | 0, _ => exact va_eqt (cd_l (cd_l (cd_r (cd_l (cd_r (cd_l (cd_l (cd_r h))))))))
    | 1, _ => exact va_eqt (cd_l (cd_r (cd_l (cd_r (cd_l (cd_r (cd_l (cd_l (cd_r h)))))))))
    | 2, _ => exact va_eqt (cd_r (cd_r (cd_l (cd_r (cd_l (cd_r (cd_l (cd_l (cd_r h)))))))))
    | 3, _ => exact va_eqt (cd_l (cd_l (cd_r (cd_r (cd_l (cd_r (cd_l (cd_l (cd_r h)))))))))
    | 4, _ => exact va_eqt (cd_r (cd_l (cd_r (cd_r (cd_l (cd_r (cd_l (cd_l (cd_r h)))))))))
    | 5, _ => exact va_eqt (cd_l (cd_r (cd_r (cd_r (cd_l (cd_r (cd_l (cd_l (cd_r h)))))))))
    | j + 6, hj => exact absurd hj (by simp)
theorem st_36 {G : gxG} (hK : gxK G) : ∃ sa, vk_R "PaidSecrets$Reader" 36 "person" sa G.2.1 ∧ SB G sa [112, 101, 114, 115, 111, 110] := by
  have h := cd_r hK.2.2.1
  refine st_of (by decide) (hK.1 _ q210) (cd_r (cd_r (cd_r (cd_r (cd_l (cd_r (cd_l (cd_l (cd_r h))))))))) (cd_l (cd_l (cd_l (cd_r (cd_r (cd_l (cd_l (cd_r h)))))))) (cd_l (cd_r (cd_l (cd_l (cd_r (cd_r (cd_l (cd_l (cd_r h))))))))) (cd_r (cd_r (cd_l (cd_l (cd_r (cd_r (cd_l (cd_l (cd_r h))))))))) (fun j hj => ?_) (by decide)
  match j, hj with
    | 0, _ => exact va_eqt (cd_l (cd_r (cd_l (cd_r (cd_r (cd_l (cd_l (cd_r h))))))))
    | 1, _ => exact va_eqt (cd_l (cd_r (cd_r (cd_l (cd_r (cd_r (cd_l (cd_l (cd_r h)))))))))
    | 2, _ => exact va_eqt (cd_r (cd_r (cd_r (cd_l (cd_r (cd_r (cd_l (cd_l (cd_r h)))))))))
    | 3, _ => exact va_eqt (cd_l (cd_l (cd_r (cd_r (cd_r (cd_l (cd_l (cd_r h))))))))
    | 4, _ => exact va_eqt (cd_l (cd_r (cd_l (cd_r (cd_r (cd_r (cd_l (cd_l (cd_r h)))))))))
    | 5, _ => exact va_eqt (cd_r (cd_r (cd_l (cd_r (cd_r (cd_r (cd_l (cd_l (cd_r h)))))))))
    | j + 6, hj => exact absurd hj (by simp)
theorem st_38 {G : gxG} (hK : gxK G) : ∃ sa, vk_R "PaidSecrets$Reader" 38 "rank" sa G.2.1 ∧ SB G sa [114, 97, 110, 107] := by
  have h := cd_r hK.2.2.1
  refine st_of (by decide) (hK.1 _ q211) (cd_l (cd_l (cd_r (cd_r (cd_r (cd_r (cd_l (cd_l (cd_r h))))))))) (cd_r (cd_l (cd_r (cd_r (cd_r (cd_r (cd_l (cd_l (cd_r h))))))))) (cd_l (cd_r (cd_r (cd_r (cd_r (cd_r (cd_l (cd_l (cd_r h))))))))) (cd_r (cd_r (cd_r (cd_r (cd_r (cd_r (cd_l (cd_l (cd_r h))))))))) (fun j hj => ?_) (by decide)
  match j, hj with
    | 0, _ => exact va_eqt (cd_l (cd_l (cd_l (cd_l (cd_l (cd_r (cd_l (cd_r h))))))))
    | 1, _ => exact va_eqt (cd_l (cd_r (cd_l (cd_l (cd_l (cd_l (cd_r (cd_l (cd_r h)))))))))
    | 2, _ => exact va_eqt (cd_r (cd_r (cd_l (cd_l (cd_l (cd_l (cd_r (cd_l (cd_r h)))))))))
    | 3, _ => exact va_eqt (cd_l (cd_r (cd_l (cd_l (cd_l (cd_r (cd_l (cd_r h))))))))
    | j + 4, hj => exact absurd hj (by simp)
theorem st_40 {G : gxG} (hK : gxK G) : ∃ sa, vk_R "PaidSecrets$Reader" 40 "tax" sa G.2.1 ∧ SB G sa [116, 97, 120] := by
  have h := cd_r hK.2.2.1
  refine st_of (by decide) (hK.1 _ q212) (cd_l (cd_r (cd_r (cd_l (cd_l (cd_l (cd_r (cd_l (cd_r h))))))))) (cd_r (cd_r (cd_r (cd_l (cd_l (cd_l (cd_r (cd_l (cd_r h))))))))) (cd_l (cd_l (cd_r (cd_l (cd_l (cd_r (cd_l (cd_r h)))))))) (cd_l (cd_r (cd_l (cd_r (cd_l (cd_l (cd_r (cd_l (cd_r h))))))))) (fun j hj => ?_) (by decide)
  match j, hj with
    | 0, _ => exact va_eqt (cd_r (cd_r (cd_l (cd_r (cd_l (cd_l (cd_r (cd_l (cd_r h)))))))))
    | 1, _ => exact va_eqt (cd_l (cd_l (cd_r (cd_r (cd_l (cd_l (cd_r (cd_l (cd_r h)))))))))
    | 2, _ => exact va_eqt (cd_r (cd_l (cd_r (cd_r (cd_l (cd_l (cd_r (cd_l (cd_r h)))))))))
    | j + 3, hj => exact absurd hj (by simp)
theorem st_42 {G : gxG} (hK : gxK G) : ∃ sa, vk_R "PaidSecrets$Reader" 42 "secret" sa G.2.1 ∧ SB G sa [115, 101, 99, 114, 101, 116] := by
  have h := cd_r hK.2.2.1
  refine st_of (by decide) (hK.1 _ q213) (cd_l (cd_r (cd_r (cd_r (cd_l (cd_l (cd_r (cd_l (cd_r h))))))))) (cd_r (cd_r (cd_r (cd_r (cd_l (cd_l (cd_r (cd_l (cd_r h))))))))) (cd_l (cd_l (cd_l (cd_r (cd_l (cd_r (cd_l (cd_r h)))))))) (cd_l (cd_r (cd_l (cd_l (cd_r (cd_l (cd_r (cd_l (cd_r h))))))))) (fun j hj => ?_) (by decide)
  match j, hj with
    | 0, _ => exact va_eqt (cd_r (cd_r (cd_l (cd_l (cd_r (cd_l (cd_r (cd_l (cd_r h)))))))))
    | 1, _ => exact va_eqt (cd_l (cd_r (cd_l (cd_r (cd_l (cd_r (cd_l (cd_r h))))))))
    | 2, _ => exact va_eqt (cd_l (cd_r (cd_r (cd_l (cd_r (cd_l (cd_r (cd_l (cd_r h)))))))))
    | 3, _ => exact va_eqt (cd_r (cd_r (cd_r (cd_l (cd_r (cd_l (cd_r (cd_l (cd_r h)))))))))
    | 4, _ => exact va_eqt (cd_l (cd_l (cd_r (cd_r (cd_l (cd_r (cd_l (cd_r h))))))))
    | 5, _ => exact va_eqt (cd_l (cd_r (cd_l (cd_r (cd_r (cd_l (cd_r (cd_l (cd_r h)))))))))
    | j + 6, hj => exact absurd hj (by simp)
theorem st_44 {G : gxG} (hK : gxK G) : ∃ sa, vk_R "PaidSecrets$Reader" 44 "of" sa G.2.1 ∧ SB G sa [111, 102] := by
  have h := cd_r hK.2.2.1
  refine st_of (by decide) (hK.1 _ q214) (cd_r (cd_r (cd_l (cd_r (cd_r (cd_l (cd_r (cd_l (cd_r h))))))))) (cd_l (cd_l (cd_r (cd_r (cd_r (cd_l (cd_r (cd_l (cd_r h))))))))) (cd_r (cd_l (cd_r (cd_r (cd_r (cd_l (cd_r (cd_l (cd_r h))))))))) (cd_l (cd_r (cd_r (cd_r (cd_r (cd_l (cd_r (cd_l (cd_r h))))))))) (fun j hj => ?_) (by decide)
  match j, hj with
    | 0, _ => exact va_eqt (cd_r (cd_r (cd_r (cd_r (cd_r (cd_l (cd_r (cd_l (cd_r h)))))))))
    | 1, _ => exact va_eqt (cd_l (cd_l (cd_l (cd_l (cd_r (cd_r (cd_l (cd_r h))))))))
    | j + 2, hj => exact absurd hj (by simp)
theorem st_46 {G : gxG} (hK : gxK G) : ∃ sa, vk_R "PaidSecrets$Reader" 46 "costs" sa G.2.1 ∧ SB G sa [99, 111, 115, 116, 115] := by
  have h := cd_r hK.2.2.1
  refine st_of (by decide) (hK.1 _ q215) (cd_l (cd_r (cd_l (cd_l (cd_l (cd_r (cd_r (cd_l (cd_r h))))))))) (cd_r (cd_r (cd_l (cd_l (cd_l (cd_r (cd_r (cd_l (cd_r h))))))))) (cd_l (cd_r (cd_l (cd_l (cd_r (cd_r (cd_l (cd_r h)))))))) (cd_l (cd_r (cd_r (cd_l (cd_l (cd_r (cd_r (cd_l (cd_r h))))))))) (fun j hj => ?_) (by decide)
  match j, hj with
    | 0, _ => exact va_eqt (cd_r (cd_r (cd_r (cd_l (cd_l (cd_r (cd_r (cd_l (cd_r h)))))))))
    | 1, _ => exact va_eqt (cd_l (cd_l (cd_r (cd_l (cd_r (cd_r (cd_l (cd_r h))))))))
    | 2, _ => exact va_eqt (cd_l (cd_r (cd_l (cd_r (cd_l (cd_r (cd_r (cd_l (cd_r h)))))))))
    | 3, _ => exact va_eqt (cd_r (cd_r (cd_l (cd_r (cd_l (cd_r (cd_r (cd_l (cd_r h)))))))))
    | 4, _ => exact va_eqt (cd_l (cd_l (cd_r (cd_r (cd_l (cd_r (cd_r (cd_l (cd_r h)))))))))
    | j + 5, hj => exact absurd hj (by simp)
theorem st_48 {G : gxG} (hK : gxK G) : ∃ sa, vk_R "PaidSecrets$Reader" 48 "on" sa G.2.1 ∧ SB G sa [111, 110] := by
  have h := cd_r hK.2.2.1
  refine st_of (by decide) (hK.1 _ q216) (cd_r (cd_l (cd_r (cd_r (cd_l (cd_r (cd_r (cd_l (cd_r h))))))))) (cd_l (cd_r (cd_r (cd_r (cd_l (cd_r (cd_r (cd_l (cd_r h))))))))) (cd_r (cd_r (cd_r (cd_r (cd_l (cd_r (cd_r (cd_l (cd_r h))))))))) (cd_l (cd_l (cd_l (cd_r (cd_r (cd_r (cd_l (cd_r h)))))))) (fun j hj => ?_) (by decide)
  match j, hj with
    | 0, _ => exact va_eqt (cd_l (cd_r (cd_l (cd_l (cd_r (cd_r (cd_r (cd_l (cd_r h)))))))))
    | 1, _ => exact va_eqt (cd_r (cd_r (cd_l (cd_l (cd_r (cd_r (cd_r (cd_l (cd_r h)))))))))
    | j + 2, hj => exact absurd hj (by simp)
theorem st_50 {G : gxG} (hK : gxK G) : ∃ sa, vk_R "PaidSecrets$Reader" 50 "by" sa G.2.1 ∧ SB G sa [98, 121] := by
  have h := cd_r hK.2.2.1
  refine st_of (by decide) (hK.1 _ q217) (cd_l (cd_r (cd_l (cd_r (cd_r (cd_r (cd_l (cd_r h)))))))) (cd_l (cd_r (cd_r (cd_l (cd_r (cd_r (cd_r (cd_l (cd_r h))))))))) (cd_r (cd_r (cd_r (cd_l (cd_r (cd_r (cd_r (cd_l (cd_r h))))))))) (cd_l (cd_l (cd_r (cd_r (cd_r (cd_r (cd_l (cd_r h)))))))) (fun j hj => ?_) (by decide)
  match j, hj with
    | 0, _ => exact va_eqt (cd_l (cd_r (cd_l (cd_r (cd_r (cd_r (cd_r (cd_l (cd_r h)))))))))
    | 1, _ => exact va_eqt (cd_r (cd_r (cd_l (cd_r (cd_r (cd_r (cd_r (cd_l (cd_r h)))))))))
    | j + 2, hj => exact absurd hj (by simp)
theorem st_52 {G : gxG} (hK : gxK G) : ∃ sa, vk_R "PaidSecrets$Reader" 52 "ear" sa G.2.1 ∧ SB G sa [101, 97, 114] := by
  have h := cd_r hK.2.2.1
  refine st_of (by decide) (hK.1 _ q218) (cd_l (cd_l (cd_r (cd_r (cd_r (cd_r (cd_r (cd_l (cd_r h))))))))) (cd_r (cd_l (cd_r (cd_r (cd_r (cd_r (cd_r (cd_l (cd_r h))))))))) (cd_l (cd_r (cd_r (cd_r (cd_r (cd_r (cd_r (cd_l (cd_r h))))))))) (cd_r (cd_r (cd_r (cd_r (cd_r (cd_r (cd_r (cd_l (cd_r h))))))))) (fun j hj => ?_) (by decide)
  match j, hj with
    | 0, _ => exact va_eqt (cd_l (cd_l (cd_l (cd_l (cd_l (cd_l (cd_r (cd_r h))))))))
    | 1, _ => exact va_eqt (cd_l (cd_r (cd_l (cd_l (cd_l (cd_l (cd_l (cd_r (cd_r h)))))))))
    | 2, _ => exact va_eqt (cd_r (cd_r (cd_l (cd_l (cd_l (cd_l (cd_l (cd_r (cd_r h)))))))))
    | j + 3, hj => exact absurd hj (by simp)
theorem st_54 {G : gxG} (hK : gxK G) : ∃ sa, vk_R "PaidSecrets$Reader" 54 "clash" sa G.2.1 ∧ SB G sa [99, 108, 97, 115, 104] := by
  have h := cd_r hK.2.2.1
  refine st_of (by decide) (hK.1 _ q219) (cd_l (cd_r (cd_l (cd_l (cd_l (cd_l (cd_r (cd_r h)))))))) (cd_l (cd_r (cd_r (cd_l (cd_l (cd_l (cd_l (cd_r (cd_r h))))))))) (cd_r (cd_r (cd_r (cd_l (cd_l (cd_l (cd_l (cd_r (cd_r h))))))))) (cd_l (cd_l (cd_r (cd_l (cd_l (cd_l (cd_r (cd_r h)))))))) (fun j hj => ?_) (by decide)
  match j, hj with
    | 0, _ => exact va_eqt (cd_l (cd_r (cd_l (cd_r (cd_l (cd_l (cd_l (cd_r (cd_r h)))))))))
    | 1, _ => exact va_eqt (cd_r (cd_r (cd_l (cd_r (cd_l (cd_l (cd_l (cd_r (cd_r h)))))))))
    | 2, _ => exact va_eqt (cd_l (cd_l (cd_r (cd_r (cd_l (cd_l (cd_l (cd_r (cd_r h)))))))))
    | 3, _ => exact va_eqt (cd_r (cd_l (cd_r (cd_r (cd_l (cd_l (cd_l (cd_r (cd_r h)))))))))
    | 4, _ => exact va_eqt (cd_l (cd_r (cd_r (cd_r (cd_l (cd_l (cd_l (cd_r (cd_r h)))))))))
    | j + 5, hj => exact absurd hj (by simp)
theorem st_56 {G : gxG} (hK : gxK G) : ∃ sa, vk_R "PaidSecrets$Reader" 56 "worth" sa G.2.1 ∧ SB G sa [119, 111, 114, 116, 104] := by
  have h := cd_r hK.2.2.1
  refine st_of (by decide) (hK.1 _ q220) (cd_r (cd_r (cd_r (cd_r (cd_l (cd_l (cd_l (cd_r (cd_r h))))))))) (cd_l (cd_l (cd_l (cd_r (cd_l (cd_l (cd_r (cd_r h)))))))) (cd_l (cd_r (cd_l (cd_l (cd_r (cd_l (cd_l (cd_r (cd_r h))))))))) (cd_r (cd_r (cd_l (cd_l (cd_r (cd_l (cd_l (cd_r (cd_r h))))))))) (fun j hj => ?_) (by decide)
  match j, hj with
    | 0, _ => exact va_eqt (cd_l (cd_r (cd_l (cd_r (cd_l (cd_l (cd_r (cd_r h))))))))
    | 1, _ => exact va_eqt (cd_l (cd_r (cd_r (cd_l (cd_r (cd_l (cd_l (cd_r (cd_r h)))))))))
    | 2, _ => exact va_eqt (cd_r (cd_r (cd_r (cd_l (cd_r (cd_l (cd_l (cd_r (cd_r h)))))))))
    | 3, _ => exact va_eqt (cd_l (cd_l (cd_r (cd_r (cd_l (cd_l (cd_r (cd_r h))))))))
    | 4, _ => exact va_eqt (cd_l (cd_r (cd_l (cd_r (cd_r (cd_l (cd_l (cd_r (cd_r h)))))))))
    | j + 5, hj => exact absurd hj (by simp)
theorem st_58 {G : gxG} (hK : gxK G) : ∃ sa, vk_R "PaidSecrets$Reader" 58 "tell" sa G.2.1 ∧ SB G sa [116, 101, 108, 108] := by
  have h := cd_r hK.2.2.1
  refine st_of (by decide) (hK.1 _ q221) (cd_r (cd_r (cd_l (cd_r (cd_r (cd_l (cd_l (cd_r (cd_r h))))))))) (cd_l (cd_l (cd_r (cd_r (cd_r (cd_l (cd_l (cd_r (cd_r h))))))))) (cd_r (cd_l (cd_r (cd_r (cd_r (cd_l (cd_l (cd_r (cd_r h))))))))) (cd_l (cd_r (cd_r (cd_r (cd_r (cd_l (cd_l (cd_r (cd_r h))))))))) (fun j hj => ?_) (by decide)
  match j, hj with
    | 0, _ => exact va_eqt (cd_r (cd_r (cd_r (cd_r (cd_r (cd_l (cd_l (cd_r (cd_r h)))))))))
    | 1, _ => exact va_eqt (cd_l (cd_l (cd_l (cd_l (cd_r (cd_l (cd_r (cd_r h))))))))
    | 2, _ => exact va_eqt (cd_l (cd_r (cd_l (cd_l (cd_l (cd_r (cd_l (cd_r (cd_r h)))))))))
    | 3, _ => exact va_eqt (cd_r (cd_r (cd_l (cd_l (cd_l (cd_r (cd_l (cd_r (cd_r h)))))))))
    | j + 4, hj => exact absurd hj (by simp)
theorem st_60 {G : gxG} (hK : gxK G) : ∃ sa, vk_R "PaidSecrets$Reader" 60 "pay" sa G.2.1 ∧ SB G sa [112, 97, 121] := by
  have h := cd_r hK.2.2.1
  refine st_of (by decide) (hK.1 _ q222) (cd_l (cd_r (cd_l (cd_l (cd_r (cd_l (cd_r (cd_r h)))))))) (cd_l (cd_r (cd_r (cd_l (cd_l (cd_r (cd_l (cd_r (cd_r h))))))))) (cd_r (cd_r (cd_r (cd_l (cd_l (cd_r (cd_l (cd_r (cd_r h))))))))) (cd_l (cd_l (cd_r (cd_l (cd_r (cd_l (cd_r (cd_r h)))))))) (fun j hj => ?_) (by decide)
  match j, hj with
    | 0, _ => exact va_eqt (cd_l (cd_r (cd_l (cd_r (cd_l (cd_r (cd_l (cd_r (cd_r h)))))))))
    | 1, _ => exact va_eqt (cd_r (cd_r (cd_l (cd_r (cd_l (cd_r (cd_l (cd_r (cd_r h)))))))))
    | 2, _ => exact va_eqt (cd_l (cd_l (cd_r (cd_r (cd_l (cd_r (cd_l (cd_r (cd_r h)))))))))
    | j + 3, hj => exact absurd hj (by simp)
theorem st_62 {G : gxG} (hK : gxK G) : ∃ sa, vk_R "PaidSecrets$Reader" 62 "rise" sa G.2.1 ∧ SB G sa [114, 105, 115, 101] := by
  have h := cd_r hK.2.2.1
  refine st_of (by decide) (hK.1 _ q223) (cd_r (cd_l (cd_r (cd_r (cd_l (cd_r (cd_l (cd_r (cd_r h))))))))) (cd_l (cd_r (cd_r (cd_r (cd_l (cd_r (cd_l (cd_r (cd_r h))))))))) (cd_r (cd_r (cd_r (cd_r (cd_l (cd_r (cd_l (cd_r (cd_r h))))))))) (cd_l (cd_l (cd_l (cd_r (cd_r (cd_l (cd_r (cd_r h)))))))) (fun j hj => ?_) (by decide)
  match j, hj with
    | 0, _ => exact va_eqt (cd_l (cd_r (cd_l (cd_l (cd_r (cd_r (cd_l (cd_r (cd_r h)))))))))
    | 1, _ => exact va_eqt (cd_r (cd_r (cd_l (cd_l (cd_r (cd_r (cd_l (cd_r (cd_r h)))))))))
    | 2, _ => exact va_eqt (cd_l (cd_r (cd_l (cd_r (cd_r (cd_l (cd_r (cd_r h))))))))
    | 3, _ => exact va_eqt (cd_l (cd_r (cd_r (cd_l (cd_r (cd_r (cd_l (cd_r (cd_r h)))))))))
    | j + 4, hj => exact absurd hj (by simp)
theorem st_64 {G : gxG} (hK : gxK G) : ∃ sa, vk_R "PaidSecrets$Reader" 64 "quarter" sa G.2.1 ∧ SB G sa [113, 117, 97, 114, 116, 101, 114] := by
  have h := cd_r hK.2.2.1
  refine st_of (by decide) (hK.1 _ q224) (cd_r (cd_r (cd_r (cd_l (cd_r (cd_r (cd_l (cd_r (cd_r h))))))))) (cd_l (cd_l (cd_r (cd_r (cd_r (cd_l (cd_r (cd_r h)))))))) (cd_l (cd_r (cd_l (cd_r (cd_r (cd_r (cd_l (cd_r (cd_r h))))))))) (cd_r (cd_r (cd_l (cd_r (cd_r (cd_r (cd_l (cd_r (cd_r h))))))))) (fun j hj => ?_) (by decide)
  match j, hj with
    | 0, _ => exact va_eqt (cd_l (cd_l (cd_r (cd_r (cd_r (cd_r (cd_l (cd_r (cd_r h)))))))))
    | 1, _ => exact va_eqt (cd_r (cd_l (cd_r (cd_r (cd_r (cd_r (cd_l (cd_r (cd_r h)))))))))
    | 2, _ => exact va_eqt (cd_l (cd_r (cd_r (cd_r (cd_r (cd_r (cd_l (cd_r (cd_r h)))))))))
    | 3, _ => exact va_eqt (cd_r (cd_r (cd_r (cd_r (cd_r (cd_r (cd_l (cd_r (cd_r h)))))))))
    | 4, _ => exact va_eqt (cd_l (cd_l (cd_l (cd_l (cd_l (cd_r (cd_r (cd_r h))))))))
    | 5, _ => exact va_eqt (cd_l (cd_r (cd_l (cd_l (cd_l (cd_l (cd_r (cd_r (cd_r h)))))))))
    | 6, _ => exact va_eqt (cd_r (cd_r (cd_l (cd_l (cd_l (cd_l (cd_r (cd_r (cd_r h)))))))))
    | j + 7, hj => exact absurd hj (by simp)
theorem st_66 {G : gxG} (hK : gxK G) : ∃ sa, vk_R "PaidSecrets$Reader" 66 "true" sa G.2.1 ∧ SB G sa [116, 114, 117, 101] := by
  have h := cd_r hK.2.2.1
  refine st_of (by decide) (hK.1 _ q225) (cd_l (cd_r (cd_l (cd_l (cd_l (cd_r (cd_r (cd_r h)))))))) (cd_l (cd_r (cd_r (cd_l (cd_l (cd_l (cd_r (cd_r (cd_r h))))))))) (cd_r (cd_r (cd_r (cd_l (cd_l (cd_l (cd_r (cd_r (cd_r h))))))))) (cd_l (cd_l (cd_r (cd_l (cd_l (cd_r (cd_r (cd_r h)))))))) (fun j hj => ?_) (by decide)
  match j, hj with
    | 0, _ => exact va_eqt (cd_l (cd_r (cd_l (cd_r (cd_l (cd_l (cd_r (cd_r (cd_r h)))))))))
    | 1, _ => exact va_eqt (cd_r (cd_r (cd_l (cd_r (cd_l (cd_l (cd_r (cd_r (cd_r h)))))))))
    | 2, _ => exact va_eqt (cd_l (cd_l (cd_r (cd_r (cd_l (cd_l (cd_r (cd_r (cd_r h)))))))))
    | 3, _ => exact va_eqt (cd_r (cd_l (cd_r (cd_r (cd_l (cd_l (cd_r (cd_r (cd_r h)))))))))
    | j + 4, hj => exact absurd hj (by simp)
theorem st_68 {G : gxG} (hK : gxK G) : ∃ sa, vk_R "PaidSecrets$Reader" 68 "false" sa G.2.1 ∧ SB G sa [102, 97, 108, 115, 101] := by
  have h := cd_r hK.2.2.1
  refine st_of (by decide) (hK.1 _ q226) (cd_l (cd_r (cd_r (cd_r (cd_l (cd_l (cd_r (cd_r (cd_r h))))))))) (cd_r (cd_r (cd_r (cd_r (cd_l (cd_l (cd_r (cd_r (cd_r h))))))))) (cd_l (cd_l (cd_l (cd_r (cd_l (cd_r (cd_r (cd_r h)))))))) (cd_l (cd_r (cd_l (cd_l (cd_r (cd_l (cd_r (cd_r (cd_r h))))))))) (fun j hj => ?_) (by decide)
  match j, hj with
    | 0, _ => exact va_eqt (cd_r (cd_r (cd_l (cd_l (cd_r (cd_l (cd_r (cd_r (cd_r h)))))))))
    | 1, _ => exact va_eqt (cd_l (cd_r (cd_l (cd_r (cd_l (cd_r (cd_r (cd_r h))))))))
    | 2, _ => exact va_eqt (cd_l (cd_r (cd_r (cd_l (cd_r (cd_l (cd_r (cd_r (cd_r h)))))))))
    | 3, _ => exact va_eqt (cd_r (cd_r (cd_r (cd_l (cd_r (cd_l (cd_r (cd_r (cd_r h)))))))))
    | 4, _ => exact va_eqt (cd_l (cd_l (cd_r (cd_r (cd_l (cd_r (cd_r (cd_r h))))))))
    | j + 5, hj => exact absurd hj (by simp)
theorem st_70 {G : gxG} (hK : gxK G) : ∃ sa, vk_R "PaidSecrets$Reader" 70 "not" sa G.2.1 ∧ SB G sa [110, 111, 116] := by
  have h := cd_r hK.2.2.1
  refine st_of (by decide) (hK.1 _ q227) (cd_l (cd_r (cd_l (cd_r (cd_r (cd_l (cd_r (cd_r (cd_r h))))))))) (cd_r (cd_r (cd_l (cd_r (cd_r (cd_l (cd_r (cd_r (cd_r h))))))))) (cd_l (cd_l (cd_r (cd_r (cd_r (cd_l (cd_r (cd_r (cd_r h))))))))) (cd_r (cd_l (cd_r (cd_r (cd_r (cd_l (cd_r (cd_r (cd_r h))))))))) (fun j hj => ?_) (by decide)
  match j, hj with
    | 0, _ => exact va_eqt (cd_l (cd_r (cd_r (cd_r (cd_r (cd_l (cd_r (cd_r (cd_r h)))))))))
    | 1, _ => exact va_eqt (cd_r (cd_r (cd_r (cd_r (cd_r (cd_l (cd_r (cd_r (cd_r h)))))))))
    | 2, _ => exact va_eqt (cd_l (cd_l (cd_l (cd_l (cd_r (cd_r (cd_r (cd_r h))))))))
    | j + 3, hj => exact absurd hj (by simp)
theorem st_72 {G : gxG} (hK : gxK G) : ∃ sa, vk_R "PaidSecrets$Reader" 72 "and" sa G.2.1 ∧ SB G sa [97, 110, 100] := by
  have h := cd_r hK.2.2.1
  refine st_of (by decide) (hK.1 _ q228) (cd_l (cd_r (cd_l (cd_l (cd_l (cd_r (cd_r (cd_r (cd_r h))))))))) (cd_r (cd_r (cd_l (cd_l (cd_l (cd_r (cd_r (cd_r (cd_r h))))))))) (cd_l (cd_r (cd_l (cd_l (cd_r (cd_r (cd_r (cd_r h)))))))) (cd_l (cd_r (cd_r (cd_l (cd_l (cd_r (cd_r (cd_r (cd_r h))))))))) (fun j hj => ?_) (by decide)
  match j, hj with
    | 0, _ => exact va_eqt (cd_r (cd_r (cd_r (cd_l (cd_l (cd_r (cd_r (cd_r (cd_r h)))))))))
    | 1, _ => exact va_eqt (cd_l (cd_l (cd_r (cd_l (cd_r (cd_r (cd_r (cd_r h))))))))
    | 2, _ => exact va_eqt (cd_l (cd_r (cd_l (cd_r (cd_l (cd_r (cd_r (cd_r (cd_r h)))))))))
    | j + 3, hj => exact absurd hj (by simp)
theorem st_74 {G : gxG} (hK : gxK G) : ∃ sa, vk_R "PaidSecrets$Reader" 74 "or" sa G.2.1 ∧ SB G sa [111, 114] := by
  have h := cd_r hK.2.2.1
  refine st_of (by decide) (hK.1 _ q229) (cd_r (cd_r (cd_l (cd_r (cd_l (cd_r (cd_r (cd_r (cd_r h))))))))) (cd_l (cd_l (cd_r (cd_r (cd_l (cd_r (cd_r (cd_r (cd_r h))))))))) (cd_r (cd_l (cd_r (cd_r (cd_l (cd_r (cd_r (cd_r (cd_r h))))))))) (cd_l (cd_r (cd_r (cd_r (cd_l (cd_r (cd_r (cd_r (cd_r h))))))))) (fun j hj => ?_) (by decide)
  match j, hj with
    | 0, _ => exact va_eqt (cd_r (cd_r (cd_r (cd_r (cd_l (cd_r (cd_r (cd_r (cd_r h)))))))))
    | 1, _ => exact va_eqt (cd_l (cd_l (cd_l (cd_r (cd_r (cd_r (cd_r (cd_r h))))))))
    | j + 2, hj => exact absurd hj (by simp)
theorem st_126 {G : gxG} (hK : gxK G) : ∃ sa, vk_R "PaidSecrets$Reader" 126 "()<=+-*;" sa G.2.1 ∧ SB G sa [40, 41, 60, 61, 43, 45, 42, 59] := by
  have h := cd_r hK.2.2.1
  refine st_of (by decide) (hK.1 _ q612) (cd_l (cd_r (cd_l (cd_l (cd_r (cd_r (cd_r (cd_r (cd_r h))))))))) (cd_r (cd_r (cd_l (cd_l (cd_r (cd_r (cd_r (cd_r (cd_r h))))))))) (cd_l (cd_r (cd_l (cd_r (cd_r (cd_r (cd_r (cd_r h)))))))) (cd_l (cd_r (cd_r (cd_l (cd_r (cd_r (cd_r (cd_r (cd_r h))))))))) (fun j hj => ?_) (by decide)
  match j, hj with
    | 0, _ => exact va_eqt (cd_r (cd_r (cd_r (cd_l (cd_r (cd_r (cd_r (cd_r (cd_r h)))))))))
    | 1, _ => exact va_eqt (cd_l (cd_l (cd_r (cd_r (cd_r (cd_r (cd_r (cd_r h))))))))
    | 2, _ => exact va_eqt (cd_l (cd_r (cd_l (cd_r (cd_r (cd_r (cd_r (cd_r (cd_r h)))))))))
    | 3, _ => exact va_eqt (cd_r (cd_r (cd_l (cd_r (cd_r (cd_r (cd_r (cd_r (cd_r h)))))))))
    | 4, _ => exact va_eqt (cd_l (cd_l (cd_r (cd_r (cd_r (cd_r (cd_r (cd_r (cd_r h)))))))))
    | 5, _ => exact va_eqt (cd_r (cd_l (cd_r (cd_r (cd_r (cd_r (cd_r (cd_r (cd_r h)))))))))
    | 6, _ => exact va_eqt (cd_l (cd_r (cd_r (cd_r (cd_r (cd_r (cd_r (cd_r (cd_r h)))))))))
    | 7, _ => exact va_eqt (cd_r (cd_r (cd_r (cd_r (cd_r (cd_r (cd_r (cd_r (cd_r h)))))))))
    | j + 8, hj => exact absurd hj (by simp)
theorem nw_cs {G : gxG} (hK : gxK G) : gZ G "java/lang/String" "COMPACT_STRINGS" "Z" (.int 1) := by
  have h := cd_r hK.2.2.1
  exact va_Zof (hK.1 _ q626) (hK.1 _ (lw_all_tbl q144)) (va_eqi (cd_r (cd_r (cd_r (cd_r (cd_l (cd_l (cd_l (cd_l (cd_l h)))))))))) nw_old
theorem nw_sf {G : gxG} (hK : gxK G) : ∃ u : RefV, gZ G "jdk/internal/util/Preconditions" "SIOOBE_FORMATTER" "Ljava/util/function/BiFunction;" u.v := by
  have h := cd_r hK.2.2.1
  exact gz_q hK q669 q138 (cd_l (cd_l (cd_l (cd_r (cd_l (cd_l (cd_l (cd_l h))))))))
theorem bxL {v : Int64} (l1 : ¬ v < -128) (l2 : ¬ 127 < v) : ∃ j, j < 256 ∧ v.toInt32 + 128 = nI j ∧ v = (vb_c j).toInt64 := by
  have h1 : (-128 : Int) ≤ v.toInt := by
    have := Int64.le_iff_toInt_le.mp (Int64.not_lt.mp l1)
    exact this
  have h2 : v.toInt ≤ 127 := by
    have := Int64.le_iff_toInt_le.mp (Int64.not_lt.mp l2)
    exact this
  have k1 : ∀ j, j < 256 → ((vb_c j).toInt64).toInt = (j : Int) - 128 := by decide +kernel
  have k2 : ∀ j, j < 256 → ((vb_c j).toInt64).toInt32 + 128 = nI j := by decide +kernel
  have e : v = (vb_c (v.toInt + 128).toNat).toInt64 := by
    apply Int64.toInt_inj.mp
    rw [k1 _ (by omega)]
    omega
  exact ⟨(v.toInt + 128).toNat, by omega, by rw [← k2 _ (by omega), ← e], e⟩
section AH
variable {G : gxG} {d : Nat} {h : gxH} {sa : Nat} {bs : List Nat}
theorem c_Scoder (hS : SB G sa bs) : gxM G mJ5_coder d 0 0 [.ref sa] h (gxQi (fun r h' => r = 0 ∧ h' = h)) := by
  refine gxM_K (fun hK => ?_)
  refine gxM_ofF (by decide +kernel) (Nat.le_of_ble_eq_true rfl) rfl ?_
  refine gx_gets (pc := 0) (nw_cs hK) q625 dJ5_coder_0 ?_
  refine gx_if_eq (pc := 3) 13 dJ5_coder_3 (by decide) (fun c1 => ?_) (fun c1 => ?_)
  · exact absurd c1 (by decide)
  · refine gx_aload_n (pc := 6) dJ5_coder_6 rfl ?_
    refine gx_getO (pc := 7) hS.2.1 (by exact q2580) dJ5_coder_7 ?_
    refine gx_goto (pc := 10) 14 dJ5_coder_10 (by decide) ?_
    exact gx_nreturn (pc := 14) (rt := .byte) rfl rfl dJ5_coder_14 ⟨_, rfl, rfl, rfl⟩
theorem c_SisLatin1 (hS : SB G sa bs) : gxM G mJ5_isLatin1 d 0 0 [.ref sa] h (gxQi (fun r h' => r = 1 ∧ h' = h)) := by
  refine gxM_K (fun hK => ?_)
  refine gxM_ofF (by decide +kernel) (Nat.le_of_ble_eq_true rfl) rfl ?_
  refine gx_gets (pc := 0) (nw_cs hK) q625 dJ5_isLatin1_0 ?_
  refine gx_if_eq (pc := 3) 17 dJ5_isLatin1_3 (by decide) (fun c1 => ?_) (fun c1 => ?_)
  · exact absurd c1 (by decide)
  · refine gx_aload_n (pc := 6) dJ5_isLatin1_6 rfl ?_
    refine gx_getO (pc := 7) hS.2.1 (by exact q2580) dJ5_isLatin1_7 ?_
    refine gx_if_ne (pc := 10) 17 dJ5_isLatin1_10 (by decide) (fun c2 => ?_) (fun c2 => ?_)
    · exact absurd rfl c2
    · refine gx_iconst (pc := 13) (v := 1) dJ5_isLatin1_13 (by decide) ?_
      refine gx_goto (pc := 14) 18 dJ5_isLatin1_14 (by decide) ?_
      exact gx_zreturn (pc := 18) rfl (by decide) dJ5_isLatin1_18 (⟨_, rfl, ⟨rfl, rfl⟩⟩)
theorem c_Slength (hd : 1 ≤ d) (hS : SB G sa bs) : gxM G mJ5_length d 0 0 [.ref sa] h (gxQi (fun r h' => r = nI bs.length ∧ h' = h)) := by
  have hS0 := hS
  obtain ⟨s1, s2, s3, s4, va, s5, s6⟩ := hS
  refine gxM_ofF (by decide +kernel) (Nat.le_of_ble_eq_true rfl) rfl ?_
  refine gx_aload_n (pc := 0) dJ5_length_0 rfl ?_
  refine gx_getO (pc := 1) s5 (by exact q2581) dJ5_length_1 ?_
  refine gx_alenO (pc := 4) s6 dJ5_length_4 ?_
  refine gx_aload_n (pc := 5) dJ5_length_5 rfl ?_
  refine kJ5_335 (kc := 0) (ks := 0) (mc := 0) (ms := 0) (pc := 6) rfl (c_Scoder (d := d - 1) hS0) (gxRc.ofO hS0.1) (by omega) (Nat.le_of_ble_eq_true rfl) dJ5_length_6 (fun r1 h1 e1 => ?_)
  obtain ⟨rfl, e1⟩ := e1
  subst h1
  refine gx_ishr (pc := 9) dJ5_length_9 ?_
  exact gx_ireturn (pc := 10) rfl dJ5_length_10 (⟨_, rfl, ⟨sc_shr0 s3, rfl⟩⟩)
theorem c_checkIndexV {k n : Nat} {u : Value} (hu : u.isRef = true) (hk : k < n) (hn : n < 2 ^ 31) : gxM G mJ4_checkIndex d 0 0 [.int (nI k), .int (nI n), u] h (gxQi (fun r h' => h' = h)) := by
  cases u with
  | null => exact c_checkIndex4 hk hn
  | ref a =>
    refine gxM_ofF (by decide +kernel) (Nat.le_of_ble_eq_true rfl) rfl ?_
    refine gx_iload_n (pc := 0) dJ4_checkIndex_0 rfl ?_
    refine gx_if_lt (pc := 1) 9 dJ4_checkIndex_1 (by decide) (fun c1 => ?_) (fun c1 => ?_)
    · exact absurd c1 (nI_pos (by omega))
    · refine gx_iload_n (pc := 4) dJ4_checkIndex_4 rfl ?_
      refine gx_iload_n (pc := 5) dJ4_checkIndex_5 rfl ?_
      refine gx_icmp_lt (pc := 6) 16 dJ4_checkIndex_6 (by decide) (fun c2 => ?_) (fun c2 => ?_)
      · refine gx_iload_n (pc := 16) dJ4_checkIndex_16 rfl ?_
        exact gx_ireturn (pc := 17) rfl dJ4_checkIndex_17 (⟨_, rfl, rfl⟩)
      · exact absurd (nI_lt hk hn) c2
  | _ => cases hu
theorem c_ScheckIndex {k n : Nat} (hd : 1 ≤ d) (hk : k < n) (hn : n < 2 ^ 31) : gxM G mJ5_checkIndex d 0 0 [.int (nI k), .int (nI n)] h (gxQv (fun h' => h' = h)) := by
  refine gxM_K (fun hK => ?_)
  obtain ⟨u, hu⟩ := nw_sf hK
  refine gxM_ofF (by decide +kernel) (Nat.le_of_ble_eq_true rfl) rfl ?_
  refine gx_iload_n (pc := 0) dJ5_checkIndex_0 rfl ?_
  refine gx_iload_n (pc := 1) dJ5_checkIndex_1 rfl ?_
  refine gx_gets (pc := 2) hu q668 dJ5_checkIndex_2 ?_
  refine kJ5_1059 (kc := 0) (ks := 0) (mc := 0) (ms := 0) (pc := 5) rfl (c_checkIndexV (d := d - 1) u.ok hk hn) (by omega) (Nat.le_of_ble_eq_true rfl) dJ5_checkIndex_5 (fun r1 h1 e1 => ?_)
  subst h1
  refine gx_pop (pc := 8) dJ5_checkIndex_8 rfl ?_
  exact gx_return (pc := 9) rfl dJ5_checkIndex_9 (⟨rfl, rfl⟩)
theorem c_LcharAt (hd : 2 ≤ d) {va k : Nat} (hb : ∀ b ∈ bs, b < 128) (hlen : bs.length < 2 ^ 31) (hT : gTa G .byte va bs.length (fun j => .int (nI (bs.getD j 0)))) (hk : k < bs.length) : gxM G mJ6_charAt d 0 0 [.ref va, .int (nI k)] h (gxQi (fun r h' => r = nI (bs.getD k 0) ∧ h' = h)) := by
  have hlt : bs.getD k 0 < 128 := by
    rw [List.getD_eq_getElem?_getD, List.getElem?_eq_getElem hk]
    exact hb _ (List.getElem_mem hk)
  refine gxM_ofF (by decide +kernel) (Nat.le_of_ble_eq_true rfl) rfl ?_
  refine gx_iload_n (pc := 0) dJ6_charAt_0 rfl ?_
  refine gx_aload_n (pc := 1) dJ6_charAt_1 rfl ?_
  refine gx_alenO (pc := 2) hT dJ6_charAt_2 ?_
  refine kJ6_9 (kc := 0) (ks := 0) (mc := 0) (ms := 0) (pc := 3) rfl (c_ScheckIndex (d := d - 1) (by omega) hk hlen) (by omega) (Nat.le_of_ble_eq_true rfl) dJ6_charAt_3 (fun h1 e1 => ?_)
  subst h1
  refine gx_aload_n (pc := 6) dJ6_charAt_6 rfl ?_
  refine gx_iload_n (pc := 7) dJ6_charAt_7 rfl ?_
  refine gx_baldO (pc := 8) k hT rfl hk hlen dJ6_charAt_8 ?_
  refine gx_sipush (pc := 9) (v := 255) dJ6_charAt_9 (by decide) ?_
  refine gx_iand (pc := 12) dJ6_charAt_12 ?_
  refine gx_i2c (pc := 13) dJ6_charAt_13 ?_
  have e1 : nI (bs.getD k 0) &&& 255 = nI (bs.getD k 0) := by
    rw [pk_andN (k := 8) (by omega) (by decide)]
    rw [Nat.mod_eq_of_lt (by omega)]
  have e2 : ((nI (bs.getD k 0) &&& 255).toUInt32 % 65536).toInt32 = nI (bs.getD k 0) := by
    rw [sc_c2, e1]
  rw [e2]
  exact gx_nreturn (pc := 14) (rt := .char) rfl (pk_charN (by omega)).1 dJ6_charAt_14 ⟨_, rfl, rfl, rfl⟩
theorem c_ScharAt (hd : 3 ≤ d) (hS : SB G sa bs) {k : Nat} (hk : k < bs.length) : gxM G mJ5_charAt d 0 0 [.ref sa, .int (nI k)] h (gxQi (fun r h' => r = nI (bs.getD k 0) ∧ h' = h)) := by
  have hlt : bs.getD k 0 < 128 := by
    rw [List.getD_eq_getElem?_getD, List.getElem?_eq_getElem hk]
    exact hS.2.2.2.1 _ (List.getElem_mem hk)
  have hS0 := hS
  obtain ⟨s1, s2, s3, s4, va, s5, s6⟩ := hS
  refine gxM_ofF (by decide +kernel) (Nat.le_of_ble_eq_true rfl) rfl ?_
  refine gx_aload_n (pc := 0) dJ5_charAt_0 rfl ?_
  refine kJ5_492 (kc := 0) (ks := 0) (mc := 0) (ms := 0) (pc := 1) rfl (c_SisLatin1 (d := d - 1) hS0) (gxRc.ofO hS0.1) (by omega) (Nat.le_of_ble_eq_true rfl) dJ5_charAt_1 (fun r1 h1 e1 => ?_)
  obtain ⟨rfl, e1⟩ := e1
  subst h1
  refine gx_if_eq (pc := 4) 16 dJ5_charAt_4 (by decide) (fun c1 => ?_) (fun c1 => ?_)
  · exact absurd c1 (by decide)
  · refine gx_aload_n (pc := 7) dJ5_charAt_7 rfl ?_
    refine gx_getO (pc := 8) s5 (by exact q2581) dJ5_charAt_8 ?_
    refine gx_iload_n (pc := 11) dJ5_charAt_11 rfl ?_
    refine kJ5_495 (kc := 0) (ks := 0) (mc := 0) (ms := 0) (pc := 12) rfl (c_LcharAt (d := d - 1) (by omega) s4 s3 s6 hk) (by omega) (Nat.le_of_ble_eq_true rfl) dJ5_charAt_12 (fun r1 h1 e1 => ?_)
    obtain ⟨rfl, e1⟩ := e1
    subst h1
    exact gx_nreturn (pc := 15) (rt := .char) rfl (pk_charN (by omega)).1 dJ5_charAt_15 ⟨_, rfl, rfl, rfl⟩
/-- where a letter stands first -/
def ixF (c : Nat) : List Nat → Nat → Option Nat
  | [], _ => none
  | b :: l, k => if b = c then some k else ixF c l (k + 1)
def oJ (x : Option Nat) : Int32 := match x with
  | none => -1
  | some k => nI k
theorem c_LindexOfChar {va c : Nat} (hc : c < 128) (hb : ∀ b ∈ bs, b < 128) (hlen : bs.length < 2 ^ 31) (hT : gTa G .byte va bs.length (fun j => .int (nI (bs.getD j 0)))) : gxM G mJ6_indexOfChar d 0 0 [.ref va, .int (nI c), .int (nI 0), .int (nI bs.length)] h (gxQi (fun r h' => r = oJ (ixF c bs 0) ∧ h' = h)) := by
  refine gxM_ofF (by decide +kernel) (Nat.le_of_ble_eq_true rfl) rfl ?_
  have e8 : (nI c).toInt8.toInt32 = nI c := by
    have : ∀ c, c < 128 → (nI c).toInt8.toInt32 = nI c := by decide +kernel
    exact this c hc
  have Lp : ∀ l k, bs.drop k = l → k ≤ bs.length → ixF c bs 0 = ixF c l k → gxV G mJ6_indexOfChar d 0 0 7 [some (.ref va), some (.int (nI c)), some (.int (nI 0)), some (.int (nI bs.length)), some (.int (nI c)), some (.int (nI k))] [] h (gxQi (fun r h' => r = oJ (ixF c bs 0) ∧ h' = h)) := by
    intro l
    induction l with
    | nil =>
      intro k hk hk2 hx
      have : bs.length = k := by
        have := congrArg List.length hk
        rw [List.length_drop] at this
        simp at this; omega
      refine gx_iload (pc := 7) dJ6_indexOfChar_7 rfl ?_
      refine gx_iload_n (pc := 9) dJ6_indexOfChar_9 rfl ?_
      refine gx_icmp_ge (pc := 10) 31 dJ6_indexOfChar_10 (by decide) (fun c1 => ?_) (fun c1 => ?_)
      · refine gx_iconst (pc := 31) (v := (-1)) dJ6_indexOfChar_31 (by decide) ?_
        exact gx_ireturn (pc := 32) rfl dJ6_indexOfChar_32 (⟨_, rfl, ⟨by rw [hx]; rfl, rfl⟩⟩)
      · exact absurd (nI_le (by omega) (by omega)) c1
    | cons b l ih =>
      intro k hk hk2 hx
      have hkl : k < bs.length := by
        have := congrArg List.length hk
        rw [List.length_drop] at this
        simp at this; omega
      have hbk : bs.getD k 0 = b := by
        have := congrArg (fun z => z[0]?) hk
        rw [List.getD_eq_getElem?_getD]
        simp only [List.getElem?_drop, Nat.add_zero, List.getElem?_cons_zero] at this
        rw [this]; rfl
      have hb128 : b < 128 := hb b (List.mem_of_mem_drop (i := k) (by rw [hk]; exact List.mem_cons_self))
      refine gx_iload (pc := 7) dJ6_indexOfChar_7 rfl ?_
      refine gx_iload_n (pc := 9) dJ6_indexOfChar_9 rfl ?_
      refine gx_icmp_ge (pc := 10) 31 dJ6_indexOfChar_10 (by decide) (fun c1 => ?_) (fun c1 => ?_)
      · exact absurd c1 (nI_ge hkl hlen)
      · refine gx_aload_n (pc := 13) dJ6_indexOfChar_13 rfl ?_
        refine gx_iload (pc := 14) dJ6_indexOfChar_14 rfl ?_
        refine gx_baldO (pc := 16) k hT rfl hkl hlen dJ6_indexOfChar_16 ?_
        rw [hbk]
        refine gx_iload (pc := 17) dJ6_indexOfChar_17 rfl ?_
        refine gx_icmp_ne (pc := 19) 25 dJ6_indexOfChar_19 (by decide) (fun c2 => ?_) (fun c2 => ?_)
        · have hne : ¬ b = c := fun e => c2 (by rw [e])
          refine gx_iincc (pc := 25) (c := 1) dJ6_indexOfChar_25 rfl (by decide) (by decide) rfl ?_
          refine gx_goto (pc := 28) 7 dJ6_indexOfChar_28 (by decide) ?_
          rw [nI_1]
          exact ih (k + 1) (by rw [← List.drop_drop, hk]; rfl) (by omega) (by rw [hx, ixF, if_neg hne])
        · have he : b = c := (nI_eq (by omega) (by omega)).mp c2
          refine gx_iload (pc := 22) dJ6_indexOfChar_22 rfl ?_
          exact gx_ireturn (pc := 24) rfl dJ6_indexOfChar_24 (⟨_, rfl, ⟨by rw [hx, ixF, if_pos he]; rfl, rfl⟩⟩)
  refine gx_iload_n (pc := 0) dJ6_indexOfChar_0 rfl ?_
  refine gx_i2b (pc := 1) dJ6_indexOfChar_1 ?_
  rw [e8]
  refine gx_istore (pc := 2) dJ6_indexOfChar_2 (by decide) rfl ?_
  refine gx_iload_n (pc := 4) dJ6_indexOfChar_4 rfl ?_
  refine gx_istore (pc := 5) dJ6_indexOfChar_5 (by decide) rfl ?_
  exact Lp bs 0 rfl (by omega) rfl
theorem c_LcanEncode {c : Nat} (hc : c < 128) : gxM G mJ6_canEncode d 0 0 [.int (nI c)] h (gxQi (fun r h' => r = 1 ∧ h' = h)) := by
  refine gxM_ofF (by decide +kernel) (Nat.le_of_ble_eq_true rfl) rfl ?_
  refine gx_iload_n (pc := 0) dJ6_canEncode_0 rfl ?_
  refine gx_if_lt (pc := 1) 15 dJ6_canEncode_1 (by decide) (fun c1 => ?_) (fun c1 => ?_)
  · exact absurd c1 (nI_pos (by omega))
  · refine gx_iload_n (pc := 4) dJ6_canEncode_4 rfl ?_
    refine gx_sipush (pc := 5) (v := 255) dJ6_canEncode_5 (by decide) ?_
    refine gx_icmp_gt (pc := 8) 15 dJ6_canEncode_8 (by decide) (fun c2 => ?_) (fun c2 => ?_)
    · exact absurd c2 (nI_nlt (a := 255) (by omega) (by decide))
    · refine gx_iconst (pc := 11) (v := 1) dJ6_canEncode_11 (by decide) ?_
      refine gx_goto (pc := 12) 16 dJ6_canEncode_12 (by decide) ?_
      exact gx_zreturn (pc := 16) rfl (by decide) dJ6_canEncode_16 (⟨_, rfl, ⟨rfl, rfl⟩⟩)
theorem c_LindexOf (hd : 1 ≤ d) {va c : Nat} (h0 : 0 < bs.length) (hc : c < 128) (hb : ∀ b ∈ bs, b < 128) (hlen : bs.length < 2 ^ 31) (hT : gTa G .byte va bs.length (fun j => .int (nI (bs.getD j 0)))) : gxM G mJ6_indexOf d 0 0 [.ref va, .int (nI c), .int (nI 0), .int (nI bs.length)] h (gxQi (fun r h' => r = oJ (ixF c bs 0) ∧ h' = h)) := by
  refine gxM_ofF (by decide +kernel) (Nat.le_of_ble_eq_true rfl) rfl ?_
  refine gx_iload_n (pc := 0) dJ6_indexOf_0 rfl ?_
  refine kJ6_88 (kc := 0) (ks := 0) (mc := 0) (ms := 0) (pc := 1) rfl (c_LcanEncode (d := d - 1) hc) (by omega) (Nat.le_of_ble_eq_true rfl) dJ6_indexOf_1 (fun r1 h1 e1 => ?_)
  obtain ⟨rfl, e1⟩ := e1
  subst h1
  refine gx_if_ne (pc := 4) 9 dJ6_indexOf_4 (by decide) (fun c1 => ?_) (fun c1 => ?_)
  · refine gx_iload_n (pc := 9) dJ6_indexOf_9 rfl ?_
    refine gx_iconst (pc := 10) (v := 0) dJ6_indexOf_10 (by decide) ?_
    refine kJ6_92 (kc := 0) (ks := 0) (mc := 0) (ms := 0) (pc := 11) rfl (c_Jmax (d := d - 1) (nI 0) 0) (by omega) (Nat.le_of_ble_eq_true rfl) dJ6_indexOf_11 (fun r1 h1 e1 => ?_)
    obtain ⟨rfl, e1⟩ := e1
    subst h1
    rw [if_neg (by decide)]
    refine gx_istore_n (pc := 14) dJ6_indexOf_14 (by decide) rfl ?_
    refine gx_iload_n (pc := 15) dJ6_indexOf_15 rfl ?_
    refine gx_aload_n (pc := 16) dJ6_indexOf_16 rfl ?_
    refine gx_alenO (pc := 17) hT dJ6_indexOf_17 ?_
    refine kJ6_38 (kc := 0) (ks := 0) (mc := 0) (ms := 0) (pc := 18) rfl (c_Jmin (d := d - 1) (nI bs.length) (nI bs.length)) (by omega) (Nat.le_of_ble_eq_true rfl) dJ6_indexOf_18 (fun r1 h1 e1 => ?_)
    obtain ⟨rfl, e1⟩ := e1
    subst h1
    rw [if_neg (Int32.lt_irrefl)]
    refine gx_istore_n (pc := 21) dJ6_indexOf_21 (by decide) rfl ?_
    refine gx_iload_n (pc := 22) dJ6_indexOf_22 rfl ?_
    refine gx_iload_n (pc := 23) dJ6_indexOf_23 rfl ?_
    refine gx_icmp_lt (pc := 24) 29 dJ6_indexOf_24 (by decide) (fun c2 => ?_) (fun c2 => ?_)
    · refine gx_aload_n (pc := 29) dJ6_indexOf_29 rfl ?_
      refine gx_iload_n (pc := 30) dJ6_indexOf_30 rfl ?_
      refine gx_iload_n (pc := 31) dJ6_indexOf_31 rfl ?_
      refine gx_iload_n (pc := 32) dJ6_indexOf_32 rfl ?_
      refine kJ6_95 (kc := 0) (ks := 0) (mc := 0) (ms := 0) (pc := 33) rfl (c_LindexOfChar (d := d - 1) hc hb hlen hT) (by omega) (Nat.le_of_ble_eq_true rfl) dJ6_indexOf_33 (fun r1 h1 e1 => ?_)
      obtain ⟨rfl, e1⟩ := e1
      subst h1
      exact gx_ireturn (pc := 36) rfl dJ6_indexOf_36 (⟨_, rfl, ⟨rfl, rfl⟩⟩)
    · exact absurd (nI_lt h0 hlen) c2
  · exact absurd c1 (by decide)
theorem c_SindexOf2 (hd : 2 ≤ d) (hS : SB G sa bs) {c : Nat} (h0 : 0 < bs.length) (hc : c < 128) : gxM G mJ5_indexOf_2 d 0 0 [.ref sa, .int (nI c), .int (nI 0)] h (gxQi (fun r h' => r = oJ (ixF c bs 0) ∧ h' = h)) := by
  have hS0 := hS
  obtain ⟨s1, s2, s3, s4, va, s5, s6⟩ := hS
  refine gxM_ofF (by decide +kernel) (Nat.le_of_ble_eq_true rfl) rfl ?_
  refine gx_aload_n (pc := 0) dJ5_indexOf_2_0 rfl ?_
  refine kJ5_492 (kc := 0) (ks := 0) (mc := 0) (ms := 0) (pc := 1) rfl (c_SisLatin1 (d := d - 1) hS0) (gxRc.ofO hS0.1) (by omega) (Nat.le_of_ble_eq_true rfl) dJ5_indexOf_2_1 (fun r1 h1 e1 => ?_)
  obtain ⟨rfl, e1⟩ := e1
  subst h1
  refine gx_if_eq (pc := 4) 23 dJ5_indexOf_2_4 (by decide) (fun c1 => ?_) (fun c1 => ?_)
  · exact absurd c1 (by decide)
  · refine gx_aload_n (pc := 7) dJ5_indexOf_2_7 rfl ?_
    refine gx_getO (pc := 8) s5 (by exact q2581) dJ5_indexOf_2_8 ?_
    refine gx_iload_n (pc := 11) dJ5_indexOf_2_11 rfl ?_
    refine gx_iload_n (pc := 12) dJ5_indexOf_2_12 rfl ?_
    refine gx_aload_n (pc := 13) dJ5_indexOf_2_13 rfl ?_
    refine kJ5_505 (kc := 0) (ks := 0) (mc := 0) (ms := 0) (pc := 14) rfl (c_Slength (d := d - 1) (by omega) hS0) (gxRc.ofO hS0.1) (by omega) (Nat.le_of_ble_eq_true rfl) dJ5_indexOf_2_14 (fun r1 h1 e1 => ?_)
    obtain ⟨rfl, e1⟩ := e1
    subst h1
    refine kJ5_637 (kc := 0) (ks := 0) (mc := 0) (ms := 0) (pc := 17) rfl (c_LindexOf (d := d - 1) (by omega) h0 hc s4 s3 s6) (by omega) (Nat.le_of_ble_eq_true rfl) dJ5_indexOf_2_17 (fun r1 h1 e1 => ?_)
    obtain ⟨rfl, e1⟩ := e1
    subst h1
    refine gx_goto (pc := 20) 36 dJ5_indexOf_2_20 (by decide) ?_
    exact gx_ireturn (pc := 36) rfl dJ5_indexOf_2_36 (⟨_, rfl, ⟨rfl, rfl⟩⟩)
theorem c_SindexOf (hd : 3 ≤ d) (hS : SB G sa bs) {c : Nat} (h0 : 0 < bs.length) (hc : c < 128) : gxM G mJ5_indexOf d 0 0 [.ref sa, .int (nI c)] h (gxQi (fun r h' => r = oJ (ixF c bs 0) ∧ h' = h)) := by
  refine gxM_ofF (by decide +kernel) (Nat.le_of_ble_eq_true rfl) rfl ?_
  refine gx_aload_n (pc := 0) dJ5_indexOf_0 rfl ?_
  refine gx_iload_n (pc := 1) dJ5_indexOf_1 rfl ?_
  refine gx_iconst (pc := 2) (v := 0) dJ5_indexOf_2 (by decide) ?_
  refine kJ5_633 (kc := 0) (ks := 0) (mc := 0) (ms := 0) (pc := 3) rfl (c_SindexOf2 (d := d - 1) (by omega) hS h0 hc) (gxRc.ofO hS.1) (by omega) (Nat.le_of_ble_eq_true rfl) dJ5_indexOf_3 (fun r1 h1 e1 => ?_)
  obtain ⟨rfl, e1⟩ := e1
  subst h1
  exact gx_ireturn (pc := 6) rfl dJ5_indexOf_6 (⟨_, rfl, ⟨rfl, rfl⟩⟩)
/-- the word's number -/
def wdL : List Nat → Int64 → Int64
  | [], v => v
  | b :: l, v => wdL l ((27 : Int64) * v + (nI b).toInt64 - 96)
theorem c_word (hd : 4 ≤ d) (hS : SB G sa bs) : gxM G mX2_word d 0 0 [.ref sa] h (gxQl (fun r h' => r = wdL bs 0 ∧ h' = h)) := by
  refine gxM_of rfl (Nat.le_of_ble_eq_true rfl) rfl ?_
  have Lp : ∀ l k v, bs.drop k = l → k ≤ bs.length → wdL bs 0 = wdL l v → gxV G mX2_word d 0 0 4 [some (.ref sa), some (.long v), none, some (.int (nI k))] [] h (gxQl (fun r h' => r = wdL bs 0 ∧ h' = h)) := by
    intro l
    induction l with
    | nil =>
      intro k v hk hk2 hx
      have : bs.length = k := by
        have := congrArg List.length hk
        rw [List.length_drop] at this
        simp at this; omega
      refine gx_iload_n (pc := 4) dX2_word_4 rfl ?_
      refine gx_aload_n (pc := 5) dX2_word_5 rfl ?_
      refine kX2_103 (kc := 0) (ks := 0) (mc := 0) (ms := 0) (pc := 6) rfl (c_Slength (d := d - 1) (by omega) hS) (gxRc.ofO hS.1) (by omega) (Nat.le_of_ble_eq_true rfl) dX2_word_6 (fun r1 h1 e1 => ?_)
      obtain ⟨rfl, e1⟩ := e1
      subst h1
      refine gx_icmp_ge (pc := 9) 35 dX2_word_9 (by decide) (fun c1 => ?_) (fun c1 => ?_)
      · refine gx_lload_n (pc := 35) dX2_word_35 rfl ?_
        exact gx_lreturn (pc := 36) rfl dX2_word_36 (⟨_, rfl, ⟨by rw [hx]; rfl, rfl⟩⟩)
      · exact absurd (nI_le (by omega) (by have := hS.2.2.1; omega)) c1
    | cons b l ih =>
      intro k v hk hk2 hx
      have hkl : k < bs.length := by
        have := congrArg List.length hk
        rw [List.length_drop] at this
        simp at this; omega
      have hbk : bs.getD k 0 = b := by
        have := congrArg (fun z => z[0]?) hk
        simp only [List.getElem?_drop, Nat.add_zero, List.getElem?_cons_zero] at this
        rw [List.getD_eq_getElem?_getD, this]; rfl
      refine gx_iload_n (pc := 4) dX2_word_4 rfl ?_
      refine gx_aload_n (pc := 5) dX2_word_5 rfl ?_
      refine kX2_103 (kc := 0) (ks := 0) (mc := 0) (ms := 0) (pc := 6) rfl (c_Slength (d := d - 1) (by omega) hS) (gxRc.ofO hS.1) (by omega) (Nat.le_of_ble_eq_true rfl) dX2_word_6 (fun r1 h1 e1 => ?_)
      obtain ⟨rfl, e1⟩ := e1
      subst h1
      refine gx_icmp_ge (pc := 9) 35 dX2_word_9 (by decide) (fun c1 => ?_) (fun c1 => ?_)
      · exact absurd c1 (nI_ge hkl hS.2.2.1)
      · refine gx_ldc2 (pc := 12) q605 dX2_word_12 ?_
        refine gx_lload_n (pc := 15) dX2_word_15 rfl ?_
        refine gx_lmul (pc := 16) dX2_word_16 ?_
        refine gx_aload_n (pc := 17) dX2_word_17 rfl ?_
        refine gx_iload_n (pc := 18) dX2_word_18 rfl ?_
        refine kX2_109 (kc := 0) (ks := 0) (mc := 0) (ms := 0) (pc := 19) rfl (c_ScharAt (d := d - 1) (by omega) hS hkl) (gxRc.ofO hS.1) (by omega) (Nat.le_of_ble_eq_true rfl) dX2_word_19 (fun r1 h1 e1 => ?_)
        obtain ⟨rfl, e1⟩ := e1
        subst h1
        rw [hbk]
        refine gx_i2l (pc := 22) dX2_word_22 ?_
        refine gx_ladd (pc := 23) dX2_word_23 ?_
        refine gx_ldc2 (pc := 24) q606 dX2_word_24 ?_
        refine gx_lsub (pc := 27) dX2_word_27 ?_
        refine gx_lstore_n (pc := 28) dX2_word_28 (by decide) rfl ?_
        refine gx_iincc (pc := 29) (c := 1) dX2_word_29 rfl (by decide) (by decide) rfl ?_
        refine gx_goto (pc := 32) 4 dX2_word_32 (by decide) ?_
        rw [nI_1]
        exact ih (k + 1) _ (by rw [← List.drop_drop, hk]; rfl) (by omega) (by rw [hx, wdL])
  refine gx_lconst (pc := 0) (v := 0) dX2_word_0 (by decide) ?_
  refine gx_lstore_n (pc := 1) dX2_word_1 (by decide) rfl ?_
  refine gx_iconst (pc := 2) (v := 0) dX2_word_2 (by decide) ?_
  refine gx_istore_n (pc := 3) dX2_word_3 (by decide) rfl ?_
  exact Lp bs 0 0 rfl (by omega) rfl
theorem c_IvalueOf {k : Nat} (hk : k < 128) : gxM G mJ16_valueOf d 0 0 [.int (nI k)] h (gxQr (fun r h' => IB G r (nI k) ∧ h' = h)) := by
  refine gxM_K (fun hK => ?_)
  obtain ⟨t, ad, hZ, hT, hI⟩ := nw_ic hK
  refine gxM_ofF (by decide +kernel) (Nat.le_of_ble_eq_true rfl) rfl ?_
  refine gx_iload_n (pc := 0) dJ16_valueOf_0 rfl ?_
  refine gx_bipush (pc := 1) (v := (-128)) dJ16_valueOf_1 (by decide) ?_
  refine gx_icmp_lt (pc := 3) 23 dJ16_valueOf_3 (by decide) (fun c1 => ?_) (fun c1 => ?_)
  · have : ∀ k, k < 128 → ¬ nI k < -128 := by decide +kernel
    exact absurd c1 (this k hk)
  · refine gx_iload_n (pc := 6) dJ16_valueOf_6 rfl ?_
    refine gx_gets (pc := 7) (nw_ih hK) q925 dJ16_valueOf_7 ?_
    refine gx_icmp_gt (pc := 10) 23 dJ16_valueOf_10 (by decide) (fun c2 => ?_) (fun c2 => ?_)
    · exact absurd c2 (nI_nlt (a := 127) (by omega) (by decide))
    · refine gx_gets (pc := 13) hZ q927 dJ16_valueOf_13 ?_
      refine gx_iload_n (pc := 16) dJ16_valueOf_16 rfl ?_
      refine gx_sipush (pc := 17) (v := 128) dJ16_valueOf_17 (by decide) ?_
      refine gx_iadd (pc := 20) dJ16_valueOf_20 ?_
      rw [show nI k + 128 = nI (k + 128) from nI_add k 128]
      refine gx_aaldO (pc := 21) (k + 128) hT rfl (by omega) (by decide) dJ16_valueOf_21 ?_
      have := hI (k + 128) (by omega)
      rw [show vb_c (k + 128) = nI k by show nI (k + 128) - nI 128 = _; rw [pk_sub (by omega)]; congr 1] at this
      exact gx_areturn (pc := 22) rfl (Or.inl ⟨_, rfl⟩) (Or.inr ⟨_, rfl⟩) dJ16_valueOf_22 (⟨_, rfl, ⟨this, rfl⟩⟩)
theorem c_IintValue {r : Nat} {v : Int32} (hI : IB G r v) : gxM G mJ16_intValue d 0 0 [.ref r] h (gxQi (fun w h' => w = v ∧ h' = h)) := by
  refine gxM_ofF (by decide +kernel) (Nat.le_of_ble_eq_true rfl) rfl ?_
  refine gx_aload_n (pc := 0) dJ16_intValue_0 rfl ?_
  refine gx_getO (pc := 1) hI.2 (by exact q935) dJ16_intValue_1 ?_
  exact gx_ireturn (pc := 4) rfl dJ16_intValue_4 (⟨_, rfl, ⟨rfl, rfl⟩⟩)
/-- a box that holds a long, old or new -/
def LBx (G : gxG) (h : gxH) (r : Nat) (v : Int64) : Prop := LB0 G r v ∨ h.1 r = some (.inr (33, [.long v]))
theorem c_J12 (hd : 1 ≤ d) {a : Nat} : gxM G mJ12_init d 0 0 [.ref a] h (gxQv (fun h' => h' = h)) := by
  refine gxM_ofF (by decide +kernel) (Nat.le_of_ble_eq_true rfl) rfl ?_
  refine gx_aload_n (pc := 0) dJ12_init_0 rfl ?_
  refine gx_objInit (pc := 1) q840 q192 q193 (Nat.le_of_ble_eq_true rfl) (by omega) dJ12_init_1 ?_
  exact gx_return (pc := 4) rfl dJ12_init_4 (⟨rfl, rfl⟩)
theorem c_J13 (hd : 2 ≤ d) {a : Nat} (na : gxN G ≤ a) (ha : h.1 a = some (.inr (33, [.long 0]))) (v : Int64) : gxM G mJ13_init d 0 0 [.ref a, .long v] h (gxQv (fun h' => h' = gxup h a (.inr (33, [.long v])))) := by
  refine gxM_ofF (by decide +kernel) (Nat.le_of_ble_eq_true rfl) rfl ?_
  refine gx_aload_n (pc := 0) dJ13_init_0 rfl ?_
  refine kJ13_270 (kc := 0) (ks := 0) (mc := 0) (ms := 0) (pc := 1) rfl (c_J12 (d := d - 1) (by omega)) (by omega) (Nat.le_of_ble_eq_true rfl) dJ13_init_1 (fun h1 e1 => ?_)
  subst h1
  refine gx_aload_n (pc := 4) dJ13_init_4 rfl ?_
  refine gx_lload_n (pc := 5) dJ13_init_5 rfl ?_
  refine gx_putF (pc := 6) fJ13_273 rfl (by intro C T N e; cases e; rfl) ha na (by first | exact Nat.le_of_ble_eq_true rfl | simp) tJ13_0 rfl rfl dJ13_init_6 ?_
  exact gx_return (pc := 9) rfl dJ13_init_9 (⟨rfl, rfl⟩)
theorem c_LvalueOf (hd : 3 ≤ d) (nz : gxN G ≤ h.2) (v : Int64) : gxM G mJ13_valueOf d 1 1 [.long v] h (gxQr (fun r h' => (h' = h ∧ LB0 G r v) ∨ (r = h.2 ∧ h'.2 = h.2 + 1 ∧ h'.1 h.2 = some (.inr (33, [.long v])) ∧ ∀ q, q ≠ h.2 → h'.1 q = h.1 q))) := by
  refine gxM_K (fun hK => ?_)
  obtain ⟨t, ad, hZ, hT, hI⟩ := nw_lc hK
  refine gxM_ofF (by decide +kernel) (Nat.le_of_ble_eq_true rfl) rfl ?_
  have K31 : gxV G mJ13_valueOf d 1 1 31 [some (.long v), none, some (.int 128)] [] h (gxQr (fun r h' => (h' = h ∧ LB0 G r v) ∨ (r = h.2 ∧ h'.2 = h.2 + 1 ∧ h'.1 h.2 = some (.inr (33, [.long v])) ∧ ∀ q, q ≠ h.2 → h'.1 q = h.1 q))) := by
    refine gx_r0 ?_
    refine nJ13_1 (kc := 0) (ks := 0) (pc := 31) rfl dJ13_valueOf_31 ?_
    have ha : (gxadd h (.inr (33, [.long 0]))).1 h.2 = some (.inr (33, [.long 0])) := gxadd_self _ _
    refine gx_dup (pc := 34) dJ13_valueOf_34 rfl ?_
    refine gx_lload_n (pc := 35) dJ13_valueOf_35 rfl ?_
    refine kJ13_240 (kc := 0) (ks := 0) (mc := 0) (ms := 0) (pc := 36) rfl (c_J13 (d := d - 1) (by omega) nz ha v) (by omega) (Nat.le_of_ble_eq_true rfl) dJ13_valueOf_36 (fun h2 e2 => ?_)
    exact gx_areturn (pc := 39) rfl (Or.inl ⟨_, rfl⟩) (Or.inr ⟨_, rfl⟩) dJ13_valueOf_39 (⟨_, rfl, Or.inr ⟨rfl, by rw [e2]; rfl, by rw [e2]; exact gxup_self _ _ _, fun q hq => by rw [e2, gxup_ne hq, gxadd_ne hq]⟩⟩)
  refine gx_sipush (pc := 0) (v := 128) dJ13_valueOf_0 (by decide) ?_
  refine gx_istore_n (pc := 3) dJ13_valueOf_3 (by decide) rfl ?_
  refine gx_lload_n (pc := 4) dJ13_valueOf_4 rfl ?_
  refine gx_ldc2 (pc := 5) q828 dJ13_valueOf_5 ?_
  refine gx_lcmp (pc := 8) dJ13_valueOf_8 ?_
  refine gx_if_lt (pc := 9) 31 dJ13_valueOf_9 (by decide) (fun c1 => ?_) (fun c1 => ?_)
  · exact K31
  · refine gx_lload_n (pc := 12) dJ13_valueOf_12 rfl ?_
    refine gx_ldc2 (pc := 13) q829 dJ13_valueOf_13 ?_
    refine gx_lcmp (pc := 16) dJ13_valueOf_16 ?_
    refine gx_if_gt (pc := 17) 31 dJ13_valueOf_17 (by decide) (fun c2 => ?_) (fun c2 => ?_)
    · exact K31
    · have l1 : ¬ v < -128 := fun z => c1 (by have := (lg_cmp_lt v (-128)).mpr z; exact this)
      have l2 : ¬ 127 < v := fun z => c2 (by have := (lg_cmp_gt v 127).mpr z; exact this)
      refine gx_more (a := 0) (b := 0) (by omega) (by omega) ?_
      refine gx_gets (pc := 20) hZ q830 dJ13_valueOf_20 ?_
      refine gx_lload_n (pc := 23) dJ13_valueOf_23 rfl ?_
      refine gx_l2i (pc := 24) dJ13_valueOf_24 ?_
      refine gx_sipush (pc := 25) (v := 128) dJ13_valueOf_25 (by decide) ?_
      refine gx_iadd (pc := 28) dJ13_valueOf_28 ?_
      obtain ⟨j, hj, ej, ev⟩ : ∃ j, j < 256 ∧ v.toInt32 + 128 = nI j ∧ v = (vb_c j).toInt64 := bxL l1 l2
      rw [ej]
      refine gx_aaldO (pc := 29) j hT rfl hj (by decide) dJ13_valueOf_29 ?_
      have := hI j hj
      rw [← ev] at this
      exact gx_areturn (pc := 30) rfl (Or.inl ⟨_, rfl⟩) (Or.inr ⟨_, rfl⟩) dJ13_valueOf_30 (⟨_, rfl, Or.inl ⟨rfl, this⟩⟩)
theorem c_LlongValue {r : Nat} {v : Int64} (hL : LBx G h r v) : gxM G mJ13_longValue d 0 0 [.ref r] h (gxQl (fun w h' => w = v ∧ h' = h)) := by
  refine gxM_ofF (by decide +kernel) (Nat.le_of_ble_eq_true rfl) rfl ?_
  rcases hL with hL | ha
  · refine gx_aload_n (pc := 0) dJ13_longValue_0 rfl ?_
    refine gx_getO (pc := 1) hL.2 (by exact q841) dJ13_longValue_1 ?_
    exact gx_lreturn (pc := 4) rfl dJ13_longValue_4 (⟨_, rfl, ⟨rfl, rfl⟩⟩)
  · refine gx_aload_n (pc := 0) dJ13_longValue_0 rfl ?_
    refine gx_get (pc := 1) fJ13_273 ha rfl dJ13_longValue_1 ?_
    exact gx_lreturn (pc := 4) rfl dJ13_longValue_4 (⟨_, rfl, ⟨rfl, rfl⟩⟩)
end AH
