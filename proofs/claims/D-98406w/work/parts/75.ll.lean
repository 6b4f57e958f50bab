/-! ===== COMPONENT L: talk made, copied ===== -/
set_option maxRecDepth 100000
theorem gx_step {h : gxH} {a z : Nat} {x e : gxE} (hz : h.2 = z) (haz : a ≠ z) : (gxup (gxadd h x) a e).1 a = some e ∧ (gxup (gxadd h x) a e).1 z = some x ∧ (∀ q, q ≠ a → q ≠ z → (gxup (gxadd h x) a e).1 q = h.1 q) ∧ (gxup (gxadd h x) a e).2 = z + 1 := by
  refine ⟨gxup_self _ _ _, ?_, fun q h1 h2 => ?_, ?_⟩
  · rw [gxup_ne (Ne.symm haz), ← hz]; exact gxadd_self _ _
  · rw [gxup_ne h1, gxadd_ne (by rw [hz]; exact h2)]
  · show h.2 + 1 = _; rw [hz]
def talk0 : List Value := [.null, .null, .null, .null, .null, .null, .int 0, .int 0, .int 0, .int 0, .int 0]
/-- what is below a stays as it is -/
def lowE (a : Nat) (h h' : gxH) : Prop := ∀ q, q < a → h'.1 q = h.1 q
section LL
variable {G : gxG} {d : Nat} {h : gxH} {a : Nat}
theorem c_Xinit (hd : 1 ≤ d) (hn : gxN G ≤ a) (ha : h.1 a = some (.inr (2, talk0))) (hz : h.2 = a + 1) : gxM G mX3_init d 5 64 [.ref a] h (gxQv (fun h' => TF h' a .null (fun _ => 0) (fun _ => 0) (fun _ => 0) (fun _ => 0) (fun _ => 0) 0 0 0 0 0 ∧ h'.2 = a + 6 ∧ lowE a h h')) := by
  have na := hn
  refine gxM_of rfl (Nat.le_of_ble_eq_true rfl) rfl ?_
  refine gx_aload_n (pc := 0) dX3_init_0 rfl ?_
  refine gx_objInit (pc := 1) q273 q192 q193 (Nat.le_of_ble_eq_true rfl) (by omega) dX3_init_1 ?_
  refine gx_aload_n (pc := 4) dX3_init_4 rfl ?_
  refine gx_bipush (pc := 5) (v := 10) dX3_init_5 (by decide) ?_
  refine gx_new_int (pc := 7) (10) (by rfl) (by decide) dX3_init_7 ?_
  have ha1 : (gxadd h (.inl (0, 10, .inl (fun _ => 0)))).1 a = some (.inr (2, talk0)) := by rw [gxadd_ne (by omega)]; exact ha
  have ha0 := ha
  have ha := ha1
  rw [hz]
  refine gx_putF (pc := 9) fX3_9 rfl (by intro C T N e; cases e; rfl) ha na (by first | exact Nat.le_of_ble_eq_true rfl | simp) tX3_1 rfl rfl dX3_init_9 ?_
  obtain ⟨b1, b2, b3, b4⟩ := gx_step (a := a) (x := .inl (0, 10, .inl (fun _ => 0))) (e := .inr (2, talk0.set 1 (.ref (a + 1)))) hz (by omega)
  generalize gxup (gxadd h (.inl (0, 10, .inl (fun _ => 0)))) a (.inr (2, talk0.set 1 (.ref (a + 1)))) = h1 at *
  clear ha ha1
  refine gx_aload_n (pc := 12) dX3_init_12 rfl ?_
  refine gx_bipush (pc := 13) (v := 36) dX3_init_13 (by decide) ?_
  refine gx_new_int (pc := 15) (36) (by rfl) (by decide) dX3_init_15 ?_
  have ha : (gxadd h1 (.inl (0, 36, .inl (fun _ => 0)))).1 a = some (.inr (2, talk0.set 1 (.ref (a + 1)))) := by rw [gxadd_ne (by omega)]; exact b1
  rw [b4]
  refine gx_putF (pc := 17) fX3_15 rfl (by intro C T N e; cases e; rfl) ha na (by first | exact Nat.le_of_ble_eq_true rfl | simp) tX3_2 rfl rfl dX3_init_17 ?_
  obtain ⟨c1, c2, c3, c4⟩ := gx_step (a := a) (x := .inl (0, 36, .inl (fun _ => 0))) (e := .inr (2, (talk0.set 1 (.ref (a + 1))).set 2 (.ref (a + 1 + 1)))) b4 (by omega)
  generalize gxup (gxadd h1 (.inl (0, 36, .inl (fun _ => 0)))) a (.inr (2, (talk0.set 1 (.ref (a + 1))).set 2 (.ref (a + 1 + 1)))) = h2 at *
  clear ha
  refine gx_aload_n (pc := 20) dX3_init_20 rfl ?_
  refine gx_bipush (pc := 21) (v := 6) dX3_init_21 (by decide) ?_
  refine gx_new_int (pc := 23) (6) (by rfl) (by decide) dX3_init_23 ?_
  have ha : (gxadd h2 (.inl (0, 6, .inl (fun _ => 0)))).1 a = some (.inr (2, (talk0.set 1 (.ref (a + 1))).set 2 (.ref (a + 1 + 1)))) := by rw [gxadd_ne (by omega)]; exact c1
  rw [c4]
  refine gx_putF (pc := 25) fX3_18 rfl (by intro C T N e; cases e; rfl) ha na (by first | exact Nat.le_of_ble_eq_true rfl | simp) tX3_3 rfl rfl dX3_init_25 ?_
  obtain ⟨d1, d2, d3, d4⟩ := gx_step (a := a) (x := .inl (0, 6, .inl (fun _ => 0))) (e := .inr (2, ((talk0.set 1 (.ref (a + 1))).set 2 (.ref (a + 1 + 1))).set 3 (.ref (a + 1 + 1 + 1)))) c4 (by omega)
  generalize gxup (gxadd h2 (.inl (0, 6, .inl (fun _ => 0)))) a (.inr (2, ((talk0.set 1 (.ref (a + 1))).set 2 (.ref (a + 1 + 1))).set 3 (.ref (a + 1 + 1 + 1)))) = h3 at *
  clear ha
  refine gx_aload_n (pc := 28) dX3_init_28 rfl ?_
  refine gx_bipush (pc := 29) (v := 6) dX3_init_29 (by decide) ?_
  refine gx_new_int (pc := 31) (6) (by rfl) (by decide) dX3_init_31 ?_
  have ha : (gxadd h3 (.inl (0, 6, .inl (fun _ => 0)))).1 a = some (.inr (2, ((talk0.set 1 (.ref (a + 1))).set 2 (.ref (a + 1 + 1))).set 3 (.ref (a + 1 + 1 + 1)))) := by rw [gxadd_ne (by omega)]; exact d1
  rw [d4]
  refine gx_putF (pc := 33) fX3_21 rfl (by intro C T N e; cases e; rfl) ha na (by first | exact Nat.le_of_ble_eq_true rfl | simp) tX3_4 rfl rfl dX3_init_33 ?_
  obtain ⟨e1, e2, e3, e4⟩ := gx_step (a := a) (x := .inl (0, 6, .inl (fun _ => 0))) (e := .inr (2, (((talk0.set 1 (.ref (a + 1))).set 2 (.ref (a + 1 + 1))).set 3 (.ref (a + 1 + 1 + 1))).set 4 (.ref (a + 1 + 1 + 1 + 1)))) d4 (by omega)
  generalize gxup (gxadd h3 (.inl (0, 6, .inl (fun _ => 0)))) a (.inr (2, (((talk0.set 1 (.ref (a + 1))).set 2 (.ref (a + 1 + 1))).set 3 (.ref (a + 1 + 1 + 1))).set 4 (.ref (a + 1 + 1 + 1 + 1)))) = h4 at *
  clear ha
  refine gx_aload_n (pc := 36) dX3_init_36 rfl ?_
  refine gx_bipush (pc := 37) (v := 6) dX3_init_37 (by decide) ?_
  refine gx_new_int (pc := 39) (6) (by rfl) (by decide) dX3_init_39 ?_
  have ha : (gxadd h4 (.inl (0, 6, .inl (fun _ => 0)))).1 a = some (.inr (2, (((talk0.set 1 (.ref (a + 1))).set 2 (.ref (a + 1 + 1))).set 3 (.ref (a + 1 + 1 + 1))).set 4 (.ref (a + 1 + 1 + 1 + 1)))) := by rw [gxadd_ne (by omega)]; exact e1
  rw [e4]
  refine gx_putF (pc := 41) fX3_24 rfl (by intro C T N e; cases e; rfl) ha na (by first | exact Nat.le_of_ble_eq_true rfl | simp) tX3_5 rfl rfl dX3_init_41 ?_
  obtain ⟨f1, f2, f3, f4⟩ := gx_step (a := a) (x := .inl (0, 6, .inl (fun _ => 0))) (e := .inr (2, ((((talk0.set 1 (.ref (a + 1))).set 2 (.ref (a + 1 + 1))).set 3 (.ref (a + 1 + 1 + 1))).set 4 (.ref (a + 1 + 1 + 1 + 1))).set 5 (.ref (a + 1 + 1 + 1 + 1 + 1)))) e4 (by omega)
  generalize gxup (gxadd h4 (.inl (0, 6, .inl (fun _ => 0)))) a (.inr (2, ((((talk0.set 1 (.ref (a + 1))).set 2 (.ref (a + 1 + 1))).set 3 (.ref (a + 1 + 1 + 1))).set 4 (.ref (a + 1 + 1 + 1 + 1))).set 5 (.ref (a + 1 + 1 + 1 + 1 + 1)))) = h5 at *
  have fin : TF h5 a .null (fun _ => 0) (fun _ => 0) (fun _ => 0) (fun _ => 0) (fun _ => 0) 0 0 0 0 0 := by
    refine ⟨f1, ?_, ?_, ?_, ?_, f2⟩
    · rw [f3 _ (by omega) (by omega), e3 _ (by omega) (by omega), d3 _ (by omega) (by omega), c3 _ (by omega) (by omega)]; exact b2
    · rw [f3 _ (by omega) (by omega), e3 _ (by omega) (by omega), d3 _ (by omega) (by omega)]; exact c2
    · rw [f3 _ (by omega) (by omega), e3 _ (by omega) (by omega)]; exact d2
    · rw [f3 _ (by omega) (by omega)]; exact e2
  have low : lowE a h h5 := fun q hq => by rw [f3 _ (by omega) (by omega), e3 _ (by omega) (by omega), d3 _ (by omega) (by omega), c3 _ (by omega) (by omega), b3 _ (by omega) (by omega)]
  exact gx_return (pc := 44) rfl dX3_init_44 (⟨rfl, ⟨fin, by omega, low⟩⟩)
end LL
