/-! ===== COMPONENT D: expressions (by program gen65.py) ===== -/
set_option maxRecDepth 100000
section LD
variable {G : gxG} {Y : gxY} {d kc ks pc : Nat} {ls : List (Option Value)} {st : List Value} {h : gxH} {Q : Outcome → gxH → Prop}
/-- the answer of an expression at r, asked with the facts fo -/
def exQ (h : gxH) (v : Int32) : Outcome → gxH → Prop := gxQi (fun x h' => x = v ∧ h' = h)
def exM (G : gxG) (d : Nat) (h : gxH) (r fo : Nat) (v : Int32) : Prop :=
  (∃ fs, h.1 r = some (.inr (16, fs)) ∧ gxM G mX18_of d 0 0 [.ref r, .ref fo] h (exQ h v)) ∨ (∃ fs, h.1 r = some (.inr (17, fs)) ∧ gxM G mX19_of d 0 0 [.ref r, .ref fo] h (exQ h v)) ∨
  (∃ fs, h.1 r = some (.inr (18, fs)) ∧ gxM G mX20_of d 0 0 [.ref r, .ref fo] h (exQ h v)) ∨ (∃ fs, h.1 r = some (.inr (19, fs)) ∧ gxM G mX21_of d 0 0 [.ref r, .ref fo] h (exQ h v))
theorem kEX20_13 {d' r fo : Nat} {v : Int32} (hE : exM G d' h r fo v) (hY : Y.1.cls = "PaidSecrets$Not") (hdd : d' + 1 ≤ d) (hst : (st.map fun v => v.category).sum ≤ 8) (hd : decode Y.2.1 pc = .ok (.invokevirtual 13, 3)) (kk : gxV G Y d kc ks (pc + 3) ls (.int v :: st) h Q) : gxV G Y d kc ks pc ls (.ref fo :: .ref r :: st) h Q := by
  rcases hE with ⟨fs, ha, hM⟩ | ⟨fs, ha, hM⟩ | ⟨fs, ha, hM⟩ | ⟨fs, ha, hM⟩
  · exact kX20_13_X18 (kc := kc) (ks := ks) (mc := 0) (ms := 0) hY hM (gxRc.of (ci := 16) rfl ha) hdd hst hd (fun r h1 e => by obtain ⟨rfl, e⟩ := e; subst e; exact kk)
  · exact kX20_13_X19 (kc := kc) (ks := ks) (mc := 0) (ms := 0) hY hM (gxRc.of (ci := 17) rfl ha) hdd hst hd (fun r h1 e => by obtain ⟨rfl, e⟩ := e; subst e; exact kk)
  · exact kX20_13_X20 (kc := kc) (ks := ks) (mc := 0) (ms := 0) hY hM (gxRc.of (ci := 18) rfl ha) hdd hst hd (fun r h1 e => by obtain ⟨rfl, e⟩ := e; subst e; exact kk)
  · exact kX20_13_X21 (kc := kc) (ks := ks) (mc := 0) (ms := 0) hY hM (gxRc.of (ci := 19) rfl ha) hdd hst hd (fun r h1 e => by obtain ⟨rfl, e⟩ := e; subst e; exact kk)
theorem kEX21_22 {d' r fo : Nat} {v : Int32} (hE : exM G d' h r fo v) (hY : Y.1.cls = "PaidSecrets$Chain") (hdd : d' + 1 ≤ d) (hst : (st.map fun v => v.category).sum ≤ 8) (hd : decode Y.2.1 pc = .ok (.invokevirtual 22, 3)) (kk : gxV G Y d kc ks (pc + 3) ls (.int v :: st) h Q) : gxV G Y d kc ks pc ls (.ref fo :: .ref r :: st) h Q := by
  rcases hE with ⟨fs, ha, hM⟩ | ⟨fs, ha, hM⟩ | ⟨fs, ha, hM⟩ | ⟨fs, ha, hM⟩
  · exact kX21_22_X18 (kc := kc) (ks := ks) (mc := 0) (ms := 0) hY hM (gxRc.of (ci := 16) rfl ha) hdd hst hd (fun r h1 e => by obtain ⟨rfl, e⟩ := e; subst e; exact kk)
  · exact kX21_22_X19 (kc := kc) (ks := ks) (mc := 0) (ms := 0) hY hM (gxRc.of (ci := 17) rfl ha) hdd hst hd (fun r h1 e => by obtain ⟨rfl, e⟩ := e; subst e; exact kk)
  · exact kX21_22_X20 (kc := kc) (ks := ks) (mc := 0) (ms := 0) hY hM (gxRc.of (ci := 18) rfl ha) hdd hst hd (fun r h1 e => by obtain ⟨rfl, e⟩ := e; subst e; exact kk)
  · exact kX21_22_X21 (kc := kc) (ks := ks) (mc := 0) (ms := 0) hY hM (gxRc.of (ci := 19) rfl ha) hdd hst hd (fun r h1 e => by obtain ⟨rfl, e⟩ := e; subst e; exact kk)
theorem kEX22_13 {d' r fo : Nat} {v : Int32} (hE : exM G d' h r fo v) (hY : Y.1.cls = "PaidSecrets$Link") (hdd : d' + 1 ≤ d) (hst : (st.map fun v => v.category).sum ≤ 8) (hd : decode Y.2.1 pc = .ok (.invokevirtual 13, 3)) (kk : gxV G Y d kc ks (pc + 3) ls (.int v :: st) h Q) : gxV G Y d kc ks pc ls (.ref fo :: .ref r :: st) h Q := by
  rcases hE with ⟨fs, ha, hM⟩ | ⟨fs, ha, hM⟩ | ⟨fs, ha, hM⟩ | ⟨fs, ha, hM⟩
  · exact kX22_13_X18 (kc := kc) (ks := ks) (mc := 0) (ms := 0) hY hM (gxRc.of (ci := 16) rfl ha) hdd hst hd (fun r h1 e => by obtain ⟨rfl, e⟩ := e; subst e; exact kk)
  · exact kX22_13_X19 (kc := kc) (ks := ks) (mc := 0) (ms := 0) hY hM (gxRc.of (ci := 17) rfl ha) hdd hst hd (fun r h1 e => by obtain ⟨rfl, e⟩ := e; subst e; exact kk)
  · exact kX22_13_X20 (kc := kc) (ks := ks) (mc := 0) (ms := 0) hY hM (gxRc.of (ci := 18) rfl ha) hdd hst hd (fun r h1 e => by obtain ⟨rfl, e⟩ := e; subst e; exact kk)
  · exact kX22_13_X21 (kc := kc) (ks := ks) (mc := 0) (ms := 0) hY hM (gxRc.of (ci := 19) rfl ha) hdd hst hd (fun r h1 e => by obtain ⟨rfl, e⟩ := e; subst e; exact kk)
theorem kEX4_102 {d' r fo : Nat} {v : Int32} (hE : exM G d' h r fo v) (hY : Y.1.cls = "PaidSecrets$Town") (hdd : d' + 1 ≤ d) (hst : (st.map fun v => v.category).sum ≤ 8) (hd : decode Y.2.1 pc = .ok (.invokevirtual 102, 3)) (kk : gxV G Y d kc ks (pc + 3) ls (.int v :: st) h Q) : gxV G Y d kc ks pc ls (.ref fo :: .ref r :: st) h Q := by
  rcases hE with ⟨fs, ha, hM⟩ | ⟨fs, ha, hM⟩ | ⟨fs, ha, hM⟩ | ⟨fs, ha, hM⟩
  · exact kX4_102_X18 (kc := kc) (ks := ks) (mc := 0) (ms := 0) hY hM (gxRc.of (ci := 16) rfl ha) hdd hst hd (fun r h1 e => by obtain ⟨rfl, e⟩ := e; subst e; exact kk)
  · exact kX4_102_X19 (kc := kc) (ks := ks) (mc := 0) (ms := 0) hY hM (gxRc.of (ci := 17) rfl ha) hdd hst hd (fun r h1 e => by obtain ⟨rfl, e⟩ := e; subst e; exact kk)
  · exact kX4_102_X20 (kc := kc) (ks := ks) (mc := 0) (ms := 0) hY hM (gxRc.of (ci := 18) rfl ha) hdd hst hd (fun r h1 e => by obtain ⟨rfl, e⟩ := e; subst e; exact kk)
  · exact kX4_102_X21 (kc := kc) (ks := ks) (mc := 0) (ms := 0) hY hM (gxRc.of (ci := 19) rfl ha) hdd hst hd (fun r h1 e => by obtain ⟨rfl, e⟩ := e; subst e; exact kk)
theorem c_X23_with {d a : Nat} (x y : Int32) : gxM G mX23_with d 0 0 [.ref a, .int x, .int y] h (gxQi (fun r h' => r = lkE 20 x y ∧ h' = h)) := by
  refine gxM_of rfl (Nat.le_of_ble_eq_true rfl) rfl ?_
  refine gx_iload_n (pc := 0) dX23_with_0 rfl ?_
  refine gx_iload_n (pc := 1) dX23_with_1 rfl ?_
  refine gx_imul (pc := 2) dX23_with_2 ?_
  exact gx_ireturn (pc := 3) rfl dX23_with_3 (⟨_, rfl, ⟨rfl, rfl⟩⟩)
theorem c_on_X23 {d d' a r fo : Nat} {v : Int32} (ha : h.1 a = some (.inr (20, [.ref r]))) (hE : exM G d' h r fo v) (hd : d' + 1 ≤ d) (x : Int32) : gxM G mX22_on d 0 0 [.ref a, .int x, .ref fo] h (gxQi (fun r h' => r = lkE 20 x v ∧ h' = h)) := by
  refine gxM_of rfl (Nat.le_of_ble_eq_true rfl) rfl ?_
  refine gx_aload_n (pc := 0) dX22_on_0 rfl ?_
  refine gx_iload_n (pc := 1) dX22_on_1 rfl ?_
  refine gx_aload_n (pc := 2) dX22_on_2 rfl ?_
  refine gx_get (pc := 3) fX22_7_X23 ha rfl dX22_on_3 ?_
  refine gx_aload_n (pc := 6) dX22_on_6 rfl ?_
  refine kEX22_13 (pc := 7) hE rfl hd (Nat.le_of_ble_eq_true rfl) dX22_on_7 ?_
  refine kX22_19_X23 (kc := 0) (ks := 0) (mc := 0) (ms := 0) (pc := 10) rfl (c_X23_with (d := 0) x v) (gxRc.of rfl ha) (by omega) (Nat.le_of_ble_eq_true rfl) dX22_on_10 (fun r1 h1 e1 => ?_)
  obtain ⟨rfl, e1⟩ := e1
  subst e1
  exact gx_ireturn (pc := 13) rfl dX22_on_13 (⟨_, rfl, ⟨rfl, rfl⟩⟩)
theorem c_X24_with {d a : Nat} (x y : Int32) : gxM G mX24_with d 0 0 [.ref a, .int x, .int y] h (gxQi (fun r h' => r = lkE 21 x y ∧ h' = h)) := by
  refine gxM_of rfl (Nat.le_of_ble_eq_true rfl) rfl ?_
  refine gx_iload_n (pc := 0) dX24_with_0 rfl ?_
  refine gx_iload_n (pc := 1) dX24_with_1 rfl ?_
  refine gx_iadd (pc := 2) dX24_with_2 ?_
  exact gx_ireturn (pc := 3) rfl dX24_with_3 (⟨_, rfl, ⟨rfl, rfl⟩⟩)
theorem c_on_X24 {d d' a r fo : Nat} {v : Int32} (ha : h.1 a = some (.inr (21, [.ref r]))) (hE : exM G d' h r fo v) (hd : d' + 1 ≤ d) (x : Int32) : gxM G mX22_on d 0 0 [.ref a, .int x, .ref fo] h (gxQi (fun r h' => r = lkE 21 x v ∧ h' = h)) := by
  refine gxM_of rfl (Nat.le_of_ble_eq_true rfl) rfl ?_
  refine gx_aload_n (pc := 0) dX22_on_0 rfl ?_
  refine gx_iload_n (pc := 1) dX22_on_1 rfl ?_
  refine gx_aload_n (pc := 2) dX22_on_2 rfl ?_
  refine gx_get (pc := 3) fX22_7_X24 ha rfl dX22_on_3 ?_
  refine gx_aload_n (pc := 6) dX22_on_6 rfl ?_
  refine kEX22_13 (pc := 7) hE rfl hd (Nat.le_of_ble_eq_true rfl) dX22_on_7 ?_
  refine kX22_19_X24 (kc := 0) (ks := 0) (mc := 0) (ms := 0) (pc := 10) rfl (c_X24_with (d := 0) x v) (gxRc.of rfl ha) (by omega) (Nat.le_of_ble_eq_true rfl) dX22_on_10 (fun r1 h1 e1 => ?_)
  obtain ⟨rfl, e1⟩ := e1
  subst e1
  exact gx_ireturn (pc := 13) rfl dX22_on_13 (⟨_, rfl, ⟨rfl, rfl⟩⟩)
theorem c_X25_with {d a : Nat} (x y : Int32) : gxM G mX25_with d 0 0 [.ref a, .int x, .int y] h (gxQi (fun r h' => r = lkE 22 x y ∧ h' = h)) := by
  refine gxM_of rfl (Nat.le_of_ble_eq_true rfl) rfl ?_
  refine gx_iload_n (pc := 0) dX25_with_0 rfl ?_
  refine gx_iload_n (pc := 1) dX25_with_1 rfl ?_
  refine gx_isub (pc := 2) dX25_with_2 ?_
  exact gx_ireturn (pc := 3) rfl dX25_with_3 (⟨_, rfl, ⟨rfl, rfl⟩⟩)
theorem c_on_X25 {d d' a r fo : Nat} {v : Int32} (ha : h.1 a = some (.inr (22, [.ref r]))) (hE : exM G d' h r fo v) (hd : d' + 1 ≤ d) (x : Int32) : gxM G mX22_on d 0 0 [.ref a, .int x, .ref fo] h (gxQi (fun r h' => r = lkE 22 x v ∧ h' = h)) := by
  refine gxM_of rfl (Nat.le_of_ble_eq_true rfl) rfl ?_
  refine gx_aload_n (pc := 0) dX22_on_0 rfl ?_
  refine gx_iload_n (pc := 1) dX22_on_1 rfl ?_
  refine gx_aload_n (pc := 2) dX22_on_2 rfl ?_
  refine gx_get (pc := 3) fX22_7_X25 ha rfl dX22_on_3 ?_
  refine gx_aload_n (pc := 6) dX22_on_6 rfl ?_
  refine kEX22_13 (pc := 7) hE rfl hd (Nat.le_of_ble_eq_true rfl) dX22_on_7 ?_
  refine kX22_19_X25 (kc := 0) (ks := 0) (mc := 0) (ms := 0) (pc := 10) rfl (c_X25_with (d := 0) x v) (gxRc.of rfl ha) (by omega) (Nat.le_of_ble_eq_true rfl) dX22_on_10 (fun r1 h1 e1 => ?_)
  obtain ⟨rfl, e1⟩ := e1
  subst e1
  exact gx_ireturn (pc := 13) rfl dX22_on_13 (⟨_, rfl, ⟨rfl, rfl⟩⟩)
theorem c_X26_with {d a : Nat} (x y : Int32) : gxM G mX26_with d 0 0 [.ref a, .int x, .int y] h (gxQi (fun r h' => r = lkE 23 x y ∧ h' = h)) := by
  refine gxM_of rfl (Nat.le_of_ble_eq_true rfl) rfl ?_
  refine gx_iload_n (pc := 0) dX26_with_0 rfl ?_
  refine gx_iload_n (pc := 1) dX26_with_1 rfl ?_
  refine gx_icmp_ge (pc := 2) 9 dX26_with_2 (by decide) (fun c1 => ?_) (fun c1 => ?_)
  · refine gx_iconst (pc := 9) (v := 0) dX26_with_9 (by decide) ?_
    exact gx_ireturn (pc := 10) rfl dX26_with_10 (⟨_, rfl, ⟨by show _ = (if x < y then 1 else 0); rw [if_neg (Int32.not_lt.mpr c1)], rfl⟩⟩)
  · refine gx_iconst (pc := 5) (v := 1) dX26_with_5 (by decide) ?_
    refine gx_goto (pc := 6) 10 dX26_with_6 (by decide) ?_
    exact gx_ireturn (pc := 10) rfl dX26_with_10 (⟨_, rfl, ⟨by show _ = (if x < y then 1 else 0); rw [if_pos (Int32.not_le.mp c1)], rfl⟩⟩)
theorem c_on_X26 {d d' a r fo : Nat} {v : Int32} (ha : h.1 a = some (.inr (23, [.ref r]))) (hE : exM G d' h r fo v) (hd : d' + 1 ≤ d) (x : Int32) : gxM G mX22_on d 0 0 [.ref a, .int x, .ref fo] h (gxQi (fun r h' => r = lkE 23 x v ∧ h' = h)) := by
  refine gxM_of rfl (Nat.le_of_ble_eq_true rfl) rfl ?_
  refine gx_aload_n (pc := 0) dX22_on_0 rfl ?_
  refine gx_iload_n (pc := 1) dX22_on_1 rfl ?_
  refine gx_aload_n (pc := 2) dX22_on_2 rfl ?_
  refine gx_get (pc := 3) fX22_7_X26 ha rfl dX22_on_3 ?_
  refine gx_aload_n (pc := 6) dX22_on_6 rfl ?_
  refine kEX22_13 (pc := 7) hE rfl hd (Nat.le_of_ble_eq_true rfl) dX22_on_7 ?_
  refine kX22_19_X26 (kc := 0) (ks := 0) (mc := 0) (ms := 0) (pc := 10) rfl (c_X26_with (d := 0) x v) (gxRc.of rfl ha) (by omega) (Nat.le_of_ble_eq_true rfl) dX22_on_10 (fun r1 h1 e1 => ?_)
  obtain ⟨rfl, e1⟩ := e1
  subst e1
  exact gx_ireturn (pc := 13) rfl dX22_on_13 (⟨_, rfl, ⟨rfl, rfl⟩⟩)
theorem c_X27_with {d a : Nat} (x y : Int32) : gxM G mX27_with d 0 0 [.ref a, .int x, .int y] h (gxQi (fun r h' => r = lkE 24 x y ∧ h' = h)) := by
  refine gxM_of rfl (Nat.le_of_ble_eq_true rfl) rfl ?_
  refine gx_iload_n (pc := 0) dX27_with_0 rfl ?_
  refine gx_iload_n (pc := 1) dX27_with_1 rfl ?_
  refine gx_icmp_ne (pc := 2) 9 dX27_with_2 (by decide) (fun c1 => ?_) (fun c1 => ?_)
  · refine gx_iconst (pc := 9) (v := 0) dX27_with_9 (by decide) ?_
    exact gx_ireturn (pc := 10) rfl dX27_with_10 (⟨_, rfl, ⟨by show _ = (if x = y then 1 else 0); rw [if_neg c1], rfl⟩⟩)
  · refine gx_iconst (pc := 5) (v := 1) dX27_with_5 (by decide) ?_
    refine gx_goto (pc := 6) 10 dX27_with_6 (by decide) ?_
    exact gx_ireturn (pc := 10) rfl dX27_with_10 (⟨_, rfl, ⟨by show _ = (if x = y then 1 else 0); rw [if_pos c1], rfl⟩⟩)
theorem c_on_X27 {d d' a r fo : Nat} {v : Int32} (ha : h.1 a = some (.inr (24, [.ref r]))) (hE : exM G d' h r fo v) (hd : d' + 1 ≤ d) (x : Int32) : gxM G mX22_on d 0 0 [.ref a, .int x, .ref fo] h (gxQi (fun r h' => r = lkE 24 x v ∧ h' = h)) := by
  refine gxM_of rfl (Nat.le_of_ble_eq_true rfl) rfl ?_
  refine gx_aload_n (pc := 0) dX22_on_0 rfl ?_
  refine gx_iload_n (pc := 1) dX22_on_1 rfl ?_
  refine gx_aload_n (pc := 2) dX22_on_2 rfl ?_
  refine gx_get (pc := 3) fX22_7_X27 ha rfl dX22_on_3 ?_
  refine gx_aload_n (pc := 6) dX22_on_6 rfl ?_
  refine kEX22_13 (pc := 7) hE rfl hd (Nat.le_of_ble_eq_true rfl) dX22_on_7 ?_
  refine kX22_19_X27 (kc := 0) (ks := 0) (mc := 0) (ms := 0) (pc := 10) rfl (c_X27_with (d := 0) x v) (gxRc.of rfl ha) (by omega) (Nat.le_of_ble_eq_true rfl) dX22_on_10 (fun r1 h1 e1 => ?_)
  obtain ⟨rfl, e1⟩ := e1
  subst e1
  exact gx_ireturn (pc := 13) rfl dX22_on_13 (⟨_, rfl, ⟨rfl, rfl⟩⟩)
theorem c_X28_with {d a : Nat} (x y : Int32) : gxM G mX28_with d 0 0 [.ref a, .int x, .int y] h (gxQi (fun r h' => r = lkE 25 x y ∧ h' = h)) := by
  refine gxM_of rfl (Nat.le_of_ble_eq_true rfl) rfl ?_
  refine gx_iload_n (pc := 0) dX28_with_0 rfl ?_
  refine gx_if_eq (pc := 1) 12 dX28_with_1 (by decide) (fun c1 => ?_) (fun c1 => ?_)
  · refine gx_iconst (pc := 12) (v := 0) dX28_with_12 (by decide) ?_
    exact gx_ireturn (pc := 13) rfl dX28_with_13 (⟨_, rfl, ⟨by show _ = (if x ≠ 0 ∧ y ≠ 0 then 1 else 0); rw [if_neg (fun hh => hh.1 c1)], rfl⟩⟩)
  · refine gx_iload_n (pc := 4) dX28_with_4 rfl ?_
    refine gx_if_eq (pc := 5) 12 dX28_with_5 (by decide) (fun c2 => ?_) (fun c2 => ?_)
    · refine gx_iconst (pc := 12) (v := 0) dX28_with_12 (by decide) ?_
      exact gx_ireturn (pc := 13) rfl dX28_with_13 (⟨_, rfl, ⟨by show _ = (if x ≠ 0 ∧ y ≠ 0 then 1 else 0); rw [if_neg (fun hh => hh.2 c2)], rfl⟩⟩)
    · refine gx_iconst (pc := 8) (v := 1) dX28_with_8 (by decide) ?_
      refine gx_goto (pc := 9) 13 dX28_with_9 (by decide) ?_
      exact gx_ireturn (pc := 13) rfl dX28_with_13 (⟨_, rfl, ⟨by show _ = (if x ≠ 0 ∧ y ≠ 0 then 1 else 0); rw [if_pos ⟨c1, c2⟩], rfl⟩⟩)
theorem c_on_X28 {d d' a r fo : Nat} {v : Int32} (ha : h.1 a = some (.inr (25, [.ref r]))) (hE : exM G d' h r fo v) (hd : d' + 1 ≤ d) (x : Int32) : gxM G mX22_on d 0 0 [.ref a, .int x, .ref fo] h (gxQi (fun r h' => r = lkE 25 x v ∧ h' = h)) := by
  refine gxM_of rfl (Nat.le_of_ble_eq_true rfl) rfl ?_
  refine gx_aload_n (pc := 0) dX22_on_0 rfl ?_
  refine gx_iload_n (pc := 1) dX22_on_1 rfl ?_
  refine gx_aload_n (pc := 2) dX22_on_2 rfl ?_
  refine gx_get (pc := 3) fX22_7_X28 ha rfl dX22_on_3 ?_
  refine gx_aload_n (pc := 6) dX22_on_6 rfl ?_
  refine kEX22_13 (pc := 7) hE rfl hd (Nat.le_of_ble_eq_true rfl) dX22_on_7 ?_
  refine kX22_19_X28 (kc := 0) (ks := 0) (mc := 0) (ms := 0) (pc := 10) rfl (c_X28_with (d := 0) x v) (gxRc.of rfl ha) (by omega) (Nat.le_of_ble_eq_true rfl) dX22_on_10 (fun r1 h1 e1 => ?_)
  obtain ⟨rfl, e1⟩ := e1
  subst e1
  exact gx_ireturn (pc := 13) rfl dX22_on_13 (⟨_, rfl, ⟨rfl, rfl⟩⟩)
theorem c_X29_with {d a : Nat} (x y : Int32) : gxM G mX29_with d 0 0 [.ref a, .int x, .int y] h (gxQi (fun r h' => r = lkE 26 x y ∧ h' = h)) := by
  refine gxM_of rfl (Nat.le_of_ble_eq_true rfl) rfl ?_
  refine gx_iload_n (pc := 0) dX29_with_0 rfl ?_
  refine gx_if_ne (pc := 1) 8 dX29_with_1 (by decide) (fun c1 => ?_) (fun c1 => ?_)
  · refine gx_iconst (pc := 8) (v := 1) dX29_with_8 (by decide) ?_
    refine gx_goto (pc := 9) 13 dX29_with_9 (by decide) ?_
    exact gx_ireturn (pc := 13) rfl dX29_with_13 (⟨_, rfl, ⟨by show _ = (if x ≠ 0 ∨ y ≠ 0 then 1 else 0); rw [if_pos (Or.inl c1)], rfl⟩⟩)
  · refine gx_iload_n (pc := 4) dX29_with_4 rfl ?_
    refine gx_if_eq (pc := 5) 12 dX29_with_5 (by decide) (fun c2 => ?_) (fun c2 => ?_)
    · refine gx_iconst (pc := 12) (v := 0) dX29_with_12 (by decide) ?_
      exact gx_ireturn (pc := 13) rfl dX29_with_13 (⟨_, rfl, ⟨by show _ = (if x ≠ 0 ∨ y ≠ 0 then 1 else 0); rw [if_neg (fun hh => by rcases hh with hh | hh; exact hh c1; exact hh c2)], rfl⟩⟩)
    · refine gx_iconst (pc := 8) (v := 1) dX29_with_8 (by decide) ?_
      refine gx_goto (pc := 9) 13 dX29_with_9 (by decide) ?_
      exact gx_ireturn (pc := 13) rfl dX29_with_13 (⟨_, rfl, ⟨by show _ = (if x ≠ 0 ∨ y ≠ 0 then 1 else 0); rw [if_pos (Or.inr c2)], rfl⟩⟩)
theorem c_on_X29 {d d' a r fo : Nat} {v : Int32} (ha : h.1 a = some (.inr (26, [.ref r]))) (hE : exM G d' h r fo v) (hd : d' + 1 ≤ d) (x : Int32) : gxM G mX22_on d 0 0 [.ref a, .int x, .ref fo] h (gxQi (fun r h' => r = lkE 26 x v ∧ h' = h)) := by
  refine gxM_of rfl (Nat.le_of_ble_eq_true rfl) rfl ?_
  refine gx_aload_n (pc := 0) dX22_on_0 rfl ?_
  refine gx_iload_n (pc := 1) dX22_on_1 rfl ?_
  refine gx_aload_n (pc := 2) dX22_on_2 rfl ?_
  refine gx_get (pc := 3) fX22_7_X29 ha rfl dX22_on_3 ?_
  refine gx_aload_n (pc := 6) dX22_on_6 rfl ?_
  refine kEX22_13 (pc := 7) hE rfl hd (Nat.le_of_ble_eq_true rfl) dX22_on_7 ?_
  refine kX22_19_X29 (kc := 0) (ks := 0) (mc := 0) (ms := 0) (pc := 10) rfl (c_X29_with (d := 0) x v) (gxRc.of rfl ha) (by omega) (Nat.le_of_ble_eq_true rfl) dX22_on_10 (fun r1 h1 e1 => ?_)
  obtain ⟨rfl, e1⟩ := e1
  subst e1
  exact gx_ireturn (pc := 13) rfl dX22_on_13 (⟨_, rfl, ⟨rfl, rfl⟩⟩)
theorem k7 {k : Nat} {p : Nat → Prop} (h1 : 20 ≤ k) (h2 : k ≤ 26) (p0 : p 20) (p1 : p 21) (p2 : p 22) (p3 : p 23) (p4 : p 24) (p5 : p 25) (p6 : p 26) : p k := by
  have : k = 20 ∨ k = 21 ∨ k = 22 ∨ k = 23 ∨ k = 24 ∨ k = 25 ∨ k = 26 := by omega
  rcases this with e | e | e | e | e | e | e <;> subst e <;> assumption
theorem gx_castL {idx a c r : Nat} (h1 : 20 ≤ c) (h2 : c ≤ 26) (ha : h.1 a = some (.inr (c, [.ref r]))) (hl : Cond.classLink Y.1.cls idx "PaidSecrets$Link" ∈ lw_all) (hd : decode Y.2.1 pc = .ok (.checkcast idx, 3)) (kk : gxV G Y d kc ks (pc + 3) ls (.ref a :: st) h Q) : gxV G Y d kc ks pc ls (.ref a :: st) h Q := by
  revert ha
  refine k7 (p := fun c => h.1 a = some (.inr (c, [.ref r])) → _) h1 h2 ?_ ?_ ?_ ?_ ?_ ?_ ?_ <;> intro ha
  · exact gx_castO (ci := 20) ha rfl hl q2526 hd kk
  · exact gx_castO (ci := 21) ha rfl hl q2524 hd kk
  · exact gx_castO (ci := 22) ha rfl hl q2522 hd kk
  · exact gx_castO (ci := 23) ha rfl hl q2521 hd kk
  · exact gx_castO (ci := 24) ha rfl hl q2525 hd kk
  · exact gx_castO (ci := 25) ha rfl hl q2520 hd kk
  · exact gx_castO (ci := 26) ha rfl hl q2523 hd kk
theorem kLX21_36 {d' a c r fo : Nat} {v x : Int32} (h1 : 20 ≤ c) (h2 : c ≤ 26) (ha : h.1 a = some (.inr (c, [.ref r]))) (hE : exM G d' h r fo v) (hY : Y.1.cls = "PaidSecrets$Chain") (hdd : d' + 1 + 1 ≤ d) (hst : (st.map fun v => v.category).sum ≤ 8) (hd : decode Y.2.1 pc = .ok (.invokevirtual 36, 3)) (kk : gxV G Y d kc ks (pc + 3) ls (.int (lkE c x v) :: st) h Q) : gxV G Y d kc ks pc ls (.ref fo :: .int x :: .ref a :: st) h Q := by
  revert ha kk
  refine k7 (p := fun c => h.1 a = some (.inr (c, [.ref r])) → gxV G Y d kc ks (pc + 3) ls (.int (lkE c x v) :: st) h Q → _) h1 h2 ?_ ?_ ?_ ?_ ?_ ?_ ?_ <;> intro ha kk
  · exact kX21_36_X23 (kc := kc) (ks := ks) (mc := 0) (ms := 0) hY (c_on_X23 (d := d' + 1) ha hE (by omega) x) (gxRc.of (ci := 20) rfl ha) hdd hst hd (fun r h1 e => by obtain ⟨rfl, e⟩ := e; subst e; exact kk)
  · exact kX21_36_X24 (kc := kc) (ks := ks) (mc := 0) (ms := 0) hY (c_on_X24 (d := d' + 1) ha hE (by omega) x) (gxRc.of (ci := 21) rfl ha) hdd hst hd (fun r h1 e => by obtain ⟨rfl, e⟩ := e; subst e; exact kk)
  · exact kX21_36_X25 (kc := kc) (ks := ks) (mc := 0) (ms := 0) hY (c_on_X25 (d := d' + 1) ha hE (by omega) x) (gxRc.of (ci := 22) rfl ha) hdd hst hd (fun r h1 e => by obtain ⟨rfl, e⟩ := e; subst e; exact kk)
  · exact kX21_36_X26 (kc := kc) (ks := ks) (mc := 0) (ms := 0) hY (c_on_X26 (d := d' + 1) ha hE (by omega) x) (gxRc.of (ci := 23) rfl ha) hdd hst hd (fun r h1 e => by obtain ⟨rfl, e⟩ := e; subst e; exact kk)
  · exact kX21_36_X27 (kc := kc) (ks := ks) (mc := 0) (ms := 0) hY (c_on_X27 (d := d' + 1) ha hE (by omega) x) (gxRc.of (ci := 24) rfl ha) hdd hst hd (fun r h1 e => by obtain ⟨rfl, e⟩ := e; subst e; exact kk)
  · exact kX21_36_X28 (kc := kc) (ks := ks) (mc := 0) (ms := 0) hY (c_on_X28 (d := d' + 1) ha hE (by omega) x) (gxRc.of (ci := 25) rfl ha) hdd hst hd (fun r h1 e => by obtain ⟨rfl, e⟩ := e; subst e; exact kk)
  · exact kX21_36_X29 (kc := kc) (ks := ks) (mc := 0) (ms := 0) hY (c_on_X29 (d := d' + 1) ha hE (by omega) x) (gxRc.of (ci := 26) rfl ha) hdd hst hd (fun r h1 e => by obtain ⟨rfl, e⟩ := e; subst e; exact kk)
theorem ex_of {lo hi fo fa : Nat} {f : Nat → Int32} (hfo : h.1 fo = some (.inr (4, [.ref fa]))) (hfa : h.1 fa = some (.inl (0, 4, .inl f))) : ∀ m r ev d, exE lo hi h m r ev → 3 * m + 3 ≤ d → exM G d h r fo (ev (f 0) (f 1) (f 2) (f 3)) := by
  intro m
  induction m with
  | zero => intro r ev d hx; exact absurd hx id
  | succ m IH =>
    intro r ev d hx hd
    obtain ⟨_, hx⟩ := hx
    rcases hx with ⟨n, hr, rfl⟩ | ⟨k, hk, hr, rfl⟩ | ⟨r', ev', hr, hx, rfl⟩ | ⟨r', ll, n, ev', la, lc, lr, le, hr, hx, hll, hlk, rfl⟩
    · refine Or.inr (Or.inl ⟨_, hr, ?_⟩)
      refine gxM_of rfl (Nat.le_of_ble_eq_true rfl) rfl ?_
      refine gx_aload_n (pc := 0) dX19_of_0 rfl ?_
      refine gx_get (pc := 1) fX19_7 hr rfl dX19_of_1 ?_
      exact gx_ireturn (pc := 4) rfl dX19_of_4 (⟨_, rfl, ⟨rfl, rfl⟩⟩)
    · refine Or.inl ⟨_, hr, ?_⟩
      refine gxM_of rfl (Nat.le_of_ble_eq_true rfl) rfl ?_
      refine gx_aload_n (pc := 0) dX18_of_0 rfl ?_
      refine gx_get (pc := 1) fX18_13 hfo rfl dX18_of_1 ?_
      refine gx_aload_n (pc := 4) dX18_of_4 rfl ?_
      refine gx_get (pc := 5) fX18_7 hr rfl dX18_of_5 ?_
      refine gx_iald (pc := 8) (k) hfa (by first | rfl | simp only [gx_lit, nI_add, pk_mul]) (by omega) (by decide) dX18_of_8 ?_
      have e : f k = (if k = 0 then f 0 else if k = 1 then f 1 else if k = 2 then f 2 else f 3) := by
        have : k = 0 ∨ k = 1 ∨ k = 2 ∨ k = 3 := by omega
        rcases this with e | e | e | e <;> subst e <;> rfl
      exact gx_ireturn (pc := 9) rfl dX18_of_9 (⟨_, rfl, ⟨e, rfl⟩⟩)
    · refine Or.inr (Or.inr (Or.inl ⟨_, hr, ?_⟩))
      refine gxM_of rfl (Nat.le_of_ble_eq_true rfl) rfl ?_
      refine gx_aload_n (pc := 0) dX20_of_0 rfl ?_
      refine gx_get (pc := 1) fX20_7 hr rfl dX20_of_1 ?_
      refine gx_aload_n (pc := 4) dX20_of_4 rfl ?_
      refine kEX20_13 (pc := 5) (IH r' ev' (d - 1) hx (by omega)) rfl (by omega) (Nat.le_of_ble_eq_true rfl) dX20_of_5 ?_
      refine gx_if_ne (pc := 8) 15 dX20_of_8 (by decide) (fun c1 => ?_) (fun c1 => ?_)
      · refine gx_iconst (pc := 15) (v := 0) dX20_of_15 (by decide) ?_
        exact gx_ireturn (pc := 16) rfl dX20_of_16 (⟨_, rfl, ⟨by show _ = (if ev' (f 0) (f 1) (f 2) (f 3) = 0 then (1 : Int32) else 0); rw [if_neg c1], rfl⟩⟩)
      · refine gx_iconst (pc := 11) (v := 1) dX20_of_11 (by decide) ?_
        refine gx_goto (pc := 12) 16 dX20_of_12 (by decide) ?_
        exact gx_ireturn (pc := 16) rfl dX20_of_16 (⟨_, rfl, ⟨by show _ = (if ev' (f 0) (f 1) (f 2) (f 3) = 0 then (1 : Int32) else 0); rw [if_pos c1], rfl⟩⟩)
    · refine Or.inr (Or.inr (Or.inr ⟨_, hr, ?_⟩))
      have hll0 := hll.ls
      have hln := hll0
      obtain ⟨_, _, cc, _, hln, _, hnc, hc31, _⟩ := hln
      refine gxM_of rfl (Nat.le_of_ble_eq_true rfl) rfl ?_
      have L : ∀ m2 k, m2 + k = n → gxV G mX21_of d 0 0 11 [some (.ref r), some (.ref fo), some (.int (chE (ev' (f 0) (f 1) (f 2) (f 3)) lc (fun k => le k (f 0) (f 1) (f 2) (f 3)) k)), some (.int (nI k))] [] h (exQ h (chE (ev' (f 0) (f 1) (f 2) (f 3)) lc (fun k => le k (f 0) (f 1) (f 2) (f 3)) n)) := by
        intro m2
        induction m2 with
        | zero =>
          intro k hk
          have : k = n := by omega
          subst this
          refine gx_iload_n (pc := 11) dX21_of_11 rfl ?_
          refine gx_aload_n (pc := 12) dX21_of_12 rfl ?_
          refine gx_get (pc := 13) fX21_12 hr rfl dX21_of_13 ?_
          refine kX21_26 (kc := 0) (ks := 0) (mc := 0) (ms := 0) (pc := 16) rfl (c_size (d := d - 1) hll0) (gxRc.of rfl hln) (by omega) (Nat.le_of_ble_eq_true rfl) dX21_of_16 (fun r1 h1 e1 => ?_)
          obtain ⟨rfl, e1⟩ := e1
          subst e1
          refine gx_icmp_ge (pc := 19) 45 dX21_of_19 (by decide) (fun c1 => ?_) (fun c1 => ?_)
          · refine gx_iload_n (pc := 45) dX21_of_45 rfl ?_
            exact gx_ireturn (pc := 46) rfl dX21_of_46 (⟨_, rfl, ⟨rfl, rfl⟩⟩)
          · exact absurd (nI_le (Nat.le_refl _) (by omega)) c1
        | succ m2 ih2 =>
          intro k hk
          obtain ⟨j1, j2, j3, j4, j5⟩ := hlk k (by omega)
          refine gx_iload_n (pc := 11) dX21_of_11 rfl ?_
          refine gx_aload_n (pc := 12) dX21_of_12 rfl ?_
          refine gx_get (pc := 13) fX21_12 hr rfl dX21_of_13 ?_
          refine kX21_26 (kc := 0) (ks := 0) (mc := 0) (ms := 0) (pc := 16) rfl (c_size (d := d - 1) hll0) (gxRc.of rfl hln) (by omega) (Nat.le_of_ble_eq_true rfl) dX21_of_16 (fun r1 h1 e1 => ?_)
          obtain ⟨rfl, e1⟩ := e1
          subst e1
          refine gx_icmp_ge (pc := 19) 45 dX21_of_19 (by decide) (fun c1 => ?_) (fun c1 => ?_)
          · exact absurd c1 (nI_ge (by omega) (by omega))
          · refine gx_aload_n (pc := 22) dX21_of_22 rfl ?_
            refine gx_get (pc := 23) fX21_12 hr rfl dX21_of_23 ?_
            refine gx_iload_n (pc := 26) dX21_of_26 rfl ?_
            refine kX21_30 (kc := 0) (ks := 0) (mc := 0) (ms := 0) (pc := 27) rfl (c_get (d := d - 1) (by omega) hll0 k (by omega)) (gxRc.of rfl hln) (by omega) (Nat.le_of_ble_eq_true rfl) dX21_of_27 (fun r1 h1 e1 => ?_)
            obtain ⟨rfl, e1⟩ := e1
            subst e1
            refine gx_castL (pc := 30) j2 j3 j4 q1381 dX21_of_30 ?_
            refine gx_iload_n (pc := 33) dX21_of_33 rfl ?_
            refine gx_aload_n (pc := 34) dX21_of_34 rfl ?_
            refine kLX21_36 (pc := 35) j2 j3 j4 (IH (lr k) (le k) (d - 2) j5 (by omega)) rfl (by omega) (Nat.le_of_ble_eq_true rfl) dX21_of_35 ?_
            refine gx_istore_n (pc := 38) dX21_of_38 (by decide) rfl ?_
            refine gx_iincc (pc := 39) (c := 1) dX21_of_39 rfl (by decide) (by decide) rfl ?_
            refine gx_goto (pc := 42) 11 dX21_of_42 (by decide) ?_
            rw [nI_1]
            exact ih2 (k + 1) (by omega)
      refine gx_aload_n (pc := 0) dX21_of_0 rfl ?_
      refine gx_get (pc := 1) fX21_18 hr rfl dX21_of_1 ?_
      refine gx_aload_n (pc := 4) dX21_of_4 rfl ?_
      refine kEX21_22 (pc := 5) (IH r' ev' (d - 1) hx (by omega)) rfl (by omega) (Nat.le_of_ble_eq_true rfl) dX21_of_5 ?_
      refine gx_istore_n (pc := 8) dX21_of_8 (by decide) rfl ?_
      refine gx_iconst (pc := 9) (v := 0) dX21_of_9 (by decide) ?_
      refine gx_istore_n (pc := 10) dX21_of_10 (by decide) rfl ?_
      exact L n 0 (by omega)
end LD

