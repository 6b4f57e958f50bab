/-! ===== COMPONENT AO: marks gone back to; counts, persons; fed ===== -/
set_option maxRecDepth 100000
section AO
variable {G : gxG} {d : Nat} {h : gxH} {x r tk tr gl sl bl py pt ng ft mk lo hi ta fa P S E be bc n : Nat} {gg : Int64} {A : Nat → Nat → Int32} {s : Nat → Int32} {w : Option gxEv} {b : Bool} {bf : Nat → Nat}
theorem c_BHclear {h : gxH} (hB : BH G h bl be bc n bf) : gxM G mJ2_clear d 0 0 [.ref bl] h (gxQv (fun h' => BH G h' bl be bc 0 bf ∧ h'.2 = h.2 ∧ ∀ q, q ≠ bl → (bc = 0 ∨ q ≠ be) → h'.1 q = h.1 q)) := by
  obtain ⟨z1, z2, z3⟩ := hB
  rcases z3 with ⟨y1, y2, y3⟩ | ⟨y1, y2, y3, y4, y5, y6, g, y7, y8, y9⟩
  · refine gxM_post ?_ (c_Lclear0 (d := d) z1 y3)
    rintro o h' ⟨rfl, e1, e2, e3⟩
    exact ⟨rfl, ⟨z1, by omega, Or.inl ⟨rfl, y2, e1⟩⟩, e2, fun q q1 _ => e3 q q1⟩
  · refine gxM_post ?_ (c_Lclear (d := d) z1 y1 y2 y6 (by omega) y7)
    rintro o h' ⟨rfl, e1, e2, g', e3, e4, e5⟩
    refine ⟨rfl, ⟨z1, by omega, Or.inr ⟨y1, y2, by omega, y4, y5, by omega, g', e3, fun k hk => by omega, fun k _ hk => ?_⟩⟩, e1, fun q q1 q2 => e2 q q1 (q2.resolve_left (by omega))⟩
    rcases Nat.lt_or_ge k n with z | z
    · exact e4 k z
    · rw [e5 k z]; exact y9 k z hk
theorem BH.xb {h : gxH} (hB : BH G h bl be bc n bf) (hO : XF h x r tk tr gl sl bl py pt ng ft gg mk) : x ≠ bl ∧ (bc = 0 ∨ x ≠ be) := by
  obtain ⟨z1, z2, z3⟩ := hB
  have hx : h.1 x = _ := hO
  rcases z3 with ⟨y1, y2, mc, t, y3, y4⟩ | ⟨y1, y2, y3, y4, y5, y6, g, ⟨mc, y7, y8⟩, y9⟩
  · refine ⟨fun e => ?_, Or.inl y2⟩
    rw [← e, hx] at y4; cases y4
  · refine ⟨fun e => ?_, Or.inr (fun e => ?_)⟩
    · rw [← e, hx] at y7; cases y7
    · rw [← e, hx] at y8; simp [gxq] at y8
/-- gone back to a mark -/
theorem c_Xback (hd : 10 ≤ d) (nz : gxN G ≤ h.2) (nx : gxN G ≤ x) (hxz : x < h.2) (hO : XF h x r tk tr gl sl bl py pt ng ft gg mk) (hB : BH G h bl be bc n bf) {mf : Nat → Option Nat} {a a1 g1 s1 se1 sc1 n1 : Nat} {sv1 : Nat → Int32} (hmk : h.1 mk = some (gxq 6 4 mf)) (hmz : mk < h.2) (m : Nat) (hm : m < 4) (hmf : mf m = some a) (ha : h.1 a = some (.inr (31, [.ref a1, .ref g1, .ref s1]))) (haz : a < h.2) (hK : TK h a1 ta s b) (hlt : a1 + 6 ≤ h.2) (hL : SN G h s1 se1 sc1 n1 sv1) (hn1 : n1 ≤ 10) (v2 : Option Value) :
    gxV G mX1_mark d 19 483 61 [some (.ref x), some (.int (nI m)), v2] [] h (gxQi (fun v h' => v = 1 ∧ XF h' x r h.2 tr g1 (h.2 + 6) bl py pt ng ft gg mk ∧ TK h' h.2 ta s b ∧ (∃ se' sc', SN G h' (h.2 + 6) se' sc' n1 sv1 ∧ h.2 + 6 < se') ∧ BH G h' bl be bc 0 bf ∧ h.2 + 6 < h'.2 ∧ h'.2 ≤ h.2 + 18 ∧ ∀ q, q < h.2 → q ≠ x → q ≠ bl → (bc = 0 ∨ q ≠ be) → h'.1 q = h.1 q)) := by
  have hx : h.1 x = some (.inr (0, [.ref r, .ref tk, .ref tr, .ref gl, .ref sl, .ref bl, .ref py, .ref pt, .ref ng, .ref ft, .long gg, .ref mk])) := hO
  have hxb := hB.xb hO
  have nsl := hL.2.choose_spec.1.2.1
  have nse := hL.2.choose_spec.1.2.2.2.2.1
  have xmk : mk ≠ x := fun e => by rw [e, hx] at hmk; simp [gxq] at hmk
  have xa : a ≠ x := fun e => by rw [e, hx] at ha; cases ha
  have xk : ∀ q, a1 ≤ q → q < a1 + 6 → q ≠ x := fun q q1 q2 e => by
    rcases hK.ty q1 q2 with ⟨vs, z⟩ | ⟨n, f, z⟩ <;> rw [e, hx] at z <;> cases z
  have xs : s1 ≠ x ∧ se1 ≠ x := by
    obtain ⟨_, _, ⟨_, _, _, _, _, _, _, _, _, ⟨mc, z1, z2⟩, _⟩, _⟩ := hL
    exact ⟨(fun e => by rw [e, hx] at z1; cases z1), (fun e => by rw [e, hx] at z2; simp [gxq] at z2)⟩
  refine gx_more (a := 12 + 6) (b := 405 + 75) (by omega) (by omega) ?_
  obtain ⟨_, _, _, _, _, ha1, _⟩ := id hK
  refine gx_aload_n (pc := 61) dX1_mark_61 rfl ?_
  refine gx_aload_n (pc := 62) dX1_mark_62 rfl ?_
  refine gx_get (pc := 63) fX1_95 hx rfl dX1_mark_63 ?_
  refine gx_iload_n (pc := 66) dX1_mark_66 rfl ?_
  refine gx_aald (pc := 67) (m) hmk (fun _ => rfl) (by first | rfl | simp only [gx_lit, nI_add, pk_mul]) (by omega) (by decide) dX1_mark_67 ?_
  rw [hmf]
  refine gx_getN (pc := 68) fX1_387 ha rfl dX1_mark_68 ?_
  refine kX1_232 (kc := 12) (ks := 405) (mc := 6) (ms := 75) (pc := 71) rfl (c_copied (d := d - 1) nz (by omega) hlt hK) (gxRc.of rfl ha1) (by omega) (Nat.le_of_ble_eq_true rfl) dX1_mark_71 (fun r1 h1 e1 => ?_)
  obtain ⟨rfl, K1, s1', l1⟩ := e1
  have hx : h1.1 x = some (.inr (0, [.ref r, .ref tk, .ref tr, .ref gl, .ref sl, .ref bl, .ref py, .ref pt, .ref ng, .ref ft, .long gg, .ref mk])) := by rw [l1 x hxz]; exact hO
  refine gx_put (pc := 74) fX1_40 hx nx (by first | exact Nat.le_of_ble_eq_true rfl | simp) tX1_1 rfl rfl dX1_mark_74 ?_
  change gxV _ _ _ _ _ _ _ _ (gxup h1 x (.inr (0, [.ref r, .ref h.2, .ref tr, .ref gl, .ref sl, .ref bl, .ref py, .ref pt, .ref ng, .ref ft, .long gg, .ref mk]))) _
  have hx2 : (gxup h1 x (.inr (0, [.ref r, .ref h.2, .ref tr, .ref gl, .ref sl, .ref bl, .ref py, .ref pt, .ref ng, .ref ft, .long gg, .ref mk]))).1 x = some (.inr (0, [.ref r, .ref h.2, .ref tr, .ref gl, .ref sl, .ref bl, .ref py, .ref pt, .ref ng, .ref ft, .long gg, .ref mk])) := gxup_self _ _ _
  have f2 : ∀ q, q ≠ x → (gxup h1 x (.inr (0, [.ref r, .ref h.2, .ref tr, .ref gl, .ref sl, .ref bl, .ref py, .ref pt, .ref ng, .ref ft, .long gg, .ref mk]))).1 q = h1.1 q := fun q hq => gxup_ne hq
  have s2 : (gxup h1 x (.inr (0, [.ref r, .ref h.2, .ref tr, .ref gl, .ref sl, .ref bl, .ref py, .ref pt, .ref ng, .ref ft, .long gg, .ref mk]))).2 = h1.2 := rfl
  generalize gxup h1 x (.inr (0, [.ref r, .ref h.2, .ref tr, .ref gl, .ref sl, .ref bl, .ref py, .ref pt, .ref ng, .ref ft, .long gg, .ref mk])) = h2 at *
  have hx := hx2
  have hM2 : h2.1 mk = some (gxq 6 4 mf) := by rw [f2 mk xmk, l1 mk hmz]; exact hmk
  have ha2 : h2.1 a = some (.inr (31, [.ref a1, .ref g1, .ref s1])) := by rw [f2 a xa, l1 a haz]; exact ha
  clear hmk ha
  have hmk := hM2
  have ha := ha2
  refine gx_aload_n (pc := 77) dX1_mark_77 rfl ?_
  refine gx_aload_n (pc := 78) dX1_mark_78 rfl ?_
  refine gx_get (pc := 79) fX1_95 hx rfl dX1_mark_79 ?_
  refine gx_iload_n (pc := 82) dX1_mark_82 rfl ?_
  refine gx_aald (pc := 83) (m) hmk (fun _ => rfl) (by first | rfl | simp only [gx_lit, nI_add, pk_mul]) (by omega) (by decide) dX1_mark_83 ?_
  rw [hmf]
  refine gx_getN (pc := 84) fX1_388 ha rfl dX1_mark_84 ?_
  refine gx_put (pc := 87) fX1_52 hx nx (by first | exact Nat.le_of_ble_eq_true rfl | simp) tX1_3 rfl rfl dX1_mark_87 ?_
  change gxV _ _ _ _ _ _ _ _ (gxup h2 x (.inr (0, [.ref r, .ref h.2, .ref tr, .ref g1, .ref sl, .ref bl, .ref py, .ref pt, .ref ng, .ref ft, .long gg, .ref mk]))) _
  have hx3 : (gxup h2 x (.inr (0, [.ref r, .ref h.2, .ref tr, .ref g1, .ref sl, .ref bl, .ref py, .ref pt, .ref ng, .ref ft, .long gg, .ref mk]))).1 x = some (.inr (0, [.ref r, .ref h.2, .ref tr, .ref g1, .ref sl, .ref bl, .ref py, .ref pt, .ref ng, .ref ft, .long gg, .ref mk])) := gxup_self _ _ _
  have f3 : ∀ q, q ≠ x → (gxup h2 x (.inr (0, [.ref r, .ref h.2, .ref tr, .ref g1, .ref sl, .ref bl, .ref py, .ref pt, .ref ng, .ref ft, .long gg, .ref mk]))).1 q = h2.1 q := fun q hq => gxup_ne hq
  have s3 : (gxup h2 x (.inr (0, [.ref r, .ref h.2, .ref tr, .ref g1, .ref sl, .ref bl, .ref py, .ref pt, .ref ng, .ref ft, .long gg, .ref mk]))).2 = h2.2 := rfl
  generalize gxup h2 x (.inr (0, [.ref r, .ref h.2, .ref tr, .ref g1, .ref sl, .ref bl, .ref py, .ref pt, .ref ng, .ref ft, .long gg, .ref mk])) = h3 at *
  have hx := hx3
  have hM3 : h3.1 mk = some (gxq 6 4 mf) := by rw [f3 mk xmk]; exact hmk
  have ha3 : h3.1 a = some (.inr (31, [.ref a1, .ref g1, .ref s1])) := by rw [f3 a xa]; exact ha
  clear hmk ha hM2 ha2
  have hmk := hM3
  have ha := ha3
  have L3 : SN G h3 s1 se1 sc1 n1 sv1 := by
    obtain ⟨y1, f, y2, y3⟩ := hL
    exact ⟨y1, f, y2.fr (by omega) (by rw [f3 s1 xs.1, f2 s1 xs.1]; exact l1 s1 nsl) (by rw [f3 se1 xs.2, f2 se1 xs.2]; exact l1 se1 nse), y3⟩
  refine gx_aload_n (pc := 90) dX1_mark_90 rfl ?_
  refine gx_aload_n (pc := 91) dX1_mark_91 rfl ?_
  refine gx_get (pc := 92) fX1_95 hx rfl dX1_mark_92 ?_
  refine gx_iload_n (pc := 95) dX1_mark_95 rfl ?_
  refine gx_aald (pc := 96) (m) hmk (fun _ => rfl) (by first | rfl | simp only [gx_lit, nI_add, pk_mul]) (by omega) (by decide) dX1_mark_96 ?_
  rw [hmf]
  refine gx_getN (pc := 97) fX1_389 ha rfl dX1_mark_97 ?_
  refine gx_r0 ?_
  refine kX1_381 (kc := 0) (ks := 0) (mc := 12) (ms := 405) (pc := 100) rfl (c_Xcopied (d := d - 1) (by omega) (by omega) L3 hn1) (by omega) (Nat.le_of_ble_eq_true rfl) dX1_mark_100 (fun r4 h4 e4 => ?_)
  obtain ⟨rfl, ⟨se', sc', N4, z4⟩, s4, s4', l4⟩ := e4
  rw [s3, s2, s1'] at N4 s4 s4' l4 z4 ⊢
  have hx : h4.1 x = some (.inr (0, [.ref r, .ref h.2, .ref tr, .ref g1, .ref sl, .ref bl, .ref py, .ref pt, .ref ng, .ref ft, .long gg, .ref mk])) := by rw [l4 x (by omega)]; exact hx3
  refine gx_put (pc := 103) fX1_56 hx nx (by first | exact Nat.le_of_ble_eq_true rfl | simp) tX1_4 rfl rfl dX1_mark_103 ?_
  change gxV _ _ _ _ _ _ _ _ (gxup h4 x (.inr (0, [.ref r, .ref h.2, .ref tr, .ref g1, .ref (h.2 + 6), .ref bl, .ref py, .ref pt, .ref ng, .ref ft, .long gg, .ref mk]))) _
  have hx5 : (gxup h4 x (.inr (0, [.ref r, .ref h.2, .ref tr, .ref g1, .ref (h.2 + 6), .ref bl, .ref py, .ref pt, .ref ng, .ref ft, .long gg, .ref mk]))).1 x = some (.inr (0, [.ref r, .ref h.2, .ref tr, .ref g1, .ref (h.2 + 6), .ref bl, .ref py, .ref pt, .ref ng, .ref ft, .long gg, .ref mk])) := gxup_self _ _ _
  have f5 : ∀ q, q ≠ x → (gxup h4 x (.inr (0, [.ref r, .ref h.2, .ref tr, .ref g1, .ref (h.2 + 6), .ref bl, .ref py, .ref pt, .ref ng, .ref ft, .long gg, .ref mk]))).1 q = h4.1 q := fun q hq => gxup_ne hq
  have s5 : (gxup h4 x (.inr (0, [.ref r, .ref h.2, .ref tr, .ref g1, .ref (h.2 + 6), .ref bl, .ref py, .ref pt, .ref ng, .ref ft, .long gg, .ref mk]))).2 = h4.2 := rfl
  generalize gxup h4 x (.inr (0, [.ref r, .ref h.2, .ref tr, .ref g1, .ref (h.2 + 6), .ref bl, .ref py, .ref pt, .ref ng, .ref ft, .long gg, .ref mk])) = h5 at *
  have hx := hx5
  have fr : ∀ q, q < h.2 → q ≠ x → h5.1 q = h.1 q := fun q q1 q2 => by rw [f5 q q2, l4 q (by omega), f3 q q2, f2 q q2, l1 q q1]
  have B5 : BH G h5 bl be bc n bf := by
    obtain ⟨y1, y2, y3⟩ := hB
    refine ⟨y1, by omega, ?_⟩
    rcases y3 with ⟨u1, u2, mc, t, u3, u4⟩ | ⟨u1, u2, u3, u4, u5, u6, g, ⟨mc, u7, u8⟩, u9, u10⟩
    · exact Or.inl ⟨u1, u2, mc, t, u3, by rw [fr bl y2 (Ne.symm hxb.1)]; exact u4⟩
    · exact Or.inr ⟨u1, u2, by omega, u4, u5, u6, g, ⟨mc, by rw [fr bl y2 (Ne.symm hxb.1)]; exact u7, by rw [fr be u3 (Ne.symm (hxb.2.resolve_left (by omega)))]; exact u8⟩, u9, u10⟩
  have K5 : TK h5 h.2 ta s b := K1.fr (fun q q1 q2 => by rw [f5 q (by omega), l4 q (by omega), f3 q (by omega), f2 q (by omega)])
  have N5 : SN G h5 (h.2 + 6) se' sc' n1 sv1 := by
    obtain ⟨y1, f, y2, y3⟩ := N4
    exact ⟨y1, f, y2.fr (by omega) (by rw [f5 _ (by omega)]) (by rw [f5 _ (by omega)]), y3⟩
  obtain ⟨_, _, hbl⟩ := B5.sz
  refine gx_aload_n (pc := 106) dX1_mark_106 rfl ?_
  refine gx_get (pc := 107) fX1_60 hx rfl dX1_mark_107 ?_
  refine kX1_111 (kc := 0) (ks := 0) (mc := 0) (ms := 0) (pc := 110) rfl (c_BHclear (d := d - 1) B5) (gxRc.of rfl hbl) (by omega) (Nat.le_of_ble_eq_true rfl) dX1_mark_110 (fun h6 e6 => ?_)
  obtain ⟨B6, s6, f6⟩ := e6
  refine gx_iconst (pc := 113) (v := 1) dX1_mark_113 (by decide) ?_
  have fl : ∀ q, h.2 ≤ q → q ≠ bl ∧ (bc = 0 ∨ q ≠ be) := fun q hq => by
    obtain ⟨y1, y2, y3⟩ := hB
    rcases y3 with ⟨u1, u2, _⟩ | ⟨u1, u2, u3, _⟩
    · exact ⟨by omega, Or.inl u2⟩
    · exact ⟨by omega, Or.inr (by omega)⟩
  refine gx_zreturn (pc := 114) rfl (by decide) dX1_mark_114 ⟨_, rfl, rfl, ?_, K5.fr (fun q q1 q2 => f6 q (fl q (by omega)).1 (fl q (by omega)).2), ⟨se', sc', ?_, z4⟩, B6, by omega, by omega, fun q q1 q2 q3 q4 => by rw [f6 q q3 q4, fr q q1 q2]⟩
  · show h6.1 x = _
    rw [f6 x hxb.1 hxb.2]; exact hx5
  · obtain ⟨y1, f, y2, y3⟩ := N5
    exact ⟨y1, f, y2.fr (by omega) (f6 _ (fl _ (by omega)).1 (fl _ (by omega)).2) (f6 _ (fl _ (by omega)).1 (fl _ (by omega)).2), y3⟩
end AO
