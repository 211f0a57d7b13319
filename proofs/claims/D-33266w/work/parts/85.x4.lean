section X4
variable {d : Nat} {H : a_H} {g m nb na ma co : Nat} {fr to le : Nat → Nat} {row : Nat → Nat → Nat} {hs : List t_D} {kp : Option t_D} {tx : List Nat}
theorem x_addBox0 (i : cI H g m (nb, na, fr, to, le, row, ma, co) hs kp tx) (hn : nb = 16) : cZ (d+40) MX1_addBox [] H g m (.inr 9) (nb, na, fr, to, le, row, ma, co) hs kp tx := by
  obtain ⟨h, G, N, rfl, hm, hq, c⟩ := cI_E i
  have ⟨g1, g2, kg, g0⟩ := cI_g i
  have hq1 : 1024 ≤ h.1 := by omega
  have ⟨u1, u2, u3, u4, u5, u6, u7⟩ := x_in (n := 0) (f := (fun _ => 0)) hm hq i c (by omega)
  have kg2 := (cI_g u2).2.2.1
  have y0 : cN (d+37) MX2_getsBox [] (wE (hK (hB h 0 (fun _ => 0))) m G N) (hB h 0 (fun _ => 0)).1 G (nK N) 2 (0) := c_getsBox0 (d := d+25) (h := wE (hK (hB h 0 (fun _ => 0))) m G N) (m := (hB h 0 (fun _ => 0)).1) (G := G) (N := nK N) u4 u5 u6 hn
  have y := d_98N (d := d+37) (v := h.1) u4 y0
  have ⟨H', x, t, z1, z2, z3, z4, z5⟩ := x_actN (d := d+22) hm u1 u2 (by decide) y
  have z4 : H'.2.2 x = .inr (9, t) := z4
  have tt := fun pc L => w_thr0 (d := d+39) (M := MX1_addBox) (pc := pc) (L := L) (a_cls_o z4) z3 rfl
  refine ⟨H', m, z1, gR_le (gR_X u3 z2) (by omega) (by omega), x, t, z3, z4, ?_⟩
  rw [e_X1_addBox]
  simp (disch := first | omega | assumption | exact Or.inl rfl | exact Or.inr rfl | exact wN_kls (by omega) | exact wE_kls (by omega) | (simp only [a_cat_nil, a_cat_int, a_cat_ref, a_cat_null, a_cat_long]; done) | (simp only [a_cat_nil, a_cat_int, a_cat_ref, a_cat_null, a_cat_long]; omega) | decide | rfl | (apply Or.inr; omega) | (apply Or.inl; omega)) only [w_X1_addBox_0, w_X1_addBox_1, w_X1_addBox_3, w_X1_addBox_4, w_X1_addBox_6, w_X1_addBox_9, w_ret, w_exc, Nat.reduceAdd, Option.toList_some, Option.toList_none, List.cons_append, List.nil_append, Option.bind_some, nI_add, q_mul, q_sub, q_eq, q_eqz, q_lt, q_ltz, q_gtz, q_le, q_lez, q_div, q_or, q_and, q_shl, q_shr, q_m1, q_eqm, q_meq, q_mm, q_mlt, q_mgt, q_mlt2, q_dec, Nat.add_sub_cancel, q_ltT, q_ltF, q_leT, q_leF, q_eqT, q_eqF, ↓reduceIte, uN_s, uN_n, upN_app, uG_s, uG_n, uG_uG, if_true, if_false, Nat.reduceMul, Nat.reduceSub, Nat.reduceEqDiff, Nat.reduceLT, and_true, true_and, and_false, false_and, or_true, true_or, or_false, false_or, not_true_eq_false, not_false_eq_true, Option.some.injEq, wEg_froms, wEg_tos, wEg_least, wEg_layers, wEg_rows, wEg_lengths, wEg_uppers, wEg_lowers, wEg_near, wEg_medians, wEg_points, wEg_boxes, wEp_boxes, wEg_arrows, wEp_arrows, wEg_depth, wEp_depth, wEg_made, wEp_made, wEg_come, wEp_come, wEr_uppers, wEw_uppers, wEr_lowers, wEw_lowers, wEr_near, wEw_near, wEr_medians, wEw_medians, wEr_points, wEw_points, wEr_froms, wEw_froms, wEr_tos, wEw_tos, wEr_least, wEw_least, wEr_layers, wEw_layers, wEr_rows, wEw_rows, wEr_lengths, wEw_lengths, wE_kls, hB_new, hB_wr, z5, tt]
theorem x_addBox (i : cI H g m (nb, na, fr, to, le, row, ma, co) hs kp tx) (hn : nb < 16) : cZ (d+40) MX1_addBox [] H g m (.inl (.int (nI (nb)))) (t_nw (nb + 1) na fr to le ma co) (t_pu hs (nb, na, fr, to, le, row, ma, co)) kp tx := by
  obtain ⟨h, G, N, rfl, hm, hq, c⟩ := cI_E i
  have ⟨g1, g2, kg, g0⟩ := cI_g i
  have hq1 : 1024 ≤ h.1 := by omega
  have ⟨u1, u2, u3, u4, u5, u6, u7⟩ := x_in (n := 0) (f := (fun _ => 0)) hm hq i c (by omega)
  have kg2 := (cI_g u2).2.2.1
  have y0 : cY (d+37) MX2_getsBox [] (wE (hK (hB h 0 (fun _ => 0))) m G N) (hB h 0 (fun _ => 0)).1 G (nK N) (nb) (t_nw (nb + 1) na fr to le ma co) := c_getsBox (d := d+25) (h := wE (hK (hB h 0 (fun _ => 0))) m G N) (m := (hB h 0 (fun _ => 0)).1) (G := G) (N := nK N) u4 u6 hn
  have y := d_98 (d := d+37) (v := h.1) u4 y0
  have ⟨H', z1, z2, z3⟩ := x_act (d := d+22) hm u1 u2 y
  refine ⟨H', _, z1, gR_le (gR_X u3 z2) (by omega) (by omega), ?_⟩
  rw [e_X1_addBox]
  simp (disch := first | omega | assumption | exact Or.inl rfl | exact Or.inr rfl | exact wN_kls (by omega) | exact wE_kls (by omega) | (simp only [a_cat_nil, a_cat_int, a_cat_ref, a_cat_null, a_cat_long]; done) | (simp only [a_cat_nil, a_cat_int, a_cat_ref, a_cat_null, a_cat_long]; omega) | decide | rfl | (apply Or.inr; omega) | (apply Or.inl; omega)) only [w_X1_addBox_0, w_X1_addBox_1, w_X1_addBox_3, w_X1_addBox_4, w_X1_addBox_6, w_X1_addBox_9, w_ret, w_exc, Nat.reduceAdd, Option.toList_some, Option.toList_none, List.cons_append, List.nil_append, Option.bind_some, nI_add, q_mul, q_sub, q_eq, q_eqz, q_lt, q_ltz, q_gtz, q_le, q_lez, q_div, q_or, q_and, q_shl, q_shr, q_m1, q_eqm, q_meq, q_mm, q_mlt, q_mgt, q_mlt2, q_dec, Nat.add_sub_cancel, q_ltT, q_ltF, q_leT, q_leF, q_eqT, q_eqF, ↓reduceIte, uN_s, uN_n, upN_app, uG_s, uG_n, uG_uG, if_true, if_false, Nat.reduceMul, Nat.reduceSub, Nat.reduceEqDiff, Nat.reduceLT, and_true, true_and, and_false, false_and, or_true, true_or, or_false, false_or, not_true_eq_false, not_false_eq_true, Option.some.injEq, wEg_froms, wEg_tos, wEg_least, wEg_layers, wEg_rows, wEg_lengths, wEg_uppers, wEg_lowers, wEg_near, wEg_medians, wEg_points, wEg_boxes, wEp_boxes, wEg_arrows, wEp_arrows, wEg_depth, wEp_depth, wEg_made, wEp_made, wEg_come, wEp_come, wEr_uppers, wEw_uppers, wEr_lowers, wEw_lowers, wEr_near, wEw_near, wEr_medians, wEw_medians, wEr_points, wEw_points, wEr_froms, wEw_froms, wEr_tos, wEw_tos, wEr_least, wEw_least, wEr_layers, wEw_layers, wEr_rows, wEw_rows, wEr_lengths, wEw_lengths, wE_kls, hB_new, hB_wr, z3]
theorem x_addArrow1 {x z : Int32} (i : cI H g m (nb, na, fr, to, le, row, ma, co) hs kp tx) (q : ¬ (vB nb x ∧ vB nb z)) : cZ (d+40) MX1_addArrow [.int x, .int z] H g m (.inr 11) (nb, na, fr, to, le, row, ma, co) hs kp tx := by
  obtain ⟨x', rfl⟩ : ∃ x', x = nI x' := ⟨q_cd x, (q_cd_eq x).symm⟩
  obtain ⟨z', rfl⟩ : ∃ z', z = nI z' := ⟨q_cd z, (q_cd_eq z).symm⟩
  obtain ⟨h, G, N, rfl, hm, hq, c⟩ := cI_E i
  have ⟨g1, g2, kg, g0⟩ := cI_g i
  have hq1 : 1024 ≤ h.1 := by omega
  have ⟨u1, u2, u3, u4, u5, u6, u7⟩ := x_in (n := 2) (f := (upN (upN (fun _ => 0) 0 x') 1 z')) hm hq i c (by omega)
  have kg2 := (cI_g u2).2.2.1
  have r0 := u7 0 (by omega)
  rw [show (upN (upN (fun _ => 0) 0 x') 1 z') 0 = x' from rfl] at r0
  have r1 := u7 1 (by omega)
  rw [show (upN (upN (fun _ => 0) 0 x') 1 z') 1 = z' from rfl] at r1
  have y0 : cN (d+37) MX2_getsArrow [.int (nI x'), .int (nI z')] (wE (hK (hB h 2 (upN (upN (fun _ => 0) 0 x') 1 z'))) m G N) (hB h 2 (upN (upN (fun _ => 0) 0 x') 1 z')).1 G (nK N) 1 (0) := c_getsArrow1 (d := d+25) (h := wE (hK (hB h 2 (upN (upN (fun _ => 0) 0 x') 1 z'))) m G N) (m := (hB h 2 (upN (upN (fun _ => 0) 0 x') 1 z')).1) (G := G) (N := nK N) u4 u5 u6 q
  have y := d_97N (d := d+37) (v := h.1) u4 r0 r1 y0
  have ⟨H', x, t, z1, z2, z3, z4, z5⟩ := x_actN (d := d+22) hm u1 u2 (by decide) y
  have z4 : H'.2.2 x = .inr (11, t) := z4
  have tt := fun pc L => w_thr0 (d := d+39) (M := MX1_addArrow) (pc := pc) (L := L) (a_cls_o z4) z3 rfl
  refine ⟨H', m, z1, gR_le (gR_X u3 z2) (by omega) (by omega), x, t, z3, z4, ?_⟩
  rw [e_X1_addArrow]
  simp (disch := first | omega | assumption | exact Or.inl rfl | exact Or.inr rfl | exact wN_kls (by omega) | exact wE_kls (by omega) | (simp only [a_cat_nil, a_cat_int, a_cat_ref, a_cat_null, a_cat_long]; done) | (simp only [a_cat_nil, a_cat_int, a_cat_ref, a_cat_null, a_cat_long]; omega) | decide | rfl | (apply Or.inr; omega) | (apply Or.inl; omega)) only [w_X1_addArrow_0, w_X1_addArrow_1, w_X1_addArrow_3, w_X1_addArrow_4, w_X1_addArrow_6, w_X1_addArrow_6I, w_X1_addArrow_7, w_X1_addArrow_8, w_X1_addArrow_9, w_X1_addArrow_10, w_X1_addArrow_10I, w_X1_addArrow_11, w_X1_addArrow_12, w_X1_addArrow_13, w_X1_addArrow_14, w_X1_addArrow_17, w_ret, w_exc, Nat.reduceAdd, Option.toList_some, Option.toList_none, List.cons_append, List.nil_append, Option.bind_some, nI_add, q_mul, q_sub, q_eq, q_eqz, q_lt, q_ltz, q_gtz, q_le, q_lez, q_div, q_or, q_and, q_shl, q_shr, q_m1, q_eqm, q_meq, q_mm, q_mlt, q_mgt, q_mlt2, q_dec, Nat.add_sub_cancel, q_ltT, q_ltF, q_leT, q_leF, q_eqT, q_eqF, ↓reduceIte, uN_s, uN_n, upN_app, uG_s, uG_n, uG_uG, if_true, if_false, Nat.reduceMul, Nat.reduceSub, Nat.reduceEqDiff, Nat.reduceLT, and_true, true_and, and_false, false_and, or_true, true_or, or_false, false_or, not_true_eq_false, not_false_eq_true, Option.some.injEq, wEg_froms, wEg_tos, wEg_least, wEg_layers, wEg_rows, wEg_lengths, wEg_uppers, wEg_lowers, wEg_near, wEg_medians, wEg_points, wEg_boxes, wEp_boxes, wEg_arrows, wEp_arrows, wEg_depth, wEp_depth, wEg_made, wEp_made, wEg_come, wEp_come, wEr_uppers, wEw_uppers, wEr_lowers, wEw_lowers, wEr_near, wEw_near, wEr_medians, wEw_medians, wEr_points, wEw_points, wEr_froms, wEw_froms, wEr_tos, wEw_tos, wEr_least, wEw_least, wEr_layers, wEw_layers, wEr_rows, wEw_rows, wEr_lengths, wEw_lengths, wE_kls, hB_new, hB_wr, z5, tt]
theorem x_addArrow2 {f t : Nat} (i : cI H g m (nb, na, fr, to, le, row, ma, co) hs kp tx) (hf : f < nb) (ht : t < nb) (q : 0 < t_rf na fr to f t) : cZ (d+40) MX1_addArrow [.int (nI f), .int (nI t)] H g m (.inr 9) (nb, na, fr, to, le, row, ma, co) hs kp tx := by
  obtain ⟨h, G, N, rfl, hm, hq, c⟩ := cI_E i
  have ⟨g1, g2, kg, g0⟩ := cI_g i
  have hq1 : 1024 ≤ h.1 := by omega
  have ⟨u1, u2, u3, u4, u5, u6, u7⟩ := x_in (n := 2) (f := (upN (upN (fun _ => 0) 0 f) 1 t)) hm hq i c (by omega)
  have kg2 := (cI_g u2).2.2.1
  have r0 := u7 0 (by omega)
  rw [show (upN (upN (fun _ => 0) 0 f) 1 t) 0 = f from rfl] at r0
  have r1 := u7 1 (by omega)
  rw [show (upN (upN (fun _ => 0) 0 f) 1 t) 1 = t from rfl] at r1
  have y0 : cN (d+37) MX2_getsArrow [.int (nI f), .int (nI t)] (wE (hK (hB h 2 (upN (upN (fun _ => 0) 0 f) 1 t))) m G N) (hB h 2 (upN (upN (fun _ => 0) 0 f) 1 t)).1 G (nK N) 2 (t_rf na fr to f t) := by
    have ⟨h', x, G', N', a1, a2, a3⟩ := c_getsArrow2 (d := d+25) (h := wE (hK (hB h 2 (upN (upN (fun _ => 0) 0 f) 1 t))) m G N) (m := (hB h 2 (upN (upN (fun _ => 0) 0 f) 1 t)).1) (G := G) (N := nK N) u4 u5 u6 hf ht q
    exact ⟨h', x, G', N', hX_le a1 (by omega) (by omega), a2, a3⟩
  have y := d_97N (d := d+37) (v := h.1) u4 r0 r1 y0
  have ⟨H', x, t, z1, z2, z3, z4, z5⟩ := x_actN (d := d+22) hm u1 u2 (by decide) y
  have z4 : H'.2.2 x = .inr (9, t) := z4
  have tt := fun pc L => w_thr0 (d := d+39) (M := MX1_addArrow) (pc := pc) (L := L) (a_cls_o z4) z3 rfl
  refine ⟨H', m, z1, gR_le (gR_X u3 z2) (by omega) (by omega), x, t, z3, z4, ?_⟩
  rw [e_X1_addArrow]
  simp (disch := first | omega | assumption | exact Or.inl rfl | exact Or.inr rfl | exact wN_kls (by omega) | exact wE_kls (by omega) | (simp only [a_cat_nil, a_cat_int, a_cat_ref, a_cat_null, a_cat_long]; done) | (simp only [a_cat_nil, a_cat_int, a_cat_ref, a_cat_null, a_cat_long]; omega) | decide | rfl | (apply Or.inr; omega) | (apply Or.inl; omega)) only [w_X1_addArrow_0, w_X1_addArrow_1, w_X1_addArrow_3, w_X1_addArrow_4, w_X1_addArrow_6, w_X1_addArrow_6I, w_X1_addArrow_7, w_X1_addArrow_8, w_X1_addArrow_9, w_X1_addArrow_10, w_X1_addArrow_10I, w_X1_addArrow_11, w_X1_addArrow_12, w_X1_addArrow_13, w_X1_addArrow_14, w_X1_addArrow_17, w_ret, w_exc, Nat.reduceAdd, Option.toList_some, Option.toList_none, List.cons_append, List.nil_append, Option.bind_some, nI_add, q_mul, q_sub, q_eq, q_eqz, q_lt, q_ltz, q_gtz, q_le, q_lez, q_div, q_or, q_and, q_shl, q_shr, q_m1, q_eqm, q_meq, q_mm, q_mlt, q_mgt, q_mlt2, q_dec, Nat.add_sub_cancel, q_ltT, q_ltF, q_leT, q_leF, q_eqT, q_eqF, ↓reduceIte, uN_s, uN_n, upN_app, uG_s, uG_n, uG_uG, if_true, if_false, Nat.reduceMul, Nat.reduceSub, Nat.reduceEqDiff, Nat.reduceLT, and_true, true_and, and_false, false_and, or_true, true_or, or_false, false_or, not_true_eq_false, not_false_eq_true, Option.some.injEq, wEg_froms, wEg_tos, wEg_least, wEg_layers, wEg_rows, wEg_lengths, wEg_uppers, wEg_lowers, wEg_near, wEg_medians, wEg_points, wEg_boxes, wEp_boxes, wEg_arrows, wEp_arrows, wEg_depth, wEp_depth, wEg_made, wEp_made, wEg_come, wEp_come, wEr_uppers, wEw_uppers, wEr_lowers, wEw_lowers, wEr_near, wEw_near, wEr_medians, wEw_medians, wEr_points, wEw_points, wEr_froms, wEw_froms, wEr_tos, wEw_tos, wEr_least, wEw_least, wEr_layers, wEw_layers, wEr_rows, wEw_rows, wEr_lengths, wEw_lengths, wE_kls, hB_new, hB_wr, z5, tt]
theorem x_addArrow {f t : Nat} (i : cI H g m (nb, na, fr, to, le, row, ma, co) hs kp tx) (hf : f < nb) (ht : t < nb) (q : t_rf na fr to f t = 0) : cZ (d+40) MX1_addArrow [.int (nI f), .int (nI t)] H g m (.inl (.int (nI (na)))) (t_nw nb (na + 1) (upN fr na f) (upN to na t) le ma (co + 1)) (t_pu hs (nb, na, fr, to, le, row, ma, co)) kp tx := by
  obtain ⟨h, G, N, rfl, hm, hq, c⟩ := cI_E i
  have ⟨g1, g2, kg, g0⟩ := cI_g i
  have hq1 : 1024 ≤ h.1 := by omega
  have ⟨u1, u2, u3, u4, u5, u6, u7⟩ := x_in (n := 2) (f := (upN (upN (fun _ => 0) 0 f) 1 t)) hm hq i c (by omega)
  have kg2 := (cI_g u2).2.2.1
  have r0 := u7 0 (by omega)
  rw [show (upN (upN (fun _ => 0) 0 f) 1 t) 0 = f from rfl] at r0
  have r1 := u7 1 (by omega)
  rw [show (upN (upN (fun _ => 0) 0 f) 1 t) 1 = t from rfl] at r1
  have y0 : cY (d+37) MX2_getsArrow [.int (nI f), .int (nI t)] (wE (hK (hB h 2 (upN (upN (fun _ => 0) 0 f) 1 t))) m G N) (hB h 2 (upN (upN (fun _ => 0) 0 f) 1 t)).1 G (nK N) (na) (t_nw nb (na + 1) (upN fr na f) (upN to na t) le ma (co + 1)) := by
    have ⟨h', G', N', a1, a2, a3⟩ := c_getsArrow (d := d+25) (h := wE (hK (hB h 2 (upN (upN (fun _ => 0) 0 f) 1 t))) m G N) (m := (hB h 2 (upN (upN (fun _ => 0) 0 f) 1 t)).1) (G := G) (N := nK N) u4 u5 u6 hf ht q
    exact ⟨h', G', N', hX_le a1 (by omega) (by omega), a2, a3⟩
  have y := d_97 (d := d+37) (v := h.1) u4 r0 r1 y0
  have ⟨H', z1, z2, z3⟩ := x_act (d := d+22) hm u1 u2 y
  refine ⟨H', _, z1, gR_le (gR_X u3 z2) (by omega) (by omega), ?_⟩
  rw [e_X1_addArrow]
  simp (disch := first | omega | assumption | exact Or.inl rfl | exact Or.inr rfl | exact wN_kls (by omega) | exact wE_kls (by omega) | (simp only [a_cat_nil, a_cat_int, a_cat_ref, a_cat_null, a_cat_long]; done) | (simp only [a_cat_nil, a_cat_int, a_cat_ref, a_cat_null, a_cat_long]; omega) | decide | rfl | (apply Or.inr; omega) | (apply Or.inl; omega)) only [w_X1_addArrow_0, w_X1_addArrow_1, w_X1_addArrow_3, w_X1_addArrow_4, w_X1_addArrow_6, w_X1_addArrow_6I, w_X1_addArrow_7, w_X1_addArrow_8, w_X1_addArrow_9, w_X1_addArrow_10, w_X1_addArrow_10I, w_X1_addArrow_11, w_X1_addArrow_12, w_X1_addArrow_13, w_X1_addArrow_14, w_X1_addArrow_17, w_ret, w_exc, Nat.reduceAdd, Option.toList_some, Option.toList_none, List.cons_append, List.nil_append, Option.bind_some, nI_add, q_mul, q_sub, q_eq, q_eqz, q_lt, q_ltz, q_gtz, q_le, q_lez, q_div, q_or, q_and, q_shl, q_shr, q_m1, q_eqm, q_meq, q_mm, q_mlt, q_mgt, q_mlt2, q_dec, Nat.add_sub_cancel, q_ltT, q_ltF, q_leT, q_leF, q_eqT, q_eqF, ↓reduceIte, uN_s, uN_n, upN_app, uG_s, uG_n, uG_uG, if_true, if_false, Nat.reduceMul, Nat.reduceSub, Nat.reduceEqDiff, Nat.reduceLT, and_true, true_and, and_false, false_and, or_true, true_or, or_false, false_or, not_true_eq_false, not_false_eq_true, Option.some.injEq, wEg_froms, wEg_tos, wEg_least, wEg_layers, wEg_rows, wEg_lengths, wEg_uppers, wEg_lowers, wEg_near, wEg_medians, wEg_points, wEg_boxes, wEp_boxes, wEg_arrows, wEp_arrows, wEg_depth, wEp_depth, wEg_made, wEp_made, wEg_come, wEp_come, wEr_uppers, wEw_uppers, wEr_lowers, wEw_lowers, wEr_near, wEw_near, wEr_medians, wEw_medians, wEr_points, wEw_points, wEr_froms, wEw_froms, wEr_tos, wEw_tos, wEr_least, wEw_least, wEr_layers, wEw_layers, wEr_rows, wEw_rows, wEr_lengths, wEw_lengths, wE_kls, hB_new, hB_wr, z3]
theorem x_addChain1 {x z u : Int32} (i : cI H g m (nb, na, fr, to, le, row, ma, co) hs kp tx) (q : ¬ (vB nb x ∧ vB nb z ∧ vB nb u)) : cZ (d+40) MX1_addChain [.int x, .int z, .int u] H g m (.inr 11) (nb, na, fr, to, le, row, ma, co) hs kp tx := by
  obtain ⟨x', rfl⟩ : ∃ x', x = nI x' := ⟨q_cd x, (q_cd_eq x).symm⟩
  obtain ⟨z', rfl⟩ : ∃ z', z = nI z' := ⟨q_cd z, (q_cd_eq z).symm⟩
  obtain ⟨u', rfl⟩ : ∃ u', u = nI u' := ⟨q_cd u, (q_cd_eq u).symm⟩
  obtain ⟨h, G, N, rfl, hm, hq, c⟩ := cI_E i
  have ⟨g1, g2, kg, g0⟩ := cI_g i
  have hq1 : 1024 ≤ h.1 := by omega
  have ⟨u1, u2, u3, u4, u5, u6, u7⟩ := x_in (n := 3) (f := (upN (upN (upN (fun _ => 0) 0 x') 1 z') 2 u')) hm hq i c (by omega)
  have kg2 := (cI_g u2).2.2.1
  have r0 := u7 0 (by omega)
  rw [show (upN (upN (upN (fun _ => 0) 0 x') 1 z') 2 u') 0 = x' from rfl] at r0
  have r1 := u7 1 (by omega)
  rw [show (upN (upN (upN (fun _ => 0) 0 x') 1 z') 2 u') 1 = z' from rfl] at r1
  have r2 := u7 2 (by omega)
  rw [show (upN (upN (upN (fun _ => 0) 0 x') 1 z') 2 u') 2 = u' from rfl] at r2
  have y0 : cN (d+37) MX2_getsChain [.int (nI x'), .int (nI z'), .int (nI u')] (wE (hK (hB h 3 (upN (upN (upN (fun _ => 0) 0 x') 1 z') 2 u'))) m G N) (hB h 3 (upN (upN (upN (fun _ => 0) 0 x') 1 z') 2 u')).1 G (nK N) 1 (0) := c_getsChain1 (d := d+23) (h := wE (hK (hB h 3 (upN (upN (upN (fun _ => 0) 0 x') 1 z') 2 u'))) m G N) (m := (hB h 3 (upN (upN (upN (fun _ => 0) 0 x') 1 z') 2 u')).1) (G := G) (N := nK N) u4 u5 u6 q
  have y := d_99N (d := d+37) (v := h.1) u4 r0 r1 r2 y0
  have ⟨H', x, t, z1, z2, z3, z4, z5⟩ := x_actN (d := d+22) hm u1 u2 (by decide) y
  have z4 : H'.2.2 x = .inr (11, t) := z4
  have tt := fun pc L => w_thr0 (d := d+39) (M := MX1_addChain) (pc := pc) (L := L) (a_cls_o z4) z3 rfl
  refine ⟨H', m, z1, gR_le (gR_X u3 z2) (by omega) (by omega), x, t, z3, z4, ?_⟩
  rw [e_X1_addChain]
  simp (disch := first | omega | assumption | exact Or.inl rfl | exact Or.inr rfl | exact wN_kls (by omega) | exact wE_kls (by omega) | (simp only [a_cat_nil, a_cat_int, a_cat_ref, a_cat_null, a_cat_long]; done) | (simp only [a_cat_nil, a_cat_int, a_cat_ref, a_cat_null, a_cat_long]; omega) | decide | rfl | (apply Or.inr; omega) | (apply Or.inl; omega)) only [w_X1_addChain_0, w_X1_addChain_1, w_X1_addChain_3, w_X1_addChain_4, w_X1_addChain_6, w_X1_addChain_6I, w_X1_addChain_7, w_X1_addChain_8, w_X1_addChain_9, w_X1_addChain_10, w_X1_addChain_10I, w_X1_addChain_11, w_X1_addChain_12, w_X1_addChain_13, w_X1_addChain_14, w_X1_addChain_14I, w_X1_addChain_15, w_X1_addChain_16, w_X1_addChain_17, w_X1_addChain_18, w_X1_addChain_21, w_ret, w_exc, Nat.reduceAdd, Option.toList_some, Option.toList_none, List.cons_append, List.nil_append, Option.bind_some, nI_add, q_mul, q_sub, q_eq, q_eqz, q_lt, q_ltz, q_gtz, q_le, q_lez, q_div, q_or, q_and, q_shl, q_shr, q_m1, q_eqm, q_meq, q_mm, q_mlt, q_mgt, q_mlt2, q_dec, Nat.add_sub_cancel, q_ltT, q_ltF, q_leT, q_leF, q_eqT, q_eqF, ↓reduceIte, uN_s, uN_n, upN_app, uG_s, uG_n, uG_uG, if_true, if_false, Nat.reduceMul, Nat.reduceSub, Nat.reduceEqDiff, Nat.reduceLT, and_true, true_and, and_false, false_and, or_true, true_or, or_false, false_or, not_true_eq_false, not_false_eq_true, Option.some.injEq, wEg_froms, wEg_tos, wEg_least, wEg_layers, wEg_rows, wEg_lengths, wEg_uppers, wEg_lowers, wEg_near, wEg_medians, wEg_points, wEg_boxes, wEp_boxes, wEg_arrows, wEp_arrows, wEg_depth, wEp_depth, wEg_made, wEp_made, wEg_come, wEp_come, wEr_uppers, wEw_uppers, wEr_lowers, wEw_lowers, wEr_near, wEw_near, wEr_medians, wEw_medians, wEr_points, wEw_points, wEr_froms, wEw_froms, wEr_tos, wEw_tos, wEr_least, wEw_least, wEr_layers, wEw_layers, wEr_rows, wEw_rows, wEr_lengths, wEw_lengths, wE_kls, hB_new, hB_wr, z5, tt]
theorem x_addChain2 {a b e : Nat} (i : cI H g m (nb, na, fr, to, le, row, ma, co) hs kp tx) (ha : a < nb) (hb : b < nb) (he : e < nb) (q : 0 < t_nc na fr to a b e) : cZ (d+40) MX1_addChain [.int (nI a), .int (nI b), .int (nI e)] H g m (.inr 9) (nb, na, fr, to, le, row, ma, co) hs kp tx := by
  obtain ⟨h, G, N, rfl, hm, hq, c⟩ := cI_E i
  have ⟨g1, g2, kg, g0⟩ := cI_g i
  have hq1 : 1024 ≤ h.1 := by omega
  have ⟨u1, u2, u3, u4, u5, u6, u7⟩ := x_in (n := 3) (f := (upN (upN (upN (fun _ => 0) 0 a) 1 b) 2 e)) hm hq i c (by omega)
  have kg2 := (cI_g u2).2.2.1
  have r0 := u7 0 (by omega)
  rw [show (upN (upN (upN (fun _ => 0) 0 a) 1 b) 2 e) 0 = a from rfl] at r0
  have r1 := u7 1 (by omega)
  rw [show (upN (upN (upN (fun _ => 0) 0 a) 1 b) 2 e) 1 = b from rfl] at r1
  have r2 := u7 2 (by omega)
  rw [show (upN (upN (upN (fun _ => 0) 0 a) 1 b) 2 e) 2 = e from rfl] at r2
  have y0 : cN (d+37) MX2_getsChain [.int (nI a), .int (nI b), .int (nI e)] (wE (hK (hB h 3 (upN (upN (upN (fun _ => 0) 0 a) 1 b) 2 e))) m G N) (hB h 3 (upN (upN (upN (fun _ => 0) 0 a) 1 b) 2 e)).1 G (nK N) 2 (t_nc na fr to a b e) := c_getsChain2 (d := d+23) (h := wE (hK (hB h 3 (upN (upN (upN (fun _ => 0) 0 a) 1 b) 2 e))) m G N) (m := (hB h 3 (upN (upN (upN (fun _ => 0) 0 a) 1 b) 2 e)).1) (G := G) (N := nK N) u4 u5 u6 ha hb he q
  have y := d_99N (d := d+37) (v := h.1) u4 r0 r1 r2 y0
  have ⟨H', x, t, z1, z2, z3, z4, z5⟩ := x_actN (d := d+22) hm u1 u2 (by decide) y
  have z4 : H'.2.2 x = .inr (9, t) := z4
  have tt := fun pc L => w_thr0 (d := d+39) (M := MX1_addChain) (pc := pc) (L := L) (a_cls_o z4) z3 rfl
  refine ⟨H', m, z1, gR_le (gR_X u3 z2) (by omega) (by omega), x, t, z3, z4, ?_⟩
  rw [e_X1_addChain]
  simp (disch := first | omega | assumption | exact Or.inl rfl | exact Or.inr rfl | exact wN_kls (by omega) | exact wE_kls (by omega) | (simp only [a_cat_nil, a_cat_int, a_cat_ref, a_cat_null, a_cat_long]; done) | (simp only [a_cat_nil, a_cat_int, a_cat_ref, a_cat_null, a_cat_long]; omega) | decide | rfl | (apply Or.inr; omega) | (apply Or.inl; omega)) only [w_X1_addChain_0, w_X1_addChain_1, w_X1_addChain_3, w_X1_addChain_4, w_X1_addChain_6, w_X1_addChain_6I, w_X1_addChain_7, w_X1_addChain_8, w_X1_addChain_9, w_X1_addChain_10, w_X1_addChain_10I, w_X1_addChain_11, w_X1_addChain_12, w_X1_addChain_13, w_X1_addChain_14, w_X1_addChain_14I, w_X1_addChain_15, w_X1_addChain_16, w_X1_addChain_17, w_X1_addChain_18, w_X1_addChain_21, w_ret, w_exc, Nat.reduceAdd, Option.toList_some, Option.toList_none, List.cons_append, List.nil_append, Option.bind_some, nI_add, q_mul, q_sub, q_eq, q_eqz, q_lt, q_ltz, q_gtz, q_le, q_lez, q_div, q_or, q_and, q_shl, q_shr, q_m1, q_eqm, q_meq, q_mm, q_mlt, q_mgt, q_mlt2, q_dec, Nat.add_sub_cancel, q_ltT, q_ltF, q_leT, q_leF, q_eqT, q_eqF, ↓reduceIte, uN_s, uN_n, upN_app, uG_s, uG_n, uG_uG, if_true, if_false, Nat.reduceMul, Nat.reduceSub, Nat.reduceEqDiff, Nat.reduceLT, and_true, true_and, and_false, false_and, or_true, true_or, or_false, false_or, not_true_eq_false, not_false_eq_true, Option.some.injEq, wEg_froms, wEg_tos, wEg_least, wEg_layers, wEg_rows, wEg_lengths, wEg_uppers, wEg_lowers, wEg_near, wEg_medians, wEg_points, wEg_boxes, wEp_boxes, wEg_arrows, wEp_arrows, wEg_depth, wEp_depth, wEg_made, wEp_made, wEg_come, wEp_come, wEr_uppers, wEw_uppers, wEr_lowers, wEw_lowers, wEr_near, wEw_near, wEr_medians, wEw_medians, wEr_points, wEw_points, wEr_froms, wEw_froms, wEr_tos, wEw_tos, wEr_least, wEw_least, wEr_layers, wEw_layers, wEr_rows, wEw_rows, wEr_lengths, wEw_lengths, wE_kls, hB_new, hB_wr, z5, tt]
theorem x_addChain {a b e : Nat} (i : cI H g m (nb, na, fr, to, le, row, ma, co) hs kp tx) (ha : a < nb) (hb : b < nb) (he : e < nb) (q : t_nc na fr to a b e = 0) : cZ (d+40) MX1_addChain [.int (nI a), .int (nI b), .int (nI e)] H g m (.inl (.int (nI (na + 1)))) (t_nw nb (na + 2) (upN (upN fr na a) (na + 1) b) (upN (upN to na b) (na + 1) e) le ma (co + 2)) (t_pu hs (nb, na, fr, to, le, row, ma, co)) kp tx := by
  obtain ⟨h, G, N, rfl, hm, hq, c⟩ := cI_E i
  have ⟨g1, g2, kg, g0⟩ := cI_g i
  have hq1 : 1024 ≤ h.1 := by omega
  have ⟨u1, u2, u3, u4, u5, u6, u7⟩ := x_in (n := 3) (f := (upN (upN (upN (fun _ => 0) 0 a) 1 b) 2 e)) hm hq i c (by omega)
  have kg2 := (cI_g u2).2.2.1
  have r0 := u7 0 (by omega)
  rw [show (upN (upN (upN (fun _ => 0) 0 a) 1 b) 2 e) 0 = a from rfl] at r0
  have r1 := u7 1 (by omega)
  rw [show (upN (upN (upN (fun _ => 0) 0 a) 1 b) 2 e) 1 = b from rfl] at r1
  have r2 := u7 2 (by omega)
  rw [show (upN (upN (upN (fun _ => 0) 0 a) 1 b) 2 e) 2 = e from rfl] at r2
  have y0 : cY (d+37) MX2_getsChain [.int (nI a), .int (nI b), .int (nI e)] (wE (hK (hB h 3 (upN (upN (upN (fun _ => 0) 0 a) 1 b) 2 e))) m G N) (hB h 3 (upN (upN (upN (fun _ => 0) 0 a) 1 b) 2 e)).1 G (nK N) (na + 1) (t_nw nb (na + 2) (upN (upN fr na a) (na + 1) b) (upN (upN to na b) (na + 1) e) le ma (co + 2)) := c_getsChain (d := d+23) (h := wE (hK (hB h 3 (upN (upN (upN (fun _ => 0) 0 a) 1 b) 2 e))) m G N) (m := (hB h 3 (upN (upN (upN (fun _ => 0) 0 a) 1 b) 2 e)).1) (G := G) (N := nK N) u4 u5 u6 ha hb he q
  have y := d_99 (d := d+37) (v := h.1) u4 r0 r1 r2 y0
  have ⟨H', z1, z2, z3⟩ := x_act (d := d+22) hm u1 u2 y
  refine ⟨H', _, z1, gR_le (gR_X u3 z2) (by omega) (by omega), ?_⟩
  rw [e_X1_addChain]
  simp (disch := first | omega | assumption | exact Or.inl rfl | exact Or.inr rfl | exact wN_kls (by omega) | exact wE_kls (by omega) | (simp only [a_cat_nil, a_cat_int, a_cat_ref, a_cat_null, a_cat_long]; done) | (simp only [a_cat_nil, a_cat_int, a_cat_ref, a_cat_null, a_cat_long]; omega) | decide | rfl | (apply Or.inr; omega) | (apply Or.inl; omega)) only [w_X1_addChain_0, w_X1_addChain_1, w_X1_addChain_3, w_X1_addChain_4, w_X1_addChain_6, w_X1_addChain_6I, w_X1_addChain_7, w_X1_addChain_8, w_X1_addChain_9, w_X1_addChain_10, w_X1_addChain_10I, w_X1_addChain_11, w_X1_addChain_12, w_X1_addChain_13, w_X1_addChain_14, w_X1_addChain_14I, w_X1_addChain_15, w_X1_addChain_16, w_X1_addChain_17, w_X1_addChain_18, w_X1_addChain_21, w_ret, w_exc, Nat.reduceAdd, Option.toList_some, Option.toList_none, List.cons_append, List.nil_append, Option.bind_some, nI_add, q_mul, q_sub, q_eq, q_eqz, q_lt, q_ltz, q_gtz, q_le, q_lez, q_div, q_or, q_and, q_shl, q_shr, q_m1, q_eqm, q_meq, q_mm, q_mlt, q_mgt, q_mlt2, q_dec, Nat.add_sub_cancel, q_ltT, q_ltF, q_leT, q_leF, q_eqT, q_eqF, ↓reduceIte, uN_s, uN_n, upN_app, uG_s, uG_n, uG_uG, if_true, if_false, Nat.reduceMul, Nat.reduceSub, Nat.reduceEqDiff, Nat.reduceLT, and_true, true_and, and_false, false_and, or_true, true_or, or_false, false_or, not_true_eq_false, not_false_eq_true, Option.some.injEq, wEg_froms, wEg_tos, wEg_least, wEg_layers, wEg_rows, wEg_lengths, wEg_uppers, wEg_lowers, wEg_near, wEg_medians, wEg_points, wEg_boxes, wEp_boxes, wEg_arrows, wEp_arrows, wEg_depth, wEp_depth, wEg_made, wEp_made, wEg_come, wEp_come, wEr_uppers, wEw_uppers, wEr_lowers, wEw_lowers, wEr_near, wEw_near, wEr_medians, wEw_medians, wEr_points, wEw_points, wEr_froms, wEw_froms, wEr_tos, wEw_tos, wEr_least, wEw_least, wEr_layers, wEw_layers, wEr_rows, wEw_rows, wEr_lengths, wEw_lengths, wE_kls, hB_new, hB_wr, z3]
theorem x_removeArrow1 {x : Int32} (i : cI H g m (nb, na, fr, to, le, row, ma, co) hs kp tx) (q : ¬ vB na x) : cZ (d+40) MX1_removeArrow [.int x] H g m (.inr 11) (nb, na, fr, to, le, row, ma, co) hs kp tx := by
  obtain ⟨x', rfl⟩ : ∃ x', x = nI x' := ⟨q_cd x, (q_cd_eq x).symm⟩
  obtain ⟨h, G, N, rfl, hm, hq, c⟩ := cI_E i
  have ⟨g1, g2, kg, g0⟩ := cI_g i
  have hq1 : 1024 ≤ h.1 := by omega
  have ⟨u1, u2, u3, u4, u5, u6, u7⟩ := x_in (n := 1) (f := (upN (fun _ => 0) 0 x')) hm hq i c (by omega)
  have kg2 := (cI_g u2).2.2.1
  have r0 := u7 0 (by omega)
  rw [show (upN (fun _ => 0) 0 x') 0 = x' from rfl] at r0
  have y0 : cN (d+37) MX2_losesArrow [.int (nI x')] (wE (hK (hB h 1 (upN (fun _ => 0) 0 x'))) m G N) (hB h 1 (upN (fun _ => 0) 0 x')).1 G (nK N) 1 (0) := c_losesArrow1 (d := d+25) (h := wE (hK (hB h 1 (upN (fun _ => 0) 0 x'))) m G N) (m := (hB h 1 (upN (fun _ => 0) 0 x')).1) (G := G) (N := nK N) u4 u5 u6 q
  have y := d_120N (d := d+37) (v := h.1) u4 r0 y0
  have ⟨H', x, t, z1, z2, z3, z4, z5⟩ := x_actN (d := d+22) hm u1 u2 (by decide) y
  have z4 : H'.2.2 x = .inr (11, t) := z4
  have tt := fun pc L => w_thr0 (d := d+39) (M := MX1_removeArrow) (pc := pc) (L := L) (a_cls_o z4) z3 rfl
  refine ⟨H', m, z1, gR_le (gR_X u3 z2) (by omega) (by omega), x, t, z3, z4, ?_⟩
  rw [e_X1_removeArrow]
  simp (disch := first | omega | assumption | exact Or.inl rfl | exact Or.inr rfl | exact wN_kls (by omega) | exact wE_kls (by omega) | (simp only [a_cat_nil, a_cat_int, a_cat_ref, a_cat_null, a_cat_long]; done) | (simp only [a_cat_nil, a_cat_int, a_cat_ref, a_cat_null, a_cat_long]; omega) | decide | rfl | (apply Or.inr; omega) | (apply Or.inl; omega)) only [w_X1_removeArrow_0, w_X1_removeArrow_1, w_X1_removeArrow_3, w_X1_removeArrow_4, w_X1_removeArrow_6, w_X1_removeArrow_6I, w_X1_removeArrow_7, w_X1_removeArrow_8, w_X1_removeArrow_9, w_X1_removeArrow_10, w_X1_removeArrow_13, w_ret, w_exc, Nat.reduceAdd, Option.toList_some, Option.toList_none, List.cons_append, List.nil_append, Option.bind_some, nI_add, q_mul, q_sub, q_eq, q_eqz, q_lt, q_ltz, q_gtz, q_le, q_lez, q_div, q_or, q_and, q_shl, q_shr, q_m1, q_eqm, q_meq, q_mm, q_mlt, q_mgt, q_mlt2, q_dec, Nat.add_sub_cancel, q_ltT, q_ltF, q_leT, q_leF, q_eqT, q_eqF, ↓reduceIte, uN_s, uN_n, upN_app, uG_s, uG_n, uG_uG, if_true, if_false, Nat.reduceMul, Nat.reduceSub, Nat.reduceEqDiff, Nat.reduceLT, and_true, true_and, and_false, false_and, or_true, true_or, or_false, false_or, not_true_eq_false, not_false_eq_true, Option.some.injEq, wEg_froms, wEg_tos, wEg_least, wEg_layers, wEg_rows, wEg_lengths, wEg_uppers, wEg_lowers, wEg_near, wEg_medians, wEg_points, wEg_boxes, wEp_boxes, wEg_arrows, wEp_arrows, wEg_depth, wEp_depth, wEg_made, wEp_made, wEg_come, wEp_come, wEr_uppers, wEw_uppers, wEr_lowers, wEw_lowers, wEr_near, wEw_near, wEr_medians, wEw_medians, wEr_points, wEw_points, wEr_froms, wEw_froms, wEr_tos, wEw_tos, wEr_least, wEw_least, wEr_layers, wEw_layers, wEr_rows, wEw_rows, wEr_lengths, wEw_lengths, wE_kls, hB_new, hB_wr, z5, tt]
theorem x_removeArrow {j : Nat} (i : cI H g m (nb, na, fr, to, le, row, ma, co) hs kp tx) (hj : j < na) : cZ (d+40) MX1_removeArrow [.int (nI j)] H g m (.inl (.int (nI (na - 1)))) (t_nw nb (na - 1) (t_rm fr j) (t_rm to j) le ma co) (t_pu hs (nb, na, fr, to, le, row, ma, co)) kp tx := by
  obtain ⟨h, G, N, rfl, hm, hq, c⟩ := cI_E i
  have ⟨g1, g2, kg, g0⟩ := cI_g i
  have hq1 : 1024 ≤ h.1 := by omega
  have ⟨u1, u2, u3, u4, u5, u6, u7⟩ := x_in (n := 1) (f := (upN (fun _ => 0) 0 j)) hm hq i c (by omega)
  have kg2 := (cI_g u2).2.2.1
  have r0 := u7 0 (by omega)
  rw [show (upN (fun _ => 0) 0 j) 0 = j from rfl] at r0
  have y0 : cY (d+37) MX2_losesArrow [.int (nI j)] (wE (hK (hB h 1 (upN (fun _ => 0) 0 j))) m G N) (hB h 1 (upN (fun _ => 0) 0 j)).1 G (nK N) (na - 1) (t_nw nb (na - 1) (t_rm fr j) (t_rm to j) le ma co) := by
    have ⟨r, w1, w2⟩ := u6.1.2.2.2.2.2.1
    have ⟨G', N', a2, a3⟩ := c_losesArrow (d := d+25) (h := wE (hK (hB h 1 (upN (fun _ => 0) 0 j))) m G N) (m := (hB h 1 (upN (fun _ => 0) 0 j)).1) (G := G) (N := nK N) u4 u6.2.1 w1 u6.1.2.2.2.2.1 u6.2.2.2.2.1 u6.2.2.2.2.2 hj
    exact ⟨_, G', N', hX_le (hX_id _) (by omega) (by omega), a2, a3⟩
  have y := d_120 (d := d+37) (v := h.1) u4 r0 y0
  have ⟨H', z1, z2, z3⟩ := x_act (d := d+22) hm u1 u2 y
  refine ⟨H', _, z1, gR_le (gR_X u3 z2) (by omega) (by omega), ?_⟩
  rw [e_X1_removeArrow]
  simp (disch := first | omega | assumption | exact Or.inl rfl | exact Or.inr rfl | exact wN_kls (by omega) | exact wE_kls (by omega) | (simp only [a_cat_nil, a_cat_int, a_cat_ref, a_cat_null, a_cat_long]; done) | (simp only [a_cat_nil, a_cat_int, a_cat_ref, a_cat_null, a_cat_long]; omega) | decide | rfl | (apply Or.inr; omega) | (apply Or.inl; omega)) only [w_X1_removeArrow_0, w_X1_removeArrow_1, w_X1_removeArrow_3, w_X1_removeArrow_4, w_X1_removeArrow_6, w_X1_removeArrow_6I, w_X1_removeArrow_7, w_X1_removeArrow_8, w_X1_removeArrow_9, w_X1_removeArrow_10, w_X1_removeArrow_13, w_ret, w_exc, Nat.reduceAdd, Option.toList_some, Option.toList_none, List.cons_append, List.nil_append, Option.bind_some, nI_add, q_mul, q_sub, q_eq, q_eqz, q_lt, q_ltz, q_gtz, q_le, q_lez, q_div, q_or, q_and, q_shl, q_shr, q_m1, q_eqm, q_meq, q_mm, q_mlt, q_mgt, q_mlt2, q_dec, Nat.add_sub_cancel, q_ltT, q_ltF, q_leT, q_leF, q_eqT, q_eqF, ↓reduceIte, uN_s, uN_n, upN_app, uG_s, uG_n, uG_uG, if_true, if_false, Nat.reduceMul, Nat.reduceSub, Nat.reduceEqDiff, Nat.reduceLT, and_true, true_and, and_false, false_and, or_true, true_or, or_false, false_or, not_true_eq_false, not_false_eq_true, Option.some.injEq, wEg_froms, wEg_tos, wEg_least, wEg_layers, wEg_rows, wEg_lengths, wEg_uppers, wEg_lowers, wEg_near, wEg_medians, wEg_points, wEg_boxes, wEp_boxes, wEg_arrows, wEp_arrows, wEg_depth, wEp_depth, wEg_made, wEp_made, wEg_come, wEp_come, wEr_uppers, wEw_uppers, wEr_lowers, wEw_lowers, wEr_near, wEw_near, wEr_medians, wEw_medians, wEr_points, wEw_points, wEr_froms, wEw_froms, wEr_tos, wEw_tos, wEr_least, wEw_least, wEr_layers, wEw_layers, wEr_rows, wEw_rows, wEr_lengths, wEw_lengths, wE_kls, hB_new, hB_wr, z3]
theorem x_holdDown1 {x z : Int32} (i : cI H g m (nb, na, fr, to, le, row, ma, co) hs kp tx) (q : ¬ (vB nb x ∧ vB 10 z)) : cZ (d+40) MX1_holdDown [.int x, .int z] H g m (.inr 11) (nb, na, fr, to, le, row, ma, co) hs kp tx := by
  obtain ⟨x', rfl⟩ : ∃ x', x = nI x' := ⟨q_cd x, (q_cd_eq x).symm⟩
  obtain ⟨z', rfl⟩ : ∃ z', z = nI z' := ⟨q_cd z, (q_cd_eq z).symm⟩
  obtain ⟨h, G, N, rfl, hm, hq, c⟩ := cI_E i
  have ⟨g1, g2, kg, g0⟩ := cI_g i
  have hq1 : 1024 ≤ h.1 := by omega
  have ⟨u1, u2, u3, u4, u5, u6, u7⟩ := x_in (n := 2) (f := (upN (upN (fun _ => 0) 0 x') 1 z')) hm hq i c (by omega)
  have kg2 := (cI_g u2).2.2.1
  have r0 := u7 0 (by omega)
  rw [show (upN (upN (fun _ => 0) 0 x') 1 z') 0 = x' from rfl] at r0
  have r1 := u7 1 (by omega)
  rw [show (upN (upN (fun _ => 0) 0 x') 1 z') 1 = z' from rfl] at r1
  have y0 : cN (d+37) MX2_holds [.int (nI x'), .int (nI z')] (wE (hK (hB h 2 (upN (upN (fun _ => 0) 0 x') 1 z'))) m G N) (hB h 2 (upN (upN (fun _ => 0) 0 x') 1 z')).1 G (nK N) 1 (0) := c_holds1 (d := d+25) (h := wE (hK (hB h 2 (upN (upN (fun _ => 0) 0 x') 1 z'))) m G N) (m := (hB h 2 (upN (upN (fun _ => 0) 0 x') 1 z')).1) (G := G) (N := nK N) u4 u5 u6 q
  have y := d_104N (d := d+37) (v := h.1) u4 r0 r1 y0
  have ⟨H', x, t, z1, z2, z3, z4, z5⟩ := x_actN (d := d+22) hm u1 u2 (by decide) y
  have z4 : H'.2.2 x = .inr (11, t) := z4
  have tt := fun pc L => w_thr0 (d := d+39) (M := MX1_holdDown) (pc := pc) (L := L) (a_cls_o z4) z3 rfl
  refine ⟨H', m, z1, gR_le (gR_X u3 z2) (by omega) (by omega), x, t, z3, z4, ?_⟩
  rw [e_X1_holdDown]
  simp (disch := first | omega | assumption | exact Or.inl rfl | exact Or.inr rfl | exact wN_kls (by omega) | exact wE_kls (by omega) | (simp only [a_cat_nil, a_cat_int, a_cat_ref, a_cat_null, a_cat_long]; done) | (simp only [a_cat_nil, a_cat_int, a_cat_ref, a_cat_null, a_cat_long]; omega) | decide | rfl | (apply Or.inr; omega) | (apply Or.inl; omega)) only [w_X1_holdDown_0, w_X1_holdDown_1, w_X1_holdDown_3, w_X1_holdDown_4, w_X1_holdDown_6, w_X1_holdDown_6I, w_X1_holdDown_7, w_X1_holdDown_8, w_X1_holdDown_9, w_X1_holdDown_10, w_X1_holdDown_10I, w_X1_holdDown_11, w_X1_holdDown_12, w_X1_holdDown_13, w_X1_holdDown_14, w_X1_holdDown_17, w_ret, w_exc, Nat.reduceAdd, Option.toList_some, Option.toList_none, List.cons_append, List.nil_append, Option.bind_some, nI_add, q_mul, q_sub, q_eq, q_eqz, q_lt, q_ltz, q_gtz, q_le, q_lez, q_div, q_or, q_and, q_shl, q_shr, q_m1, q_eqm, q_meq, q_mm, q_mlt, q_mgt, q_mlt2, q_dec, Nat.add_sub_cancel, q_ltT, q_ltF, q_leT, q_leF, q_eqT, q_eqF, ↓reduceIte, uN_s, uN_n, upN_app, uG_s, uG_n, uG_uG, if_true, if_false, Nat.reduceMul, Nat.reduceSub, Nat.reduceEqDiff, Nat.reduceLT, and_true, true_and, and_false, false_and, or_true, true_or, or_false, false_or, not_true_eq_false, not_false_eq_true, Option.some.injEq, wEg_froms, wEg_tos, wEg_least, wEg_layers, wEg_rows, wEg_lengths, wEg_uppers, wEg_lowers, wEg_near, wEg_medians, wEg_points, wEg_boxes, wEp_boxes, wEg_arrows, wEp_arrows, wEg_depth, wEp_depth, wEg_made, wEp_made, wEg_come, wEp_come, wEr_uppers, wEw_uppers, wEr_lowers, wEw_lowers, wEr_near, wEw_near, wEr_medians, wEw_medians, wEr_points, wEw_points, wEr_froms, wEw_froms, wEr_tos, wEw_tos, wEr_least, wEw_least, wEr_layers, wEw_layers, wEr_rows, wEw_rows, wEr_lengths, wEw_lengths, wE_kls, hB_new, hB_wr, z5, tt]
theorem x_holdDown {b l : Nat} (i : cI H g m (nb, na, fr, to, le, row, ma, co) hs kp tx) (hb : b < nb) (hl : l < 10) : cZ (d+40) MX1_holdDown [.int (nI b), .int (nI l)] H g m (.inl (.int (nI (le b)))) (t_nw nb na fr to (upN le b l) ma co) (t_pu hs (nb, na, fr, to, le, row, ma, co)) kp tx := by
  obtain ⟨h, G, N, rfl, hm, hq, c⟩ := cI_E i
  have ⟨g1, g2, kg, g0⟩ := cI_g i
  have hq1 : 1024 ≤ h.1 := by omega
  have ⟨u1, u2, u3, u4, u5, u6, u7⟩ := x_in (n := 2) (f := (upN (upN (fun _ => 0) 0 b) 1 l)) hm hq i c (by omega)
  have kg2 := (cI_g u2).2.2.1
  have r0 := u7 0 (by omega)
  rw [show (upN (upN (fun _ => 0) 0 b) 1 l) 0 = b from rfl] at r0
  have r1 := u7 1 (by omega)
  rw [show (upN (upN (fun _ => 0) 0 b) 1 l) 1 = l from rfl] at r1
  have y0 : cY (d+37) MX2_holds [.int (nI b), .int (nI l)] (wE (hK (hB h 2 (upN (upN (fun _ => 0) 0 b) 1 l))) m G N) (hB h 2 (upN (upN (fun _ => 0) 0 b) 1 l)).1 G (nK N) (le b) (t_nw nb na fr to (upN le b l) ma co) := c_holds (d := d+25) (h := wE (hK (hB h 2 (upN (upN (fun _ => 0) 0 b) 1 l))) m G N) (m := (hB h 2 (upN (upN (fun _ => 0) 0 b) 1 l)).1) (G := G) (N := nK N) u4 u6 hb hl
  have y := d_104 (d := d+37) (v := h.1) u4 r0 r1 y0
  have ⟨H', z1, z2, z3⟩ := x_act (d := d+22) hm u1 u2 y
  refine ⟨H', _, z1, gR_le (gR_X u3 z2) (by omega) (by omega), ?_⟩
  rw [e_X1_holdDown]
  simp (disch := first | omega | assumption | exact Or.inl rfl | exact Or.inr rfl | exact wN_kls (by omega) | exact wE_kls (by omega) | (simp only [a_cat_nil, a_cat_int, a_cat_ref, a_cat_null, a_cat_long]; done) | (simp only [a_cat_nil, a_cat_int, a_cat_ref, a_cat_null, a_cat_long]; omega) | decide | rfl | (apply Or.inr; omega) | (apply Or.inl; omega)) only [w_X1_holdDown_0, w_X1_holdDown_1, w_X1_holdDown_3, w_X1_holdDown_4, w_X1_holdDown_6, w_X1_holdDown_6I, w_X1_holdDown_7, w_X1_holdDown_8, w_X1_holdDown_9, w_X1_holdDown_10, w_X1_holdDown_10I, w_X1_holdDown_11, w_X1_holdDown_12, w_X1_holdDown_13, w_X1_holdDown_14, w_X1_holdDown_17, w_ret, w_exc, Nat.reduceAdd, Option.toList_some, Option.toList_none, List.cons_append, List.nil_append, Option.bind_some, nI_add, q_mul, q_sub, q_eq, q_eqz, q_lt, q_ltz, q_gtz, q_le, q_lez, q_div, q_or, q_and, q_shl, q_shr, q_m1, q_eqm, q_meq, q_mm, q_mlt, q_mgt, q_mlt2, q_dec, Nat.add_sub_cancel, q_ltT, q_ltF, q_leT, q_leF, q_eqT, q_eqF, ↓reduceIte, uN_s, uN_n, upN_app, uG_s, uG_n, uG_uG, if_true, if_false, Nat.reduceMul, Nat.reduceSub, Nat.reduceEqDiff, Nat.reduceLT, and_true, true_and, and_false, false_and, or_true, true_or, or_false, false_or, not_true_eq_false, not_false_eq_true, Option.some.injEq, wEg_froms, wEg_tos, wEg_least, wEg_layers, wEg_rows, wEg_lengths, wEg_uppers, wEg_lowers, wEg_near, wEg_medians, wEg_points, wEg_boxes, wEp_boxes, wEg_arrows, wEp_arrows, wEg_depth, wEp_depth, wEg_made, wEp_made, wEg_come, wEp_come, wEr_uppers, wEw_uppers, wEr_lowers, wEw_lowers, wEr_near, wEw_near, wEr_medians, wEw_medians, wEr_points, wEw_points, wEr_froms, wEw_froms, wEr_tos, wEw_tos, wEr_least, wEw_least, wEr_layers, wEw_layers, wEr_rows, wEw_rows, wEr_lengths, wEw_lengths, wE_kls, hB_new, hB_wr, z3]
theorem x_prune (i : cI H g m (nb, na, fr, to, le, row, ma, co) hs kp tx) : cZ (d+40) MX1_prune [] H g m (.inl (.int (nI (na - (t_pr na (na, fr, to)).1)))) (t_nw nb (t_pr na (na, fr, to)).1 (t_pr na (na, fr, to)).2.1 (t_pr na (na, fr, to)).2.2 le ma co) (t_pu hs (nb, na, fr, to, le, row, ma, co)) kp tx := by
  obtain ⟨h, G, N, rfl, hm, hq, c⟩ := cI_E i
  have ⟨g1, g2, kg, g0⟩ := cI_g i
  have hq1 : 1024 ≤ h.1 := by omega
  have ⟨u1, u2, u3, u4, u5, u6, u7⟩ := x_in (n := 0) (f := (fun _ => 0)) hm hq i c (by omega)
  have kg2 := (cI_g u2).2.2.1
  have y0 : cY (d+37) MX2_prunes [] (wE (hK (hB h 0 (fun _ => 0))) m G N) (hB h 0 (fun _ => 0)).1 G (nK N) (na - (t_pr na (na, fr, to)).1) (t_nw nb (t_pr na (na, fr, to)).1 (t_pr na (na, fr, to)).2.1 (t_pr na (na, fr, to)).2.2 le ma co) := c_prunes (d := d+23) (h := wE (hK (hB h 0 (fun _ => 0))) m G N) (m := (hB h 0 (fun _ => 0)).1) (G := G) (N := nK N) u4 u5 u6
  have y := d_112 (d := d+37) (v := h.1) u4 y0
  have ⟨H', z1, z2, z3⟩ := x_act (d := d+22) hm u1 u2 y
  refine ⟨H', _, z1, gR_le (gR_X u3 z2) (by omega) (by omega), ?_⟩
  rw [e_X1_prune]
  simp (disch := first | omega | assumption | exact Or.inl rfl | exact Or.inr rfl | exact wN_kls (by omega) | exact wE_kls (by omega) | (simp only [a_cat_nil, a_cat_int, a_cat_ref, a_cat_null, a_cat_long]; done) | (simp only [a_cat_nil, a_cat_int, a_cat_ref, a_cat_null, a_cat_long]; omega) | decide | rfl | (apply Or.inr; omega) | (apply Or.inl; omega)) only [w_X1_prune_0, w_X1_prune_1, w_X1_prune_3, w_X1_prune_4, w_X1_prune_6, w_X1_prune_9, w_ret, w_exc, Nat.reduceAdd, Option.toList_some, Option.toList_none, List.cons_append, List.nil_append, Option.bind_some, nI_add, q_mul, q_sub, q_eq, q_eqz, q_lt, q_ltz, q_gtz, q_le, q_lez, q_div, q_or, q_and, q_shl, q_shr, q_m1, q_eqm, q_meq, q_mm, q_mlt, q_mgt, q_mlt2, q_dec, Nat.add_sub_cancel, q_ltT, q_ltF, q_leT, q_leF, q_eqT, q_eqF, ↓reduceIte, uN_s, uN_n, upN_app, uG_s, uG_n, uG_uG, if_true, if_false, Nat.reduceMul, Nat.reduceSub, Nat.reduceEqDiff, Nat.reduceLT, and_true, true_and, and_false, false_and, or_true, true_or, or_false, false_or, not_true_eq_false, not_false_eq_true, Option.some.injEq, wEg_froms, wEg_tos, wEg_least, wEg_layers, wEg_rows, wEg_lengths, wEg_uppers, wEg_lowers, wEg_near, wEg_medians, wEg_points, wEg_boxes, wEp_boxes, wEg_arrows, wEp_arrows, wEg_depth, wEp_depth, wEg_made, wEp_made, wEg_come, wEp_come, wEr_uppers, wEw_uppers, wEr_lowers, wEw_lowers, wEr_near, wEw_near, wEr_medians, wEw_medians, wEr_points, wEw_points, wEr_froms, wEw_froms, wEr_tos, wEw_tos, wEr_least, wEw_least, wEr_layers, wEw_layers, wEr_rows, wEw_rows, wEr_lengths, wEw_lengths, wE_kls, hB_new, hB_wr, z3]
theorem x_turnRound (i : cI H g m (nb, na, fr, to, le, row, ma, co) hs kp tx) : cZ (d+40) MX1_turnRound [] H g m (.inl (.int (nI (t_dp (t_ly na to fr le) nb)))) (t_nw nb na to fr le ma co) (t_pu hs (nb, na, fr, to, le, row, ma, co)) kp tx := by
  obtain ⟨h, G, N, rfl, hm, hq, c⟩ := cI_E i
  have ⟨g1, g2, kg, g0⟩ := cI_g i
  have hq1 : 1024 ≤ h.1 := by omega
  have ⟨u1, u2, u3, u4, u5, u6, u7⟩ := x_in (n := 0) (f := (fun _ => 0)) hm hq i c (by omega)
  have kg2 := (cI_g u2).2.2.1
  have y0 : cY (d+37) MX2_turnsRound [] (wE (hK (hB h 0 (fun _ => 0))) m G N) (hB h 0 (fun _ => 0)).1 G (nK N) (t_dp (t_ly na to fr le) nb) (t_nw nb na to fr le ma co) := c_turnsRound (d := d+25) (h := wE (hK (hB h 0 (fun _ => 0))) m G N) (m := (hB h 0 (fun _ => 0)).1) (G := G) (N := nK N) u4 u6
  have y := d_114 (d := d+37) (v := h.1) u4 y0
  have ⟨H', z1, z2, z3⟩ := x_act (d := d+22) hm u1 u2 y
  refine ⟨H', _, z1, gR_le (gR_X u3 z2) (by omega) (by omega), ?_⟩
  rw [e_X1_turnRound]
  simp (disch := first | omega | assumption | exact Or.inl rfl | exact Or.inr rfl | exact wN_kls (by omega) | exact wE_kls (by omega) | (simp only [a_cat_nil, a_cat_int, a_cat_ref, a_cat_null, a_cat_long]; done) | (simp only [a_cat_nil, a_cat_int, a_cat_ref, a_cat_null, a_cat_long]; omega) | decide | rfl | (apply Or.inr; omega) | (apply Or.inl; omega)) only [w_X1_turnRound_0, w_X1_turnRound_1, w_X1_turnRound_3, w_X1_turnRound_4, w_X1_turnRound_6, w_X1_turnRound_9, w_ret, w_exc, Nat.reduceAdd, Option.toList_some, Option.toList_none, List.cons_append, List.nil_append, Option.bind_some, nI_add, q_mul, q_sub, q_eq, q_eqz, q_lt, q_ltz, q_gtz, q_le, q_lez, q_div, q_or, q_and, q_shl, q_shr, q_m1, q_eqm, q_meq, q_mm, q_mlt, q_mgt, q_mlt2, q_dec, Nat.add_sub_cancel, q_ltT, q_ltF, q_leT, q_leF, q_eqT, q_eqF, ↓reduceIte, uN_s, uN_n, upN_app, uG_s, uG_n, uG_uG, if_true, if_false, Nat.reduceMul, Nat.reduceSub, Nat.reduceEqDiff, Nat.reduceLT, and_true, true_and, and_false, false_and, or_true, true_or, or_false, false_or, not_true_eq_false, not_false_eq_true, Option.some.injEq, wEg_froms, wEg_tos, wEg_least, wEg_layers, wEg_rows, wEg_lengths, wEg_uppers, wEg_lowers, wEg_near, wEg_medians, wEg_points, wEg_boxes, wEp_boxes, wEg_arrows, wEp_arrows, wEg_depth, wEp_depth, wEg_made, wEp_made, wEg_come, wEp_come, wEr_uppers, wEw_uppers, wEr_lowers, wEw_lowers, wEr_near, wEw_near, wEr_medians, wEw_medians, wEr_points, wEw_points, wEr_froms, wEw_froms, wEr_tos, wEw_tos, wEr_least, wEw_least, wEr_layers, wEw_layers, wEr_rows, wEw_rows, wEr_lengths, wEw_lengths, wE_kls, hB_new, hB_wr, z3]
theorem x_sweepDown (i : cI H g m (nb, na, fr, to, le, row, ma, co) hs kp tx) : cZ (d+40) MX1_sweepDown [] H g m (.inl (.int (nI (t_cx nb na fr to (t_ly na fr to le) (t_sw nb na fr to (t_ly na fr to le) row true (t_dp (t_ly na fr to le) nb - 1)))))) (nb, na, fr, to, le, t_sw nb na fr to (t_ly na fr to le) row true (t_dp (t_ly na fr to le) nb - 1), ma + 1, co) (t_pu hs (nb, na, fr, to, le, row, ma, co)) kp tx := by
  obtain ⟨h, G, N, rfl, hm, hq, c⟩ := cI_E i
  have ⟨g1, g2, kg, g0⟩ := cI_g i
  have hq1 : 1024 ≤ h.1 := by omega
  have ⟨u1, u2, u3, u4, u5, u6, u7⟩ := x_in (n := 0) (f := (fun _ => 0)) hm hq i c (by omega)
  have kg2 := (cI_g u2).2.2.1
  have y0 : cY (d+37) MX2_goes [.int (nI 1)] (wE (hK (hB h 0 (fun _ => 0))) m G N) (hB h 0 (fun _ => 0)).1 G (nK N) (t_cx nb na fr to (t_ly na fr to le) (t_sw nb na fr to (t_ly na fr to le) row true (t_dp (t_ly na fr to le) nb - 1))) (nb, na, fr, to, le, t_sw nb na fr to (t_ly na fr to le) row true (t_dp (t_ly na fr to le) nb - 1), ma + 1, co) := c_goesD (d := d+25) (up := true) (h := wE (hK (hB h 0 (fun _ => 0))) m G N) (m := (hB h 0 (fun _ => 0)).1) (G := G) (N := nK N) u4 u6
  have y := d_100 (d := d+37) (v := h.1) u4 y0
  have ⟨H', z1, z2, z3⟩ := x_act (d := d+22) hm u1 u2 y
  refine ⟨H', _, z1, gR_le (gR_X u3 z2) (by omega) (by omega), ?_⟩
  rw [e_X1_sweepDown]
  simp (disch := first | omega | assumption | exact Or.inl rfl | exact Or.inr rfl | exact wN_kls (by omega) | exact wE_kls (by omega) | (simp only [a_cat_nil, a_cat_int, a_cat_ref, a_cat_null, a_cat_long]; done) | (simp only [a_cat_nil, a_cat_int, a_cat_ref, a_cat_null, a_cat_long]; omega) | decide | rfl | (apply Or.inr; omega) | (apply Or.inl; omega)) only [w_X1_sweepDown_0, w_X1_sweepDown_1, w_X1_sweepDown_3, w_X1_sweepDown_4, w_X1_sweepDown_6, w_X1_sweepDown_9, w_ret, w_exc, Nat.reduceAdd, Option.toList_some, Option.toList_none, List.cons_append, List.nil_append, Option.bind_some, nI_add, q_mul, q_sub, q_eq, q_eqz, q_lt, q_ltz, q_gtz, q_le, q_lez, q_div, q_or, q_and, q_shl, q_shr, q_m1, q_eqm, q_meq, q_mm, q_mlt, q_mgt, q_mlt2, q_dec, Nat.add_sub_cancel, q_ltT, q_ltF, q_leT, q_leF, q_eqT, q_eqF, ↓reduceIte, uN_s, uN_n, upN_app, uG_s, uG_n, uG_uG, if_true, if_false, Nat.reduceMul, Nat.reduceSub, Nat.reduceEqDiff, Nat.reduceLT, and_true, true_and, and_false, false_and, or_true, true_or, or_false, false_or, not_true_eq_false, not_false_eq_true, Option.some.injEq, wEg_froms, wEg_tos, wEg_least, wEg_layers, wEg_rows, wEg_lengths, wEg_uppers, wEg_lowers, wEg_near, wEg_medians, wEg_points, wEg_boxes, wEp_boxes, wEg_arrows, wEp_arrows, wEg_depth, wEp_depth, wEg_made, wEp_made, wEg_come, wEp_come, wEr_uppers, wEw_uppers, wEr_lowers, wEw_lowers, wEr_near, wEw_near, wEr_medians, wEw_medians, wEr_points, wEw_points, wEr_froms, wEw_froms, wEr_tos, wEw_tos, wEr_least, wEw_least, wEr_layers, wEw_layers, wEr_rows, wEw_rows, wEr_lengths, wEw_lengths, wE_kls, hB_new, hB_wr, z3]
theorem x_sweepUp (i : cI H g m (nb, na, fr, to, le, row, ma, co) hs kp tx) : cZ (d+40) MX1_sweepUp [] H g m (.inl (.int (nI (t_cx nb na fr to (t_ly na fr to le) (t_sw nb na fr to (t_ly na fr to le) row false (t_dp (t_ly na fr to le) nb - 1)))))) (nb, na, fr, to, le, t_sw nb na fr to (t_ly na fr to le) row false (t_dp (t_ly na fr to le) nb - 1), ma + 1, co) (t_pu hs (nb, na, fr, to, le, row, ma, co)) kp tx := by
  obtain ⟨h, G, N, rfl, hm, hq, c⟩ := cI_E i
  have ⟨g1, g2, kg, g0⟩ := cI_g i
  have hq1 : 1024 ≤ h.1 := by omega
  have ⟨u1, u2, u3, u4, u5, u6, u7⟩ := x_in (n := 0) (f := (fun _ => 0)) hm hq i c (by omega)
  have kg2 := (cI_g u2).2.2.1
  have y0 : cY (d+37) MX2_goes [.int (nI 0)] (wE (hK (hB h 0 (fun _ => 0))) m G N) (hB h 0 (fun _ => 0)).1 G (nK N) (t_cx nb na fr to (t_ly na fr to le) (t_sw nb na fr to (t_ly na fr to le) row false (t_dp (t_ly na fr to le) nb - 1))) (nb, na, fr, to, le, t_sw nb na fr to (t_ly na fr to le) row false (t_dp (t_ly na fr to le) nb - 1), ma + 1, co) := c_goesD (d := d+25) (up := false) (h := wE (hK (hB h 0 (fun _ => 0))) m G N) (m := (hB h 0 (fun _ => 0)).1) (G := G) (N := nK N) u4 u6
  have y := d_117 (d := d+37) (v := h.1) u4 y0
  have ⟨H', z1, z2, z3⟩ := x_act (d := d+22) hm u1 u2 y
  refine ⟨H', _, z1, gR_le (gR_X u3 z2) (by omega) (by omega), ?_⟩
  rw [e_X1_sweepUp]
  simp (disch := first | omega | assumption | exact Or.inl rfl | exact Or.inr rfl | exact wN_kls (by omega) | exact wE_kls (by omega) | (simp only [a_cat_nil, a_cat_int, a_cat_ref, a_cat_null, a_cat_long]; done) | (simp only [a_cat_nil, a_cat_int, a_cat_ref, a_cat_null, a_cat_long]; omega) | decide | rfl | (apply Or.inr; omega) | (apply Or.inl; omega)) only [w_X1_sweepUp_0, w_X1_sweepUp_1, w_X1_sweepUp_3, w_X1_sweepUp_4, w_X1_sweepUp_6, w_X1_sweepUp_9, w_ret, w_exc, Nat.reduceAdd, Option.toList_some, Option.toList_none, List.cons_append, List.nil_append, Option.bind_some, nI_add, q_mul, q_sub, q_eq, q_eqz, q_lt, q_ltz, q_gtz, q_le, q_lez, q_div, q_or, q_and, q_shl, q_shr, q_m1, q_eqm, q_meq, q_mm, q_mlt, q_mgt, q_mlt2, q_dec, Nat.add_sub_cancel, q_ltT, q_ltF, q_leT, q_leF, q_eqT, q_eqF, ↓reduceIte, uN_s, uN_n, upN_app, uG_s, uG_n, uG_uG, if_true, if_false, Nat.reduceMul, Nat.reduceSub, Nat.reduceEqDiff, Nat.reduceLT, and_true, true_and, and_false, false_and, or_true, true_or, or_false, false_or, not_true_eq_false, not_false_eq_true, Option.some.injEq, wEg_froms, wEg_tos, wEg_least, wEg_layers, wEg_rows, wEg_lengths, wEg_uppers, wEg_lowers, wEg_near, wEg_medians, wEg_points, wEg_boxes, wEp_boxes, wEg_arrows, wEp_arrows, wEg_depth, wEp_depth, wEg_made, wEp_made, wEg_come, wEp_come, wEr_uppers, wEw_uppers, wEr_lowers, wEw_lowers, wEr_near, wEw_near, wEr_medians, wEw_medians, wEr_points, wEw_points, wEr_froms, wEw_froms, wEr_tos, wEw_tos, wEr_least, wEw_least, wEr_layers, wEw_layers, wEr_rows, wEw_rows, wEr_lengths, wEw_lengths, wE_kls, hB_new, hB_wr, z3]
theorem x_untangle (i : cI H g m (nb, na, fr, to, le, row, ma, co) hs kp tx) : cZ (d+40) MX1_untangle [] H g m (.inl (.int (nI (t_cx nb na fr to (t_ly na fr to le) row - t_cx nb na fr to (t_ly na fr to le) (t_u3 nb na fr to (t_ly na fr to le) row (t_dp (t_ly na fr to le) nb)))))) (nb, na, fr, to, le, t_u3 nb na fr to (t_ly na fr to le) row (t_dp (t_ly na fr to le) nb), ma, co) (t_pu hs (nb, na, fr, to, le, row, ma, co)) kp tx := by
  obtain ⟨h, G, N, rfl, hm, hq, c⟩ := cI_E i
  have ⟨g1, g2, kg, g0⟩ := cI_g i
  have hq1 : 1024 ≤ h.1 := by omega
  have ⟨u1, u2, u3, u4, u5, u6, u7⟩ := x_in (n := 0) (f := (fun _ => 0)) hm hq i c (by omega)
  have kg2 := (cI_g u2).2.2.1
  have y0 : cY (d+37) MX2_untangles [] (wE (hK (hB h 0 (fun _ => 0))) m G N) (hB h 0 (fun _ => 0)).1 G (nK N) (t_cx nb na fr to (t_ly na fr to le) row - t_cx nb na fr to (t_ly na fr to le) (t_u3 nb na fr to (t_ly na fr to le) row (t_dp (t_ly na fr to le) nb))) (nb, na, fr, to, le, t_u3 nb na fr to (t_ly na fr to le) row (t_dp (t_ly na fr to le) nb), ma, co) := c_untanglesD (d := d+25) (h := wE (hK (hB h 0 (fun _ => 0))) m G N) (m := (hB h 0 (fun _ => 0)).1) (G := G) (N := nK N) u4 u6
  have y := d_116 (d := d+37) (v := h.1) u4 y0
  have ⟨H', z1, z2, z3⟩ := x_act (d := d+22) hm u1 u2 y
  refine ⟨H', _, z1, gR_le (gR_X u3 z2) (by omega) (by omega), ?_⟩
  rw [e_X1_untangle]
  simp (disch := first | omega | assumption | exact Or.inl rfl | exact Or.inr rfl | exact wN_kls (by omega) | exact wE_kls (by omega) | (simp only [a_cat_nil, a_cat_int, a_cat_ref, a_cat_null, a_cat_long]; done) | (simp only [a_cat_nil, a_cat_int, a_cat_ref, a_cat_null, a_cat_long]; omega) | decide | rfl | (apply Or.inr; omega) | (apply Or.inl; omega)) only [w_X1_untangle_0, w_X1_untangle_1, w_X1_untangle_3, w_X1_untangle_4, w_X1_untangle_6, w_X1_untangle_9, w_ret, w_exc, Nat.reduceAdd, Option.toList_some, Option.toList_none, List.cons_append, List.nil_append, Option.bind_some, nI_add, q_mul, q_sub, q_eq, q_eqz, q_lt, q_ltz, q_gtz, q_le, q_lez, q_div, q_or, q_and, q_shl, q_shr, q_m1, q_eqm, q_meq, q_mm, q_mlt, q_mgt, q_mlt2, q_dec, Nat.add_sub_cancel, q_ltT, q_ltF, q_leT, q_leF, q_eqT, q_eqF, ↓reduceIte, uN_s, uN_n, upN_app, uG_s, uG_n, uG_uG, if_true, if_false, Nat.reduceMul, Nat.reduceSub, Nat.reduceEqDiff, Nat.reduceLT, and_true, true_and, and_false, false_and, or_true, true_or, or_false, false_or, not_true_eq_false, not_false_eq_true, Option.some.injEq, wEg_froms, wEg_tos, wEg_least, wEg_layers, wEg_rows, wEg_lengths, wEg_uppers, wEg_lowers, wEg_near, wEg_medians, wEg_points, wEg_boxes, wEp_boxes, wEg_arrows, wEp_arrows, wEg_depth, wEp_depth, wEg_made, wEp_made, wEg_come, wEp_come, wEr_uppers, wEw_uppers, wEr_lowers, wEw_lowers, wEr_near, wEw_near, wEr_medians, wEw_medians, wEr_points, wEw_points, wEr_froms, wEw_froms, wEr_tos, wEw_tos, wEr_least, wEw_least, wEr_layers, wEw_layers, wEr_rows, wEw_rows, wEr_lengths, wEw_lengths, wE_kls, hB_new, hB_wr, z3]
theorem x_exchange1 {x z u : Int32} (i : cI H g m (nb, na, fr, to, le, row, ma, co) hs kp tx) (q : ¬ (vP nb na fr to (t_ly na fr to le) x z ∧ vP nb na fr to (t_ly na fr to le) x u)) : cZ (d+40) MX1_exchange [.int x, .int z, .int u] H g m (.inr 11) (nb, na, fr, to, le, row, ma, co) hs kp tx := by
  obtain ⟨x', rfl⟩ : ∃ x', x = nI x' := ⟨q_cd x, (q_cd_eq x).symm⟩
  obtain ⟨z', rfl⟩ : ∃ z', z = nI z' := ⟨q_cd z, (q_cd_eq z).symm⟩
  obtain ⟨u', rfl⟩ : ∃ u', u = nI u' := ⟨q_cd u, (q_cd_eq u).symm⟩
  obtain ⟨h, G, N, rfl, hm, hq, c⟩ := cI_E i
  have ⟨g1, g2, kg, g0⟩ := cI_g i
  have hq1 : 1024 ≤ h.1 := by omega
  have ⟨u1, u2, u3, u4, u5, u6, u7⟩ := x_in (n := 3) (f := (upN (upN (upN (fun _ => 0) 0 x') 1 z') 2 u')) hm hq i c (by omega)
  have kg2 := (cI_g u2).2.2.1
  have r0 := u7 0 (by omega)
  rw [show (upN (upN (upN (fun _ => 0) 0 x') 1 z') 2 u') 0 = x' from rfl] at r0
  have r1 := u7 1 (by omega)
  rw [show (upN (upN (upN (fun _ => 0) 0 x') 1 z') 2 u') 1 = z' from rfl] at r1
  have r2 := u7 2 (by omega)
  rw [show (upN (upN (upN (fun _ => 0) 0 x') 1 z') 2 u') 2 = u' from rfl] at r2
  have y0 : cN (d+37) MX2_swapsAt [.int (nI x'), .int (nI z'), .int (nI u')] (wE (hK (hB h 3 (upN (upN (upN (fun _ => 0) 0 x') 1 z') 2 u'))) m G N) (hB h 3 (upN (upN (upN (fun _ => 0) 0 x') 1 z') 2 u')).1 G (nK N) 1 (0) := c_swapsAt1 (d := d+25) (h := wE (hK (hB h 3 (upN (upN (upN (fun _ => 0) 0 x') 1 z') 2 u'))) m G N) (m := (hB h 3 (upN (upN (upN (fun _ => 0) 0 x') 1 z') 2 u')).1) (G := G) (N := nK N) u4 u5 u6 q
  have y := d_101N (d := d+37) (v := h.1) u4 r0 r1 r2 y0
  have ⟨H', x, t, z1, z2, z3, z4, z5⟩ := x_actN (d := d+22) hm u1 u2 (by decide) y
  have z4 : H'.2.2 x = .inr (11, t) := z4
  have tt := fun pc L => w_thr0 (d := d+39) (M := MX1_exchange) (pc := pc) (L := L) (a_cls_o z4) z3 rfl
  refine ⟨H', m, z1, gR_le (gR_X u3 z2) (by omega) (by omega), x, t, z3, z4, ?_⟩
  rw [e_X1_exchange]
  simp (disch := first | omega | assumption | exact Or.inl rfl | exact Or.inr rfl | exact wN_kls (by omega) | exact wE_kls (by omega) | (simp only [a_cat_nil, a_cat_int, a_cat_ref, a_cat_null, a_cat_long]; done) | (simp only [a_cat_nil, a_cat_int, a_cat_ref, a_cat_null, a_cat_long]; omega) | decide | rfl | (apply Or.inr; omega) | (apply Or.inl; omega)) only [w_X1_exchange_0, w_X1_exchange_1, w_X1_exchange_3, w_X1_exchange_4, w_X1_exchange_6, w_X1_exchange_6I, w_X1_exchange_7, w_X1_exchange_8, w_X1_exchange_9, w_X1_exchange_10, w_X1_exchange_10I, w_X1_exchange_11, w_X1_exchange_12, w_X1_exchange_13, w_X1_exchange_14, w_X1_exchange_14I, w_X1_exchange_15, w_X1_exchange_16, w_X1_exchange_17, w_X1_exchange_18, w_X1_exchange_21, w_ret, w_exc, Nat.reduceAdd, Option.toList_some, Option.toList_none, List.cons_append, List.nil_append, Option.bind_some, nI_add, q_mul, q_sub, q_eq, q_eqz, q_lt, q_ltz, q_gtz, q_le, q_lez, q_div, q_or, q_and, q_shl, q_shr, q_m1, q_eqm, q_meq, q_mm, q_mlt, q_mgt, q_mlt2, q_dec, Nat.add_sub_cancel, q_ltT, q_ltF, q_leT, q_leF, q_eqT, q_eqF, ↓reduceIte, uN_s, uN_n, upN_app, uG_s, uG_n, uG_uG, if_true, if_false, Nat.reduceMul, Nat.reduceSub, Nat.reduceEqDiff, Nat.reduceLT, and_true, true_and, and_false, false_and, or_true, true_or, or_false, false_or, not_true_eq_false, not_false_eq_true, Option.some.injEq, wEg_froms, wEg_tos, wEg_least, wEg_layers, wEg_rows, wEg_lengths, wEg_uppers, wEg_lowers, wEg_near, wEg_medians, wEg_points, wEg_boxes, wEp_boxes, wEg_arrows, wEp_arrows, wEg_depth, wEp_depth, wEg_made, wEp_made, wEg_come, wEp_come, wEr_uppers, wEw_uppers, wEr_lowers, wEw_lowers, wEr_near, wEw_near, wEr_medians, wEw_medians, wEr_points, wEw_points, wEr_froms, wEw_froms, wEr_tos, wEw_tos, wEr_least, wEw_least, wEr_layers, wEw_layers, wEr_rows, wEw_rows, wEr_lengths, wEw_lengths, wE_kls, hB_new, hB_wr, z5, tt]
theorem x_exchange {l p q : Nat} (i : cI H g m (nb, na, fr, to, le, row, ma, co) hs kp tx) (hl : l < t_dp (t_ly na fr to le) nb) (hp : p < t_cn nb na fr to (t_ly na fr to le) l) (hq0 : q < t_cn nb na fr to (t_ly na fr to le) l) : cZ (d+40) MX1_exchange [.int (nI l), .int (nI p), .int (nI q)] H g m (.inl (.int (nI (t_cx nb na fr to (t_ly na fr to le) (t_tw row l p q))))) (nb, na, fr, to, le, t_tw row l p q, ma, co) (t_pu hs (nb, na, fr, to, le, row, ma, co)) kp tx := by
  obtain ⟨h, G, N, rfl, hm, hq, c⟩ := cI_E i
  have ⟨g1, g2, kg, g0⟩ := cI_g i
  have hq1 : 1024 ≤ h.1 := by omega
  have ⟨u1, u2, u3, u4, u5, u6, u7⟩ := x_in (n := 3) (f := (upN (upN (upN (fun _ => 0) 0 l) 1 p) 2 q)) hm hq i c (by omega)
  have kg2 := (cI_g u2).2.2.1
  have r0 := u7 0 (by omega)
  rw [show (upN (upN (upN (fun _ => 0) 0 l) 1 p) 2 q) 0 = l from rfl] at r0
  have r1 := u7 1 (by omega)
  rw [show (upN (upN (upN (fun _ => 0) 0 l) 1 p) 2 q) 1 = p from rfl] at r1
  have r2 := u7 2 (by omega)
  rw [show (upN (upN (upN (fun _ => 0) 0 l) 1 p) 2 q) 2 = q from rfl] at r2
  have y0 : cY (d+37) MX2_swapsAt [.int (nI l), .int (nI p), .int (nI q)] (wE (hK (hB h 3 (upN (upN (upN (fun _ => 0) 0 l) 1 p) 2 q))) m G N) (hB h 3 (upN (upN (upN (fun _ => 0) 0 l) 1 p) 2 q)).1 G (nK N) (t_cx nb na fr to (t_ly na fr to le) (t_tw row l p q)) (nb, na, fr, to, le, t_tw row l p q, ma, co) := c_swapsAt (d := d+25) (h := wE (hK (hB h 3 (upN (upN (upN (fun _ => 0) 0 l) 1 p) 2 q))) m G N) (m := (hB h 3 (upN (upN (upN (fun _ => 0) 0 l) 1 p) 2 q)).1) (G := G) (N := nK N) u4 u6 hl hp hq0
  have y := d_101 (d := d+37) (v := h.1) u4 r0 r1 r2 y0
  have ⟨H', z1, z2, z3⟩ := x_act (d := d+22) hm u1 u2 y
  refine ⟨H', _, z1, gR_le (gR_X u3 z2) (by omega) (by omega), ?_⟩
  rw [e_X1_exchange]
  simp (disch := first | omega | assumption | exact Or.inl rfl | exact Or.inr rfl | exact wN_kls (by omega) | exact wE_kls (by omega) | (simp only [a_cat_nil, a_cat_int, a_cat_ref, a_cat_null, a_cat_long]; done) | (simp only [a_cat_nil, a_cat_int, a_cat_ref, a_cat_null, a_cat_long]; omega) | decide | rfl | (apply Or.inr; omega) | (apply Or.inl; omega)) only [w_X1_exchange_0, w_X1_exchange_1, w_X1_exchange_3, w_X1_exchange_4, w_X1_exchange_6, w_X1_exchange_6I, w_X1_exchange_7, w_X1_exchange_8, w_X1_exchange_9, w_X1_exchange_10, w_X1_exchange_10I, w_X1_exchange_11, w_X1_exchange_12, w_X1_exchange_13, w_X1_exchange_14, w_X1_exchange_14I, w_X1_exchange_15, w_X1_exchange_16, w_X1_exchange_17, w_X1_exchange_18, w_X1_exchange_21, w_ret, w_exc, Nat.reduceAdd, Option.toList_some, Option.toList_none, List.cons_append, List.nil_append, Option.bind_some, nI_add, q_mul, q_sub, q_eq, q_eqz, q_lt, q_ltz, q_gtz, q_le, q_lez, q_div, q_or, q_and, q_shl, q_shr, q_m1, q_eqm, q_meq, q_mm, q_mlt, q_mgt, q_mlt2, q_dec, Nat.add_sub_cancel, q_ltT, q_ltF, q_leT, q_leF, q_eqT, q_eqF, ↓reduceIte, uN_s, uN_n, upN_app, uG_s, uG_n, uG_uG, if_true, if_false, Nat.reduceMul, Nat.reduceSub, Nat.reduceEqDiff, Nat.reduceLT, and_true, true_and, and_false, false_and, or_true, true_or, or_false, false_or, not_true_eq_false, not_false_eq_true, Option.some.injEq, wEg_froms, wEg_tos, wEg_least, wEg_layers, wEg_rows, wEg_lengths, wEg_uppers, wEg_lowers, wEg_near, wEg_medians, wEg_points, wEg_boxes, wEp_boxes, wEg_arrows, wEp_arrows, wEg_depth, wEp_depth, wEg_made, wEp_made, wEg_come, wEp_come, wEr_uppers, wEw_uppers, wEr_lowers, wEw_lowers, wEr_near, wEw_near, wEr_medians, wEw_medians, wEr_points, wEw_points, wEr_froms, wEw_froms, wEr_tos, wEw_tos, wEr_least, wEw_least, wEr_layers, wEw_layers, wEr_rows, wEw_rows, wEr_lengths, wEw_lengths, wE_kls, hB_new, hB_wr, z3]
theorem x_settle (i : cI H g m (nb, na, fr, to, le, row, ma, co) hs kp tx) : cZ (d+40) MX1_settle [] H g m (.inl (.int (nI ((t_se nb na fr to (t_ly na fr to le) row 10).2.2)))) (nb, na, fr, to, le, (t_se nb na fr to (t_ly na fr to le) row 10).2.1, ma, co) (t_pu hs (nb, na, fr, to, le, row, ma, co)) kp tx := by
  obtain ⟨h, G, N, rfl, hm, hq, c⟩ := cI_E i
  have ⟨g1, g2, kg, g0⟩ := cI_g i
  have hq1 : 1024 ≤ h.1 := by omega
  have ⟨u1, u2, u3, u4, u5, u6, u7⟩ := x_in (n := 0) (f := (fun _ => 0)) hm hq i c (by omega)
  have kg2 := (cI_g u2).2.2.1
  have y0 : cY (d+37) MX2_settles [] (wE (hK (hB h 0 (fun _ => 0))) m G N) (hB h 0 (fun _ => 0)).1 G (nK N) ((t_se nb na fr to (t_ly na fr to le) row 10).2.2) (nb, na, fr, to, le, (t_se nb na fr to (t_ly na fr to le) row 10).2.1, ma, co) := c_settles (d := d+25) (h := wE (hK (hB h 0 (fun _ => 0))) m G N) (m := (hB h 0 (fun _ => 0)).1) (G := G) (N := nK N) u4 u5 u6
  have y := d_115 (d := d+37) (v := h.1) u4 y0
  have ⟨H', z1, z2, z3⟩ := x_act (d := d+22) hm u1 u2 y
  refine ⟨H', _, z1, gR_le (gR_X u3 z2) (by omega) (by omega), ?_⟩
  rw [e_X1_settle]
  simp (disch := first | omega | assumption | exact Or.inl rfl | exact Or.inr rfl | exact wN_kls (by omega) | exact wE_kls (by omega) | (simp only [a_cat_nil, a_cat_int, a_cat_ref, a_cat_null, a_cat_long]; done) | (simp only [a_cat_nil, a_cat_int, a_cat_ref, a_cat_null, a_cat_long]; omega) | decide | rfl | (apply Or.inr; omega) | (apply Or.inl; omega)) only [w_X1_settle_0, w_X1_settle_1, w_X1_settle_3, w_X1_settle_4, w_X1_settle_6, w_X1_settle_9, w_ret, w_exc, Nat.reduceAdd, Option.toList_some, Option.toList_none, List.cons_append, List.nil_append, Option.bind_some, nI_add, q_mul, q_sub, q_eq, q_eqz, q_lt, q_ltz, q_gtz, q_le, q_lez, q_div, q_or, q_and, q_shl, q_shr, q_m1, q_eqm, q_meq, q_mm, q_mlt, q_mgt, q_mlt2, q_dec, Nat.add_sub_cancel, q_ltT, q_ltF, q_leT, q_leF, q_eqT, q_eqF, ↓reduceIte, uN_s, uN_n, upN_app, uG_s, uG_n, uG_uG, if_true, if_false, Nat.reduceMul, Nat.reduceSub, Nat.reduceEqDiff, Nat.reduceLT, and_true, true_and, and_false, false_and, or_true, true_or, or_false, false_or, not_true_eq_false, not_false_eq_true, Option.some.injEq, wEg_froms, wEg_tos, wEg_least, wEg_layers, wEg_rows, wEg_lengths, wEg_uppers, wEg_lowers, wEg_near, wEg_medians, wEg_points, wEg_boxes, wEp_boxes, wEg_arrows, wEp_arrows, wEg_depth, wEp_depth, wEg_made, wEp_made, wEg_come, wEp_come, wEr_uppers, wEw_uppers, wEr_lowers, wEw_lowers, wEr_near, wEw_near, wEr_medians, wEw_medians, wEr_points, wEw_points, wEr_froms, wEw_froms, wEr_tos, wEw_tos, wEr_least, wEw_least, wEr_layers, wEw_layers, wEr_rows, wEw_rows, wEr_lengths, wEw_lengths, wE_kls, hB_new, hB_wr, z3]
theorem x_whyRefused1 {x z : Int32} (i : cI H g m (nb, na, fr, to, le, row, ma, co) hs kp tx) (q : ¬ (vB nb x ∧ vB nb z)) : cZ (d+40) MX1_whyRefused [.int x, .int z] H g m (.inr 11) (nb, na, fr, to, le, row, ma, co) hs kp tx := by
  obtain ⟨x', rfl⟩ : ∃ x', x = nI x' := ⟨q_cd x, (q_cd_eq x).symm⟩
  obtain ⟨z', rfl⟩ : ∃ z', z = nI z' := ⟨q_cd z, (q_cd_eq z).symm⟩
  obtain ⟨h, G, N, rfl, hm, hq, c⟩ := cI_E i
  have ⟨g1, g2, kg, g0⟩ := cI_g i
  have hq1 : 1024 ≤ h.1 := by omega
  have ⟨u1, u2, u3, u4, u5, u6, u7⟩ := x_in (n := 2) (f := (upN (upN (fun _ => 0) 0 x') 1 z')) hm hq i c (by omega)
  have kg2 := (cI_g u2).2.2.1
  have r0 := u7 0 (by omega)
  rw [show (upN (upN (fun _ => 0) 0 x') 1 z') 0 = x' from rfl] at r0
  have r1 := u7 1 (by omega)
  rw [show (upN (upN (fun _ => 0) 0 x') 1 z') 1 = z' from rfl] at r1
  have y0 : cN (d+37) MX2_getsArrow [.int (nI x'), .int (nI z')] (wE (hK (hB h 2 (upN (upN (fun _ => 0) 0 x') 1 z'))) m G N) (hB h 2 (upN (upN (fun _ => 0) 0 x') 1 z')).1 G (nK N) 1 0 := c_getsArrow1 (d := d+25) (h := wE (hK (hB h 2 (upN (upN (fun _ => 0) 0 x') 1 z'))) m G N) (m := (hB h 2 (upN (upN (fun _ => 0) 0 x') 1 z')).1) (G := G) (N := nK N) u4 u5 u6 q
  have y := d_97N (d := d+37) (v := h.1) u4 r0 r1 y0
  have ⟨H', x, t, z1, z2, z3, z4, z5⟩ := x_why1 (d := d+22) hm u1 u2 y
  have tt := fun pc L => w_thr0 (d := d+39) (M := MX1_whyRefused) (pc := pc) (L := L) (a_cls_o z4) z3 rfl
  refine ⟨H', m, z1, gR_le (gR_X u3 z2) (by omega) (by omega), x, t, z3, z4, ?_⟩
  rw [e_X1_whyRefused]
  simp (disch := first | omega | assumption | exact Or.inl rfl | exact Or.inr rfl | exact wN_kls (by omega) | exact wE_kls (by omega) | (simp only [a_cat_nil, a_cat_int, a_cat_ref, a_cat_null, a_cat_long]; done) | (simp only [a_cat_nil, a_cat_int, a_cat_ref, a_cat_null, a_cat_long]; omega) | decide | rfl | (apply Or.inr; omega) | (apply Or.inl; omega)) only [w_X1_whyRefused_0, w_X1_whyRefused_1, w_X1_whyRefused_3, w_X1_whyRefused_4, w_X1_whyRefused_6, w_X1_whyRefused_6I, w_X1_whyRefused_7, w_X1_whyRefused_8, w_X1_whyRefused_9, w_X1_whyRefused_10, w_X1_whyRefused_10I, w_X1_whyRefused_11, w_X1_whyRefused_12, w_X1_whyRefused_13, w_X1_whyRefused_14, w_X1_whyRefused_17, w_ret, w_exc, Nat.reduceAdd, Option.toList_some, Option.toList_none, List.cons_append, List.nil_append, Option.bind_some, nI_add, q_mul, q_sub, q_eq, q_eqz, q_lt, q_ltz, q_gtz, q_le, q_lez, q_div, q_or, q_and, q_shl, q_shr, q_m1, q_eqm, q_meq, q_mm, q_mlt, q_mgt, q_mlt2, q_dec, Nat.add_sub_cancel, q_ltT, q_ltF, q_leT, q_leF, q_eqT, q_eqF, ↓reduceIte, uN_s, uN_n, upN_app, uG_s, uG_n, uG_uG, if_true, if_false, Nat.reduceMul, Nat.reduceSub, Nat.reduceEqDiff, Nat.reduceLT, and_true, true_and, and_false, false_and, or_true, true_or, or_false, false_or, not_true_eq_false, not_false_eq_true, Option.some.injEq, wEg_froms, wEg_tos, wEg_least, wEg_layers, wEg_rows, wEg_lengths, wEg_uppers, wEg_lowers, wEg_near, wEg_medians, wEg_points, wEg_boxes, wEp_boxes, wEg_arrows, wEp_arrows, wEg_depth, wEp_depth, wEg_made, wEp_made, wEg_come, wEp_come, wEr_uppers, wEw_uppers, wEr_lowers, wEw_lowers, wEr_near, wEw_near, wEr_medians, wEw_medians, wEr_points, wEw_points, wEr_froms, wEw_froms, wEr_tos, wEw_tos, wEr_least, wEw_least, wEr_layers, wEw_layers, wEr_rows, wEw_rows, wEr_lengths, wEw_lengths, wE_kls, hB_new, hB_wr, z5, tt]
theorem x_whyRefused {f t : Nat} (i : cI H g m (nb, na, fr, to, le, row, ma, co) hs kp tx) (hf : f < nb) (ht : t < nb) : cZ (d+40) MX1_whyRefused [.int (nI f), .int (nI t)] H g m (.inl (.int (nI (t_rf na fr to f t)))) (nb, na, fr, to, le, row, ma, co) hs kp tx := by
  obtain ⟨h, G, N, rfl, hm, hq, c⟩ := cI_E i
  have ⟨g1, g2, kg, g0⟩ := cI_g i
  have hq1 : 1024 ≤ h.1 := by omega
  have ⟨u1, u2, u3, u4, u5, u6, u7⟩ := x_in (n := 2) (f := (upN (upN (fun _ => 0) 0 f) 1 t)) hm hq i c (by omega)
  have kg2 := (cI_g u2).2.2.1
  have r0 := u7 0 (by omega)
  rw [show (upN (upN (fun _ => 0) 0 f) 1 t) 0 = f from rfl] at r0
  have r1 := u7 1 (by omega)
  rw [show (upN (upN (fun _ => 0) 0 f) 1 t) 1 = t from rfl] at r1
  by_cases q : 0 < t_rf na fr to f t
  · have y0 : cN (d+37) MX2_getsArrow [.int (nI f), .int (nI t)] (wE (hK (hB h 2 (upN (upN (fun _ => 0) 0 f) 1 t))) m G N) (hB h 2 (upN (upN (fun _ => 0) 0 f) 1 t)).1 G (nK N) 2 (t_rf na fr to f t) := by
      have ⟨h', x, G', N', a1, a2, a3⟩ := c_getsArrow2 (d := d+25) (h := wE (hK (hB h 2 (upN (upN (fun _ => 0) 0 f) 1 t))) m G N) (m := (hB h 2 (upN (upN (fun _ => 0) 0 f) 1 t)).1) (G := G) (N := nK N) u4 u5 u6 hf ht q
      exact ⟨h', x, G', N', hX_le a1 (by omega) (by omega), a2, a3⟩
    have y := d_97N (d := d+37) (v := h.1) u4 r0 r1 y0
    have ⟨H', z1, z2, z3⟩ := x_why2 (d := d+22) hm u1 u2 y
    refine ⟨H', m, z1, gR_le (gR_X u3 z2) (by omega) (by omega), ?_⟩
    rw [e_X1_whyRefused]
    simp (disch := first | omega | assumption | exact Or.inl rfl | exact Or.inr rfl | exact wN_kls (by omega) | exact wE_kls (by omega) | (simp only [a_cat_nil, a_cat_int, a_cat_ref, a_cat_null, a_cat_long]; done) | (simp only [a_cat_nil, a_cat_int, a_cat_ref, a_cat_null, a_cat_long]; omega) | decide | rfl | (apply Or.inr; omega) | (apply Or.inl; omega)) only [w_X1_whyRefused_0, w_X1_whyRefused_1, w_X1_whyRefused_3, w_X1_whyRefused_4, w_X1_whyRefused_6, w_X1_whyRefused_6I, w_X1_whyRefused_7, w_X1_whyRefused_8, w_X1_whyRefused_9, w_X1_whyRefused_10, w_X1_whyRefused_10I, w_X1_whyRefused_11, w_X1_whyRefused_12, w_X1_whyRefused_13, w_X1_whyRefused_14, w_X1_whyRefused_17, w_ret, w_exc, Nat.reduceAdd, Option.toList_some, Option.toList_none, List.cons_append, List.nil_append, Option.bind_some, nI_add, q_mul, q_sub, q_eq, q_eqz, q_lt, q_ltz, q_gtz, q_le, q_lez, q_div, q_or, q_and, q_shl, q_shr, q_m1, q_eqm, q_meq, q_mm, q_mlt, q_mgt, q_mlt2, q_dec, Nat.add_sub_cancel, q_ltT, q_ltF, q_leT, q_leF, q_eqT, q_eqF, ↓reduceIte, uN_s, uN_n, upN_app, uG_s, uG_n, uG_uG, if_true, if_false, Nat.reduceMul, Nat.reduceSub, Nat.reduceEqDiff, Nat.reduceLT, and_true, true_and, and_false, false_and, or_true, true_or, or_false, false_or, not_true_eq_false, not_false_eq_true, Option.some.injEq, wEg_froms, wEg_tos, wEg_least, wEg_layers, wEg_rows, wEg_lengths, wEg_uppers, wEg_lowers, wEg_near, wEg_medians, wEg_points, wEg_boxes, wEp_boxes, wEg_arrows, wEp_arrows, wEg_depth, wEp_depth, wEg_made, wEp_made, wEg_come, wEp_come, wEr_uppers, wEw_uppers, wEr_lowers, wEw_lowers, wEr_near, wEw_near, wEr_medians, wEw_medians, wEr_points, wEw_points, wEr_froms, wEw_froms, wEr_tos, wEw_tos, wEr_least, wEw_least, wEr_layers, wEw_layers, wEr_rows, wEw_rows, wEr_lengths, wEw_lengths, wE_kls, hB_new, hB_wr, z3]
  · have q : t_rf na fr to f t = 0 := by omega
    have y0 : cY (d+37) MX2_getsArrow [.int (nI f), .int (nI t)] (wE (hK (hB h 2 (upN (upN (fun _ => 0) 0 f) 1 t))) m G N) (hB h 2 (upN (upN (fun _ => 0) 0 f) 1 t)).1 G (nK N) (na) (t_nw nb (na + 1) (upN fr na f) (upN to na t) le ma (co + 1)) := by
      have ⟨h', G', N', a1, a2, a3⟩ := c_getsArrow (d := d+25) (h := wE (hK (hB h 2 (upN (upN (fun _ => 0) 0 f) 1 t))) m G N) (m := (hB h 2 (upN (upN (fun _ => 0) 0 f) 1 t)).1) (G := G) (N := nK N) u4 u5 u6 hf ht q
      exact ⟨h', G', N', hX_le a1 (by omega) (by omega), a2, a3⟩
    have y := d_97 (d := d+37) (v := h.1) u4 r0 r1 y0
    have ⟨H', z1, z2, z3⟩ := x_why (d := d+22) hm u1 u2 y
    refine ⟨H', m, z1, gR_le (gR_X u3 z2) (by omega) (by omega), ?_⟩
    rw [q, e_X1_whyRefused]
    simp (disch := first | omega | assumption | exact Or.inl rfl | exact Or.inr rfl | exact wN_kls (by omega) | exact wE_kls (by omega) | (simp only [a_cat_nil, a_cat_int, a_cat_ref, a_cat_null, a_cat_long]; done) | (simp only [a_cat_nil, a_cat_int, a_cat_ref, a_cat_null, a_cat_long]; omega) | decide | rfl | (apply Or.inr; omega) | (apply Or.inl; omega)) only [w_X1_whyRefused_0, w_X1_whyRefused_1, w_X1_whyRefused_3, w_X1_whyRefused_4, w_X1_whyRefused_6, w_X1_whyRefused_6I, w_X1_whyRefused_7, w_X1_whyRefused_8, w_X1_whyRefused_9, w_X1_whyRefused_10, w_X1_whyRefused_10I, w_X1_whyRefused_11, w_X1_whyRefused_12, w_X1_whyRefused_13, w_X1_whyRefused_14, w_X1_whyRefused_17, w_ret, w_exc, Nat.reduceAdd, Option.toList_some, Option.toList_none, List.cons_append, List.nil_append, Option.bind_some, nI_add, q_mul, q_sub, q_eq, q_eqz, q_lt, q_ltz, q_gtz, q_le, q_lez, q_div, q_or, q_and, q_shl, q_shr, q_m1, q_eqm, q_meq, q_mm, q_mlt, q_mgt, q_mlt2, q_dec, Nat.add_sub_cancel, q_ltT, q_ltF, q_leT, q_leF, q_eqT, q_eqF, ↓reduceIte, uN_s, uN_n, upN_app, uG_s, uG_n, uG_uG, if_true, if_false, Nat.reduceMul, Nat.reduceSub, Nat.reduceEqDiff, Nat.reduceLT, and_true, true_and, and_false, false_and, or_true, true_or, or_false, false_or, not_true_eq_false, not_false_eq_true, Option.some.injEq, wEg_froms, wEg_tos, wEg_least, wEg_layers, wEg_rows, wEg_lengths, wEg_uppers, wEg_lowers, wEg_near, wEg_medians, wEg_points, wEg_boxes, wEp_boxes, wEg_arrows, wEp_arrows, wEg_depth, wEp_depth, wEg_made, wEp_made, wEg_come, wEp_come, wEr_uppers, wEw_uppers, wEr_lowers, wEw_lowers, wEr_near, wEw_near, wEr_medians, wEw_medians, wEr_points, wEw_points, wEr_froms, wEw_froms, wEr_tos, wEw_tos, wEr_least, wEw_least, wEr_layers, wEw_layers, wEr_rows, wEw_rows, wEr_lengths, wEw_lengths, wE_kls, hB_new, hB_wr, z3]
theorem x_whyNoChain1 {x z u : Int32} (i : cI H g m (nb, na, fr, to, le, row, ma, co) hs kp tx) (q : ¬ (vB nb x ∧ vB nb z ∧ vB nb u)) : cZ (d+40) MX1_whyNoChain [.int x, .int z, .int u] H g m (.inr 11) (nb, na, fr, to, le, row, ma, co) hs kp tx := by
  obtain ⟨x', rfl⟩ : ∃ x', x = nI x' := ⟨q_cd x, (q_cd_eq x).symm⟩
  obtain ⟨z', rfl⟩ : ∃ z', z = nI z' := ⟨q_cd z, (q_cd_eq z).symm⟩
  obtain ⟨u', rfl⟩ : ∃ u', u = nI u' := ⟨q_cd u, (q_cd_eq u).symm⟩
  obtain ⟨h, G, N, rfl, hm, hq, c⟩ := cI_E i
  have ⟨g1, g2, kg, g0⟩ := cI_g i
  have hq1 : 1024 ≤ h.1 := by omega
  have ⟨u1, u2, u3, u4, u5, u6, u7⟩ := x_in (n := 3) (f := (upN (upN (upN (fun _ => 0) 0 x') 1 z') 2 u')) hm hq i c (by omega)
  have kg2 := (cI_g u2).2.2.1
  have r0 := u7 0 (by omega)
  rw [show (upN (upN (upN (fun _ => 0) 0 x') 1 z') 2 u') 0 = x' from rfl] at r0
  have r1 := u7 1 (by omega)
  rw [show (upN (upN (upN (fun _ => 0) 0 x') 1 z') 2 u') 1 = z' from rfl] at r1
  have r2 := u7 2 (by omega)
  rw [show (upN (upN (upN (fun _ => 0) 0 x') 1 z') 2 u') 2 = u' from rfl] at r2
  have y0 : cN (d+37) MX2_getsChain [.int (nI x'), .int (nI z'), .int (nI u')] (wE (hK (hB h 3 (upN (upN (upN (fun _ => 0) 0 x') 1 z') 2 u'))) m G N) (hB h 3 (upN (upN (upN (fun _ => 0) 0 x') 1 z') 2 u')).1 G (nK N) 1 0 := c_getsChain1 (d := d+23) (h := wE (hK (hB h 3 (upN (upN (upN (fun _ => 0) 0 x') 1 z') 2 u'))) m G N) (m := (hB h 3 (upN (upN (upN (fun _ => 0) 0 x') 1 z') 2 u')).1) (G := G) (N := nK N) u4 u5 u6 q
  have y := d_99N (d := d+37) (v := h.1) u4 r0 r1 r2 y0
  have ⟨H', x, t, z1, z2, z3, z4, z5⟩ := x_why1 (d := d+22) hm u1 u2 y
  have tt := fun pc L => w_thr0 (d := d+39) (M := MX1_whyNoChain) (pc := pc) (L := L) (a_cls_o z4) z3 rfl
  refine ⟨H', m, z1, gR_le (gR_X u3 z2) (by omega) (by omega), x, t, z3, z4, ?_⟩
  rw [e_X1_whyNoChain]
  simp (disch := first | omega | assumption | exact Or.inl rfl | exact Or.inr rfl | exact wN_kls (by omega) | exact wE_kls (by omega) | (simp only [a_cat_nil, a_cat_int, a_cat_ref, a_cat_null, a_cat_long]; done) | (simp only [a_cat_nil, a_cat_int, a_cat_ref, a_cat_null, a_cat_long]; omega) | decide | rfl | (apply Or.inr; omega) | (apply Or.inl; omega)) only [w_X1_whyNoChain_0, w_X1_whyNoChain_1, w_X1_whyNoChain_3, w_X1_whyNoChain_4, w_X1_whyNoChain_6, w_X1_whyNoChain_6I, w_X1_whyNoChain_7, w_X1_whyNoChain_8, w_X1_whyNoChain_9, w_X1_whyNoChain_10, w_X1_whyNoChain_10I, w_X1_whyNoChain_11, w_X1_whyNoChain_12, w_X1_whyNoChain_13, w_X1_whyNoChain_14, w_X1_whyNoChain_14I, w_X1_whyNoChain_15, w_X1_whyNoChain_16, w_X1_whyNoChain_17, w_X1_whyNoChain_18, w_X1_whyNoChain_21, w_ret, w_exc, Nat.reduceAdd, Option.toList_some, Option.toList_none, List.cons_append, List.nil_append, Option.bind_some, nI_add, q_mul, q_sub, q_eq, q_eqz, q_lt, q_ltz, q_gtz, q_le, q_lez, q_div, q_or, q_and, q_shl, q_shr, q_m1, q_eqm, q_meq, q_mm, q_mlt, q_mgt, q_mlt2, q_dec, Nat.add_sub_cancel, q_ltT, q_ltF, q_leT, q_leF, q_eqT, q_eqF, ↓reduceIte, uN_s, uN_n, upN_app, uG_s, uG_n, uG_uG, if_true, if_false, Nat.reduceMul, Nat.reduceSub, Nat.reduceEqDiff, Nat.reduceLT, and_true, true_and, and_false, false_and, or_true, true_or, or_false, false_or, not_true_eq_false, not_false_eq_true, Option.some.injEq, wEg_froms, wEg_tos, wEg_least, wEg_layers, wEg_rows, wEg_lengths, wEg_uppers, wEg_lowers, wEg_near, wEg_medians, wEg_points, wEg_boxes, wEp_boxes, wEg_arrows, wEp_arrows, wEg_depth, wEp_depth, wEg_made, wEp_made, wEg_come, wEp_come, wEr_uppers, wEw_uppers, wEr_lowers, wEw_lowers, wEr_near, wEw_near, wEr_medians, wEw_medians, wEr_points, wEw_points, wEr_froms, wEw_froms, wEr_tos, wEw_tos, wEr_least, wEw_least, wEr_layers, wEw_layers, wEr_rows, wEw_rows, wEr_lengths, wEw_lengths, wE_kls, hB_new, hB_wr, z5, tt]
theorem x_whyNoChain {a b e : Nat} (i : cI H g m (nb, na, fr, to, le, row, ma, co) hs kp tx) (ha : a < nb) (hb : b < nb) (he : e < nb) : cZ (d+40) MX1_whyNoChain [.int (nI a), .int (nI b), .int (nI e)] H g m (.inl (.int (nI (t_nc na fr to a b e)))) (nb, na, fr, to, le, row, ma, co) hs kp tx := by
  obtain ⟨h, G, N, rfl, hm, hq, c⟩ := cI_E i
  have ⟨g1, g2, kg, g0⟩ := cI_g i
  have hq1 : 1024 ≤ h.1 := by omega
  have ⟨u1, u2, u3, u4, u5, u6, u7⟩ := x_in (n := 3) (f := (upN (upN (upN (fun _ => 0) 0 a) 1 b) 2 e)) hm hq i c (by omega)
  have kg2 := (cI_g u2).2.2.1
  have r0 := u7 0 (by omega)
  rw [show (upN (upN (upN (fun _ => 0) 0 a) 1 b) 2 e) 0 = a from rfl] at r0
  have r1 := u7 1 (by omega)
  rw [show (upN (upN (upN (fun _ => 0) 0 a) 1 b) 2 e) 1 = b from rfl] at r1
  have r2 := u7 2 (by omega)
  rw [show (upN (upN (upN (fun _ => 0) 0 a) 1 b) 2 e) 2 = e from rfl] at r2
  by_cases q : 0 < t_nc na fr to a b e
  · have y0 : cN (d+37) MX2_getsChain [.int (nI a), .int (nI b), .int (nI e)] (wE (hK (hB h 3 (upN (upN (upN (fun _ => 0) 0 a) 1 b) 2 e))) m G N) (hB h 3 (upN (upN (upN (fun _ => 0) 0 a) 1 b) 2 e)).1 G (nK N) 2 (t_nc na fr to a b e) := c_getsChain2 (d := d+23) (h := wE (hK (hB h 3 (upN (upN (upN (fun _ => 0) 0 a) 1 b) 2 e))) m G N) (m := (hB h 3 (upN (upN (upN (fun _ => 0) 0 a) 1 b) 2 e)).1) (G := G) (N := nK N) u4 u5 u6 ha hb he q
    have y := d_99N (d := d+37) (v := h.1) u4 r0 r1 r2 y0
    have ⟨H', z1, z2, z3⟩ := x_why2 (d := d+22) hm u1 u2 y
    refine ⟨H', m, z1, gR_le (gR_X u3 z2) (by omega) (by omega), ?_⟩
    rw [e_X1_whyNoChain]
    simp (disch := first | omega | assumption | exact Or.inl rfl | exact Or.inr rfl | exact wN_kls (by omega) | exact wE_kls (by omega) | (simp only [a_cat_nil, a_cat_int, a_cat_ref, a_cat_null, a_cat_long]; done) | (simp only [a_cat_nil, a_cat_int, a_cat_ref, a_cat_null, a_cat_long]; omega) | decide | rfl | (apply Or.inr; omega) | (apply Or.inl; omega)) only [w_X1_whyNoChain_0, w_X1_whyNoChain_1, w_X1_whyNoChain_3, w_X1_whyNoChain_4, w_X1_whyNoChain_6, w_X1_whyNoChain_6I, w_X1_whyNoChain_7, w_X1_whyNoChain_8, w_X1_whyNoChain_9, w_X1_whyNoChain_10, w_X1_whyNoChain_10I, w_X1_whyNoChain_11, w_X1_whyNoChain_12, w_X1_whyNoChain_13, w_X1_whyNoChain_14, w_X1_whyNoChain_14I, w_X1_whyNoChain_15, w_X1_whyNoChain_16, w_X1_whyNoChain_17, w_X1_whyNoChain_18, w_X1_whyNoChain_21, w_ret, w_exc, Nat.reduceAdd, Option.toList_some, Option.toList_none, List.cons_append, List.nil_append, Option.bind_some, nI_add, q_mul, q_sub, q_eq, q_eqz, q_lt, q_ltz, q_gtz, q_le, q_lez, q_div, q_or, q_and, q_shl, q_shr, q_m1, q_eqm, q_meq, q_mm, q_mlt, q_mgt, q_mlt2, q_dec, Nat.add_sub_cancel, q_ltT, q_ltF, q_leT, q_leF, q_eqT, q_eqF, ↓reduceIte, uN_s, uN_n, upN_app, uG_s, uG_n, uG_uG, if_true, if_false, Nat.reduceMul, Nat.reduceSub, Nat.reduceEqDiff, Nat.reduceLT, and_true, true_and, and_false, false_and, or_true, true_or, or_false, false_or, not_true_eq_false, not_false_eq_true, Option.some.injEq, wEg_froms, wEg_tos, wEg_least, wEg_layers, wEg_rows, wEg_lengths, wEg_uppers, wEg_lowers, wEg_near, wEg_medians, wEg_points, wEg_boxes, wEp_boxes, wEg_arrows, wEp_arrows, wEg_depth, wEp_depth, wEg_made, wEp_made, wEg_come, wEp_come, wEr_uppers, wEw_uppers, wEr_lowers, wEw_lowers, wEr_near, wEw_near, wEr_medians, wEw_medians, wEr_points, wEw_points, wEr_froms, wEw_froms, wEr_tos, wEw_tos, wEr_least, wEw_least, wEr_layers, wEw_layers, wEr_rows, wEw_rows, wEr_lengths, wEw_lengths, wE_kls, hB_new, hB_wr, z3]
  · have q : t_nc na fr to a b e = 0 := by omega
    have y0 : cY (d+37) MX2_getsChain [.int (nI a), .int (nI b), .int (nI e)] (wE (hK (hB h 3 (upN (upN (upN (fun _ => 0) 0 a) 1 b) 2 e))) m G N) (hB h 3 (upN (upN (upN (fun _ => 0) 0 a) 1 b) 2 e)).1 G (nK N) (na + 1) (t_nw nb (na + 2) (upN (upN fr na a) (na + 1) b) (upN (upN to na b) (na + 1) e) le ma (co + 2)) := c_getsChain (d := d+23) (h := wE (hK (hB h 3 (upN (upN (upN (fun _ => 0) 0 a) 1 b) 2 e))) m G N) (m := (hB h 3 (upN (upN (upN (fun _ => 0) 0 a) 1 b) 2 e)).1) (G := G) (N := nK N) u4 u5 u6 ha hb he q
    have y := d_99 (d := d+37) (v := h.1) u4 r0 r1 r2 y0
    have ⟨H', z1, z2, z3⟩ := x_why (d := d+22) hm u1 u2 y
    refine ⟨H', m, z1, gR_le (gR_X u3 z2) (by omega) (by omega), ?_⟩
    rw [q, e_X1_whyNoChain]
    simp (disch := first | omega | assumption | exact Or.inl rfl | exact Or.inr rfl | exact wN_kls (by omega) | exact wE_kls (by omega) | (simp only [a_cat_nil, a_cat_int, a_cat_ref, a_cat_null, a_cat_long]; done) | (simp only [a_cat_nil, a_cat_int, a_cat_ref, a_cat_null, a_cat_long]; omega) | decide | rfl | (apply Or.inr; omega) | (apply Or.inl; omega)) only [w_X1_whyNoChain_0, w_X1_whyNoChain_1, w_X1_whyNoChain_3, w_X1_whyNoChain_4, w_X1_whyNoChain_6, w_X1_whyNoChain_6I, w_X1_whyNoChain_7, w_X1_whyNoChain_8, w_X1_whyNoChain_9, w_X1_whyNoChain_10, w_X1_whyNoChain_10I, w_X1_whyNoChain_11, w_X1_whyNoChain_12, w_X1_whyNoChain_13, w_X1_whyNoChain_14, w_X1_whyNoChain_14I, w_X1_whyNoChain_15, w_X1_whyNoChain_16, w_X1_whyNoChain_17, w_X1_whyNoChain_18, w_X1_whyNoChain_21, w_ret, w_exc, Nat.reduceAdd, Option.toList_some, Option.toList_none, List.cons_append, List.nil_append, Option.bind_some, nI_add, q_mul, q_sub, q_eq, q_eqz, q_lt, q_ltz, q_gtz, q_le, q_lez, q_div, q_or, q_and, q_shl, q_shr, q_m1, q_eqm, q_meq, q_mm, q_mlt, q_mgt, q_mlt2, q_dec, Nat.add_sub_cancel, q_ltT, q_ltF, q_leT, q_leF, q_eqT, q_eqF, ↓reduceIte, uN_s, uN_n, upN_app, uG_s, uG_n, uG_uG, if_true, if_false, Nat.reduceMul, Nat.reduceSub, Nat.reduceEqDiff, Nat.reduceLT, and_true, true_and, and_false, false_and, or_true, true_or, or_false, false_or, not_true_eq_false, not_false_eq_true, Option.some.injEq, wEg_froms, wEg_tos, wEg_least, wEg_layers, wEg_rows, wEg_lengths, wEg_uppers, wEg_lowers, wEg_near, wEg_medians, wEg_points, wEg_boxes, wEp_boxes, wEg_arrows, wEp_arrows, wEg_depth, wEp_depth, wEg_made, wEp_made, wEg_come, wEp_come, wEr_uppers, wEw_uppers, wEr_lowers, wEw_lowers, wEr_near, wEw_near, wEr_medians, wEw_medians, wEr_points, wEw_points, wEr_froms, wEw_froms, wEr_tos, wEw_tos, wEr_least, wEw_least, wEr_layers, wEw_layers, wEr_rows, wEw_rows, wEr_lengths, wEw_lengths, wE_kls, hB_new, hB_wr, z3]
end X4
