theorem q_b01 (b : Bool) : nI b.toNat = 0 ∨ nI b.toNat = 1 := by cases b; exact Or.inl rfl; exact Or.inr rfl
theorem hX_B {h : a_H} {n : Nat} {f : Nat → Nat} : hX h (hB h n f) 1 n := ⟨Nat.le_succ _, Nat.le_refl _, Nat.le_refl _, fun _ hq => if_neg (Nat.ne_of_lt hq)⟩
section X1
variable {d : Nat} {H : a_H} {g m nb na ma co : Nat} {fr to le : Nat → Nat} {row : Nat → Nat → Nat} {hs : List t_D} {kp : Option t_D} {tx : List Nat}
theorem x_boxes (i : cI H g m (nb, na, fr, to, le, row, ma, co) hs kp tx) : cZ (d+40) MX1_boxes [] H g m (.inl (.int (nI (nb)))) (nb, na, fr, to, le, row, ma, co) hs kp tx := by
  obtain ⟨h, G, N, rfl, hm, hq, c⟩ := cI_E i
  have ⟨g1, g2, kg, g0⟩ := cI_g i
  have s := c.2.1
  have a := cD_cA c
  have hd := cQ_dp a.2.1 s.1
  have s1 := s.1
  have s2 := s.2.1
  have hq1 : 1024 ≤ h.1 := by omega
  have e := s.2.2.1
  refine cZ_0 hq i (fun _ _ => rfl) ?_
  rw [e_X1_boxes]
  simp (disch := first | omega | assumption | exact Or.inl rfl | exact Or.inr rfl | exact wN_kls (by omega) | exact wE_kls (by omega) | (simp only [a_cat_nil, a_cat_int, a_cat_ref, a_cat_null, a_cat_long]; done) | (simp only [a_cat_nil, a_cat_int, a_cat_ref, a_cat_null, a_cat_long]; omega) | decide | rfl | (apply Or.inr; omega) | (apply Or.inl; omega)) only [w_X1_boxes_0, w_X1_boxes_1, w_X1_boxes_4, w_X1_boxes_7, w_ret, w_exc, Nat.reduceAdd, Option.toList_some, Option.toList_none, List.cons_append, List.nil_append, Option.bind_some, nI_add, q_mul, q_sub, q_eq, q_eqz, q_lt, q_ltz, q_gtz, q_le, q_lez, q_div, q_or, q_and, q_shl, q_shr, q_m1, q_eqm, q_meq, q_mm, q_mlt, q_mgt, q_mlt2, q_dec, Nat.add_sub_cancel, q_ltT, q_ltF, q_leT, q_leF, q_eqT, q_eqF, ↓reduceIte, uN_s, uN_n, upN_app, uG_s, uG_n, uG_uG, if_true, if_false, Nat.reduceMul, Nat.reduceSub, Nat.reduceEqDiff, Nat.reduceLT, and_true, true_and, and_false, false_and, or_true, true_or, or_false, false_or, not_true_eq_false, not_false_eq_true, Option.some.injEq, wEg_froms, wEg_tos, wEg_least, wEg_layers, wEg_rows, wEg_lengths, wEg_uppers, wEg_lowers, wEg_near, wEg_medians, wEg_points, wEg_boxes, wEp_boxes, wEg_arrows, wEp_arrows, wEg_depth, wEp_depth, wEg_made, wEp_made, wEg_come, wEp_come, wEr_uppers, wEw_uppers, wEr_lowers, wEw_lowers, wEr_near, wEw_near, wEr_medians, wEw_medians, wEr_points, wEw_points, wEr_froms, wEw_froms, wEr_tos, wEw_tos, wEr_least, wEw_least, wEr_layers, wEw_layers, wEr_rows, wEw_rows, wEr_lengths, wEw_lengths, wE_kls, g0, e]
theorem x_arrows (i : cI H g m (nb, na, fr, to, le, row, ma, co) hs kp tx) : cZ (d+40) MX1_arrows [] H g m (.inl (.int (nI (na)))) (nb, na, fr, to, le, row, ma, co) hs kp tx := by
  obtain ⟨h, G, N, rfl, hm, hq, c⟩ := cI_E i
  have ⟨g1, g2, kg, g0⟩ := cI_g i
  have s := c.2.1
  have a := cD_cA c
  have hd := cQ_dp a.2.1 s.1
  have s1 := s.1
  have s2 := s.2.1
  have hq1 : 1024 ≤ h.1 := by omega
  have e := s.2.2.2.1
  refine cZ_0 hq i (fun _ _ => rfl) ?_
  rw [e_X1_arrows]
  simp (disch := first | omega | assumption | exact Or.inl rfl | exact Or.inr rfl | exact wN_kls (by omega) | exact wE_kls (by omega) | (simp only [a_cat_nil, a_cat_int, a_cat_ref, a_cat_null, a_cat_long]; done) | (simp only [a_cat_nil, a_cat_int, a_cat_ref, a_cat_null, a_cat_long]; omega) | decide | rfl | (apply Or.inr; omega) | (apply Or.inl; omega)) only [w_X1_arrows_0, w_X1_arrows_1, w_X1_arrows_4, w_X1_arrows_7, w_ret, w_exc, Nat.reduceAdd, Option.toList_some, Option.toList_none, List.cons_append, List.nil_append, Option.bind_some, nI_add, q_mul, q_sub, q_eq, q_eqz, q_lt, q_ltz, q_gtz, q_le, q_lez, q_div, q_or, q_and, q_shl, q_shr, q_m1, q_eqm, q_meq, q_mm, q_mlt, q_mgt, q_mlt2, q_dec, Nat.add_sub_cancel, q_ltT, q_ltF, q_leT, q_leF, q_eqT, q_eqF, ↓reduceIte, uN_s, uN_n, upN_app, uG_s, uG_n, uG_uG, if_true, if_false, Nat.reduceMul, Nat.reduceSub, Nat.reduceEqDiff, Nat.reduceLT, and_true, true_and, and_false, false_and, or_true, true_or, or_false, false_or, not_true_eq_false, not_false_eq_true, Option.some.injEq, wEg_froms, wEg_tos, wEg_least, wEg_layers, wEg_rows, wEg_lengths, wEg_uppers, wEg_lowers, wEg_near, wEg_medians, wEg_points, wEg_boxes, wEp_boxes, wEg_arrows, wEp_arrows, wEg_depth, wEp_depth, wEg_made, wEp_made, wEg_come, wEp_come, wEr_uppers, wEw_uppers, wEr_lowers, wEw_lowers, wEr_near, wEw_near, wEr_medians, wEw_medians, wEr_points, wEw_points, wEr_froms, wEw_froms, wEr_tos, wEw_tos, wEr_least, wEw_least, wEr_layers, wEw_layers, wEr_rows, wEw_rows, wEr_lengths, wEw_lengths, wE_kls, g0, e]
theorem x_layers (i : cI H g m (nb, na, fr, to, le, row, ma, co) hs kp tx) : cZ (d+40) MX1_layers [] H g m (.inl (.int (nI (t_dp (t_ly na fr to le) nb)))) (nb, na, fr, to, le, row, ma, co) hs kp tx := by
  obtain ⟨h, G, N, rfl, hm, hq, c⟩ := cI_E i
  have ⟨g1, g2, kg, g0⟩ := cI_g i
  have s := c.2.1
  have a := cD_cA c
  have hd := cQ_dp a.2.1 s.1
  have s1 := s.1
  have s2 := s.2.1
  have hq1 : 1024 ≤ h.1 := by omega
  have e := c.2.2.1.2.2.1
  refine cZ_0 hq i (fun _ _ => rfl) ?_
  rw [e_X1_layers]
  simp (disch := first | omega | assumption | exact Or.inl rfl | exact Or.inr rfl | exact wN_kls (by omega) | exact wE_kls (by omega) | (simp only [a_cat_nil, a_cat_int, a_cat_ref, a_cat_null, a_cat_long]; done) | (simp only [a_cat_nil, a_cat_int, a_cat_ref, a_cat_null, a_cat_long]; omega) | decide | rfl | (apply Or.inr; omega) | (apply Or.inl; omega)) only [w_X1_layers_0, w_X1_layers_1, w_X1_layers_4, w_X1_layers_7, w_ret, w_exc, Nat.reduceAdd, Option.toList_some, Option.toList_none, List.cons_append, List.nil_append, Option.bind_some, nI_add, q_mul, q_sub, q_eq, q_eqz, q_lt, q_ltz, q_gtz, q_le, q_lez, q_div, q_or, q_and, q_shl, q_shr, q_m1, q_eqm, q_meq, q_mm, q_mlt, q_mgt, q_mlt2, q_dec, Nat.add_sub_cancel, q_ltT, q_ltF, q_leT, q_leF, q_eqT, q_eqF, ↓reduceIte, uN_s, uN_n, upN_app, uG_s, uG_n, uG_uG, if_true, if_false, Nat.reduceMul, Nat.reduceSub, Nat.reduceEqDiff, Nat.reduceLT, and_true, true_and, and_false, false_and, or_true, true_or, or_false, false_or, not_true_eq_false, not_false_eq_true, Option.some.injEq, wEg_froms, wEg_tos, wEg_least, wEg_layers, wEg_rows, wEg_lengths, wEg_uppers, wEg_lowers, wEg_near, wEg_medians, wEg_points, wEg_boxes, wEp_boxes, wEg_arrows, wEp_arrows, wEg_depth, wEp_depth, wEg_made, wEp_made, wEg_come, wEp_come, wEr_uppers, wEw_uppers, wEr_lowers, wEw_lowers, wEr_near, wEw_near, wEr_medians, wEw_medians, wEr_points, wEw_points, wEr_froms, wEw_froms, wEr_tos, wEw_tos, wEr_least, wEw_least, wEr_layers, wEw_layers, wEr_rows, wEw_rows, wEr_lengths, wEw_lengths, wE_kls, g0, e]
theorem x_sweeps (i : cI H g m (nb, na, fr, to, le, row, ma, co) hs kp tx) : cZ (d+40) MX1_sweeps [] H g m (.inl (.int (nI (ma)))) (nb, na, fr, to, le, row, ma, co) hs kp tx := by
  obtain ⟨h, G, N, rfl, hm, hq, c⟩ := cI_E i
  have ⟨g1, g2, kg, g0⟩ := cI_g i
  have s := c.2.1
  have a := cD_cA c
  have hd := cQ_dp a.2.1 s.1
  have s1 := s.1
  have s2 := s.2.1
  have hq1 : 1024 ≤ h.1 := by omega
  have e := c.2.2.2.2.1
  refine cZ_0 hq i (fun _ _ => rfl) ?_
  rw [e_X1_sweeps]
  simp (disch := first | omega | assumption | exact Or.inl rfl | exact Or.inr rfl | exact wN_kls (by omega) | exact wE_kls (by omega) | (simp only [a_cat_nil, a_cat_int, a_cat_ref, a_cat_null, a_cat_long]; done) | (simp only [a_cat_nil, a_cat_int, a_cat_ref, a_cat_null, a_cat_long]; omega) | decide | rfl | (apply Or.inr; omega) | (apply Or.inl; omega)) only [w_X1_sweeps_0, w_X1_sweeps_1, w_X1_sweeps_4, w_X1_sweeps_7, w_ret, w_exc, Nat.reduceAdd, Option.toList_some, Option.toList_none, List.cons_append, List.nil_append, Option.bind_some, nI_add, q_mul, q_sub, q_eq, q_eqz, q_lt, q_ltz, q_gtz, q_le, q_lez, q_div, q_or, q_and, q_shl, q_shr, q_m1, q_eqm, q_meq, q_mm, q_mlt, q_mgt, q_mlt2, q_dec, Nat.add_sub_cancel, q_ltT, q_ltF, q_leT, q_leF, q_eqT, q_eqF, ↓reduceIte, uN_s, uN_n, upN_app, uG_s, uG_n, uG_uG, if_true, if_false, Nat.reduceMul, Nat.reduceSub, Nat.reduceEqDiff, Nat.reduceLT, and_true, true_and, and_false, false_and, or_true, true_or, or_false, false_or, not_true_eq_false, not_false_eq_true, Option.some.injEq, wEg_froms, wEg_tos, wEg_least, wEg_layers, wEg_rows, wEg_lengths, wEg_uppers, wEg_lowers, wEg_near, wEg_medians, wEg_points, wEg_boxes, wEp_boxes, wEg_arrows, wEp_arrows, wEg_depth, wEp_depth, wEg_made, wEp_made, wEg_come, wEp_come, wEr_uppers, wEw_uppers, wEr_lowers, wEw_lowers, wEr_near, wEw_near, wEr_medians, wEw_medians, wEr_points, wEw_points, wEr_froms, wEw_froms, wEr_tos, wEw_tos, wEr_least, wEw_least, wEr_layers, wEw_layers, wEr_rows, wEw_rows, wEr_lengths, wEw_lengths, wE_kls, g0, e]
theorem x_came (i : cI H g m (nb, na, fr, to, le, row, ma, co) hs kp tx) : cZ (d+40) MX1_came [] H g m (.inl (.int (nI (co)))) (nb, na, fr, to, le, row, ma, co) hs kp tx := by
  obtain ⟨h, G, N, rfl, hm, hq, c⟩ := cI_E i
  have ⟨g1, g2, kg, g0⟩ := cI_g i
  have s := c.2.1
  have a := cD_cA c
  have hd := cQ_dp a.2.1 s.1
  have s1 := s.1
  have s2 := s.2.1
  have hq1 : 1024 ≤ h.1 := by omega
  have e := c.2.2.2.2.2
  refine cZ_0 hq i (fun _ _ => rfl) ?_
  rw [e_X1_came]
  simp (disch := first | omega | assumption | exact Or.inl rfl | exact Or.inr rfl | exact wN_kls (by omega) | exact wE_kls (by omega) | (simp only [a_cat_nil, a_cat_int, a_cat_ref, a_cat_null, a_cat_long]; done) | (simp only [a_cat_nil, a_cat_int, a_cat_ref, a_cat_null, a_cat_long]; omega) | decide | rfl | (apply Or.inr; omega) | (apply Or.inl; omega)) only [w_X1_came_0, w_X1_came_1, w_X1_came_4, w_X1_came_7, w_ret, w_exc, Nat.reduceAdd, Option.toList_some, Option.toList_none, List.cons_append, List.nil_append, Option.bind_some, nI_add, q_mul, q_sub, q_eq, q_eqz, q_lt, q_ltz, q_gtz, q_le, q_lez, q_div, q_or, q_and, q_shl, q_shr, q_m1, q_eqm, q_meq, q_mm, q_mlt, q_mgt, q_mlt2, q_dec, Nat.add_sub_cancel, q_ltT, q_ltF, q_leT, q_leF, q_eqT, q_eqF, ↓reduceIte, uN_s, uN_n, upN_app, uG_s, uG_n, uG_uG, if_true, if_false, Nat.reduceMul, Nat.reduceSub, Nat.reduceEqDiff, Nat.reduceLT, and_true, true_and, and_false, false_and, or_true, true_or, or_false, false_or, not_true_eq_false, not_false_eq_true, Option.some.injEq, wEg_froms, wEg_tos, wEg_least, wEg_layers, wEg_rows, wEg_lengths, wEg_uppers, wEg_lowers, wEg_near, wEg_medians, wEg_points, wEg_boxes, wEp_boxes, wEg_arrows, wEp_arrows, wEg_depth, wEp_depth, wEg_made, wEp_made, wEg_come, wEp_come, wEr_uppers, wEw_uppers, wEr_lowers, wEw_lowers, wEr_near, wEw_near, wEr_medians, wEw_medians, wEr_points, wEw_points, wEr_froms, wEw_froms, wEr_tos, wEw_tos, wEr_least, wEw_least, wEr_layers, wEw_layers, wEr_rows, wEw_rows, wEr_lengths, wEw_lengths, wE_kls, g0, e]
theorem x_needless (i : cI H g m (nb, na, fr, to, le, row, ma, co) hs kp tx) : cZ (d+40) MX1_needless [] H g m (.inl (.int (nI (t_nd na fr to na)))) (nb, na, fr, to, le, row, ma, co) hs kp tx := by
  obtain ⟨h, G, N, rfl, hm, hq, c⟩ := cI_E i
  have ⟨g1, g2, kg, g0⟩ := cI_g i
  have s := c.2.1
  have a := cD_cA c
  have hd := cQ_dp a.2.1 s.1
  have s1 := s.1
  have s2 := s.2.1
  have hq1 : 1024 ≤ h.1 := by omega
  have ⟨h', y1, y2⟩ := c_needlessOnes (d := d+34) hm hq s
  refine cZ_q hq i y1 (by omega) (by omega) (fun _ _ => rfl) ?_
  rw [e_X1_needless]
  simp (disch := first | omega | assumption | exact Or.inl rfl | exact Or.inr rfl | exact wN_kls (by omega) | exact wE_kls (by omega) | (simp only [a_cat_nil, a_cat_int, a_cat_ref, a_cat_null, a_cat_long]; done) | (simp only [a_cat_nil, a_cat_int, a_cat_ref, a_cat_null, a_cat_long]; omega) | decide | rfl | (apply Or.inr; omega) | (apply Or.inl; omega)) only [w_X1_needless_0, w_X1_needless_1, w_X1_needless_4, w_X1_needless_7, w_ret, w_exc, Nat.reduceAdd, Option.toList_some, Option.toList_none, List.cons_append, List.nil_append, Option.bind_some, nI_add, q_mul, q_sub, q_eq, q_eqz, q_lt, q_ltz, q_gtz, q_le, q_lez, q_div, q_or, q_and, q_shl, q_shr, q_m1, q_eqm, q_meq, q_mm, q_mlt, q_mgt, q_mlt2, q_dec, Nat.add_sub_cancel, q_ltT, q_ltF, q_leT, q_leF, q_eqT, q_eqF, ↓reduceIte, uN_s, uN_n, upN_app, uG_s, uG_n, uG_uG, if_true, if_false, Nat.reduceMul, Nat.reduceSub, Nat.reduceEqDiff, Nat.reduceLT, and_true, true_and, and_false, false_and, or_true, true_or, or_false, false_or, not_true_eq_false, not_false_eq_true, Option.some.injEq, wEg_froms, wEg_tos, wEg_least, wEg_layers, wEg_rows, wEg_lengths, wEg_uppers, wEg_lowers, wEg_near, wEg_medians, wEg_points, wEg_boxes, wEp_boxes, wEg_arrows, wEp_arrows, wEg_depth, wEp_depth, wEg_made, wEp_made, wEg_come, wEp_come, wEr_uppers, wEw_uppers, wEr_lowers, wEw_lowers, wEr_near, wEw_near, wEr_medians, wEw_medians, wEr_points, wEw_points, wEr_froms, wEw_froms, wEr_tos, wEw_tos, wEr_least, wEw_least, wEr_layers, wEw_layers, wEr_rows, wEw_rows, wEr_lengths, wEw_lengths, wE_kls, g0, y2]
theorem x_firstTellers (i : cI H g m (nb, na, fr, to, le, row, ma, co) hs kp tx) : cZ (d+40) MX1_firstTellers [] H g m (.inl (.int (nI (q_cd (t_wo nb to na))))) (nb, na, fr, to, le, row, ma, co) hs kp tx := by
  obtain ⟨h, G, N, rfl, hm, hq, c⟩ := cI_E i
  have ⟨g1, g2, kg, g0⟩ := cI_g i
  have s := c.2.1
  have a := cD_cA c
  have hd := cQ_dp a.2.1 s.1
  have s1 := s.1
  have s2 := s.2.1
  have hq1 : 1024 ≤ h.1 := by omega
  have y2 := c_endBoxes (d := d+38) (h := h) (up := true) hm s
  rw [Bool.toNat_true] at y2
  rw [q_cd_eq]
  refine cZ_0 hq i (fun _ _ => rfl) ?_
  rw [e_X1_firstTellers]
  simp (disch := first | omega | assumption | exact Or.inl rfl | exact Or.inr rfl | exact wN_kls (by omega) | exact wE_kls (by omega) | (simp only [a_cat_nil, a_cat_int, a_cat_ref, a_cat_null, a_cat_long]; done) | (simp only [a_cat_nil, a_cat_int, a_cat_ref, a_cat_null, a_cat_long]; omega) | decide | rfl | (apply Or.inr; omega) | (apply Or.inl; omega)) only [w_X1_firstTellers_0, w_X1_firstTellers_1, w_X1_firstTellers_4, w_X1_firstTellers_5, w_X1_firstTellers_8, w_ret, w_exc, Nat.reduceAdd, Option.toList_some, Option.toList_none, List.cons_append, List.nil_append, Option.bind_some, nI_add, q_mul, q_sub, q_eq, q_eqz, q_lt, q_ltz, q_gtz, q_le, q_lez, q_div, q_or, q_and, q_shl, q_shr, q_m1, q_eqm, q_meq, q_mm, q_mlt, q_mgt, q_mlt2, q_dec, Nat.add_sub_cancel, q_ltT, q_ltF, q_leT, q_leF, q_eqT, q_eqF, ↓reduceIte, uN_s, uN_n, upN_app, uG_s, uG_n, uG_uG, if_true, if_false, Nat.reduceMul, Nat.reduceSub, Nat.reduceEqDiff, Nat.reduceLT, and_true, true_and, and_false, false_and, or_true, true_or, or_false, false_or, not_true_eq_false, not_false_eq_true, Option.some.injEq, wEg_froms, wEg_tos, wEg_least, wEg_layers, wEg_rows, wEg_lengths, wEg_uppers, wEg_lowers, wEg_near, wEg_medians, wEg_points, wEg_boxes, wEp_boxes, wEg_arrows, wEp_arrows, wEg_depth, wEp_depth, wEg_made, wEp_made, wEg_come, wEp_come, wEr_uppers, wEw_uppers, wEr_lowers, wEw_lowers, wEr_near, wEw_near, wEr_medians, wEw_medians, wEr_points, wEw_points, wEr_froms, wEw_froms, wEr_tos, wEw_tos, wEr_least, wEw_least, wEr_layers, wEw_layers, wEr_rows, wEw_rows, wEr_lengths, wEw_lengths, wE_kls, g0, y2, Bool.false_eq_true]
theorem x_lastHearers (i : cI H g m (nb, na, fr, to, le, row, ma, co) hs kp tx) : cZ (d+40) MX1_lastHearers [] H g m (.inl (.int (nI (q_cd (t_wo nb fr na))))) (nb, na, fr, to, le, row, ma, co) hs kp tx := by
  obtain ⟨h, G, N, rfl, hm, hq, c⟩ := cI_E i
  have ⟨g1, g2, kg, g0⟩ := cI_g i
  have s := c.2.1
  have a := cD_cA c
  have hd := cQ_dp a.2.1 s.1
  have s1 := s.1
  have s2 := s.2.1
  have hq1 : 1024 ≤ h.1 := by omega
  have y2 := c_endBoxes (d := d+38) (h := h) (up := false) hm s
  rw [Bool.toNat_false] at y2
  rw [q_cd_eq]
  refine cZ_0 hq i (fun _ _ => rfl) ?_
  rw [e_X1_lastHearers]
  simp (disch := first | omega | assumption | exact Or.inl rfl | exact Or.inr rfl | exact wN_kls (by omega) | exact wE_kls (by omega) | (simp only [a_cat_nil, a_cat_int, a_cat_ref, a_cat_null, a_cat_long]; done) | (simp only [a_cat_nil, a_cat_int, a_cat_ref, a_cat_null, a_cat_long]; omega) | decide | rfl | (apply Or.inr; omega) | (apply Or.inl; omega)) only [w_X1_lastHearers_0, w_X1_lastHearers_1, w_X1_lastHearers_4, w_X1_lastHearers_5, w_X1_lastHearers_8, w_ret, w_exc, Nat.reduceAdd, Option.toList_some, Option.toList_none, List.cons_append, List.nil_append, Option.bind_some, nI_add, q_mul, q_sub, q_eq, q_eqz, q_lt, q_ltz, q_gtz, q_le, q_lez, q_div, q_or, q_and, q_shl, q_shr, q_m1, q_eqm, q_meq, q_mm, q_mlt, q_mgt, q_mlt2, q_dec, Nat.add_sub_cancel, q_ltT, q_ltF, q_leT, q_leF, q_eqT, q_eqF, ↓reduceIte, uN_s, uN_n, upN_app, uG_s, uG_n, uG_uG, if_true, if_false, Nat.reduceMul, Nat.reduceSub, Nat.reduceEqDiff, Nat.reduceLT, and_true, true_and, and_false, false_and, or_true, true_or, or_false, false_or, not_true_eq_false, not_false_eq_true, Option.some.injEq, wEg_froms, wEg_tos, wEg_least, wEg_layers, wEg_rows, wEg_lengths, wEg_uppers, wEg_lowers, wEg_near, wEg_medians, wEg_points, wEg_boxes, wEp_boxes, wEg_arrows, wEp_arrows, wEg_depth, wEp_depth, wEg_made, wEp_made, wEg_come, wEp_come, wEr_uppers, wEw_uppers, wEr_lowers, wEw_lowers, wEr_near, wEw_near, wEr_medians, wEw_medians, wEr_points, wEw_points, wEr_froms, wEw_froms, wEr_tos, wEw_tos, wEr_least, wEw_least, wEr_layers, wEw_layers, wEr_rows, wEw_rows, wEr_lengths, wEw_lengths, wE_kls, g0, y2, Bool.false_eq_true]
theorem x_arrowPoints (i : cI H g m (nb, na, fr, to, le, row, ma, co) hs kp tx) : cZ (d+40) MX1_arrowPoints [] H g m (.inl (.int (nI (t_al nb na fr to (t_ly na fr to le) - nb)))) (nb, na, fr, to, le, row, ma, co) hs kp tx := by
  obtain ⟨h, G, N, rfl, hm, hq, c⟩ := cI_E i
  have ⟨g1, g2, kg, g0⟩ := cI_g i
  have s := c.2.1
  have a := cD_cA c
  have hd := cQ_dp a.2.1 s.1
  have s1 := s.1
  have s2 := s.2.1
  have hq1 : 1024 ≤ h.1 := by omega
  have y2 := c_pointCount (d := d+38) (h := h) hm a
  have e := s.2.2.1
  have le := t_al_nb (nb := nb) (na := na) (fr := fr) (to := to) (y := (t_ly na fr to le)) (by omega)
  refine cZ_0 hq i (fun _ _ => rfl) ?_
  rw [e_X1_arrowPoints]
  simp (disch := first | omega | assumption | exact Or.inl rfl | exact Or.inr rfl | exact wN_kls (by omega) | exact wE_kls (by omega) | (simp only [a_cat_nil, a_cat_int, a_cat_ref, a_cat_null, a_cat_long]; done) | (simp only [a_cat_nil, a_cat_int, a_cat_ref, a_cat_null, a_cat_long]; omega) | decide | rfl | (apply Or.inr; omega) | (apply Or.inl; omega)) only [w_X1_arrowPoints_0, w_X1_arrowPoints_1, w_X1_arrowPoints_4, w_X1_arrowPoints_7, w_X1_arrowPoints_8, w_X1_arrowPoints_11, w_X1_arrowPoints_14, w_X1_arrowPoints_15, w_ret, w_exc, Nat.reduceAdd, Option.toList_some, Option.toList_none, List.cons_append, List.nil_append, Option.bind_some, nI_add, q_mul, q_sub, q_eq, q_eqz, q_lt, q_ltz, q_gtz, q_le, q_lez, q_div, q_or, q_and, q_shl, q_shr, q_m1, q_eqm, q_meq, q_mm, q_mlt, q_mgt, q_mlt2, q_dec, Nat.add_sub_cancel, q_ltT, q_ltF, q_leT, q_leF, q_eqT, q_eqF, ↓reduceIte, uN_s, uN_n, upN_app, uG_s, uG_n, uG_uG, if_true, if_false, Nat.reduceMul, Nat.reduceSub, Nat.reduceEqDiff, Nat.reduceLT, and_true, true_and, and_false, false_and, or_true, true_or, or_false, false_or, not_true_eq_false, not_false_eq_true, Option.some.injEq, wEg_froms, wEg_tos, wEg_least, wEg_layers, wEg_rows, wEg_lengths, wEg_uppers, wEg_lowers, wEg_near, wEg_medians, wEg_points, wEg_boxes, wEp_boxes, wEg_arrows, wEp_arrows, wEg_depth, wEp_depth, wEg_made, wEp_made, wEg_come, wEp_come, wEr_uppers, wEw_uppers, wEr_lowers, wEw_lowers, wEr_near, wEw_near, wEr_medians, wEw_medians, wEr_points, wEw_points, wEr_froms, wEw_froms, wEr_tos, wEw_tos, wEr_least, wEw_least, wEr_layers, wEw_layers, wEr_rows, wEw_rows, wEr_lengths, wEw_lengths, wE_kls, g0, y2, e]
theorem x_crossings (i : cI H g m (nb, na, fr, to, le, row, ma, co) hs kp tx) : cZ (d+40) MX1_crossings [] H g m (.inl (.int (nI (t_cx nb na fr to (t_ly na fr to le) row)))) (nb, na, fr, to, le, row, ma, co) hs kp tx := by
  obtain ⟨h, G, N, rfl, hm, hq, c⟩ := cI_E i
  have ⟨g1, g2, kg, g0⟩ := cI_g i
  have s := c.2.1
  have a := cD_cA c
  have hd := cQ_dp a.2.1 s.1
  have s1 := s.1
  have s2 := s.2.1
  have hq1 : 1024 ≤ h.1 := by omega
  have ⟨N', y1, y2⟩ := c_allCrossings (d := d+33) (h := h) hm a
  refine cZ_0 hq i (fun j hj => y1 j (by omega) (by omega)) ?_
  rw [e_X1_crossings]
  simp (disch := first | omega | assumption | exact Or.inl rfl | exact Or.inr rfl | exact wN_kls (by omega) | exact wE_kls (by omega) | (simp only [a_cat_nil, a_cat_int, a_cat_ref, a_cat_null, a_cat_long]; done) | (simp only [a_cat_nil, a_cat_int, a_cat_ref, a_cat_null, a_cat_long]; omega) | decide | rfl | (apply Or.inr; omega) | (apply Or.inl; omega)) only [w_X1_crossings_0, w_X1_crossings_1, w_X1_crossings_4, w_X1_crossings_7, w_ret, w_exc, Nat.reduceAdd, Option.toList_some, Option.toList_none, List.cons_append, List.nil_append, Option.bind_some, nI_add, q_mul, q_sub, q_eq, q_eqz, q_lt, q_ltz, q_gtz, q_le, q_lez, q_div, q_or, q_and, q_shl, q_shr, q_m1, q_eqm, q_meq, q_mm, q_mlt, q_mgt, q_mlt2, q_dec, Nat.add_sub_cancel, q_ltT, q_ltF, q_leT, q_leF, q_eqT, q_eqF, ↓reduceIte, uN_s, uN_n, upN_app, uG_s, uG_n, uG_uG, if_true, if_false, Nat.reduceMul, Nat.reduceSub, Nat.reduceEqDiff, Nat.reduceLT, and_true, true_and, and_false, false_and, or_true, true_or, or_false, false_or, not_true_eq_false, not_false_eq_true, Option.some.injEq, wEg_froms, wEg_tos, wEg_least, wEg_layers, wEg_rows, wEg_lengths, wEg_uppers, wEg_lowers, wEg_near, wEg_medians, wEg_points, wEg_boxes, wEp_boxes, wEg_arrows, wEp_arrows, wEg_depth, wEp_depth, wEg_made, wEp_made, wEg_come, wEp_come, wEr_uppers, wEw_uppers, wEr_lowers, wEw_lowers, wEr_near, wEw_near, wEr_medians, wEw_medians, wEr_points, wEw_points, wEr_froms, wEw_froms, wEr_tos, wEw_tos, wEr_least, wEw_least, wEr_layers, wEw_layers, wEr_rows, wEw_rows, wEr_lengths, wEw_lengths, wE_kls, g0, y2]
theorem x_hears1 {x : Int32} (i : cI H g m (nb, na, fr, to, le, row, ma, co) hs kp tx) (q : ¬ vB nb x) : cZ (d+40) MX1_hears [.int x] H g m (.inr 11) (nb, na, fr, to, le, row, ma, co) hs kp tx := by
  obtain ⟨h, G, N, rfl, hm, hq, c⟩ := cI_E i
  have ⟨g1, g2, kg, g0⟩ := cI_g i
  have s := c.2.1
  have a := cD_cA c
  have hd := cQ_dp a.2.1 s.1
  have s1 := s.1
  have s2 := s.2.1
  have hq1 : 1024 ≤ h.1 := by omega
  have ⟨h', y1, ⟨t, y2⟩, y3, y4⟩ := x_known0 (d := d+33) (g := g) hm hq kg g0 c q
  have t4 := fun pc L => y4 (d+39) MX1_hears pc L rfl
  refine cZ_t hq i y1 (by omega) (by omega) (fun _ _ => rfl) (show 1024 ≤ h.1 by omega) y2 ?_
  rw [e_X1_hears]
  simp (disch := first | omega | assumption | exact Or.inl rfl | exact Or.inr rfl | exact wN_kls (by omega) | exact wE_kls (by omega) | (simp only [a_cat_nil, a_cat_int, a_cat_ref, a_cat_null, a_cat_long]; done) | (simp only [a_cat_nil, a_cat_int, a_cat_ref, a_cat_null, a_cat_long]; omega) | decide | rfl | (apply Or.inr; omega) | (apply Or.inl; omega)) only [w_X1_hears_0, w_X1_hears_1, w_X1_hears_4, w_X1_hears_5, w_X1_hears_6, w_X1_hears_9, w_X1_hears_12, w_ret, w_exc, Nat.reduceAdd, Option.toList_some, Option.toList_none, List.cons_append, List.nil_append, Option.bind_some, nI_add, q_mul, q_sub, q_eq, q_eqz, q_lt, q_ltz, q_gtz, q_le, q_lez, q_div, q_or, q_and, q_shl, q_shr, q_m1, q_eqm, q_meq, q_mm, q_mlt, q_mgt, q_mlt2, q_dec, Nat.add_sub_cancel, q_ltT, q_ltF, q_leT, q_leF, q_eqT, q_eqF, ↓reduceIte, uN_s, uN_n, upN_app, uG_s, uG_n, uG_uG, if_true, if_false, Nat.reduceMul, Nat.reduceSub, Nat.reduceEqDiff, Nat.reduceLT, and_true, true_and, and_false, false_and, or_true, true_or, or_false, false_or, not_true_eq_false, not_false_eq_true, Option.some.injEq, wEg_froms, wEg_tos, wEg_least, wEg_layers, wEg_rows, wEg_lengths, wEg_uppers, wEg_lowers, wEg_near, wEg_medians, wEg_points, wEg_boxes, wEp_boxes, wEg_arrows, wEp_arrows, wEg_depth, wEp_depth, wEg_made, wEp_made, wEg_come, wEp_come, wEr_uppers, wEw_uppers, wEr_lowers, wEw_lowers, wEr_near, wEw_near, wEr_medians, wEw_medians, wEr_points, wEw_points, wEr_froms, wEw_froms, wEr_tos, wEw_tos, wEr_least, wEw_least, wEr_layers, wEw_layers, wEr_rows, wEw_rows, wEr_lengths, wEw_lengths, wE_kls, g0, wEg_layers, y3, t4]
theorem x_layerOf1 {x : Int32} (i : cI H g m (nb, na, fr, to, le, row, ma, co) hs kp tx) (q : ¬ vB nb x) : cZ (d+40) MX1_layerOf [.int x] H g m (.inr 11) (nb, na, fr, to, le, row, ma, co) hs kp tx := by
  obtain ⟨h, G, N, rfl, hm, hq, c⟩ := cI_E i
  have ⟨g1, g2, kg, g0⟩ := cI_g i
  have s := c.2.1
  have a := cD_cA c
  have hd := cQ_dp a.2.1 s.1
  have s1 := s.1
  have s2 := s.2.1
  have hq1 : 1024 ≤ h.1 := by omega
  have ⟨h', y1, ⟨t, y2⟩, y3, y4⟩ := x_known0 (d := d+33) (g := g) hm hq kg g0 c q
  have t4 := fun pc L => y4 (d+39) MX1_layerOf pc L rfl
  refine cZ_t hq i y1 (by omega) (by omega) (fun _ _ => rfl) (show 1024 ≤ h.1 by omega) y2 ?_
  rw [e_X1_layerOf]
  simp (disch := first | omega | assumption | exact Or.inl rfl | exact Or.inr rfl | exact wN_kls (by omega) | exact wE_kls (by omega) | (simp only [a_cat_nil, a_cat_int, a_cat_ref, a_cat_null, a_cat_long]; done) | (simp only [a_cat_nil, a_cat_int, a_cat_ref, a_cat_null, a_cat_long]; omega) | decide | rfl | (apply Or.inr; omega) | (apply Or.inl; omega)) only [w_X1_layerOf_0, w_X1_layerOf_1, w_X1_layerOf_4, w_X1_layerOf_7, w_X1_layerOf_8, w_X1_layerOf_9, w_X1_layerOf_12, w_X1_layerOf_13, w_ret, w_exc, Nat.reduceAdd, Option.toList_some, Option.toList_none, List.cons_append, List.nil_append, Option.bind_some, nI_add, q_mul, q_sub, q_eq, q_eqz, q_lt, q_ltz, q_gtz, q_le, q_lez, q_div, q_or, q_and, q_shl, q_shr, q_m1, q_eqm, q_meq, q_mm, q_mlt, q_mgt, q_mlt2, q_dec, Nat.add_sub_cancel, q_ltT, q_ltF, q_leT, q_leF, q_eqT, q_eqF, ↓reduceIte, uN_s, uN_n, upN_app, uG_s, uG_n, uG_uG, if_true, if_false, Nat.reduceMul, Nat.reduceSub, Nat.reduceEqDiff, Nat.reduceLT, and_true, true_and, and_false, false_and, or_true, true_or, or_false, false_or, not_true_eq_false, not_false_eq_true, Option.some.injEq, wEg_froms, wEg_tos, wEg_least, wEg_layers, wEg_rows, wEg_lengths, wEg_uppers, wEg_lowers, wEg_near, wEg_medians, wEg_points, wEg_boxes, wEp_boxes, wEg_arrows, wEp_arrows, wEg_depth, wEp_depth, wEg_made, wEp_made, wEg_come, wEp_come, wEr_uppers, wEw_uppers, wEr_lowers, wEw_lowers, wEr_near, wEw_near, wEr_medians, wEw_medians, wEr_points, wEw_points, wEr_froms, wEw_froms, wEr_tos, wEw_tos, wEr_least, wEw_least, wEr_layers, wEw_layers, wEr_rows, wEw_rows, wEr_lengths, wEw_lengths, wE_kls, g0, wEg_layers, y3, t4]
theorem x_layerByGoingBack1 {x : Int32} (i : cI H g m (nb, na, fr, to, le, row, ma, co) hs kp tx) (q : ¬ vB nb x) : cZ (d+40) MX1_layerByGoingBack [.int x] H g m (.inr 11) (nb, na, fr, to, le, row, ma, co) hs kp tx := by
  obtain ⟨h, G, N, rfl, hm, hq, c⟩ := cI_E i
  have ⟨g1, g2, kg, g0⟩ := cI_g i
  have s := c.2.1
  have a := cD_cA c
  have hd := cQ_dp a.2.1 s.1
  have s1 := s.1
  have s2 := s.2.1
  have hq1 : 1024 ≤ h.1 := by omega
  have ⟨h', y1, ⟨t, y2⟩, y3, y4⟩ := x_known0 (d := d+33) (g := g) hm hq kg g0 c q
  have t4 := fun pc L => y4 (d+39) MX1_layerByGoingBack pc L rfl
  refine cZ_t hq i y1 (by omega) (by omega) (fun _ _ => rfl) (show 1024 ≤ h.1 by omega) y2 ?_
  rw [e_X1_layerByGoingBack]
  simp (disch := first | omega | assumption | exact Or.inl rfl | exact Or.inr rfl | exact wN_kls (by omega) | exact wE_kls (by omega) | (simp only [a_cat_nil, a_cat_int, a_cat_ref, a_cat_null, a_cat_long]; done) | (simp only [a_cat_nil, a_cat_int, a_cat_ref, a_cat_null, a_cat_long]; omega) | decide | rfl | (apply Or.inr; omega) | (apply Or.inl; omega)) only [w_X1_layerByGoingBack_0, w_X1_layerByGoingBack_1, w_X1_layerByGoingBack_4, w_X1_layerByGoingBack_5, w_X1_layerByGoingBack_6, w_X1_layerByGoingBack_9, w_X1_layerByGoingBack_12, w_ret, w_exc, Nat.reduceAdd, Option.toList_some, Option.toList_none, List.cons_append, List.nil_append, Option.bind_some, nI_add, q_mul, q_sub, q_eq, q_eqz, q_lt, q_ltz, q_gtz, q_le, q_lez, q_div, q_or, q_and, q_shl, q_shr, q_m1, q_eqm, q_meq, q_mm, q_mlt, q_mgt, q_mlt2, q_dec, Nat.add_sub_cancel, q_ltT, q_ltF, q_leT, q_leF, q_eqT, q_eqF, ↓reduceIte, uN_s, uN_n, upN_app, uG_s, uG_n, uG_uG, if_true, if_false, Nat.reduceMul, Nat.reduceSub, Nat.reduceEqDiff, Nat.reduceLT, and_true, true_and, and_false, false_and, or_true, true_or, or_false, false_or, not_true_eq_false, not_false_eq_true, Option.some.injEq, wEg_froms, wEg_tos, wEg_least, wEg_layers, wEg_rows, wEg_lengths, wEg_uppers, wEg_lowers, wEg_near, wEg_medians, wEg_points, wEg_boxes, wEp_boxes, wEg_arrows, wEp_arrows, wEg_depth, wEp_depth, wEg_made, wEp_made, wEg_come, wEp_come, wEr_uppers, wEw_uppers, wEr_lowers, wEw_lowers, wEr_near, wEw_near, wEr_medians, wEw_medians, wEr_points, wEw_points, wEr_froms, wEw_froms, wEr_tos, wEw_tos, wEr_least, wEw_least, wEr_layers, wEw_layers, wEr_rows, wEw_rows, wEr_lengths, wEw_lengths, wE_kls, g0, wEg_layers, y3, t4]
theorem x_leastOf1 {x : Int32} (i : cI H g m (nb, na, fr, to, le, row, ma, co) hs kp tx) (q : ¬ vB nb x) : cZ (d+40) MX1_leastOf [.int x] H g m (.inr 11) (nb, na, fr, to, le, row, ma, co) hs kp tx := by
  obtain ⟨h, G, N, rfl, hm, hq, c⟩ := cI_E i
  have ⟨g1, g2, kg, g0⟩ := cI_g i
  have s := c.2.1
  have a := cD_cA c
  have hd := cQ_dp a.2.1 s.1
  have s1 := s.1
  have s2 := s.2.1
  have hq1 : 1024 ≤ h.1 := by omega
  have ⟨h', y1, ⟨t, y2⟩, y3, y4⟩ := x_known0 (d := d+33) (g := g) hm hq kg g0 c q
  have t4 := fun pc L => y4 (d+39) MX1_leastOf pc L rfl
  refine cZ_t hq i y1 (by omega) (by omega) (fun _ _ => rfl) (show 1024 ≤ h.1 by omega) y2 ?_
  rw [e_X1_leastOf]
  simp (disch := first | omega | assumption | exact Or.inl rfl | exact Or.inr rfl | exact wN_kls (by omega) | exact wE_kls (by omega) | (simp only [a_cat_nil, a_cat_int, a_cat_ref, a_cat_null, a_cat_long]; done) | (simp only [a_cat_nil, a_cat_int, a_cat_ref, a_cat_null, a_cat_long]; omega) | decide | rfl | (apply Or.inr; omega) | (apply Or.inl; omega)) only [w_X1_leastOf_0, w_X1_leastOf_1, w_X1_leastOf_4, w_X1_leastOf_7, w_X1_leastOf_8, w_X1_leastOf_9, w_X1_leastOf_12, w_X1_leastOf_13, w_ret, w_exc, Nat.reduceAdd, Option.toList_some, Option.toList_none, List.cons_append, List.nil_append, Option.bind_some, nI_add, q_mul, q_sub, q_eq, q_eqz, q_lt, q_ltz, q_gtz, q_le, q_lez, q_div, q_or, q_and, q_shl, q_shr, q_m1, q_eqm, q_meq, q_mm, q_mlt, q_mgt, q_mlt2, q_dec, Nat.add_sub_cancel, q_ltT, q_ltF, q_leT, q_leF, q_eqT, q_eqF, ↓reduceIte, uN_s, uN_n, upN_app, uG_s, uG_n, uG_uG, if_true, if_false, Nat.reduceMul, Nat.reduceSub, Nat.reduceEqDiff, Nat.reduceLT, and_true, true_and, and_false, false_and, or_true, true_or, or_false, false_or, not_true_eq_false, not_false_eq_true, Option.some.injEq, wEg_froms, wEg_tos, wEg_least, wEg_layers, wEg_rows, wEg_lengths, wEg_uppers, wEg_lowers, wEg_near, wEg_medians, wEg_points, wEg_boxes, wEp_boxes, wEg_arrows, wEp_arrows, wEg_depth, wEp_depth, wEg_made, wEp_made, wEg_come, wEp_come, wEr_uppers, wEw_uppers, wEr_lowers, wEw_lowers, wEr_near, wEw_near, wEr_medians, wEw_medians, wEr_points, wEw_points, wEr_froms, wEw_froms, wEr_tos, wEw_tos, wEr_least, wEw_least, wEr_layers, wEw_layers, wEr_rows, wEw_rows, wEr_lengths, wEw_lengths, wE_kls, g0, wEg_layers, y3, t4]
theorem x_placeOf1 {x : Int32} (i : cI H g m (nb, na, fr, to, le, row, ma, co) hs kp tx) (q : ¬ vB nb x) : cZ (d+40) MX1_placeOf [.int x] H g m (.inr 11) (nb, na, fr, to, le, row, ma, co) hs kp tx := by
  obtain ⟨h, G, N, rfl, hm, hq, c⟩ := cI_E i
  have ⟨g1, g2, kg, g0⟩ := cI_g i
  have s := c.2.1
  have a := cD_cA c
  have hd := cQ_dp a.2.1 s.1
  have s1 := s.1
  have s2 := s.2.1
  have hq1 : 1024 ≤ h.1 := by omega
  have ⟨h', y1, ⟨t, y2⟩, y3, y4⟩ := x_known0 (d := d+33) (g := g) hm hq kg g0 c q
  have t4 := fun pc L => y4 (d+39) MX1_placeOf pc L rfl
  refine cZ_t hq i y1 (by omega) (by omega) (fun _ _ => rfl) (show 1024 ≤ h.1 by omega) y2 ?_
  rw [e_X1_placeOf]
  simp (disch := first | omega | assumption | exact Or.inl rfl | exact Or.inr rfl | exact wN_kls (by omega) | exact wE_kls (by omega) | (simp only [a_cat_nil, a_cat_int, a_cat_ref, a_cat_null, a_cat_long]; done) | (simp only [a_cat_nil, a_cat_int, a_cat_ref, a_cat_null, a_cat_long]; omega) | decide | rfl | (apply Or.inr; omega) | (apply Or.inl; omega)) only [w_X1_placeOf_0, w_X1_placeOf_1, w_X1_placeOf_4, w_X1_placeOf_5, w_X1_placeOf_8, w_X1_placeOf_11, w_X1_placeOf_12, w_X1_placeOf_13, w_X1_placeOf_16, w_X1_placeOf_17, w_X1_placeOf_18, w_X1_placeOf_21, w_ret, w_exc, Nat.reduceAdd, Option.toList_some, Option.toList_none, List.cons_append, List.nil_append, Option.bind_some, nI_add, q_mul, q_sub, q_eq, q_eqz, q_lt, q_ltz, q_gtz, q_le, q_lez, q_div, q_or, q_and, q_shl, q_shr, q_m1, q_eqm, q_meq, q_mm, q_mlt, q_mgt, q_mlt2, q_dec, Nat.add_sub_cancel, q_ltT, q_ltF, q_leT, q_leF, q_eqT, q_eqF, ↓reduceIte, uN_s, uN_n, upN_app, uG_s, uG_n, uG_uG, if_true, if_false, Nat.reduceMul, Nat.reduceSub, Nat.reduceEqDiff, Nat.reduceLT, and_true, true_and, and_false, false_and, or_true, true_or, or_false, false_or, not_true_eq_false, not_false_eq_true, Option.some.injEq, wEg_froms, wEg_tos, wEg_least, wEg_layers, wEg_rows, wEg_lengths, wEg_uppers, wEg_lowers, wEg_near, wEg_medians, wEg_points, wEg_boxes, wEp_boxes, wEg_arrows, wEp_arrows, wEg_depth, wEp_depth, wEg_made, wEp_made, wEg_come, wEp_come, wEr_uppers, wEw_uppers, wEr_lowers, wEw_lowers, wEr_near, wEw_near, wEr_medians, wEw_medians, wEr_points, wEw_points, wEr_froms, wEw_froms, wEr_tos, wEw_tos, wEr_least, wEw_least, wEr_layers, wEw_layers, wEr_rows, wEw_rows, wEr_lengths, wEw_lengths, wE_kls, g0, wEg_layers, y3, t4]
theorem x_fromOf1 {x : Int32} (i : cI H g m (nb, na, fr, to, le, row, ma, co) hs kp tx) (q : ¬ vB na x) : cZ (d+40) MX1_fromOf [.int x] H g m (.inr 11) (nb, na, fr, to, le, row, ma, co) hs kp tx := by
  obtain ⟨h, G, N, rfl, hm, hq, c⟩ := cI_E i
  have ⟨g1, g2, kg, g0⟩ := cI_g i
  have s := c.2.1
  have a := cD_cA c
  have hd := cQ_dp a.2.1 s.1
  have s1 := s.1
  have s2 := s.2.1
  have hq1 : 1024 ≤ h.1 := by omega
  have ⟨h', y1, ⟨t, y2⟩, y3, y4⟩ := x_arrow0 (d := d+33) (g := g) hm hq kg g0 c q
  have t4 := fun pc L => y4 (d+39) MX1_fromOf pc L rfl
  refine cZ_t hq i y1 (by omega) (by omega) (fun _ _ => rfl) (show 1024 ≤ h.1 by omega) y2 ?_
  rw [e_X1_fromOf]
  simp (disch := first | omega | assumption | exact Or.inl rfl | exact Or.inr rfl | exact wN_kls (by omega) | exact wE_kls (by omega) | (simp only [a_cat_nil, a_cat_int, a_cat_ref, a_cat_null, a_cat_long]; done) | (simp only [a_cat_nil, a_cat_int, a_cat_ref, a_cat_null, a_cat_long]; omega) | decide | rfl | (apply Or.inr; omega) | (apply Or.inl; omega)) only [w_X1_fromOf_0, w_X1_fromOf_1, w_X1_fromOf_4, w_X1_fromOf_7, w_X1_fromOf_8, w_X1_fromOf_9, w_X1_fromOf_12, w_X1_fromOf_13, w_ret, w_exc, Nat.reduceAdd, Option.toList_some, Option.toList_none, List.cons_append, List.nil_append, Option.bind_some, nI_add, q_mul, q_sub, q_eq, q_eqz, q_lt, q_ltz, q_gtz, q_le, q_lez, q_div, q_or, q_and, q_shl, q_shr, q_m1, q_eqm, q_meq, q_mm, q_mlt, q_mgt, q_mlt2, q_dec, Nat.add_sub_cancel, q_ltT, q_ltF, q_leT, q_leF, q_eqT, q_eqF, ↓reduceIte, uN_s, uN_n, upN_app, uG_s, uG_n, uG_uG, if_true, if_false, Nat.reduceMul, Nat.reduceSub, Nat.reduceEqDiff, Nat.reduceLT, and_true, true_and, and_false, false_and, or_true, true_or, or_false, false_or, not_true_eq_false, not_false_eq_true, Option.some.injEq, wEg_froms, wEg_tos, wEg_least, wEg_layers, wEg_rows, wEg_lengths, wEg_uppers, wEg_lowers, wEg_near, wEg_medians, wEg_points, wEg_boxes, wEp_boxes, wEg_arrows, wEp_arrows, wEg_depth, wEp_depth, wEg_made, wEp_made, wEg_come, wEp_come, wEr_uppers, wEw_uppers, wEr_lowers, wEw_lowers, wEr_near, wEw_near, wEr_medians, wEw_medians, wEr_points, wEw_points, wEr_froms, wEw_froms, wEr_tos, wEw_tos, wEr_least, wEw_least, wEr_layers, wEw_layers, wEr_rows, wEw_rows, wEr_lengths, wEw_lengths, wE_kls, g0, wEg_layers, y3, t4]
theorem x_toOf1 {x : Int32} (i : cI H g m (nb, na, fr, to, le, row, ma, co) hs kp tx) (q : ¬ vB na x) : cZ (d+40) MX1_toOf [.int x] H g m (.inr 11) (nb, na, fr, to, le, row, ma, co) hs kp tx := by
  obtain ⟨h, G, N, rfl, hm, hq, c⟩ := cI_E i
  have ⟨g1, g2, kg, g0⟩ := cI_g i
  have s := c.2.1
  have a := cD_cA c
  have hd := cQ_dp a.2.1 s.1
  have s1 := s.1
  have s2 := s.2.1
  have hq1 : 1024 ≤ h.1 := by omega
  have ⟨h', y1, ⟨t, y2⟩, y3, y4⟩ := x_arrow0 (d := d+33) (g := g) hm hq kg g0 c q
  have t4 := fun pc L => y4 (d+39) MX1_toOf pc L rfl
  refine cZ_t hq i y1 (by omega) (by omega) (fun _ _ => rfl) (show 1024 ≤ h.1 by omega) y2 ?_
  rw [e_X1_toOf]
  simp (disch := first | omega | assumption | exact Or.inl rfl | exact Or.inr rfl | exact wN_kls (by omega) | exact wE_kls (by omega) | (simp only [a_cat_nil, a_cat_int, a_cat_ref, a_cat_null, a_cat_long]; done) | (simp only [a_cat_nil, a_cat_int, a_cat_ref, a_cat_null, a_cat_long]; omega) | decide | rfl | (apply Or.inr; omega) | (apply Or.inl; omega)) only [w_X1_toOf_0, w_X1_toOf_1, w_X1_toOf_4, w_X1_toOf_7, w_X1_toOf_8, w_X1_toOf_9, w_X1_toOf_12, w_X1_toOf_13, w_ret, w_exc, Nat.reduceAdd, Option.toList_some, Option.toList_none, List.cons_append, List.nil_append, Option.bind_some, nI_add, q_mul, q_sub, q_eq, q_eqz, q_lt, q_ltz, q_gtz, q_le, q_lez, q_div, q_or, q_and, q_shl, q_shr, q_m1, q_eqm, q_meq, q_mm, q_mlt, q_mgt, q_mlt2, q_dec, Nat.add_sub_cancel, q_ltT, q_ltF, q_leT, q_leF, q_eqT, q_eqF, ↓reduceIte, uN_s, uN_n, upN_app, uG_s, uG_n, uG_uG, if_true, if_false, Nat.reduceMul, Nat.reduceSub, Nat.reduceEqDiff, Nat.reduceLT, and_true, true_and, and_false, false_and, or_true, true_or, or_false, false_or, not_true_eq_false, not_false_eq_true, Option.some.injEq, wEg_froms, wEg_tos, wEg_least, wEg_layers, wEg_rows, wEg_lengths, wEg_uppers, wEg_lowers, wEg_near, wEg_medians, wEg_points, wEg_boxes, wEp_boxes, wEg_arrows, wEp_arrows, wEg_depth, wEp_depth, wEg_made, wEp_made, wEg_come, wEp_come, wEr_uppers, wEw_uppers, wEr_lowers, wEw_lowers, wEr_near, wEw_near, wEr_medians, wEw_medians, wEr_points, wEw_points, wEr_froms, wEw_froms, wEr_tos, wEw_tos, wEr_least, wEw_least, wEr_layers, wEw_layers, wEr_rows, wEw_rows, wEr_lengths, wEw_lengths, wE_kls, g0, wEg_layers, y3, t4]
theorem x_isNeedless1 {x : Int32} (i : cI H g m (nb, na, fr, to, le, row, ma, co) hs kp tx) (q : ¬ vB na x) : cZ (d+40) MX1_isNeedless [.int x] H g m (.inr 11) (nb, na, fr, to, le, row, ma, co) hs kp tx := by
  obtain ⟨h, G, N, rfl, hm, hq, c⟩ := cI_E i
  have ⟨g1, g2, kg, g0⟩ := cI_g i
  have s := c.2.1
  have a := cD_cA c
  have hd := cQ_dp a.2.1 s.1
  have s1 := s.1
  have s2 := s.2.1
  have hq1 : 1024 ≤ h.1 := by omega
  have ⟨h', y1, ⟨t, y2⟩, y3, y4⟩ := x_arrow0 (d := d+33) (g := g) hm hq kg g0 c q
  have t4 := fun pc L => y4 (d+39) MX1_isNeedless pc L rfl
  refine cZ_t hq i y1 (by omega) (by omega) (fun _ _ => rfl) (show 1024 ≤ h.1 by omega) y2 ?_
  rw [e_X1_isNeedless]
  simp (disch := first | omega | assumption | exact Or.inl rfl | exact Or.inr rfl | exact wN_kls (by omega) | exact wE_kls (by omega) | (simp only [a_cat_nil, a_cat_int, a_cat_ref, a_cat_null, a_cat_long]; done) | (simp only [a_cat_nil, a_cat_int, a_cat_ref, a_cat_null, a_cat_long]; omega) | decide | rfl | (apply Or.inr; omega) | (apply Or.inl; omega)) only [w_X1_isNeedless_0, w_X1_isNeedless_1, w_X1_isNeedless_2, w_X1_isNeedless_5, w_X1_isNeedless_6, w_X1_isNeedless_7, w_X1_isNeedless_10, w_X1_isNeedless_11, w_X1_isNeedless_14, w_X1_isNeedless_17, w_X1_isNeedless_18, w_X1_isNeedless_19, w_X1_isNeedless_20, w_X1_isNeedless_23, w_X1_isNeedless_26, w_X1_isNeedless_27, w_X1_isNeedless_28, w_X1_isNeedless_29, w_X1_isNeedless_32, w_ret, w_exc, Nat.reduceAdd, Option.toList_some, Option.toList_none, List.cons_append, List.nil_append, Option.bind_some, nI_add, q_mul, q_sub, q_eq, q_eqz, q_lt, q_ltz, q_gtz, q_le, q_lez, q_div, q_or, q_and, q_shl, q_shr, q_m1, q_eqm, q_meq, q_mm, q_mlt, q_mgt, q_mlt2, q_dec, Nat.add_sub_cancel, q_ltT, q_ltF, q_leT, q_leF, q_eqT, q_eqF, ↓reduceIte, uN_s, uN_n, upN_app, uG_s, uG_n, uG_uG, if_true, if_false, Nat.reduceMul, Nat.reduceSub, Nat.reduceEqDiff, Nat.reduceLT, and_true, true_and, and_false, false_and, or_true, true_or, or_false, false_or, not_true_eq_false, not_false_eq_true, Option.some.injEq, wEg_froms, wEg_tos, wEg_least, wEg_layers, wEg_rows, wEg_lengths, wEg_uppers, wEg_lowers, wEg_near, wEg_medians, wEg_points, wEg_boxes, wEp_boxes, wEg_arrows, wEp_arrows, wEg_depth, wEp_depth, wEg_made, wEp_made, wEg_come, wEp_come, wEr_uppers, wEw_uppers, wEr_lowers, wEw_lowers, wEr_near, wEw_near, wEr_medians, wEw_medians, wEr_points, wEw_points, wEr_froms, wEw_froms, wEr_tos, wEw_tos, wEr_least, wEw_least, wEr_layers, wEw_layers, wEr_rows, wEw_rows, wEr_lengths, wEw_lengths, wE_kls, g0, wEg_layers, y3, t4]
theorem x_spanOf1 {x : Int32} (i : cI H g m (nb, na, fr, to, le, row, ma, co) hs kp tx) (q : ¬ vB na x) : cZ (d+40) MX1_spanOf [.int x] H g m (.inr 11) (nb, na, fr, to, le, row, ma, co) hs kp tx := by
  obtain ⟨h, G, N, rfl, hm, hq, c⟩ := cI_E i
  have ⟨g1, g2, kg, g0⟩ := cI_g i
  have s := c.2.1
  have a := cD_cA c
  have hd := cQ_dp a.2.1 s.1
  have s1 := s.1
  have s2 := s.2.1
  have hq1 : 1024 ≤ h.1 := by omega
  have ⟨h', y1, ⟨t, y2⟩, y3, y4⟩ := x_arrow0 (d := d+33) (g := g) hm hq kg g0 c q
  have t4 := fun pc L => y4 (d+39) MX1_spanOf pc L rfl
  refine cZ_t hq i y1 (by omega) (by omega) (fun _ _ => rfl) (show 1024 ≤ h.1 by omega) y2 ?_
  rw [e_X1_spanOf]
  simp (disch := first | omega | assumption | exact Or.inl rfl | exact Or.inr rfl | exact wN_kls (by omega) | exact wE_kls (by omega) | (simp only [a_cat_nil, a_cat_int, a_cat_ref, a_cat_null, a_cat_long]; done) | (simp only [a_cat_nil, a_cat_int, a_cat_ref, a_cat_null, a_cat_long]; omega) | decide | rfl | (apply Or.inr; omega) | (apply Or.inl; omega)) only [w_X1_spanOf_0, w_X1_spanOf_1, w_X1_spanOf_2, w_X1_spanOf_5, w_X1_spanOf_6, w_X1_spanOf_7, w_X1_spanOf_10, w_X1_spanOf_13, w_X1_spanOf_14, w_X1_spanOf_17, w_X1_spanOf_20, w_X1_spanOf_21, w_X1_spanOf_22, w_X1_spanOf_23, w_X1_spanOf_24, w_X1_spanOf_27, w_X1_spanOf_30, w_X1_spanOf_31, w_X1_spanOf_34, w_X1_spanOf_37, w_X1_spanOf_38, w_X1_spanOf_39, w_X1_spanOf_40, w_X1_spanOf_41, w_ret, w_exc, Nat.reduceAdd, Option.toList_some, Option.toList_none, List.cons_append, List.nil_append, Option.bind_some, nI_add, q_mul, q_sub, q_eq, q_eqz, q_lt, q_ltz, q_gtz, q_le, q_lez, q_div, q_or, q_and, q_shl, q_shr, q_m1, q_eqm, q_meq, q_mm, q_mlt, q_mgt, q_mlt2, q_dec, Nat.add_sub_cancel, q_ltT, q_ltF, q_leT, q_leF, q_eqT, q_eqF, ↓reduceIte, uN_s, uN_n, upN_app, uG_s, uG_n, uG_uG, if_true, if_false, Nat.reduceMul, Nat.reduceSub, Nat.reduceEqDiff, Nat.reduceLT, and_true, true_and, and_false, false_and, or_true, true_or, or_false, false_or, not_true_eq_false, not_false_eq_true, Option.some.injEq, wEg_froms, wEg_tos, wEg_least, wEg_layers, wEg_rows, wEg_lengths, wEg_uppers, wEg_lowers, wEg_near, wEg_medians, wEg_points, wEg_boxes, wEp_boxes, wEg_arrows, wEp_arrows, wEg_depth, wEp_depth, wEg_made, wEp_made, wEg_come, wEp_come, wEr_uppers, wEw_uppers, wEr_lowers, wEw_lowers, wEr_near, wEw_near, wEr_medians, wEw_medians, wEr_points, wEw_points, wEr_froms, wEw_froms, wEr_tos, wEw_tos, wEr_least, wEw_least, wEr_layers, wEw_layers, wEr_rows, wEw_rows, wEr_lengths, wEw_lengths, wE_kls, g0, wEg_layers, y3, t4]
theorem x_crossingsOf1 {x : Int32} (i : cI H g m (nb, na, fr, to, le, row, ma, co) hs kp tx) (q : ¬ vB na x) : cZ (d+40) MX1_crossingsOf [.int x] H g m (.inr 11) (nb, na, fr, to, le, row, ma, co) hs kp tx := by
  obtain ⟨h, G, N, rfl, hm, hq, c⟩ := cI_E i
  have ⟨g1, g2, kg, g0⟩ := cI_g i
  have s := c.2.1
  have a := cD_cA c
  have hd := cQ_dp a.2.1 s.1
  have s1 := s.1
  have s2 := s.2.1
  have hq1 : 1024 ≤ h.1 := by omega
  have ⟨h', y1, ⟨t, y2⟩, y3, y4⟩ := x_arrow0 (d := d+33) (g := g) hm hq kg g0 c q
  have t4 := fun pc L => y4 (d+39) MX1_crossingsOf pc L rfl
  refine cZ_t hq i y1 (by omega) (by omega) (fun _ _ => rfl) (show 1024 ≤ h.1 by omega) y2 ?_
  rw [e_X1_crossingsOf]
  simp (disch := first | omega | assumption | exact Or.inl rfl | exact Or.inr rfl | exact wN_kls (by omega) | exact wE_kls (by omega) | (simp only [a_cat_nil, a_cat_int, a_cat_ref, a_cat_null, a_cat_long]; done) | (simp only [a_cat_nil, a_cat_int, a_cat_ref, a_cat_null, a_cat_long]; omega) | decide | rfl | (apply Or.inr; omega) | (apply Or.inl; omega)) only [w_X1_crossingsOf_0, w_X1_crossingsOf_1, w_X1_crossingsOf_4, w_X1_crossingsOf_5, w_X1_crossingsOf_6, w_X1_crossingsOf_9, w_X1_crossingsOf_12, w_ret, w_exc, Nat.reduceAdd, Option.toList_some, Option.toList_none, List.cons_append, List.nil_append, Option.bind_some, nI_add, q_mul, q_sub, q_eq, q_eqz, q_lt, q_ltz, q_gtz, q_le, q_lez, q_div, q_or, q_and, q_shl, q_shr, q_m1, q_eqm, q_meq, q_mm, q_mlt, q_mgt, q_mlt2, q_dec, Nat.add_sub_cancel, q_ltT, q_ltF, q_leT, q_leF, q_eqT, q_eqF, ↓reduceIte, uN_s, uN_n, upN_app, uG_s, uG_n, uG_uG, if_true, if_false, Nat.reduceMul, Nat.reduceSub, Nat.reduceEqDiff, Nat.reduceLT, and_true, true_and, and_false, false_and, or_true, true_or, or_false, false_or, not_true_eq_false, not_false_eq_true, Option.some.injEq, wEg_froms, wEg_tos, wEg_least, wEg_layers, wEg_rows, wEg_lengths, wEg_uppers, wEg_lowers, wEg_near, wEg_medians, wEg_points, wEg_boxes, wEp_boxes, wEg_arrows, wEp_arrows, wEg_depth, wEp_depth, wEg_made, wEp_made, wEg_come, wEp_come, wEr_uppers, wEw_uppers, wEr_lowers, wEw_lowers, wEr_near, wEw_near, wEr_medians, wEw_medians, wEr_points, wEw_points, wEr_froms, wEw_froms, wEr_tos, wEw_tos, wEr_least, wEw_least, wEr_layers, wEw_layers, wEr_rows, wEw_rows, wEr_lengths, wEw_lengths, wE_kls, g0, wEg_layers, y3, t4]
theorem x_pointsOf1 {x : Int32} (i : cI H g m (nb, na, fr, to, le, row, ma, co) hs kp tx) (q : ¬ vB (t_dp (t_ly na fr to le) nb) x) : cZ (d+40) MX1_pointsOf [.int x] H g m (.inr 11) (nb, na, fr, to, le, row, ma, co) hs kp tx := by
  obtain ⟨h, G, N, rfl, hm, hq, c⟩ := cI_E i
  have ⟨g1, g2, kg, g0⟩ := cI_g i
  have s := c.2.1
  have a := cD_cA c
  have hd := cQ_dp a.2.1 s.1
  have s1 := s.1
  have s2 := s.2.1
  have hq1 : 1024 ≤ h.1 := by omega
  have ⟨h', y1, ⟨t, y2⟩, y3, y4⟩ := x_layer0 (d := d+33) (g := g) hm hq kg g0 c q
  have t4 := fun pc L => y4 (d+39) MX1_pointsOf pc L rfl
  refine cZ_t hq i y1 (by omega) (by omega) (fun _ _ => rfl) (show 1024 ≤ h.1 by omega) y2 ?_
  rw [e_X1_pointsOf]
  simp (disch := first | omega | assumption | exact Or.inl rfl | exact Or.inr rfl | exact wN_kls (by omega) | exact wE_kls (by omega) | (simp only [a_cat_nil, a_cat_int, a_cat_ref, a_cat_null, a_cat_long]; done) | (simp only [a_cat_nil, a_cat_int, a_cat_ref, a_cat_null, a_cat_long]; omega) | decide | rfl | (apply Or.inr; omega) | (apply Or.inl; omega)) only [w_X1_pointsOf_0, w_X1_pointsOf_1, w_X1_pointsOf_4, w_X1_pointsOf_7, w_X1_pointsOf_8, w_X1_pointsOf_9, w_X1_pointsOf_12, w_X1_pointsOf_13, w_ret, w_exc, Nat.reduceAdd, Option.toList_some, Option.toList_none, List.cons_append, List.nil_append, Option.bind_some, nI_add, q_mul, q_sub, q_eq, q_eqz, q_lt, q_ltz, q_gtz, q_le, q_lez, q_div, q_or, q_and, q_shl, q_shr, q_m1, q_eqm, q_meq, q_mm, q_mlt, q_mgt, q_mlt2, q_dec, Nat.add_sub_cancel, q_ltT, q_ltF, q_leT, q_leF, q_eqT, q_eqF, ↓reduceIte, uN_s, uN_n, upN_app, uG_s, uG_n, uG_uG, if_true, if_false, Nat.reduceMul, Nat.reduceSub, Nat.reduceEqDiff, Nat.reduceLT, and_true, true_and, and_false, false_and, or_true, true_or, or_false, false_or, not_true_eq_false, not_false_eq_true, Option.some.injEq, wEg_froms, wEg_tos, wEg_least, wEg_layers, wEg_rows, wEg_lengths, wEg_uppers, wEg_lowers, wEg_near, wEg_medians, wEg_points, wEg_boxes, wEp_boxes, wEg_arrows, wEp_arrows, wEg_depth, wEp_depth, wEg_made, wEp_made, wEg_come, wEp_come, wEr_uppers, wEw_uppers, wEr_lowers, wEw_lowers, wEr_near, wEw_near, wEr_medians, wEw_medians, wEr_points, wEw_points, wEr_froms, wEw_froms, wEr_tos, wEw_tos, wEr_least, wEw_least, wEr_layers, wEw_layers, wEr_rows, wEw_rows, wEr_lengths, wEw_lengths, wE_kls, g0, wEg_layers, y3, t4]
theorem x_crossingsBelow1 {x : Int32} (i : cI H g m (nb, na, fr, to, le, row, ma, co) hs kp tx) (q : ¬ vB (t_dp (t_ly na fr to le) nb) x) : cZ (d+40) MX1_crossingsBelow [.int x] H g m (.inr 11) (nb, na, fr, to, le, row, ma, co) hs kp tx := by
  obtain ⟨h, G, N, rfl, hm, hq, c⟩ := cI_E i
  have ⟨g1, g2, kg, g0⟩ := cI_g i
  have s := c.2.1
  have a := cD_cA c
  have hd := cQ_dp a.2.1 s.1
  have s1 := s.1
  have s2 := s.2.1
  have hq1 : 1024 ≤ h.1 := by omega
  have ⟨h', y1, ⟨t, y2⟩, y3, y4⟩ := x_layer0 (d := d+33) (g := g) hm hq kg g0 c q
  have t4 := fun pc L => y4 (d+39) MX1_crossingsBelow pc L rfl
  refine cZ_t hq i y1 (by omega) (by omega) (fun _ _ => rfl) (show 1024 ≤ h.1 by omega) y2 ?_
  rw [e_X1_crossingsBelow]
  simp (disch := first | omega | assumption | exact Or.inl rfl | exact Or.inr rfl | exact wN_kls (by omega) | exact wE_kls (by omega) | (simp only [a_cat_nil, a_cat_int, a_cat_ref, a_cat_null, a_cat_long]; done) | (simp only [a_cat_nil, a_cat_int, a_cat_ref, a_cat_null, a_cat_long]; omega) | decide | rfl | (apply Or.inr; omega) | (apply Or.inl; omega)) only [w_X1_crossingsBelow_0, w_X1_crossingsBelow_1, w_X1_crossingsBelow_2, w_X1_crossingsBelow_5, w_X1_crossingsBelow_6, w_X1_crossingsBelow_7, w_X1_crossingsBelow_8, w_X1_crossingsBelow_9, w_X1_crossingsBelow_10, w_X1_crossingsBelow_13, w_X1_crossingsBelow_16, w_X1_crossingsBelow_19, w_X1_crossingsBelow_20, w_X1_crossingsBelow_23, w_X1_crossingsBelow_24, w_X1_crossingsBelow_27, w_X1_crossingsBelow_30, w_X1_crossingsBelow_31, w_ret, w_exc, Nat.reduceAdd, Option.toList_some, Option.toList_none, List.cons_append, List.nil_append, Option.bind_some, nI_add, q_mul, q_sub, q_eq, q_eqz, q_lt, q_ltz, q_gtz, q_le, q_lez, q_div, q_or, q_and, q_shl, q_shr, q_m1, q_eqm, q_meq, q_mm, q_mlt, q_mgt, q_mlt2, q_dec, Nat.add_sub_cancel, q_ltT, q_ltF, q_leT, q_leF, q_eqT, q_eqF, ↓reduceIte, uN_s, uN_n, upN_app, uG_s, uG_n, uG_uG, if_true, if_false, Nat.reduceMul, Nat.reduceSub, Nat.reduceEqDiff, Nat.reduceLT, and_true, true_and, and_false, false_and, or_true, true_or, or_false, false_or, not_true_eq_false, not_false_eq_true, Option.some.injEq, wEg_froms, wEg_tos, wEg_least, wEg_layers, wEg_rows, wEg_lengths, wEg_uppers, wEg_lowers, wEg_near, wEg_medians, wEg_points, wEg_boxes, wEp_boxes, wEg_arrows, wEp_arrows, wEg_depth, wEp_depth, wEg_made, wEp_made, wEg_come, wEp_come, wEr_uppers, wEw_uppers, wEr_lowers, wEw_lowers, wEr_near, wEw_near, wEr_medians, wEw_medians, wEr_points, wEw_points, wEr_froms, wEw_froms, wEr_tos, wEw_tos, wEr_least, wEw_least, wEr_layers, wEw_layers, wEr_rows, wEw_rows, wEr_lengths, wEw_lengths, wE_kls, g0, wEg_layers, y3, t4]
theorem x_ways1 {x z : Int32} (i : cI H g m (nb, na, fr, to, le, row, ma, co) hs kp tx) (q : ¬ (vB nb x ∧ vB nb z)) : cZ (d+40) MX1_ways [.int x, .int z] H g m (.inr 11) (nb, na, fr, to, le, row, ma, co) hs kp tx := by
  obtain ⟨h, G, N, rfl, hm, hq, c⟩ := cI_E i
  have ⟨g1, g2, kg, g0⟩ := cI_g i
  have s := c.2.1
  have a := cD_cA c
  have hd := cQ_dp a.2.1 s.1
  have s1 := s.1
  have s2 := s.2.1
  have hq1 : 1024 ≤ h.1 := by omega
  have ⟨h', y1, ⟨t, y2⟩, y3, y4⟩ := x_two0 (d := d+33) (g := g) hm hq kg g0 c q
  have t4 := fun pc L => y4 (d+39) MX1_ways pc L rfl
  refine cZ_t hq i y1 (by omega) (by omega) (fun _ _ => rfl) (show 1024 ≤ h.1 by omega) y2 ?_
  rw [e_X1_ways]
  simp (disch := first | omega | assumption | exact Or.inl rfl | exact Or.inr rfl | exact wN_kls (by omega) | exact wE_kls (by omega) | (simp only [a_cat_nil, a_cat_int, a_cat_ref, a_cat_null, a_cat_long]; done) | (simp only [a_cat_nil, a_cat_int, a_cat_ref, a_cat_null, a_cat_long]; omega) | decide | rfl | (apply Or.inr; omega) | (apply Or.inl; omega)) only [w_X1_ways_0, w_X1_ways_1, w_X1_ways_2, w_X1_ways_3, w_X1_ways_6, w_X1_ways_7, w_X1_ways_10, w_X1_ways_11, w_X1_ways_12, w_X1_ways_15, w_ret, w_exc, Nat.reduceAdd, Option.toList_some, Option.toList_none, List.cons_append, List.nil_append, Option.bind_some, nI_add, q_mul, q_sub, q_eq, q_eqz, q_lt, q_ltz, q_gtz, q_le, q_lez, q_div, q_or, q_and, q_shl, q_shr, q_m1, q_eqm, q_meq, q_mm, q_mlt, q_mgt, q_mlt2, q_dec, Nat.add_sub_cancel, q_ltT, q_ltF, q_leT, q_leF, q_eqT, q_eqF, ↓reduceIte, uN_s, uN_n, upN_app, uG_s, uG_n, uG_uG, if_true, if_false, Nat.reduceMul, Nat.reduceSub, Nat.reduceEqDiff, Nat.reduceLT, and_true, true_and, and_false, false_and, or_true, true_or, or_false, false_or, not_true_eq_false, not_false_eq_true, Option.some.injEq, wEg_froms, wEg_tos, wEg_least, wEg_layers, wEg_rows, wEg_lengths, wEg_uppers, wEg_lowers, wEg_near, wEg_medians, wEg_points, wEg_boxes, wEp_boxes, wEg_arrows, wEp_arrows, wEg_depth, wEp_depth, wEg_made, wEp_made, wEg_come, wEp_come, wEr_uppers, wEw_uppers, wEr_lowers, wEw_lowers, wEr_near, wEw_near, wEr_medians, wEw_medians, wEr_points, wEw_points, wEr_froms, wEw_froms, wEr_tos, wEw_tos, wEr_least, wEw_least, wEr_layers, wEw_layers, wEr_rows, wEw_rows, wEr_lengths, wEw_lengths, wE_kls, g0, wEg_layers, y3, t4]
theorem x_waysByGoingBack1 {x z : Int32} (i : cI H g m (nb, na, fr, to, le, row, ma, co) hs kp tx) (q : ¬ (vB nb x ∧ vB nb z)) : cZ (d+40) MX1_waysByGoingBack [.int x, .int z] H g m (.inr 11) (nb, na, fr, to, le, row, ma, co) hs kp tx := by
  obtain ⟨h, G, N, rfl, hm, hq, c⟩ := cI_E i
  have ⟨g1, g2, kg, g0⟩ := cI_g i
  have s := c.2.1
  have a := cD_cA c
  have hd := cQ_dp a.2.1 s.1
  have s1 := s.1
  have s2 := s.2.1
  have hq1 : 1024 ≤ h.1 := by omega
  have ⟨h', y1, ⟨t, y2⟩, y3, y4⟩ := x_two0 (d := d+33) (g := g) hm hq kg g0 c q
  have t4 := fun pc L => y4 (d+39) MX1_waysByGoingBack pc L rfl
  refine cZ_t hq i y1 (by omega) (by omega) (fun _ _ => rfl) (show 1024 ≤ h.1 by omega) y2 ?_
  rw [e_X1_waysByGoingBack]
  simp (disch := first | omega | assumption | exact Or.inl rfl | exact Or.inr rfl | exact wN_kls (by omega) | exact wE_kls (by omega) | (simp only [a_cat_nil, a_cat_int, a_cat_ref, a_cat_null, a_cat_long]; done) | (simp only [a_cat_nil, a_cat_int, a_cat_ref, a_cat_null, a_cat_long]; omega) | decide | rfl | (apply Or.inr; omega) | (apply Or.inl; omega)) only [w_X1_waysByGoingBack_0, w_X1_waysByGoingBack_1, w_X1_waysByGoingBack_2, w_X1_waysByGoingBack_3, w_X1_waysByGoingBack_6, w_X1_waysByGoingBack_7, w_X1_waysByGoingBack_10, w_X1_waysByGoingBack_11, w_X1_waysByGoingBack_12, w_X1_waysByGoingBack_15, w_ret, w_exc, Nat.reduceAdd, Option.toList_some, Option.toList_none, List.cons_append, List.nil_append, Option.bind_some, nI_add, q_mul, q_sub, q_eq, q_eqz, q_lt, q_ltz, q_gtz, q_le, q_lez, q_div, q_or, q_and, q_shl, q_shr, q_m1, q_eqm, q_meq, q_mm, q_mlt, q_mgt, q_mlt2, q_dec, Nat.add_sub_cancel, q_ltT, q_ltF, q_leT, q_leF, q_eqT, q_eqF, ↓reduceIte, uN_s, uN_n, upN_app, uG_s, uG_n, uG_uG, if_true, if_false, Nat.reduceMul, Nat.reduceSub, Nat.reduceEqDiff, Nat.reduceLT, and_true, true_and, and_false, false_and, or_true, true_or, or_false, false_or, not_true_eq_false, not_false_eq_true, Option.some.injEq, wEg_froms, wEg_tos, wEg_least, wEg_layers, wEg_rows, wEg_lengths, wEg_uppers, wEg_lowers, wEg_near, wEg_medians, wEg_points, wEg_boxes, wEp_boxes, wEg_arrows, wEp_arrows, wEg_depth, wEp_depth, wEg_made, wEp_made, wEg_come, wEp_come, wEr_uppers, wEw_uppers, wEr_lowers, wEw_lowers, wEr_near, wEw_near, wEr_medians, wEw_medians, wEr_points, wEw_points, wEr_froms, wEw_froms, wEr_tos, wEw_tos, wEr_least, wEw_least, wEr_layers, wEw_layers, wEr_rows, wEw_rows, wEr_lengths, wEw_lengths, wE_kls, g0, wEg_layers, y3, t4]
theorem x_fewestArrows1 {x z : Int32} (i : cI H g m (nb, na, fr, to, le, row, ma, co) hs kp tx) (q : ¬ (vB nb x ∧ vB nb z)) : cZ (d+40) MX1_fewestArrows [.int x, .int z] H g m (.inr 11) (nb, na, fr, to, le, row, ma, co) hs kp tx := by
  obtain ⟨h, G, N, rfl, hm, hq, c⟩ := cI_E i
  have ⟨g1, g2, kg, g0⟩ := cI_g i
  have s := c.2.1
  have a := cD_cA c
  have hd := cQ_dp a.2.1 s.1
  have s1 := s.1
  have s2 := s.2.1
  have hq1 : 1024 ≤ h.1 := by omega
  have ⟨h', y1, ⟨t, y2⟩, y3, y4⟩ := x_two0 (d := d+33) (g := g) hm hq kg g0 c q
  have t4 := fun pc L => y4 (d+39) MX1_fewestArrows pc L rfl
  refine cZ_t hq i y1 (by omega) (by omega) (fun _ _ => rfl) (show 1024 ≤ h.1 by omega) y2 ?_
  rw [e_X1_fewestArrows]
  simp (disch := first | omega | assumption | exact Or.inl rfl | exact Or.inr rfl | exact wN_kls (by omega) | exact wE_kls (by omega) | (simp only [a_cat_nil, a_cat_int, a_cat_ref, a_cat_null, a_cat_long]; done) | (simp only [a_cat_nil, a_cat_int, a_cat_ref, a_cat_null, a_cat_long]; omega) | decide | rfl | (apply Or.inr; omega) | (apply Or.inl; omega)) only [w_X1_fewestArrows_0, w_X1_fewestArrows_1, w_X1_fewestArrows_2, w_X1_fewestArrows_3, w_X1_fewestArrows_6, w_X1_fewestArrows_7, w_X1_fewestArrows_10, w_X1_fewestArrows_11, w_X1_fewestArrows_12, w_X1_fewestArrows_13, w_X1_fewestArrows_16, w_X1_fewestArrows_19, w_ret, w_exc, Nat.reduceAdd, Option.toList_some, Option.toList_none, List.cons_append, List.nil_append, Option.bind_some, nI_add, q_mul, q_sub, q_eq, q_eqz, q_lt, q_ltz, q_gtz, q_le, q_lez, q_div, q_or, q_and, q_shl, q_shr, q_m1, q_eqm, q_meq, q_mm, q_mlt, q_mgt, q_mlt2, q_dec, Nat.add_sub_cancel, q_ltT, q_ltF, q_leT, q_leF, q_eqT, q_eqF, ↓reduceIte, uN_s, uN_n, upN_app, uG_s, uG_n, uG_uG, if_true, if_false, Nat.reduceMul, Nat.reduceSub, Nat.reduceEqDiff, Nat.reduceLT, and_true, true_and, and_false, false_and, or_true, true_or, or_false, false_or, not_true_eq_false, not_false_eq_true, Option.some.injEq, wEg_froms, wEg_tos, wEg_least, wEg_layers, wEg_rows, wEg_lengths, wEg_uppers, wEg_lowers, wEg_near, wEg_medians, wEg_points, wEg_boxes, wEp_boxes, wEg_arrows, wEp_arrows, wEg_depth, wEp_depth, wEg_made, wEp_made, wEg_come, wEp_come, wEr_uppers, wEw_uppers, wEr_lowers, wEw_lowers, wEr_near, wEw_near, wEr_medians, wEw_medians, wEr_points, wEw_points, wEr_froms, wEw_froms, wEr_tos, wEw_tos, wEr_least, wEw_least, wEr_layers, wEw_layers, wEr_rows, wEw_rows, wEr_lengths, wEw_lengths, wE_kls, g0, wEg_layers, y3, t4]
theorem x_mostArrows1 {x z : Int32} (i : cI H g m (nb, na, fr, to, le, row, ma, co) hs kp tx) (q : ¬ (vB nb x ∧ vB nb z)) : cZ (d+40) MX1_mostArrows [.int x, .int z] H g m (.inr 11) (nb, na, fr, to, le, row, ma, co) hs kp tx := by
  obtain ⟨h, G, N, rfl, hm, hq, c⟩ := cI_E i
  have ⟨g1, g2, kg, g0⟩ := cI_g i
  have s := c.2.1
  have a := cD_cA c
  have hd := cQ_dp a.2.1 s.1
  have s1 := s.1
  have s2 := s.2.1
  have hq1 : 1024 ≤ h.1 := by omega
  have ⟨h', y1, ⟨t, y2⟩, y3, y4⟩ := x_two0 (d := d+33) (g := g) hm hq kg g0 c q
  have t4 := fun pc L => y4 (d+39) MX1_mostArrows pc L rfl
  refine cZ_t hq i y1 (by omega) (by omega) (fun _ _ => rfl) (show 1024 ≤ h.1 by omega) y2 ?_
  rw [e_X1_mostArrows]
  simp (disch := first | omega | assumption | exact Or.inl rfl | exact Or.inr rfl | exact wN_kls (by omega) | exact wE_kls (by omega) | (simp only [a_cat_nil, a_cat_int, a_cat_ref, a_cat_null, a_cat_long]; done) | (simp only [a_cat_nil, a_cat_int, a_cat_ref, a_cat_null, a_cat_long]; omega) | decide | rfl | (apply Or.inr; omega) | (apply Or.inl; omega)) only [w_X1_mostArrows_0, w_X1_mostArrows_1, w_X1_mostArrows_2, w_X1_mostArrows_3, w_X1_mostArrows_6, w_X1_mostArrows_7, w_X1_mostArrows_10, w_X1_mostArrows_11, w_X1_mostArrows_12, w_X1_mostArrows_13, w_X1_mostArrows_16, w_X1_mostArrows_19, w_ret, w_exc, Nat.reduceAdd, Option.toList_some, Option.toList_none, List.cons_append, List.nil_append, Option.bind_some, nI_add, q_mul, q_sub, q_eq, q_eqz, q_lt, q_ltz, q_gtz, q_le, q_lez, q_div, q_or, q_and, q_shl, q_shr, q_m1, q_eqm, q_meq, q_mm, q_mlt, q_mgt, q_mlt2, q_dec, Nat.add_sub_cancel, q_ltT, q_ltF, q_leT, q_leF, q_eqT, q_eqF, ↓reduceIte, uN_s, uN_n, upN_app, uG_s, uG_n, uG_uG, if_true, if_false, Nat.reduceMul, Nat.reduceSub, Nat.reduceEqDiff, Nat.reduceLT, and_true, true_and, and_false, false_and, or_true, true_or, or_false, false_or, not_true_eq_false, not_false_eq_true, Option.some.injEq, wEg_froms, wEg_tos, wEg_least, wEg_layers, wEg_rows, wEg_lengths, wEg_uppers, wEg_lowers, wEg_near, wEg_medians, wEg_points, wEg_boxes, wEp_boxes, wEg_arrows, wEp_arrows, wEg_depth, wEp_depth, wEg_made, wEp_made, wEg_come, wEp_come, wEr_uppers, wEw_uppers, wEr_lowers, wEw_lowers, wEr_near, wEw_near, wEr_medians, wEw_medians, wEr_points, wEw_points, wEr_froms, wEw_froms, wEr_tos, wEw_tos, wEr_least, wEw_least, wEr_layers, wEw_layers, wEr_rows, wEw_rows, wEr_lengths, wEw_lengths, wE_kls, g0, wEg_layers, y3, t4]
theorem x_pointAt1 {x z : Int32} (i : cI H g m (nb, na, fr, to, le, row, ma, co) hs kp tx) (q : ¬ vB (t_dp (t_ly na fr to le) nb) x ∨ z < 0) : cZ (d+40) MX1_pointAt [.int x, .int z] H g m (.inr 11) (nb, na, fr, to, le, row, ma, co) hs kp tx := by
  obtain ⟨h, G, N, rfl, hm, hq, c⟩ := cI_E i
  have ⟨g1, g2, kg, g0⟩ := cI_g i
  have s := c.2.1
  have a := cD_cA c
  have hd := cQ_dp a.2.1 s.1
  have s1 := s.1
  have s2 := s.2.1
  have hq1 : 1024 ≤ h.1 := by omega
  have ⟨h', y1, ⟨t, y2⟩, y3, y4⟩ := x_point1 (d := d+33) (g := g) hm hq kg g0 c q
  have t4 := fun pc L => y4 (d+39) MX1_pointAt pc L rfl
  refine cZ_t hq i y1 (by omega) (by omega) (fun _ _ => rfl) (show 1024 ≤ h.1 by omega) y2 ?_
  rw [e_X1_pointAt]
  simp (disch := first | omega | assumption | exact Or.inl rfl | exact Or.inr rfl | exact wN_kls (by omega) | exact wE_kls (by omega) | (simp only [a_cat_nil, a_cat_int, a_cat_ref, a_cat_null, a_cat_long]; done) | (simp only [a_cat_nil, a_cat_int, a_cat_ref, a_cat_null, a_cat_long]; omega) | decide | rfl | (apply Or.inr; omega) | (apply Or.inl; omega)) only [w_X1_pointAt_0, w_X1_pointAt_1, w_X1_pointAt_2, w_X1_pointAt_3, w_X1_pointAt_6, w_X1_pointAt_7, w_X1_pointAt_10, w_X1_pointAt_11, w_X1_pointAt_12, w_X1_pointAt_15, w_ret, w_exc, Nat.reduceAdd, Option.toList_some, Option.toList_none, List.cons_append, List.nil_append, Option.bind_some, nI_add, q_mul, q_sub, q_eq, q_eqz, q_lt, q_ltz, q_gtz, q_le, q_lez, q_div, q_or, q_and, q_shl, q_shr, q_m1, q_eqm, q_meq, q_mm, q_mlt, q_mgt, q_mlt2, q_dec, Nat.add_sub_cancel, q_ltT, q_ltF, q_leT, q_leF, q_eqT, q_eqF, ↓reduceIte, uN_s, uN_n, upN_app, uG_s, uG_n, uG_uG, if_true, if_false, Nat.reduceMul, Nat.reduceSub, Nat.reduceEqDiff, Nat.reduceLT, and_true, true_and, and_false, false_and, or_true, true_or, or_false, false_or, not_true_eq_false, not_false_eq_true, Option.some.injEq, wEg_froms, wEg_tos, wEg_least, wEg_layers, wEg_rows, wEg_lengths, wEg_uppers, wEg_lowers, wEg_near, wEg_medians, wEg_points, wEg_boxes, wEp_boxes, wEg_arrows, wEp_arrows, wEg_depth, wEp_depth, wEg_made, wEp_made, wEg_come, wEp_come, wEr_uppers, wEw_uppers, wEr_lowers, wEw_lowers, wEr_near, wEw_near, wEr_medians, wEw_medians, wEr_points, wEw_points, wEr_froms, wEw_froms, wEr_tos, wEw_tos, wEr_least, wEw_least, wEr_layers, wEw_layers, wEr_rows, wEw_rows, wEr_lengths, wEw_lengths, wE_kls, g0, wEg_layers, y3, t4]
theorem x_pointAt2 {l p : Nat} (i : cI H g m (nb, na, fr, to, le, row, ma, co) hs kp tx) (hl : l < t_dp (t_ly na fr to le) nb) (hp : t_cn nb na fr to (t_ly na fr to le) l ≤ p) (hp2 : p < 2147483648) : cZ (d+40) MX1_pointAt [.int (nI l), .int (nI p)] H g m (.inr 10) (nb, na, fr, to, le, row, ma, co) hs kp tx := by
  obtain ⟨h, G, N, rfl, hm, hq, c⟩ := cI_E i
  have ⟨g1, g2, kg, g0⟩ := cI_g i
  have s := c.2.1
  have a := cD_cA c
  have hd := cQ_dp a.2.1 s.1
  have s1 := s.1
  have s2 := s.2.1
  have hq1 : 1024 ≤ h.1 := by omega
  have ⟨h', y1, ⟨t, y2⟩, y3, y4⟩ := x_point2 (d := d+33) (g := g) hm hq kg g0 c hl hp hp2
  have t4 := fun pc L => y4 (d+39) MX1_pointAt pc L rfl
  refine cZ_t hq i y1 (by omega) (by omega) (fun _ _ => rfl) (show 1024 ≤ h.1 by omega) y2 ?_
  rw [e_X1_pointAt]
  simp (disch := first | omega | assumption | exact Or.inl rfl | exact Or.inr rfl | exact wN_kls (by omega) | exact wE_kls (by omega) | (simp only [a_cat_nil, a_cat_int, a_cat_ref, a_cat_null, a_cat_long]; done) | (simp only [a_cat_nil, a_cat_int, a_cat_ref, a_cat_null, a_cat_long]; omega) | decide | rfl | (apply Or.inr; omega) | (apply Or.inl; omega)) only [w_X1_pointAt_0, w_X1_pointAt_1, w_X1_pointAt_2, w_X1_pointAt_3, w_X1_pointAt_6, w_X1_pointAt_7, w_X1_pointAt_10, w_X1_pointAt_11, w_X1_pointAt_12, w_X1_pointAt_15, w_ret, w_exc, Nat.reduceAdd, Option.toList_some, Option.toList_none, List.cons_append, List.nil_append, Option.bind_some, nI_add, q_mul, q_sub, q_eq, q_eqz, q_lt, q_ltz, q_gtz, q_le, q_lez, q_div, q_or, q_and, q_shl, q_shr, q_m1, q_eqm, q_meq, q_mm, q_mlt, q_mgt, q_mlt2, q_dec, Nat.add_sub_cancel, q_ltT, q_ltF, q_leT, q_leF, q_eqT, q_eqF, ↓reduceIte, uN_s, uN_n, upN_app, uG_s, uG_n, uG_uG, if_true, if_false, Nat.reduceMul, Nat.reduceSub, Nat.reduceEqDiff, Nat.reduceLT, and_true, true_and, and_false, false_and, or_true, true_or, or_false, false_or, not_true_eq_false, not_false_eq_true, Option.some.injEq, wEg_froms, wEg_tos, wEg_least, wEg_layers, wEg_rows, wEg_lengths, wEg_uppers, wEg_lowers, wEg_near, wEg_medians, wEg_points, wEg_boxes, wEp_boxes, wEg_arrows, wEp_arrows, wEg_depth, wEp_depth, wEg_made, wEp_made, wEg_come, wEp_come, wEr_uppers, wEw_uppers, wEr_lowers, wEw_lowers, wEr_near, wEw_near, wEr_medians, wEw_medians, wEr_points, wEw_points, wEr_froms, wEw_froms, wEr_tos, wEw_tos, wEr_least, wEw_least, wEr_layers, wEw_layers, wEr_rows, wEw_rows, wEr_lengths, wEw_lengths, wE_kls, g0, wEg_layers, y3, t4]
theorem x_medianAbove1 {x z : Int32} (i : cI H g m (nb, na, fr, to, le, row, ma, co) hs kp tx) (q : ¬ vB (t_dp (t_ly na fr to le) nb) x ∨ z < 0) : cZ (d+40) MX1_medianAbove [.int x, .int z] H g m (.inr 11) (nb, na, fr, to, le, row, ma, co) hs kp tx := by
  obtain ⟨h, G, N, rfl, hm, hq, c⟩ := cI_E i
  have ⟨g1, g2, kg, g0⟩ := cI_g i
  have s := c.2.1
  have a := cD_cA c
  have hd := cQ_dp a.2.1 s.1
  have s1 := s.1
  have s2 := s.2.1
  have hq1 : 1024 ≤ h.1 := by omega
  have ⟨h', y1, ⟨t, y2⟩, y3, y4⟩ := x_point1 (d := d+33) (g := g) hm hq kg g0 c q
  have t4 := fun pc L => y4 (d+39) MX1_medianAbove pc L rfl
  refine cZ_t hq i y1 (by omega) (by omega) (fun _ _ => rfl) (show 1024 ≤ h.1 by omega) y2 ?_
  rw [e_X1_medianAbove]
  simp (disch := first | omega | assumption | exact Or.inl rfl | exact Or.inr rfl | exact wN_kls (by omega) | exact wE_kls (by omega) | (simp only [a_cat_nil, a_cat_int, a_cat_ref, a_cat_null, a_cat_long]; done) | (simp only [a_cat_nil, a_cat_int, a_cat_ref, a_cat_null, a_cat_long]; omega) | decide | rfl | (apply Or.inr; omega) | (apply Or.inl; omega)) only [w_X1_medianAbove_0, w_X1_medianAbove_1, w_X1_medianAbove_2, w_X1_medianAbove_3, w_X1_medianAbove_6, w_X1_medianAbove_7, w_X1_medianAbove_10, w_X1_medianAbove_11, w_X1_medianAbove_12, w_X1_medianAbove_13, w_X1_medianAbove_16, w_ret, w_exc, Nat.reduceAdd, Option.toList_some, Option.toList_none, List.cons_append, List.nil_append, Option.bind_some, nI_add, q_mul, q_sub, q_eq, q_eqz, q_lt, q_ltz, q_gtz, q_le, q_lez, q_div, q_or, q_and, q_shl, q_shr, q_m1, q_eqm, q_meq, q_mm, q_mlt, q_mgt, q_mlt2, q_dec, Nat.add_sub_cancel, q_ltT, q_ltF, q_leT, q_leF, q_eqT, q_eqF, ↓reduceIte, uN_s, uN_n, upN_app, uG_s, uG_n, uG_uG, if_true, if_false, Nat.reduceMul, Nat.reduceSub, Nat.reduceEqDiff, Nat.reduceLT, and_true, true_and, and_false, false_and, or_true, true_or, or_false, false_or, not_true_eq_false, not_false_eq_true, Option.some.injEq, wEg_froms, wEg_tos, wEg_least, wEg_layers, wEg_rows, wEg_lengths, wEg_uppers, wEg_lowers, wEg_near, wEg_medians, wEg_points, wEg_boxes, wEp_boxes, wEg_arrows, wEp_arrows, wEg_depth, wEp_depth, wEg_made, wEp_made, wEg_come, wEp_come, wEr_uppers, wEw_uppers, wEr_lowers, wEw_lowers, wEr_near, wEw_near, wEr_medians, wEw_medians, wEr_points, wEw_points, wEr_froms, wEw_froms, wEr_tos, wEw_tos, wEr_least, wEw_least, wEr_layers, wEw_layers, wEr_rows, wEw_rows, wEr_lengths, wEw_lengths, wE_kls, g0, wEg_layers, y3, t4]
theorem x_medianAbove2 {l p : Nat} (i : cI H g m (nb, na, fr, to, le, row, ma, co) hs kp tx) (hl : l < t_dp (t_ly na fr to le) nb) (hp : t_cn nb na fr to (t_ly na fr to le) l ≤ p) (hp2 : p < 2147483648) : cZ (d+40) MX1_medianAbove [.int (nI l), .int (nI p)] H g m (.inr 10) (nb, na, fr, to, le, row, ma, co) hs kp tx := by
  obtain ⟨h, G, N, rfl, hm, hq, c⟩ := cI_E i
  have ⟨g1, g2, kg, g0⟩ := cI_g i
  have s := c.2.1
  have a := cD_cA c
  have hd := cQ_dp a.2.1 s.1
  have s1 := s.1
  have s2 := s.2.1
  have hq1 : 1024 ≤ h.1 := by omega
  have ⟨h', y1, ⟨t, y2⟩, y3, y4⟩ := x_point2 (d := d+33) (g := g) hm hq kg g0 c hl hp hp2
  have t4 := fun pc L => y4 (d+39) MX1_medianAbove pc L rfl
  refine cZ_t hq i y1 (by omega) (by omega) (fun _ _ => rfl) (show 1024 ≤ h.1 by omega) y2 ?_
  rw [e_X1_medianAbove]
  simp (disch := first | omega | assumption | exact Or.inl rfl | exact Or.inr rfl | exact wN_kls (by omega) | exact wE_kls (by omega) | (simp only [a_cat_nil, a_cat_int, a_cat_ref, a_cat_null, a_cat_long]; done) | (simp only [a_cat_nil, a_cat_int, a_cat_ref, a_cat_null, a_cat_long]; omega) | decide | rfl | (apply Or.inr; omega) | (apply Or.inl; omega)) only [w_X1_medianAbove_0, w_X1_medianAbove_1, w_X1_medianAbove_2, w_X1_medianAbove_3, w_X1_medianAbove_6, w_X1_medianAbove_7, w_X1_medianAbove_10, w_X1_medianAbove_11, w_X1_medianAbove_12, w_X1_medianAbove_13, w_X1_medianAbove_16, w_ret, w_exc, Nat.reduceAdd, Option.toList_some, Option.toList_none, List.cons_append, List.nil_append, Option.bind_some, nI_add, q_mul, q_sub, q_eq, q_eqz, q_lt, q_ltz, q_gtz, q_le, q_lez, q_div, q_or, q_and, q_shl, q_shr, q_m1, q_eqm, q_meq, q_mm, q_mlt, q_mgt, q_mlt2, q_dec, Nat.add_sub_cancel, q_ltT, q_ltF, q_leT, q_leF, q_eqT, q_eqF, ↓reduceIte, uN_s, uN_n, upN_app, uG_s, uG_n, uG_uG, if_true, if_false, Nat.reduceMul, Nat.reduceSub, Nat.reduceEqDiff, Nat.reduceLT, and_true, true_and, and_false, false_and, or_true, true_or, or_false, false_or, not_true_eq_false, not_false_eq_true, Option.some.injEq, wEg_froms, wEg_tos, wEg_least, wEg_layers, wEg_rows, wEg_lengths, wEg_uppers, wEg_lowers, wEg_near, wEg_medians, wEg_points, wEg_boxes, wEp_boxes, wEg_arrows, wEp_arrows, wEg_depth, wEp_depth, wEg_made, wEp_made, wEg_come, wEp_come, wEr_uppers, wEw_uppers, wEr_lowers, wEw_lowers, wEr_near, wEw_near, wEr_medians, wEw_medians, wEr_points, wEw_points, wEr_froms, wEw_froms, wEr_tos, wEw_tos, wEr_least, wEw_least, wEr_layers, wEw_layers, wEr_rows, wEw_rows, wEr_lengths, wEw_lengths, wE_kls, g0, wEg_layers, y3, t4]
theorem x_medianBelow1 {x z : Int32} (i : cI H g m (nb, na, fr, to, le, row, ma, co) hs kp tx) (q : ¬ vB (t_dp (t_ly na fr to le) nb) x ∨ z < 0) : cZ (d+40) MX1_medianBelow [.int x, .int z] H g m (.inr 11) (nb, na, fr, to, le, row, ma, co) hs kp tx := by
  obtain ⟨h, G, N, rfl, hm, hq, c⟩ := cI_E i
  have ⟨g1, g2, kg, g0⟩ := cI_g i
  have s := c.2.1
  have a := cD_cA c
  have hd := cQ_dp a.2.1 s.1
  have s1 := s.1
  have s2 := s.2.1
  have hq1 : 1024 ≤ h.1 := by omega
  have ⟨h', y1, ⟨t, y2⟩, y3, y4⟩ := x_point1 (d := d+33) (g := g) hm hq kg g0 c q
  have t4 := fun pc L => y4 (d+39) MX1_medianBelow pc L rfl
  refine cZ_t hq i y1 (by omega) (by omega) (fun _ _ => rfl) (show 1024 ≤ h.1 by omega) y2 ?_
  rw [e_X1_medianBelow]
  simp (disch := first | omega | assumption | exact Or.inl rfl | exact Or.inr rfl | exact wN_kls (by omega) | exact wE_kls (by omega) | (simp only [a_cat_nil, a_cat_int, a_cat_ref, a_cat_null, a_cat_long]; done) | (simp only [a_cat_nil, a_cat_int, a_cat_ref, a_cat_null, a_cat_long]; omega) | decide | rfl | (apply Or.inr; omega) | (apply Or.inl; omega)) only [w_X1_medianBelow_0, w_X1_medianBelow_1, w_X1_medianBelow_2, w_X1_medianBelow_3, w_X1_medianBelow_6, w_X1_medianBelow_7, w_X1_medianBelow_10, w_X1_medianBelow_11, w_X1_medianBelow_12, w_X1_medianBelow_13, w_X1_medianBelow_16, w_ret, w_exc, Nat.reduceAdd, Option.toList_some, Option.toList_none, List.cons_append, List.nil_append, Option.bind_some, nI_add, q_mul, q_sub, q_eq, q_eqz, q_lt, q_ltz, q_gtz, q_le, q_lez, q_div, q_or, q_and, q_shl, q_shr, q_m1, q_eqm, q_meq, q_mm, q_mlt, q_mgt, q_mlt2, q_dec, Nat.add_sub_cancel, q_ltT, q_ltF, q_leT, q_leF, q_eqT, q_eqF, ↓reduceIte, uN_s, uN_n, upN_app, uG_s, uG_n, uG_uG, if_true, if_false, Nat.reduceMul, Nat.reduceSub, Nat.reduceEqDiff, Nat.reduceLT, and_true, true_and, and_false, false_and, or_true, true_or, or_false, false_or, not_true_eq_false, not_false_eq_true, Option.some.injEq, wEg_froms, wEg_tos, wEg_least, wEg_layers, wEg_rows, wEg_lengths, wEg_uppers, wEg_lowers, wEg_near, wEg_medians, wEg_points, wEg_boxes, wEp_boxes, wEg_arrows, wEp_arrows, wEg_depth, wEp_depth, wEg_made, wEp_made, wEg_come, wEp_come, wEr_uppers, wEw_uppers, wEr_lowers, wEw_lowers, wEr_near, wEw_near, wEr_medians, wEw_medians, wEr_points, wEw_points, wEr_froms, wEw_froms, wEr_tos, wEw_tos, wEr_least, wEw_least, wEr_layers, wEw_layers, wEr_rows, wEw_rows, wEr_lengths, wEw_lengths, wE_kls, g0, wEg_layers, y3, t4]
theorem x_medianBelow2 {l p : Nat} (i : cI H g m (nb, na, fr, to, le, row, ma, co) hs kp tx) (hl : l < t_dp (t_ly na fr to le) nb) (hp : t_cn nb na fr to (t_ly na fr to le) l ≤ p) (hp2 : p < 2147483648) : cZ (d+40) MX1_medianBelow [.int (nI l), .int (nI p)] H g m (.inr 10) (nb, na, fr, to, le, row, ma, co) hs kp tx := by
  obtain ⟨h, G, N, rfl, hm, hq, c⟩ := cI_E i
  have ⟨g1, g2, kg, g0⟩ := cI_g i
  have s := c.2.1
  have a := cD_cA c
  have hd := cQ_dp a.2.1 s.1
  have s1 := s.1
  have s2 := s.2.1
  have hq1 : 1024 ≤ h.1 := by omega
  have ⟨h', y1, ⟨t, y2⟩, y3, y4⟩ := x_point2 (d := d+33) (g := g) hm hq kg g0 c hl hp hp2
  have t4 := fun pc L => y4 (d+39) MX1_medianBelow pc L rfl
  refine cZ_t hq i y1 (by omega) (by omega) (fun _ _ => rfl) (show 1024 ≤ h.1 by omega) y2 ?_
  rw [e_X1_medianBelow]
  simp (disch := first | omega | assumption | exact Or.inl rfl | exact Or.inr rfl | exact wN_kls (by omega) | exact wE_kls (by omega) | (simp only [a_cat_nil, a_cat_int, a_cat_ref, a_cat_null, a_cat_long]; done) | (simp only [a_cat_nil, a_cat_int, a_cat_ref, a_cat_null, a_cat_long]; omega) | decide | rfl | (apply Or.inr; omega) | (apply Or.inl; omega)) only [w_X1_medianBelow_0, w_X1_medianBelow_1, w_X1_medianBelow_2, w_X1_medianBelow_3, w_X1_medianBelow_6, w_X1_medianBelow_7, w_X1_medianBelow_10, w_X1_medianBelow_11, w_X1_medianBelow_12, w_X1_medianBelow_13, w_X1_medianBelow_16, w_ret, w_exc, Nat.reduceAdd, Option.toList_some, Option.toList_none, List.cons_append, List.nil_append, Option.bind_some, nI_add, q_mul, q_sub, q_eq, q_eqz, q_lt, q_ltz, q_gtz, q_le, q_lez, q_div, q_or, q_and, q_shl, q_shr, q_m1, q_eqm, q_meq, q_mm, q_mlt, q_mgt, q_mlt2, q_dec, Nat.add_sub_cancel, q_ltT, q_ltF, q_leT, q_leF, q_eqT, q_eqF, ↓reduceIte, uN_s, uN_n, upN_app, uG_s, uG_n, uG_uG, if_true, if_false, Nat.reduceMul, Nat.reduceSub, Nat.reduceEqDiff, Nat.reduceLT, and_true, true_and, and_false, false_and, or_true, true_or, or_false, false_or, not_true_eq_false, not_false_eq_true, Option.some.injEq, wEg_froms, wEg_tos, wEg_least, wEg_layers, wEg_rows, wEg_lengths, wEg_uppers, wEg_lowers, wEg_near, wEg_medians, wEg_points, wEg_boxes, wEp_boxes, wEg_arrows, wEp_arrows, wEg_depth, wEp_depth, wEg_made, wEp_made, wEg_come, wEp_come, wEr_uppers, wEw_uppers, wEr_lowers, wEw_lowers, wEr_near, wEw_near, wEr_medians, wEw_medians, wEr_points, wEw_points, wEr_froms, wEw_froms, wEr_tos, wEw_tos, wEr_least, wEw_least, wEr_layers, wEw_layers, wEr_rows, wEw_rows, wEr_lengths, wEw_lengths, wE_kls, g0, wEg_layers, y3, t4]
theorem x_columnAt1 {x z : Int32} (i : cI H g m (nb, na, fr, to, le, row, ma, co) hs kp tx) (q : ¬ vB (t_dp (t_ly na fr to le) nb) x ∨ z < 0) : cZ (d+40) MX1_columnAt [.int x, .int z] H g m (.inr 11) (nb, na, fr, to, le, row, ma, co) hs kp tx := by
  obtain ⟨h, G, N, rfl, hm, hq, c⟩ := cI_E i
  have ⟨g1, g2, kg, g0⟩ := cI_g i
  have s := c.2.1
  have a := cD_cA c
  have hd := cQ_dp a.2.1 s.1
  have s1 := s.1
  have s2 := s.2.1
  have hq1 : 1024 ≤ h.1 := by omega
  have ⟨h', y1, ⟨t, y2⟩, y3, y4⟩ := x_point1 (d := d+33) (g := g) hm hq kg g0 c q
  have t4 := fun pc L => y4 (d+39) MX1_columnAt pc L rfl
  refine cZ_t hq i y1 (by omega) (by omega) (fun _ _ => rfl) (show 1024 ≤ h.1 by omega) y2 ?_
  rw [e_X1_columnAt]
  simp (disch := first | omega | assumption | exact Or.inl rfl | exact Or.inr rfl | exact wN_kls (by omega) | exact wE_kls (by omega) | (simp only [a_cat_nil, a_cat_int, a_cat_ref, a_cat_null, a_cat_long]; done) | (simp only [a_cat_nil, a_cat_int, a_cat_ref, a_cat_null, a_cat_long]; omega) | decide | rfl | (apply Or.inr; omega) | (apply Or.inl; omega)) only [w_X1_columnAt_0, w_X1_columnAt_1, w_X1_columnAt_2, w_X1_columnAt_3, w_X1_columnAt_6, w_X1_columnAt_7, w_X1_columnAt_10, w_X1_columnAt_13, w_X1_columnAt_14, w_X1_columnAt_16, w_X1_columnAt_17, w_X1_columnAt_18, w_X1_columnAt_19, w_X1_columnAt_20, w_ret, w_exc, Nat.reduceAdd, Option.toList_some, Option.toList_none, List.cons_append, List.nil_append, Option.bind_some, nI_add, q_mul, q_sub, q_eq, q_eqz, q_lt, q_ltz, q_gtz, q_le, q_lez, q_div, q_or, q_and, q_shl, q_shr, q_m1, q_eqm, q_meq, q_mm, q_mlt, q_mgt, q_mlt2, q_dec, Nat.add_sub_cancel, q_ltT, q_ltF, q_leT, q_leF, q_eqT, q_eqF, ↓reduceIte, uN_s, uN_n, upN_app, uG_s, uG_n, uG_uG, if_true, if_false, Nat.reduceMul, Nat.reduceSub, Nat.reduceEqDiff, Nat.reduceLT, and_true, true_and, and_false, false_and, or_true, true_or, or_false, false_or, not_true_eq_false, not_false_eq_true, Option.some.injEq, wEg_froms, wEg_tos, wEg_least, wEg_layers, wEg_rows, wEg_lengths, wEg_uppers, wEg_lowers, wEg_near, wEg_medians, wEg_points, wEg_boxes, wEp_boxes, wEg_arrows, wEp_arrows, wEg_depth, wEp_depth, wEg_made, wEp_made, wEg_come, wEp_come, wEr_uppers, wEw_uppers, wEr_lowers, wEw_lowers, wEr_near, wEw_near, wEr_medians, wEw_medians, wEr_points, wEw_points, wEr_froms, wEw_froms, wEr_tos, wEw_tos, wEr_least, wEw_least, wEr_layers, wEw_layers, wEr_rows, wEw_rows, wEr_lengths, wEw_lengths, wE_kls, g0, wEg_layers, y3, t4]
theorem x_columnAt2 {l p : Nat} (i : cI H g m (nb, na, fr, to, le, row, ma, co) hs kp tx) (hl : l < t_dp (t_ly na fr to le) nb) (hp : t_cn nb na fr to (t_ly na fr to le) l ≤ p) (hp2 : p < 2147483648) : cZ (d+40) MX1_columnAt [.int (nI l), .int (nI p)] H g m (.inr 10) (nb, na, fr, to, le, row, ma, co) hs kp tx := by
  obtain ⟨h, G, N, rfl, hm, hq, c⟩ := cI_E i
  have ⟨g1, g2, kg, g0⟩ := cI_g i
  have s := c.2.1
  have a := cD_cA c
  have hd := cQ_dp a.2.1 s.1
  have s1 := s.1
  have s2 := s.2.1
  have hq1 : 1024 ≤ h.1 := by omega
  have ⟨h', y1, ⟨t, y2⟩, y3, y4⟩ := x_point2 (d := d+33) (g := g) hm hq kg g0 c hl hp hp2
  have t4 := fun pc L => y4 (d+39) MX1_columnAt pc L rfl
  refine cZ_t hq i y1 (by omega) (by omega) (fun _ _ => rfl) (show 1024 ≤ h.1 by omega) y2 ?_
  rw [e_X1_columnAt]
  simp (disch := first | omega | assumption | exact Or.inl rfl | exact Or.inr rfl | exact wN_kls (by omega) | exact wE_kls (by omega) | (simp only [a_cat_nil, a_cat_int, a_cat_ref, a_cat_null, a_cat_long]; done) | (simp only [a_cat_nil, a_cat_int, a_cat_ref, a_cat_null, a_cat_long]; omega) | decide | rfl | (apply Or.inr; omega) | (apply Or.inl; omega)) only [w_X1_columnAt_0, w_X1_columnAt_1, w_X1_columnAt_2, w_X1_columnAt_3, w_X1_columnAt_6, w_X1_columnAt_7, w_X1_columnAt_10, w_X1_columnAt_13, w_X1_columnAt_14, w_X1_columnAt_16, w_X1_columnAt_17, w_X1_columnAt_18, w_X1_columnAt_19, w_X1_columnAt_20, w_ret, w_exc, Nat.reduceAdd, Option.toList_some, Option.toList_none, List.cons_append, List.nil_append, Option.bind_some, nI_add, q_mul, q_sub, q_eq, q_eqz, q_lt, q_ltz, q_gtz, q_le, q_lez, q_div, q_or, q_and, q_shl, q_shr, q_m1, q_eqm, q_meq, q_mm, q_mlt, q_mgt, q_mlt2, q_dec, Nat.add_sub_cancel, q_ltT, q_ltF, q_leT, q_leF, q_eqT, q_eqF, ↓reduceIte, uN_s, uN_n, upN_app, uG_s, uG_n, uG_uG, if_true, if_false, Nat.reduceMul, Nat.reduceSub, Nat.reduceEqDiff, Nat.reduceLT, and_true, true_and, and_false, false_and, or_true, true_or, or_false, false_or, not_true_eq_false, not_false_eq_true, Option.some.injEq, wEg_froms, wEg_tos, wEg_least, wEg_layers, wEg_rows, wEg_lengths, wEg_uppers, wEg_lowers, wEg_near, wEg_medians, wEg_points, wEg_boxes, wEp_boxes, wEg_arrows, wEp_arrows, wEg_depth, wEp_depth, wEg_made, wEp_made, wEg_come, wEp_come, wEr_uppers, wEw_uppers, wEr_lowers, wEw_lowers, wEr_near, wEw_near, wEr_medians, wEw_medians, wEr_points, wEw_points, wEr_froms, wEw_froms, wEr_tos, wEw_tos, wEr_least, wEw_least, wEr_layers, wEw_layers, wEr_rows, wEw_rows, wEr_lengths, wEw_lengths, wE_kls, g0, wEg_layers, y3, t4]
theorem x_bendsOf1 {x : Int32} (i : cI H g m (nb, na, fr, to, le, row, ma, co) hs kp tx) (q : ¬ vB na x) : cZ (d+40) MX1_bendsOf [.int x] H g m (.inr 11) (nb, na, fr, to, le, row, ma, co) hs kp tx := by
  obtain ⟨h, G, N, rfl, hm, hq, c⟩ := cI_E i
  have ⟨g1, g2, kg, g0⟩ := cI_g i
  have s := c.2.1
  have a := cD_cA c
  have hd := cQ_dp a.2.1 s.1
  have s1 := s.1
  have s2 := s.2.1
  have hq1 : 1024 ≤ h.1 := by omega
  have ⟨h', y1, ⟨t, y2⟩, y3, y4⟩ := x_arrow0 (d := d+33) (g := g) hm hq kg g0 c q
  have t4 := fun pc L => y4 (d+39) MX1_bendsOf pc L rfl
  refine cZ_t hq i y1 (by omega) (by omega) (fun _ _ => rfl) (show 1024 ≤ h.1 by omega) y2 ?_
  rw [e_X1_bendsOf]
  simp (disch := first | omega | assumption | exact Or.inl rfl | exact Or.inr rfl | exact wN_kls (by omega) | exact wE_kls (by omega) | (simp only [a_cat_nil, a_cat_int, a_cat_ref, a_cat_null, a_cat_long]; done) | (simp only [a_cat_nil, a_cat_int, a_cat_ref, a_cat_null, a_cat_long]; omega) | decide | rfl | (apply Or.inr; omega) | (apply Or.inl; omega)) only [w_X1_bendsOf_0, w_X1_bendsOf_1, w_X1_bendsOf_2, w_X1_bendsOf_5, w_X1_bendsOf_6, w_X1_bendsOf_7, w_X1_bendsOf_10, w_X1_bendsOf_11, w_X1_bendsOf_12, w_X1_bendsOf_15, w_X1_bendsOf_18, w_X1_bendsOf_21, w_ret, w_exc, Nat.reduceAdd, Option.toList_some, Option.toList_none, List.cons_append, List.nil_append, Option.bind_some, nI_add, q_mul, q_sub, q_eq, q_eqz, q_lt, q_ltz, q_gtz, q_le, q_lez, q_div, q_or, q_and, q_shl, q_shr, q_m1, q_eqm, q_meq, q_mm, q_mlt, q_mgt, q_mlt2, q_dec, Nat.add_sub_cancel, q_ltT, q_ltF, q_leT, q_leF, q_eqT, q_eqF, ↓reduceIte, uN_s, uN_n, upN_app, uG_s, uG_n, uG_uG, if_true, if_false, Nat.reduceMul, Nat.reduceSub, Nat.reduceEqDiff, Nat.reduceLT, and_true, true_and, and_false, false_and, or_true, true_or, or_false, false_or, not_true_eq_false, not_false_eq_true, Option.some.injEq, wEg_froms, wEg_tos, wEg_least, wEg_layers, wEg_rows, wEg_lengths, wEg_uppers, wEg_lowers, wEg_near, wEg_medians, wEg_points, wEg_boxes, wEp_boxes, wEg_arrows, wEp_arrows, wEg_depth, wEp_depth, wEg_made, wEp_made, wEg_come, wEp_come, wEr_uppers, wEw_uppers, wEr_lowers, wEw_lowers, wEr_near, wEw_near, wEr_medians, wEw_medians, wEr_points, wEw_points, wEr_froms, wEw_froms, wEr_tos, wEw_tos, wEr_least, wEw_least, wEr_layers, wEw_layers, wEr_rows, wEw_rows, wEr_lengths, wEw_lengths, wE_kls, g0, wEg_layers, y3, t4]
theorem x_hears {b : Nat} (i : cI H g m (nb, na, fr, to, le, row, ma, co) hs kp tx) (hb : b < nb) : cZ (d+40) MX1_hears [.int (nI b)] H g m (.inl (.int (nI (t_G t_sh (fun _ => 0) na fr to 25 b)))) (nb, na, fr, to, le, row, ma, co) hs kp tx := by
  obtain ⟨h, G, N, rfl, hm, hq, c⟩ := cI_E i
  have ⟨g1, g2, kg, g0⟩ := cI_g i
  have s := c.2.1
  have a := cD_cA c
  have hd := cQ_dp a.2.1 s.1
  have s1 := s.1
  have s2 := s.2.1
  have hq1 : 1024 ≤ h.1 := by omega
  have k1 := x_known1 (d := d+33) (g := g) (x := nI b) hm hq kg g0 c ⟨b, hb, rfl⟩
  have ⟨f', y2⟩ := c_heard (d := d+38) (h := h) hm hq s a.2.1 hb
  refine cZ_q hq i (hX_B (n := 16) (f := f')) (by omega) (by omega) (fun _ _ => rfl) ?_
  rw [e_X1_hears]
  simp (disch := first | omega | assumption | exact Or.inl rfl | exact Or.inr rfl | exact wN_kls (by omega) | exact wE_kls (by omega) | (simp only [a_cat_nil, a_cat_int, a_cat_ref, a_cat_null, a_cat_long]; done) | (simp only [a_cat_nil, a_cat_int, a_cat_ref, a_cat_null, a_cat_long]; omega) | decide | rfl | (apply Or.inr; omega) | (apply Or.inl; omega)) only [w_X1_hears_0, w_X1_hears_1, w_X1_hears_4, w_X1_hears_5, w_X1_hears_6, w_X1_hears_9, w_X1_hears_12, w_ret, w_exc, Nat.reduceAdd, Option.toList_some, Option.toList_none, List.cons_append, List.nil_append, Option.bind_some, nI_add, q_mul, q_sub, q_eq, q_eqz, q_lt, q_ltz, q_gtz, q_le, q_lez, q_div, q_or, q_and, q_shl, q_shr, q_m1, q_eqm, q_meq, q_mm, q_mlt, q_mgt, q_mlt2, q_dec, Nat.add_sub_cancel, q_ltT, q_ltF, q_leT, q_leF, q_eqT, q_eqF, ↓reduceIte, uN_s, uN_n, upN_app, uG_s, uG_n, uG_uG, if_true, if_false, Nat.reduceMul, Nat.reduceSub, Nat.reduceEqDiff, Nat.reduceLT, and_true, true_and, and_false, false_and, or_true, true_or, or_false, false_or, not_true_eq_false, not_false_eq_true, Option.some.injEq, wEg_froms, wEg_tos, wEg_least, wEg_layers, wEg_rows, wEg_lengths, wEg_uppers, wEg_lowers, wEg_near, wEg_medians, wEg_points, wEg_boxes, wEp_boxes, wEg_arrows, wEp_arrows, wEg_depth, wEp_depth, wEg_made, wEp_made, wEg_come, wEp_come, wEr_uppers, wEw_uppers, wEr_lowers, wEw_lowers, wEr_near, wEw_near, wEr_medians, wEw_medians, wEr_points, wEw_points, wEr_froms, wEw_froms, wEr_tos, wEw_tos, wEr_least, wEw_least, wEr_layers, wEw_layers, wEr_rows, wEw_rows, wEr_lengths, wEw_lengths, wE_kls, g0, k1, y2]
theorem x_layerOf {b : Nat} (i : cI H g m (nb, na, fr, to, le, row, ma, co) hs kp tx) (hb : b < nb) : cZ (d+40) MX1_layerOf [.int (nI b)] H g m (.inl (.int (nI (t_ly na fr to le b)))) (nb, na, fr, to, le, row, ma, co) hs kp tx := by
  obtain ⟨h, G, N, rfl, hm, hq, c⟩ := cI_E i
  have ⟨g1, g2, kg, g0⟩ := cI_g i
  have s := c.2.1
  have a := cD_cA c
  have hd := cQ_dp a.2.1 s.1
  have s1 := s.1
  have s2 := s.2.1
  have hq1 : 1024 ≤ h.1 := by omega
  have k1 := x_known1 (d := d+33) (g := g) (x := nI b) hm hq kg g0 c ⟨b, hb, rfl⟩
  have y2 := (a.2.1.1 b (by omega)).1
  refine cZ_0 hq i (fun _ _ => rfl) ?_
  rw [e_X1_layerOf]
  simp (disch := first | omega | assumption | exact Or.inl rfl | exact Or.inr rfl | exact wN_kls (by omega) | exact wE_kls (by omega) | (simp only [a_cat_nil, a_cat_int, a_cat_ref, a_cat_null, a_cat_long]; done) | (simp only [a_cat_nil, a_cat_int, a_cat_ref, a_cat_null, a_cat_long]; omega) | decide | rfl | (apply Or.inr; omega) | (apply Or.inl; omega)) only [w_X1_layerOf_0, w_X1_layerOf_1, w_X1_layerOf_4, w_X1_layerOf_7, w_X1_layerOf_8, w_X1_layerOf_9, w_X1_layerOf_12, w_X1_layerOf_13, w_ret, w_exc, Nat.reduceAdd, Option.toList_some, Option.toList_none, List.cons_append, List.nil_append, Option.bind_some, nI_add, q_mul, q_sub, q_eq, q_eqz, q_lt, q_ltz, q_gtz, q_le, q_lez, q_div, q_or, q_and, q_shl, q_shr, q_m1, q_eqm, q_meq, q_mm, q_mlt, q_mgt, q_mlt2, q_dec, Nat.add_sub_cancel, q_ltT, q_ltF, q_leT, q_leF, q_eqT, q_eqF, ↓reduceIte, uN_s, uN_n, upN_app, uG_s, uG_n, uG_uG, if_true, if_false, Nat.reduceMul, Nat.reduceSub, Nat.reduceEqDiff, Nat.reduceLT, and_true, true_and, and_false, false_and, or_true, true_or, or_false, false_or, not_true_eq_false, not_false_eq_true, Option.some.injEq, wEg_froms, wEg_tos, wEg_least, wEg_layers, wEg_rows, wEg_lengths, wEg_uppers, wEg_lowers, wEg_near, wEg_medians, wEg_points, wEg_boxes, wEp_boxes, wEg_arrows, wEp_arrows, wEg_depth, wEp_depth, wEg_made, wEp_made, wEg_come, wEp_come, wEr_uppers, wEw_uppers, wEr_lowers, wEw_lowers, wEr_near, wEw_near, wEr_medians, wEw_medians, wEr_points, wEw_points, wEr_froms, wEw_froms, wEr_tos, wEw_tos, wEr_least, wEw_least, wEr_layers, wEw_layers, wEr_rows, wEw_rows, wEr_lengths, wEw_lengths, wE_kls, g0, k1, y2]
theorem x_leastOf {b : Nat} (i : cI H g m (nb, na, fr, to, le, row, ma, co) hs kp tx) (hb : b < nb) : cZ (d+40) MX1_leastOf [.int (nI b)] H g m (.inl (.int (nI (le b)))) (nb, na, fr, to, le, row, ma, co) hs kp tx := by
  obtain ⟨h, G, N, rfl, hm, hq, c⟩ := cI_E i
  have ⟨g1, g2, kg, g0⟩ := cI_g i
  have s := c.2.1
  have a := cD_cA c
  have hd := cQ_dp a.2.1 s.1
  have s1 := s.1
  have s2 := s.2.1
  have hq1 : 1024 ≤ h.1 := by omega
  have k1 := x_known1 (d := d+33) (g := g) (x := nI b) hm hq kg g0 c ⟨b, hb, rfl⟩
  have y2 := (s.2.2.2.2.2 b (by omega)).1
  refine cZ_0 hq i (fun _ _ => rfl) ?_
  rw [e_X1_leastOf]
  simp (disch := first | omega | assumption | exact Or.inl rfl | exact Or.inr rfl | exact wN_kls (by omega) | exact wE_kls (by omega) | (simp only [a_cat_nil, a_cat_int, a_cat_ref, a_cat_null, a_cat_long]; done) | (simp only [a_cat_nil, a_cat_int, a_cat_ref, a_cat_null, a_cat_long]; omega) | decide | rfl | (apply Or.inr; omega) | (apply Or.inl; omega)) only [w_X1_leastOf_0, w_X1_leastOf_1, w_X1_leastOf_4, w_X1_leastOf_7, w_X1_leastOf_8, w_X1_leastOf_9, w_X1_leastOf_12, w_X1_leastOf_13, w_ret, w_exc, Nat.reduceAdd, Option.toList_some, Option.toList_none, List.cons_append, List.nil_append, Option.bind_some, nI_add, q_mul, q_sub, q_eq, q_eqz, q_lt, q_ltz, q_gtz, q_le, q_lez, q_div, q_or, q_and, q_shl, q_shr, q_m1, q_eqm, q_meq, q_mm, q_mlt, q_mgt, q_mlt2, q_dec, Nat.add_sub_cancel, q_ltT, q_ltF, q_leT, q_leF, q_eqT, q_eqF, ↓reduceIte, uN_s, uN_n, upN_app, uG_s, uG_n, uG_uG, if_true, if_false, Nat.reduceMul, Nat.reduceSub, Nat.reduceEqDiff, Nat.reduceLT, and_true, true_and, and_false, false_and, or_true, true_or, or_false, false_or, not_true_eq_false, not_false_eq_true, Option.some.injEq, wEg_froms, wEg_tos, wEg_least, wEg_layers, wEg_rows, wEg_lengths, wEg_uppers, wEg_lowers, wEg_near, wEg_medians, wEg_points, wEg_boxes, wEp_boxes, wEg_arrows, wEp_arrows, wEg_depth, wEp_depth, wEg_made, wEp_made, wEg_come, wEp_come, wEr_uppers, wEw_uppers, wEr_lowers, wEw_lowers, wEr_near, wEw_near, wEr_medians, wEw_medians, wEr_points, wEw_points, wEr_froms, wEw_froms, wEr_tos, wEw_tos, wEr_least, wEw_least, wEr_layers, wEw_layers, wEr_rows, wEw_rows, wEr_lengths, wEw_lengths, wE_kls, g0, k1, y2]
theorem x_layerByGoingBack {b : Nat} (i : cI H g m (nb, na, fr, to, le, row, ma, co) hs kp tx) (hb : b < nb) : cZ (d+40) MX1_layerByGoingBack [.int (nI b)] H g m (.inl (.int (nI (t_ly na fr to le b)))) (nb, na, fr, to, le, row, ma, co) hs kp tx := by
  obtain ⟨h, G, N, rfl, hm, hq, c⟩ := cI_E i
  have ⟨g1, g2, kg, g0⟩ := cI_g i
  have s := c.2.1
  have a := cD_cA c
  have hd := cQ_dp a.2.1 s.1
  have s1 := s.1
  have s2 := s.2.1
  have hq1 : 1024 ≤ h.1 := by omega
  have k1 := x_known1 (d := d+33) (g := g) (x := nI b) hm hq kg g0 c ⟨b, hb, rfl⟩
  have y2 := c_back (d := d+13) (h := h) hm s c.1.2.2.2.2.2.2.1 (fun b hb => t_OK_y c.1 hb) 25 b hb (Nat.le_of_lt (t_OK_y c.1 (by omega)))
  refine cZ_0 hq i (fun _ _ => rfl) ?_
  rw [e_X1_layerByGoingBack]
  simp (disch := first | omega | assumption | exact Or.inl rfl | exact Or.inr rfl | exact wN_kls (by omega) | exact wE_kls (by omega) | (simp only [a_cat_nil, a_cat_int, a_cat_ref, a_cat_null, a_cat_long]; done) | (simp only [a_cat_nil, a_cat_int, a_cat_ref, a_cat_null, a_cat_long]; omega) | decide | rfl | (apply Or.inr; omega) | (apply Or.inl; omega)) only [w_X1_layerByGoingBack_0, w_X1_layerByGoingBack_1, w_X1_layerByGoingBack_4, w_X1_layerByGoingBack_5, w_X1_layerByGoingBack_6, w_X1_layerByGoingBack_9, w_X1_layerByGoingBack_12, w_ret, w_exc, Nat.reduceAdd, Option.toList_some, Option.toList_none, List.cons_append, List.nil_append, Option.bind_some, nI_add, q_mul, q_sub, q_eq, q_eqz, q_lt, q_ltz, q_gtz, q_le, q_lez, q_div, q_or, q_and, q_shl, q_shr, q_m1, q_eqm, q_meq, q_mm, q_mlt, q_mgt, q_mlt2, q_dec, Nat.add_sub_cancel, q_ltT, q_ltF, q_leT, q_leF, q_eqT, q_eqF, ↓reduceIte, uN_s, uN_n, upN_app, uG_s, uG_n, uG_uG, if_true, if_false, Nat.reduceMul, Nat.reduceSub, Nat.reduceEqDiff, Nat.reduceLT, and_true, true_and, and_false, false_and, or_true, true_or, or_false, false_or, not_true_eq_false, not_false_eq_true, Option.some.injEq, wEg_froms, wEg_tos, wEg_least, wEg_layers, wEg_rows, wEg_lengths, wEg_uppers, wEg_lowers, wEg_near, wEg_medians, wEg_points, wEg_boxes, wEp_boxes, wEg_arrows, wEp_arrows, wEg_depth, wEp_depth, wEg_made, wEp_made, wEg_come, wEp_come, wEr_uppers, wEw_uppers, wEr_lowers, wEw_lowers, wEr_near, wEw_near, wEr_medians, wEw_medians, wEr_points, wEw_points, wEr_froms, wEw_froms, wEr_tos, wEw_tos, wEr_least, wEw_least, wEr_layers, wEw_layers, wEr_rows, wEw_rows, wEr_lengths, wEw_lengths, wE_kls, g0, k1, y2]
theorem x_fromOf {k : Nat} (i : cI H g m (nb, na, fr, to, le, row, ma, co) hs kp tx) (hk : k < na) : cZ (d+40) MX1_fromOf [.int (nI k)] H g m (.inl (.int (nI (fr k)))) (nb, na, fr, to, le, row, ma, co) hs kp tx := by
  obtain ⟨h, G, N, rfl, hm, hq, c⟩ := cI_E i
  have ⟨g1, g2, kg, g0⟩ := cI_g i
  have s := c.2.1
  have a := cD_cA c
  have hd := cQ_dp a.2.1 s.1
  have s1 := s.1
  have s2 := s.2.1
  have hq1 : 1024 ≤ h.1 := by omega
  have k1 := x_arrow1 (d := d+33) (g := g) (x := nI k) hm hq kg g0 c ⟨k, hk, rfl⟩
  have y2 := (s.2.2.2.2.1 k hk).1
  refine cZ_0 hq i (fun _ _ => rfl) ?_
  rw [e_X1_fromOf]
  simp (disch := first | omega | assumption | exact Or.inl rfl | exact Or.inr rfl | exact wN_kls (by omega) | exact wE_kls (by omega) | (simp only [a_cat_nil, a_cat_int, a_cat_ref, a_cat_null, a_cat_long]; done) | (simp only [a_cat_nil, a_cat_int, a_cat_ref, a_cat_null, a_cat_long]; omega) | decide | rfl | (apply Or.inr; omega) | (apply Or.inl; omega)) only [w_X1_fromOf_0, w_X1_fromOf_1, w_X1_fromOf_4, w_X1_fromOf_7, w_X1_fromOf_8, w_X1_fromOf_9, w_X1_fromOf_12, w_X1_fromOf_13, w_ret, w_exc, Nat.reduceAdd, Option.toList_some, Option.toList_none, List.cons_append, List.nil_append, Option.bind_some, nI_add, q_mul, q_sub, q_eq, q_eqz, q_lt, q_ltz, q_gtz, q_le, q_lez, q_div, q_or, q_and, q_shl, q_shr, q_m1, q_eqm, q_meq, q_mm, q_mlt, q_mgt, q_mlt2, q_dec, Nat.add_sub_cancel, q_ltT, q_ltF, q_leT, q_leF, q_eqT, q_eqF, ↓reduceIte, uN_s, uN_n, upN_app, uG_s, uG_n, uG_uG, if_true, if_false, Nat.reduceMul, Nat.reduceSub, Nat.reduceEqDiff, Nat.reduceLT, and_true, true_and, and_false, false_and, or_true, true_or, or_false, false_or, not_true_eq_false, not_false_eq_true, Option.some.injEq, wEg_froms, wEg_tos, wEg_least, wEg_layers, wEg_rows, wEg_lengths, wEg_uppers, wEg_lowers, wEg_near, wEg_medians, wEg_points, wEg_boxes, wEp_boxes, wEg_arrows, wEp_arrows, wEg_depth, wEp_depth, wEg_made, wEp_made, wEg_come, wEp_come, wEr_uppers, wEw_uppers, wEr_lowers, wEw_lowers, wEr_near, wEw_near, wEr_medians, wEw_medians, wEr_points, wEw_points, wEr_froms, wEw_froms, wEr_tos, wEw_tos, wEr_least, wEw_least, wEr_layers, wEw_layers, wEr_rows, wEw_rows, wEr_lengths, wEw_lengths, wE_kls, g0, k1, y2]
theorem x_toOf {k : Nat} (i : cI H g m (nb, na, fr, to, le, row, ma, co) hs kp tx) (hk : k < na) : cZ (d+40) MX1_toOf [.int (nI k)] H g m (.inl (.int (nI (to k)))) (nb, na, fr, to, le, row, ma, co) hs kp tx := by
  obtain ⟨h, G, N, rfl, hm, hq, c⟩ := cI_E i
  have ⟨g1, g2, kg, g0⟩ := cI_g i
  have s := c.2.1
  have a := cD_cA c
  have hd := cQ_dp a.2.1 s.1
  have s1 := s.1
  have s2 := s.2.1
  have hq1 : 1024 ≤ h.1 := by omega
  have k1 := x_arrow1 (d := d+33) (g := g) (x := nI k) hm hq kg g0 c ⟨k, hk, rfl⟩
  have y2 := (s.2.2.2.2.1 k hk).2.1
  refine cZ_0 hq i (fun _ _ => rfl) ?_
  rw [e_X1_toOf]
  simp (disch := first | omega | assumption | exact Or.inl rfl | exact Or.inr rfl | exact wN_kls (by omega) | exact wE_kls (by omega) | (simp only [a_cat_nil, a_cat_int, a_cat_ref, a_cat_null, a_cat_long]; done) | (simp only [a_cat_nil, a_cat_int, a_cat_ref, a_cat_null, a_cat_long]; omega) | decide | rfl | (apply Or.inr; omega) | (apply Or.inl; omega)) only [w_X1_toOf_0, w_X1_toOf_1, w_X1_toOf_4, w_X1_toOf_7, w_X1_toOf_8, w_X1_toOf_9, w_X1_toOf_12, w_X1_toOf_13, w_ret, w_exc, Nat.reduceAdd, Option.toList_some, Option.toList_none, List.cons_append, List.nil_append, Option.bind_some, nI_add, q_mul, q_sub, q_eq, q_eqz, q_lt, q_ltz, q_gtz, q_le, q_lez, q_div, q_or, q_and, q_shl, q_shr, q_m1, q_eqm, q_meq, q_mm, q_mlt, q_mgt, q_mlt2, q_dec, Nat.add_sub_cancel, q_ltT, q_ltF, q_leT, q_leF, q_eqT, q_eqF, ↓reduceIte, uN_s, uN_n, upN_app, uG_s, uG_n, uG_uG, if_true, if_false, Nat.reduceMul, Nat.reduceSub, Nat.reduceEqDiff, Nat.reduceLT, and_true, true_and, and_false, false_and, or_true, true_or, or_false, false_or, not_true_eq_false, not_false_eq_true, Option.some.injEq, wEg_froms, wEg_tos, wEg_least, wEg_layers, wEg_rows, wEg_lengths, wEg_uppers, wEg_lowers, wEg_near, wEg_medians, wEg_points, wEg_boxes, wEp_boxes, wEg_arrows, wEp_arrows, wEg_depth, wEp_depth, wEg_made, wEp_made, wEg_come, wEp_come, wEr_uppers, wEw_uppers, wEr_lowers, wEw_lowers, wEr_near, wEw_near, wEr_medians, wEw_medians, wEr_points, wEw_points, wEr_froms, wEw_froms, wEr_tos, wEw_tos, wEr_least, wEw_least, wEr_layers, wEw_layers, wEr_rows, wEw_rows, wEr_lengths, wEw_lengths, wE_kls, g0, k1, y2]
theorem x_isNeedless {k : Nat} (i : cI H g m (nb, na, fr, to, le, row, ma, co) hs kp tx) (hk : k < na) : cZ (d+40) MX1_isNeedless [.int (nI k)] H g m (.inl (.int (nI ((t_hb (fun j => j < na ∧ j ≠ k) fr to (to k) (fr k)).toNat)))) (nb, na, fr, to, le, row, ma, co) hs kp tx := by
  obtain ⟨h, G, N, rfl, hm, hq, c⟩ := cI_E i
  have ⟨g1, g2, kg, g0⟩ := cI_g i
  have s := c.2.1
  have a := cD_cA c
  have hd := cQ_dp a.2.1 s.1
  have s1 := s.1
  have s2 := s.2.1
  have hq1 : 1024 ≤ h.1 := by omega
  have k1 := x_arrow1 (d := d+33) (g := g) (x := nI k) hm hq kg g0 c ⟨k, hk, rfl⟩
  have ⟨e1, e2, e3, e4⟩ := s.2.2.2.2.1 k hk
  have ⟨h', y1, y2⟩ := c_listens (d := d+35) (h := h) (b := to k) (o := fr k) (bt := k) hm hq s e4 e3 (Or.inl (by omega))
  have rt := fun L hh => w_X1_isNeedless_32 (d+39) L _ hh (q_b01 (t_hb (fun j => j < na ∧ j ≠ k) fr to (to k) (fr k)))
  refine cZ_q hq i y1 (by omega) (by omega) (fun _ _ => rfl) ?_
  rw [e_X1_isNeedless]
  simp (disch := first | omega | assumption | exact Or.inl rfl | exact Or.inr rfl | exact wN_kls (by omega) | exact wE_kls (by omega) | (simp only [a_cat_nil, a_cat_int, a_cat_ref, a_cat_null, a_cat_long]; done) | (simp only [a_cat_nil, a_cat_int, a_cat_ref, a_cat_null, a_cat_long]; omega) | decide | rfl | (apply Or.inr; omega) | (apply Or.inl; omega)) only [w_X1_isNeedless_0, w_X1_isNeedless_1, w_X1_isNeedless_2, w_X1_isNeedless_5, w_X1_isNeedless_6, w_X1_isNeedless_7, w_X1_isNeedless_10, w_X1_isNeedless_11, w_X1_isNeedless_14, w_X1_isNeedless_17, w_X1_isNeedless_18, w_X1_isNeedless_19, w_X1_isNeedless_20, w_X1_isNeedless_23, w_X1_isNeedless_26, w_X1_isNeedless_27, w_X1_isNeedless_28, w_X1_isNeedless_29, w_ret, w_exc, Nat.reduceAdd, Option.toList_some, Option.toList_none, List.cons_append, List.nil_append, Option.bind_some, nI_add, q_mul, q_sub, q_eq, q_eqz, q_lt, q_ltz, q_gtz, q_le, q_lez, q_div, q_or, q_and, q_shl, q_shr, q_m1, q_eqm, q_meq, q_mm, q_mlt, q_mgt, q_mlt2, q_dec, Nat.add_sub_cancel, q_ltT, q_ltF, q_leT, q_leF, q_eqT, q_eqF, ↓reduceIte, uN_s, uN_n, upN_app, uG_s, uG_n, uG_uG, if_true, if_false, Nat.reduceMul, Nat.reduceSub, Nat.reduceEqDiff, Nat.reduceLT, and_true, true_and, and_false, false_and, or_true, true_or, or_false, false_or, not_true_eq_false, not_false_eq_true, Option.some.injEq, wEg_froms, wEg_tos, wEg_least, wEg_layers, wEg_rows, wEg_lengths, wEg_uppers, wEg_lowers, wEg_near, wEg_medians, wEg_points, wEg_boxes, wEp_boxes, wEg_arrows, wEp_arrows, wEg_depth, wEp_depth, wEg_made, wEp_made, wEg_come, wEp_come, wEr_uppers, wEw_uppers, wEr_lowers, wEw_lowers, wEr_near, wEw_near, wEr_medians, wEw_medians, wEr_points, wEw_points, wEr_froms, wEw_froms, wEr_tos, wEw_tos, wEr_least, wEw_least, wEr_layers, wEw_layers, wEr_rows, wEw_rows, wEr_lengths, wEw_lengths, wE_kls, g0, k1, e1, e2, y2, rt]
theorem x_spanOf {k : Nat} (i : cI H g m (nb, na, fr, to, le, row, ma, co) hs kp tx) (hk : k < na) : cZ (d+40) MX1_spanOf [.int (nI k)] H g m (.inl (.int (nI (t_ly na fr to le (to k) - t_ly na fr to le (fr k))))) (nb, na, fr, to, le, row, ma, co) hs kp tx := by
  obtain ⟨h, G, N, rfl, hm, hq, c⟩ := cI_E i
  have ⟨g1, g2, kg, g0⟩ := cI_g i
  have s := c.2.1
  have a := cD_cA c
  have hd := cQ_dp a.2.1 s.1
  have s1 := s.1
  have s2 := s.2.1
  have hq1 : 1024 ≤ h.1 := by omega
  have k1 := x_arrow1 (d := d+33) (g := g) (x := nI k) hm hq kg g0 c ⟨k, hk, rfl⟩
  have ⟨e1, e2, e3, e4⟩ := s.2.2.2.2.1 k hk
  have ⟨u1, u2⟩ := a.2.1.1 (to k) (by omega)
  have ⟨v1, v2⟩ := a.2.1.1 (fr k) (by omega)
  have lt := a.2.1.2.2.2 k hk
  refine cZ_0 hq i (fun _ _ => rfl) ?_
  rw [e_X1_spanOf]
  simp (disch := first | omega | assumption | exact Or.inl rfl | exact Or.inr rfl | exact wN_kls (by omega) | exact wE_kls (by omega) | (simp only [a_cat_nil, a_cat_int, a_cat_ref, a_cat_null, a_cat_long]; done) | (simp only [a_cat_nil, a_cat_int, a_cat_ref, a_cat_null, a_cat_long]; omega) | decide | rfl | (apply Or.inr; omega) | (apply Or.inl; omega)) only [w_X1_spanOf_0, w_X1_spanOf_1, w_X1_spanOf_2, w_X1_spanOf_5, w_X1_spanOf_6, w_X1_spanOf_7, w_X1_spanOf_10, w_X1_spanOf_13, w_X1_spanOf_14, w_X1_spanOf_17, w_X1_spanOf_20, w_X1_spanOf_21, w_X1_spanOf_22, w_X1_spanOf_23, w_X1_spanOf_24, w_X1_spanOf_27, w_X1_spanOf_30, w_X1_spanOf_31, w_X1_spanOf_34, w_X1_spanOf_37, w_X1_spanOf_38, w_X1_spanOf_39, w_X1_spanOf_40, w_X1_spanOf_41, w_ret, w_exc, Nat.reduceAdd, Option.toList_some, Option.toList_none, List.cons_append, List.nil_append, Option.bind_some, nI_add, q_mul, q_sub, q_eq, q_eqz, q_lt, q_ltz, q_gtz, q_le, q_lez, q_div, q_or, q_and, q_shl, q_shr, q_m1, q_eqm, q_meq, q_mm, q_mlt, q_mgt, q_mlt2, q_dec, Nat.add_sub_cancel, q_ltT, q_ltF, q_leT, q_leF, q_eqT, q_eqF, ↓reduceIte, uN_s, uN_n, upN_app, uG_s, uG_n, uG_uG, if_true, if_false, Nat.reduceMul, Nat.reduceSub, Nat.reduceEqDiff, Nat.reduceLT, and_true, true_and, and_false, false_and, or_true, true_or, or_false, false_or, not_true_eq_false, not_false_eq_true, Option.some.injEq, wEg_froms, wEg_tos, wEg_least, wEg_layers, wEg_rows, wEg_lengths, wEg_uppers, wEg_lowers, wEg_near, wEg_medians, wEg_points, wEg_boxes, wEp_boxes, wEg_arrows, wEp_arrows, wEg_depth, wEp_depth, wEg_made, wEp_made, wEg_come, wEp_come, wEr_uppers, wEw_uppers, wEr_lowers, wEw_lowers, wEr_near, wEw_near, wEr_medians, wEw_medians, wEr_points, wEw_points, wEr_froms, wEw_froms, wEr_tos, wEw_tos, wEr_least, wEw_least, wEr_layers, wEw_layers, wEr_rows, wEw_rows, wEr_lengths, wEw_lengths, wE_kls, g0, k1, e1, e2, u1, v1]
theorem x_crossingsOf {k : Nat} (i : cI H g m (nb, na, fr, to, le, row, ma, co) hs kp tx) (hk : k < na) : cZ (d+40) MX1_crossingsOf [.int (nI k)] H g m (.inl (.int (nI (t_xo nb na fr to (t_ly na fr to le) row k)))) (nb, na, fr, to, le, row, ma, co) hs kp tx := by
  obtain ⟨h, G, N, rfl, hm, hq, c⟩ := cI_E i
  have ⟨g1, g2, kg, g0⟩ := cI_g i
  have s := c.2.1
  have a := cD_cA c
  have hd := cQ_dp a.2.1 s.1
  have s1 := s.1
  have s2 := s.2.1
  have hq1 : 1024 ≤ h.1 := by omega
  have k1 := x_arrow1 (d := d+33) (g := g) (x := nI k) hm hq kg g0 c ⟨k, hk, rfl⟩
  have ⟨N', y1, y2⟩ := c_crossingsBy (d := d+34) (h := h) hm a hk
  refine cZ_0 hq i (fun j hj => y1 j (by omega) (by omega)) ?_
  rw [e_X1_crossingsOf]
  simp (disch := first | omega | assumption | exact Or.inl rfl | exact Or.inr rfl | exact wN_kls (by omega) | exact wE_kls (by omega) | (simp only [a_cat_nil, a_cat_int, a_cat_ref, a_cat_null, a_cat_long]; done) | (simp only [a_cat_nil, a_cat_int, a_cat_ref, a_cat_null, a_cat_long]; omega) | decide | rfl | (apply Or.inr; omega) | (apply Or.inl; omega)) only [w_X1_crossingsOf_0, w_X1_crossingsOf_1, w_X1_crossingsOf_4, w_X1_crossingsOf_5, w_X1_crossingsOf_6, w_X1_crossingsOf_9, w_X1_crossingsOf_12, w_ret, w_exc, Nat.reduceAdd, Option.toList_some, Option.toList_none, List.cons_append, List.nil_append, Option.bind_some, nI_add, q_mul, q_sub, q_eq, q_eqz, q_lt, q_ltz, q_gtz, q_le, q_lez, q_div, q_or, q_and, q_shl, q_shr, q_m1, q_eqm, q_meq, q_mm, q_mlt, q_mgt, q_mlt2, q_dec, Nat.add_sub_cancel, q_ltT, q_ltF, q_leT, q_leF, q_eqT, q_eqF, ↓reduceIte, uN_s, uN_n, upN_app, uG_s, uG_n, uG_uG, if_true, if_false, Nat.reduceMul, Nat.reduceSub, Nat.reduceEqDiff, Nat.reduceLT, and_true, true_and, and_false, false_and, or_true, true_or, or_false, false_or, not_true_eq_false, not_false_eq_true, Option.some.injEq, wEg_froms, wEg_tos, wEg_least, wEg_layers, wEg_rows, wEg_lengths, wEg_uppers, wEg_lowers, wEg_near, wEg_medians, wEg_points, wEg_boxes, wEp_boxes, wEg_arrows, wEp_arrows, wEg_depth, wEp_depth, wEg_made, wEp_made, wEg_come, wEp_come, wEr_uppers, wEw_uppers, wEr_lowers, wEw_lowers, wEr_near, wEw_near, wEr_medians, wEw_medians, wEr_points, wEw_points, wEr_froms, wEw_froms, wEr_tos, wEw_tos, wEr_least, wEw_least, wEr_layers, wEw_layers, wEr_rows, wEw_rows, wEr_lengths, wEw_lengths, wE_kls, g0, k1, y2]
theorem x_pointsOf {l : Nat} (i : cI H g m (nb, na, fr, to, le, row, ma, co) hs kp tx) (hl : l < t_dp (t_ly na fr to le) nb) : cZ (d+40) MX1_pointsOf [.int (nI l)] H g m (.inl (.int (nI (t_cn nb na fr to (t_ly na fr to le) l)))) (nb, na, fr, to, le, row, ma, co) hs kp tx := by
  obtain ⟨h, G, N, rfl, hm, hq, c⟩ := cI_E i
  have ⟨g1, g2, kg, g0⟩ := cI_g i
  have s := c.2.1
  have a := cD_cA c
  have hd := cQ_dp a.2.1 s.1
  have s1 := s.1
  have s2 := s.2.1
  have hq1 : 1024 ≤ h.1 := by omega
  have k1 := x_layer1 (d := d+33) (g := g) (x := nI l) hm hq kg g0 c ⟨l, hl, rfl⟩
  have y2 := a.2.1.2.1 l (by omega)
  refine cZ_0 hq i (fun _ _ => rfl) ?_
  rw [e_X1_pointsOf]
  simp (disch := first | omega | assumption | exact Or.inl rfl | exact Or.inr rfl | exact wN_kls (by omega) | exact wE_kls (by omega) | (simp only [a_cat_nil, a_cat_int, a_cat_ref, a_cat_null, a_cat_long]; done) | (simp only [a_cat_nil, a_cat_int, a_cat_ref, a_cat_null, a_cat_long]; omega) | decide | rfl | (apply Or.inr; omega) | (apply Or.inl; omega)) only [w_X1_pointsOf_0, w_X1_pointsOf_1, w_X1_pointsOf_4, w_X1_pointsOf_7, w_X1_pointsOf_8, w_X1_pointsOf_9, w_X1_pointsOf_12, w_X1_pointsOf_13, w_ret, w_exc, Nat.reduceAdd, Option.toList_some, Option.toList_none, List.cons_append, List.nil_append, Option.bind_some, nI_add, q_mul, q_sub, q_eq, q_eqz, q_lt, q_ltz, q_gtz, q_le, q_lez, q_div, q_or, q_and, q_shl, q_shr, q_m1, q_eqm, q_meq, q_mm, q_mlt, q_mgt, q_mlt2, q_dec, Nat.add_sub_cancel, q_ltT, q_ltF, q_leT, q_leF, q_eqT, q_eqF, ↓reduceIte, uN_s, uN_n, upN_app, uG_s, uG_n, uG_uG, if_true, if_false, Nat.reduceMul, Nat.reduceSub, Nat.reduceEqDiff, Nat.reduceLT, and_true, true_and, and_false, false_and, or_true, true_or, or_false, false_or, not_true_eq_false, not_false_eq_true, Option.some.injEq, wEg_froms, wEg_tos, wEg_least, wEg_layers, wEg_rows, wEg_lengths, wEg_uppers, wEg_lowers, wEg_near, wEg_medians, wEg_points, wEg_boxes, wEp_boxes, wEg_arrows, wEp_arrows, wEg_depth, wEp_depth, wEg_made, wEp_made, wEg_come, wEp_come, wEr_uppers, wEw_uppers, wEr_lowers, wEw_lowers, wEr_near, wEw_near, wEr_medians, wEw_medians, wEr_points, wEw_points, wEr_froms, wEw_froms, wEr_tos, wEw_tos, wEr_least, wEw_least, wEr_layers, wEw_layers, wEr_rows, wEw_rows, wEr_lengths, wEw_lengths, wE_kls, g0, k1, y2]
theorem x_ways {b o : Nat} (i : cI H g m (nb, na, fr, to, le, row, ma, co) hs kp tx) (hb : b < nb) (ho : o < nb) : cZ (d+40) MX1_ways [.int (nI b), .int (nI o)] H g m (.inl (.int (nI (t_G (t_wk 0) (t_wi 0 b) na fr to 25 o)))) (nb, na, fr, to, le, row, ma, co) hs kp tx := by
  obtain ⟨h, G, N, rfl, hm, hq, c⟩ := cI_E i
  have ⟨g1, g2, kg, g0⟩ := cI_g i
  have s := c.2.1
  have a := cD_cA c
  have hd := cQ_dp a.2.1 s.1
  have s1 := s.1
  have s2 := s.2.1
  have hq1 : 1024 ≤ h.1 := by omega
  have k1 := x_two1 (d := d+33) (g := g) (x := nI b) (z := nI o) hm hq kg g0 c ⟨⟨b, hb, rfl⟩, ⟨o, ho, rfl⟩⟩
  have ⟨f', y2⟩ := c_waysByLayers (d := d+38) (h := h) hm hq s a.2.1 hb ho
  refine cZ_q hq i (hX_B (n := 16) (f := f')) (by omega) (by omega) (fun _ _ => rfl) ?_
  rw [e_X1_ways]
  simp (disch := first | omega | assumption | exact Or.inl rfl | exact Or.inr rfl | exact wN_kls (by omega) | exact wE_kls (by omega) | (simp only [a_cat_nil, a_cat_int, a_cat_ref, a_cat_null, a_cat_long]; done) | (simp only [a_cat_nil, a_cat_int, a_cat_ref, a_cat_null, a_cat_long]; omega) | decide | rfl | (apply Or.inr; omega) | (apply Or.inl; omega)) only [w_X1_ways_0, w_X1_ways_1, w_X1_ways_2, w_X1_ways_3, w_X1_ways_6, w_X1_ways_7, w_X1_ways_10, w_X1_ways_11, w_X1_ways_12, w_X1_ways_15, w_ret, w_exc, Nat.reduceAdd, Option.toList_some, Option.toList_none, List.cons_append, List.nil_append, Option.bind_some, nI_add, q_mul, q_sub, q_eq, q_eqz, q_lt, q_ltz, q_gtz, q_le, q_lez, q_div, q_or, q_and, q_shl, q_shr, q_m1, q_eqm, q_meq, q_mm, q_mlt, q_mgt, q_mlt2, q_dec, Nat.add_sub_cancel, q_ltT, q_ltF, q_leT, q_leF, q_eqT, q_eqF, ↓reduceIte, uN_s, uN_n, upN_app, uG_s, uG_n, uG_uG, if_true, if_false, Nat.reduceMul, Nat.reduceSub, Nat.reduceEqDiff, Nat.reduceLT, and_true, true_and, and_false, false_and, or_true, true_or, or_false, false_or, not_true_eq_false, not_false_eq_true, Option.some.injEq, wEg_froms, wEg_tos, wEg_least, wEg_layers, wEg_rows, wEg_lengths, wEg_uppers, wEg_lowers, wEg_near, wEg_medians, wEg_points, wEg_boxes, wEp_boxes, wEg_arrows, wEp_arrows, wEg_depth, wEp_depth, wEg_made, wEp_made, wEg_come, wEp_come, wEr_uppers, wEw_uppers, wEr_lowers, wEw_lowers, wEr_near, wEw_near, wEr_medians, wEw_medians, wEr_points, wEw_points, wEr_froms, wEw_froms, wEr_tos, wEw_tos, wEr_least, wEw_least, wEr_layers, wEw_layers, wEr_rows, wEw_rows, wEr_lengths, wEw_lengths, wE_kls, g0, k1, y2]
theorem x_waysByGoingBack {b o : Nat} (i : cI H g m (nb, na, fr, to, le, row, ma, co) hs kp tx) (hb : b < nb) (ho : o < nb) : cZ (d+40) MX1_waysByGoingBack [.int (nI b), .int (nI o)] H g m (.inl (.int (nI (t_G (t_wk 0) (t_wi 0 b) na fr to 25 o)))) (nb, na, fr, to, le, row, ma, co) hs kp tx := by
  obtain ⟨h, G, N, rfl, hm, hq, c⟩ := cI_E i
  have ⟨g1, g2, kg, g0⟩ := cI_g i
  have s := c.2.1
  have a := cD_cA c
  have hd := cQ_dp a.2.1 s.1
  have s1 := s.1
  have s2 := s.2.1
  have hq1 : 1024 ≤ h.1 := by omega
  have k1 := x_two1 (d := d+33) (g := g) (x := nI b) (z := nI o) hm hq kg g0 c ⟨⟨b, hb, rfl⟩, ⟨o, ho, rfl⟩⟩
  have y2 := c_waysBack (d := d+13) (h := h) hm s a.2.1.2.2.2 (fun b hb => t_OK_y c.1 hb) (show b < 16 by omega) 25 o ho (Nat.le_of_lt (t_OK_y c.1 (by omega)))
  refine cZ_0 hq i (fun _ _ => rfl) ?_
  rw [e_X1_waysByGoingBack]
  simp (disch := first | omega | assumption | exact Or.inl rfl | exact Or.inr rfl | exact wN_kls (by omega) | exact wE_kls (by omega) | (simp only [a_cat_nil, a_cat_int, a_cat_ref, a_cat_null, a_cat_long]; done) | (simp only [a_cat_nil, a_cat_int, a_cat_ref, a_cat_null, a_cat_long]; omega) | decide | rfl | (apply Or.inr; omega) | (apply Or.inl; omega)) only [w_X1_waysByGoingBack_0, w_X1_waysByGoingBack_1, w_X1_waysByGoingBack_2, w_X1_waysByGoingBack_3, w_X1_waysByGoingBack_6, w_X1_waysByGoingBack_7, w_X1_waysByGoingBack_10, w_X1_waysByGoingBack_11, w_X1_waysByGoingBack_12, w_X1_waysByGoingBack_15, w_ret, w_exc, Nat.reduceAdd, Option.toList_some, Option.toList_none, List.cons_append, List.nil_append, Option.bind_some, nI_add, q_mul, q_sub, q_eq, q_eqz, q_lt, q_ltz, q_gtz, q_le, q_lez, q_div, q_or, q_and, q_shl, q_shr, q_m1, q_eqm, q_meq, q_mm, q_mlt, q_mgt, q_mlt2, q_dec, Nat.add_sub_cancel, q_ltT, q_ltF, q_leT, q_leF, q_eqT, q_eqF, ↓reduceIte, uN_s, uN_n, upN_app, uG_s, uG_n, uG_uG, if_true, if_false, Nat.reduceMul, Nat.reduceSub, Nat.reduceEqDiff, Nat.reduceLT, and_true, true_and, and_false, false_and, or_true, true_or, or_false, false_or, not_true_eq_false, not_false_eq_true, Option.some.injEq, wEg_froms, wEg_tos, wEg_least, wEg_layers, wEg_rows, wEg_lengths, wEg_uppers, wEg_lowers, wEg_near, wEg_medians, wEg_points, wEg_boxes, wEp_boxes, wEg_arrows, wEp_arrows, wEg_depth, wEp_depth, wEg_made, wEp_made, wEg_come, wEp_come, wEr_uppers, wEw_uppers, wEr_lowers, wEw_lowers, wEr_near, wEw_near, wEr_medians, wEw_medians, wEr_points, wEw_points, wEr_froms, wEw_froms, wEr_tos, wEw_tos, wEr_least, wEw_least, wEr_layers, wEw_layers, wEr_rows, wEw_rows, wEr_lengths, wEw_lengths, wE_kls, g0, k1, y2]
theorem x_pointAt {l p : Nat} (i : cI H g m (nb, na, fr, to, le, row, ma, co) hs kp tx) (hl : l < t_dp (t_ly na fr to le) nb) (hp : p < t_cn nb na fr to (t_ly na fr to le) l) : cZ (d+40) MX1_pointAt [.int (nI l), .int (nI p)] H g m (.inl (.int (nI (row l p)))) (nb, na, fr, to, le, row, ma, co) hs kp tx := by
  obtain ⟨h, G, N, rfl, hm, hq, c⟩ := cI_E i
  have ⟨g1, g2, kg, g0⟩ := cI_g i
  have s := c.2.1
  have a := cD_cA c
  have hd := cQ_dp a.2.1 s.1
  have s1 := s.1
  have s2 := s.2.1
  have hq1 : 1024 ≤ h.1 := by omega
  have k1 := x_point (d := d+33) (g := g) hm hq kg g0 c hl hp
  have y2 := c_point (d := d+38) (h := h) hm a (show l < 25 by omega) hp
  refine cZ_0 hq i (fun _ _ => rfl) ?_
  rw [e_X1_pointAt]
  simp (disch := first | omega | assumption | exact Or.inl rfl | exact Or.inr rfl | exact wN_kls (by omega) | exact wE_kls (by omega) | (simp only [a_cat_nil, a_cat_int, a_cat_ref, a_cat_null, a_cat_long]; done) | (simp only [a_cat_nil, a_cat_int, a_cat_ref, a_cat_null, a_cat_long]; omega) | decide | rfl | (apply Or.inr; omega) | (apply Or.inl; omega)) only [w_X1_pointAt_0, w_X1_pointAt_1, w_X1_pointAt_2, w_X1_pointAt_3, w_X1_pointAt_6, w_X1_pointAt_7, w_X1_pointAt_10, w_X1_pointAt_11, w_X1_pointAt_12, w_X1_pointAt_15, w_ret, w_exc, Nat.reduceAdd, Option.toList_some, Option.toList_none, List.cons_append, List.nil_append, Option.bind_some, nI_add, q_mul, q_sub, q_eq, q_eqz, q_lt, q_ltz, q_gtz, q_le, q_lez, q_div, q_or, q_and, q_shl, q_shr, q_m1, q_eqm, q_meq, q_mm, q_mlt, q_mgt, q_mlt2, q_dec, Nat.add_sub_cancel, q_ltT, q_ltF, q_leT, q_leF, q_eqT, q_eqF, ↓reduceIte, uN_s, uN_n, upN_app, uG_s, uG_n, uG_uG, if_true, if_false, Nat.reduceMul, Nat.reduceSub, Nat.reduceEqDiff, Nat.reduceLT, and_true, true_and, and_false, false_and, or_true, true_or, or_false, false_or, not_true_eq_false, not_false_eq_true, Option.some.injEq, wEg_froms, wEg_tos, wEg_least, wEg_layers, wEg_rows, wEg_lengths, wEg_uppers, wEg_lowers, wEg_near, wEg_medians, wEg_points, wEg_boxes, wEp_boxes, wEg_arrows, wEp_arrows, wEg_depth, wEp_depth, wEg_made, wEp_made, wEg_come, wEp_come, wEr_uppers, wEw_uppers, wEr_lowers, wEw_lowers, wEr_near, wEw_near, wEr_medians, wEw_medians, wEr_points, wEw_points, wEr_froms, wEw_froms, wEr_tos, wEw_tos, wEr_least, wEw_least, wEr_layers, wEw_layers, wEr_rows, wEw_rows, wEr_lengths, wEw_lengths, wE_kls, g0, k1, y2]
theorem x_medianAbove {l p : Nat} (i : cI H g m (nb, na, fr, to, le, row, ma, co) hs kp tx) (hl : l < t_dp (t_ly na fr to le) nb) (hp : p < t_cn nb na fr to (t_ly na fr to le) l) : cZ (d+40) MX1_medianAbove [.int (nI l), .int (nI p)] H g m (.inl (.int (nI (t_md nb na fr to (t_ly na fr to le) row true l p)))) (nb, na, fr, to, le, row, ma, co) hs kp tx := by
  obtain ⟨h, G, N, rfl, hm, hq, c⟩ := cI_E i
  have ⟨g1, g2, kg, g0⟩ := cI_g i
  have s := c.2.1
  have a := cD_cA c
  have hd := cQ_dp a.2.1 s.1
  have s1 := s.1
  have s2 := s.2.1
  have hq1 : 1024 ≤ h.1 := by omega
  have k1 := x_point (d := d+33) (g := g) hm hq kg g0 c hl hp
  have ⟨N', y1, y2⟩ := c_median (d := d+34) (h := h) (up := true) hm a (show l < 25 by omega) hp
  rw [Bool.toNat_true] at y2
  refine cZ_0 hq i (fun j hj => y1 j (by omega)) ?_
  rw [e_X1_medianAbove]
  simp (disch := first | omega | assumption | exact Or.inl rfl | exact Or.inr rfl | exact wN_kls (by omega) | exact wE_kls (by omega) | (simp only [a_cat_nil, a_cat_int, a_cat_ref, a_cat_null, a_cat_long]; done) | (simp only [a_cat_nil, a_cat_int, a_cat_ref, a_cat_null, a_cat_long]; omega) | decide | rfl | (apply Or.inr; omega) | (apply Or.inl; omega)) only [w_X1_medianAbove_0, w_X1_medianAbove_1, w_X1_medianAbove_2, w_X1_medianAbove_3, w_X1_medianAbove_6, w_X1_medianAbove_7, w_X1_medianAbove_10, w_X1_medianAbove_11, w_X1_medianAbove_12, w_X1_medianAbove_13, w_X1_medianAbove_16, w_ret, w_exc, Nat.reduceAdd, Option.toList_some, Option.toList_none, List.cons_append, List.nil_append, Option.bind_some, nI_add, q_mul, q_sub, q_eq, q_eqz, q_lt, q_ltz, q_gtz, q_le, q_lez, q_div, q_or, q_and, q_shl, q_shr, q_m1, q_eqm, q_meq, q_mm, q_mlt, q_mgt, q_mlt2, q_dec, Nat.add_sub_cancel, q_ltT, q_ltF, q_leT, q_leF, q_eqT, q_eqF, ↓reduceIte, uN_s, uN_n, upN_app, uG_s, uG_n, uG_uG, if_true, if_false, Nat.reduceMul, Nat.reduceSub, Nat.reduceEqDiff, Nat.reduceLT, and_true, true_and, and_false, false_and, or_true, true_or, or_false, false_or, not_true_eq_false, not_false_eq_true, Option.some.injEq, wEg_froms, wEg_tos, wEg_least, wEg_layers, wEg_rows, wEg_lengths, wEg_uppers, wEg_lowers, wEg_near, wEg_medians, wEg_points, wEg_boxes, wEp_boxes, wEg_arrows, wEp_arrows, wEg_depth, wEp_depth, wEg_made, wEp_made, wEg_come, wEp_come, wEr_uppers, wEw_uppers, wEr_lowers, wEw_lowers, wEr_near, wEw_near, wEr_medians, wEw_medians, wEr_points, wEw_points, wEr_froms, wEw_froms, wEr_tos, wEw_tos, wEr_least, wEw_least, wEr_layers, wEw_layers, wEr_rows, wEw_rows, wEr_lengths, wEw_lengths, wE_kls, g0, k1, y2]
theorem x_medianBelow {l p : Nat} (i : cI H g m (nb, na, fr, to, le, row, ma, co) hs kp tx) (hl : l < t_dp (t_ly na fr to le) nb) (hp : p < t_cn nb na fr to (t_ly na fr to le) l) : cZ (d+40) MX1_medianBelow [.int (nI l), .int (nI p)] H g m (.inl (.int (nI (t_md nb na fr to (t_ly na fr to le) row false l p)))) (nb, na, fr, to, le, row, ma, co) hs kp tx := by
  obtain ⟨h, G, N, rfl, hm, hq, c⟩ := cI_E i
  have ⟨g1, g2, kg, g0⟩ := cI_g i
  have s := c.2.1
  have a := cD_cA c
  have hd := cQ_dp a.2.1 s.1
  have s1 := s.1
  have s2 := s.2.1
  have hq1 : 1024 ≤ h.1 := by omega
  have k1 := x_point (d := d+33) (g := g) hm hq kg g0 c hl hp
  have ⟨N', y1, y2⟩ := c_median (d := d+34) (h := h) (up := false) hm a (show l < 25 by omega) hp
  rw [Bool.toNat_false] at y2
  refine cZ_0 hq i (fun j hj => y1 j (by omega)) ?_
  rw [e_X1_medianBelow]
  simp (disch := first | omega | assumption | exact Or.inl rfl | exact Or.inr rfl | exact wN_kls (by omega) | exact wE_kls (by omega) | (simp only [a_cat_nil, a_cat_int, a_cat_ref, a_cat_null, a_cat_long]; done) | (simp only [a_cat_nil, a_cat_int, a_cat_ref, a_cat_null, a_cat_long]; omega) | decide | rfl | (apply Or.inr; omega) | (apply Or.inl; omega)) only [w_X1_medianBelow_0, w_X1_medianBelow_1, w_X1_medianBelow_2, w_X1_medianBelow_3, w_X1_medianBelow_6, w_X1_medianBelow_7, w_X1_medianBelow_10, w_X1_medianBelow_11, w_X1_medianBelow_12, w_X1_medianBelow_13, w_X1_medianBelow_16, w_ret, w_exc, Nat.reduceAdd, Option.toList_some, Option.toList_none, List.cons_append, List.nil_append, Option.bind_some, nI_add, q_mul, q_sub, q_eq, q_eqz, q_lt, q_ltz, q_gtz, q_le, q_lez, q_div, q_or, q_and, q_shl, q_shr, q_m1, q_eqm, q_meq, q_mm, q_mlt, q_mgt, q_mlt2, q_dec, Nat.add_sub_cancel, q_ltT, q_ltF, q_leT, q_leF, q_eqT, q_eqF, ↓reduceIte, uN_s, uN_n, upN_app, uG_s, uG_n, uG_uG, if_true, if_false, Nat.reduceMul, Nat.reduceSub, Nat.reduceEqDiff, Nat.reduceLT, and_true, true_and, and_false, false_and, or_true, true_or, or_false, false_or, not_true_eq_false, not_false_eq_true, Option.some.injEq, wEg_froms, wEg_tos, wEg_least, wEg_layers, wEg_rows, wEg_lengths, wEg_uppers, wEg_lowers, wEg_near, wEg_medians, wEg_points, wEg_boxes, wEp_boxes, wEg_arrows, wEp_arrows, wEg_depth, wEp_depth, wEg_made, wEp_made, wEg_come, wEp_come, wEr_uppers, wEw_uppers, wEr_lowers, wEw_lowers, wEr_near, wEw_near, wEr_medians, wEw_medians, wEr_points, wEw_points, wEr_froms, wEw_froms, wEr_tos, wEw_tos, wEr_least, wEw_least, wEr_layers, wEw_layers, wEr_rows, wEw_rows, wEr_lengths, wEw_lengths, wE_kls, g0, k1, y2]
end X1
