theorem t_wk_bd {W box na : Nat} {fr to y : Nat → Nat} (hW : W ≠ 0) (hy : ∀ k, k < na → y (fr k) < y (to k)) : ∀ n b, t_G (t_wk W) (t_wi W box) na fr to n b = 4294967295 ∨ t_G (t_wk W) (t_wi W box) na fr to n b ≤ y b := by
  have w0 : ∀ b, t_wi W box b = 4294967295 ∨ t_wi W box b ≤ y b := fun b => by
    unfold t_wi
    by_cases e : b = box
    · rw [if_pos e, if_neg hW]; exact Or.inr (Nat.zero_le _)
    · rw [if_neg e, if_neg hW]; exact Or.inl rfl
  intro n
  induction n with
  | zero => exact w0
  | succ n ih =>
    intro b
    have key : ∀ k, k ≤ na → t_fo (t_wk W) (t_wi W box) fr to b (t_G (t_wk W) (t_wi W box) na fr to n) k = 4294967295 ∨ t_fo (t_wk W) (t_wi W box) fr to b (t_G (t_wk W) (t_wi W box) na fr to n) k ≤ y b := by
      intro k
      induction k with
      | zero => intro _; exact w0 b
      | succ k ihk =>
        intro hk
        have a1 := ihk (by omega)
        have a2 := ih (fr k)
        have a3 := hy k (by omega)
        unfold t_fo
        split
        · next e =>
          rw [e] at a3
          revert a1 a2
          generalize t_fo (t_wk W) (t_wi W box) fr to b (t_G (t_wk W) (t_wi W box) na fr to n) k = acc
          generalize t_G (t_wk W) (t_wi W box) na fr to n (fr k) = src
          intro a1 a2
          unfold t_wk
          rw [if_neg hW]
          repeat' split
          all_goals omega
        · exact a1
    exact key na (Nat.le_refl _)
theorem gf_keep {h h' : a_H} {a b g m k : Nat} {cs : List Nat} {G G' : Nat → Nat} {N N' : Nat → Nat → Nat} (x : hX h h' a b) (hg : g < h.1) (ho : g < m ∨ m + 11 < g) : a_gf (wE h' m G' N') g k cs = a_gf (wE h m G N) g k cs := by
  rw [wE_gfo ho, wE_gfo ho]
  unfold a_gf
  rw [x.2.2.2 g hg]
theorem gf_hO {h : a_H} {g k c : Nat} {cs : List Nat} {vs : List Value} (hg : g < h.1) : a_gf (hO h c vs) g k cs = a_gf h g k cs := by
  unfold a_gf
  rw [hO_ne (Nat.ne_of_lt hg)]
section X2
variable {d : Nat} {H : a_H} {g m nb na ma co : Nat} {fr to le : Nat → Nat} {row : Nat → Nat → Nat} {hs : List t_D} {kp : Option t_D} {tx : List Nat}
theorem x_crossingsBelow {l : Nat} (i : cI H g m (nb, na, fr, to, le, row, ma, co) hs kp tx) (hl : l < t_dp (t_ly na fr to le) nb) : cZ (d+40) MX1_crossingsBelow [.int (nI l)] H g m (.inl (.int (nI (if l + 1 < t_dp (t_ly na fr to le) nb then t_ca nb na fr to (t_ly na fr to le) row l else 0)))) (nb, na, fr, to, le, row, ma, co) hs kp tx := by
  obtain ⟨h, G, N, rfl, hm, hq, c⟩ := cI_E i
  have ⟨g1, g2, kg, g0⟩ := cI_g i
  have s := c.2.1
  have a := cD_cA c
  have hd := cQ_dp a.2.1 s.1
  have s1 := s.1
  have s2 := s.2.1
  have hq1 : 1024 ≤ h.1 := by omega
  have k1 := x_layer1 (d := d+33) (g := g) (x := nI l) hm hq kg g0 c ⟨l, hl, rfl⟩
  have e := c.2.2.1.2.2.1
  by_cases q : l + 1 < t_dp (t_ly na fr to le) nb
  · rw [if_pos q]
    have ⟨N', y1, y2⟩ := c_crossingsAt (d := d+34) (h := h) hm a (show l < 900 by omega)
    refine cZ_0 hq i (fun j hj => y1 j (by omega) (by omega)) ?_
    rw [e_X1_crossingsBelow]
    simp (disch := first | omega | assumption | exact Or.inl rfl | exact Or.inr rfl | exact wN_kls (by omega) | exact wE_kls (by omega) | (simp only [a_cat_nil, a_cat_int, a_cat_ref, a_cat_null, a_cat_long]; done) | (simp only [a_cat_nil, a_cat_int, a_cat_ref, a_cat_null, a_cat_long]; omega) | decide | rfl | (apply Or.inr; omega) | (apply Or.inl; omega)) only [w_X1_crossingsBelow_0, w_X1_crossingsBelow_1, w_X1_crossingsBelow_2, w_X1_crossingsBelow_5, w_X1_crossingsBelow_6, w_X1_crossingsBelow_7, w_X1_crossingsBelow_8, w_X1_crossingsBelow_9, w_X1_crossingsBelow_10, w_X1_crossingsBelow_13, w_X1_crossingsBelow_16, w_X1_crossingsBelow_19, w_X1_crossingsBelow_20, w_X1_crossingsBelow_23, w_X1_crossingsBelow_24, w_X1_crossingsBelow_27, w_X1_crossingsBelow_30, w_X1_crossingsBelow_31, w_ret, w_exc, Nat.reduceAdd, Option.toList_some, Option.toList_none, List.cons_append, List.nil_append, Option.bind_some, nI_add, q_mul, q_sub, q_eq, q_eqz, q_lt, q_ltz, q_gtz, q_le, q_lez, q_div, q_or, q_and, q_shl, q_shr, q_m1, q_eqm, q_meq, q_mm, q_mlt, q_mgt, q_mlt2, q_dec, Nat.add_sub_cancel, q_ltT, q_ltF, q_leT, q_leF, q_eqT, q_eqF, ↓reduceIte, uN_s, uN_n, upN_app, uG_s, uG_n, uG_uG, if_true, if_false, Nat.reduceMul, Nat.reduceSub, Nat.reduceEqDiff, Nat.reduceLT, and_true, true_and, and_false, false_and, or_true, true_or, or_false, false_or, not_true_eq_false, not_false_eq_true, Option.some.injEq, wEg_froms, wEg_tos, wEg_least, wEg_layers, wEg_rows, wEg_lengths, wEg_uppers, wEg_lowers, wEg_near, wEg_medians, wEg_points, wEg_boxes, wEp_boxes, wEg_arrows, wEp_arrows, wEg_depth, wEp_depth, wEg_made, wEp_made, wEg_come, wEp_come, wEr_uppers, wEw_uppers, wEr_lowers, wEw_lowers, wEr_near, wEw_near, wEr_medians, wEw_medians, wEr_points, wEw_points, wEr_froms, wEw_froms, wEr_tos, wEw_tos, wEr_least, wEw_least, wEr_layers, wEw_layers, wEr_rows, wEw_rows, wEr_lengths, wEw_lengths, wE_kls, g0, k1, e, y2]
  · rw [if_neg q]
    refine cZ_0 hq i (fun _ _ => rfl) ?_
    rw [e_X1_crossingsBelow]
    simp (disch := first | omega | assumption | exact Or.inl rfl | exact Or.inr rfl | exact wN_kls (by omega) | exact wE_kls (by omega) | (simp only [a_cat_nil, a_cat_int, a_cat_ref, a_cat_null, a_cat_long]; done) | (simp only [a_cat_nil, a_cat_int, a_cat_ref, a_cat_null, a_cat_long]; omega) | decide | rfl | (apply Or.inr; omega) | (apply Or.inl; omega)) only [w_X1_crossingsBelow_0, w_X1_crossingsBelow_1, w_X1_crossingsBelow_2, w_X1_crossingsBelow_5, w_X1_crossingsBelow_6, w_X1_crossingsBelow_7, w_X1_crossingsBelow_8, w_X1_crossingsBelow_9, w_X1_crossingsBelow_10, w_X1_crossingsBelow_13, w_X1_crossingsBelow_16, w_X1_crossingsBelow_19, w_X1_crossingsBelow_20, w_X1_crossingsBelow_23, w_X1_crossingsBelow_24, w_X1_crossingsBelow_27, w_X1_crossingsBelow_30, w_X1_crossingsBelow_31, w_ret, w_exc, Nat.reduceAdd, Option.toList_some, Option.toList_none, List.cons_append, List.nil_append, Option.bind_some, nI_add, q_mul, q_sub, q_eq, q_eqz, q_lt, q_ltz, q_gtz, q_le, q_lez, q_div, q_or, q_and, q_shl, q_shr, q_m1, q_eqm, q_meq, q_mm, q_mlt, q_mgt, q_mlt2, q_dec, Nat.add_sub_cancel, q_ltT, q_ltF, q_leT, q_leF, q_eqT, q_eqF, ↓reduceIte, uN_s, uN_n, upN_app, uG_s, uG_n, uG_uG, if_true, if_false, Nat.reduceMul, Nat.reduceSub, Nat.reduceEqDiff, Nat.reduceLT, and_true, true_and, and_false, false_and, or_true, true_or, or_false, false_or, not_true_eq_false, not_false_eq_true, Option.some.injEq, wEg_froms, wEg_tos, wEg_least, wEg_layers, wEg_rows, wEg_lengths, wEg_uppers, wEg_lowers, wEg_near, wEg_medians, wEg_points, wEg_boxes, wEp_boxes, wEg_arrows, wEp_arrows, wEg_depth, wEp_depth, wEg_made, wEp_made, wEg_come, wEp_come, wEr_uppers, wEw_uppers, wEr_lowers, wEw_lowers, wEr_near, wEw_near, wEr_medians, wEw_medians, wEr_points, wEw_points, wEr_froms, wEw_froms, wEr_tos, wEw_tos, wEr_least, wEw_least, wEr_layers, wEw_layers, wEr_rows, wEw_rows, wEr_lengths, wEw_lengths, wE_kls, g0, k1, e]
theorem x_placeOf {b : Nat} (i : cI H g m (nb, na, fr, to, le, row, ma, co) hs kp tx) (hb : b < nb) : cZ (d+40) MX1_placeOf [.int (nI b)] H g m (.inl (.int (nI (t_fd (row ((t_ly na fr to le) b)) b (t_cn nb na fr to (t_ly na fr to le) ((t_ly na fr to le) b)))))) (nb, na, fr, to, le, row, ma, co) hs kp tx := by
  obtain ⟨h, G, N, rfl, hm, hq, c⟩ := cI_E i
  have ⟨g1, g2, kg, g0⟩ := cI_g i
  have s := c.2.1
  have a := cD_cA c
  have hd := cQ_dp a.2.1 s.1
  have s1 := s.1
  have s2 := s.2.1
  have hq1 : 1024 ≤ h.1 := by omega
  have k1 := x_known1 (d := d+33) (g := g) (x := nI b) hm hq kg g0 c ⟨b, hb, rfl⟩
  have ⟨e, e2⟩ := a.2.1.1 b (by omega)
  have ⟨f1, f2, f3⟩ := t_fd_sp (f := row ((t_ly na fr to le) b)) (x := b) _ ((a.2.2.2 ((t_ly na fr to le) b)).2.1 b (Or.inl ⟨hb, rfl⟩))
  have c2 := c_place (d := d+37) (h := h) hm a (show (t_ly na fr to le) b < 25 by omega) f1
  rw [f2] at c2
  refine cZ_0 hq i (fun _ _ => rfl) ?_
  rw [e_X1_placeOf]
  simp (disch := first | omega | assumption | exact Or.inl rfl | exact Or.inr rfl | exact wN_kls (by omega) | exact wE_kls (by omega) | (simp only [a_cat_nil, a_cat_int, a_cat_ref, a_cat_null, a_cat_long]; done) | (simp only [a_cat_nil, a_cat_int, a_cat_ref, a_cat_null, a_cat_long]; omega) | decide | rfl | (apply Or.inr; omega) | (apply Or.inl; omega)) only [w_X1_placeOf_0, w_X1_placeOf_1, w_X1_placeOf_4, w_X1_placeOf_5, w_X1_placeOf_8, w_X1_placeOf_11, w_X1_placeOf_12, w_X1_placeOf_13, w_X1_placeOf_16, w_X1_placeOf_17, w_X1_placeOf_18, w_X1_placeOf_21, w_ret, w_exc, Nat.reduceAdd, Option.toList_some, Option.toList_none, List.cons_append, List.nil_append, Option.bind_some, nI_add, q_mul, q_sub, q_eq, q_eqz, q_lt, q_ltz, q_gtz, q_le, q_lez, q_div, q_or, q_and, q_shl, q_shr, q_m1, q_eqm, q_meq, q_mm, q_mlt, q_mgt, q_mlt2, q_dec, Nat.add_sub_cancel, q_ltT, q_ltF, q_leT, q_leF, q_eqT, q_eqF, ↓reduceIte, uN_s, uN_n, upN_app, uG_s, uG_n, uG_uG, if_true, if_false, Nat.reduceMul, Nat.reduceSub, Nat.reduceEqDiff, Nat.reduceLT, and_true, true_and, and_false, false_and, or_true, true_or, or_false, false_or, not_true_eq_false, not_false_eq_true, Option.some.injEq, wEg_froms, wEg_tos, wEg_least, wEg_layers, wEg_rows, wEg_lengths, wEg_uppers, wEg_lowers, wEg_near, wEg_medians, wEg_points, wEg_boxes, wEp_boxes, wEg_arrows, wEp_arrows, wEg_depth, wEp_depth, wEg_made, wEp_made, wEg_come, wEp_come, wEr_uppers, wEw_uppers, wEr_lowers, wEw_lowers, wEr_near, wEw_near, wEr_medians, wEw_medians, wEr_points, wEw_points, wEr_froms, wEw_froms, wEr_tos, wEw_tos, wEr_least, wEw_least, wEr_layers, wEw_layers, wEr_rows, wEw_rows, wEr_lengths, wEw_lengths, wE_kls, g0, k1, e, c2]
theorem x_fewestArrows2 {b o : Nat} (i : cI H g m (nb, na, fr, to, le, row, ma, co) hs kp tx) (hb : b < nb) (ho : o < nb) (q : t_G (t_wk 1) (t_wi 1 b) na fr to 25 o = 4294967295) : cZ (d+40) MX1_fewestArrows [.int (nI b), .int (nI o)] H g m (.inr 10) (nb, na, fr, to, le, row, ma, co) hs kp tx := by
  obtain ⟨h, G, N, rfl, hm, hq, c⟩ := cI_E i
  have ⟨g1, g2, kg, g0⟩ := cI_g i
  have s := c.2.1
  have a := cD_cA c
  have hd := cQ_dp a.2.1 s.1
  have s1 := s.1
  have s2 := s.2.1
  have hq1 : 1024 ≤ h.1 := by omega
  have k1 := x_two1 (d := d+33) (g := g) (x := nI b) (z := nI o) hm hq kg g0 c ⟨⟨b, hb, rfl⟩, ⟨o, ho, rfl⟩⟩
  have ⟨f', y2⟩ := c_arrowsOn (d := d+38) (h := h) (up := true) (W := 1) hm hq rfl s a.2.1 hb ho
  rw [Bool.toNat_true, q] at y2
  have ⟨h2, z1, z2, ⟨t, z3⟩, z4⟩ := k_there0 (d := d+33) (h := wE (hB h 16 f') m G N) (show 1024 ≤ h.1 + 1 by omega)
  have ⟨h3, w1, w2⟩ := wE_lift z1 (show m + 11 < h.1 + 1 by omega)
  subst w1
  have t4 := fun pc L => w_thr0 (d := d+39) (M := MX1_fewestArrows) (pc := pc) (L := L) (a_cls_o z3) (show 1024 ≤ h.1 + 1 by omega) rfl
  refine cZ_t hq i (hX_tr (hX_B (n := 16) (f := f')) w2) (by omega) (by omega) (fun _ _ => rfl) (show 1024 ≤ h.1 + 1 by omega) z3 ?_
  rw [e_X1_fewestArrows]
  simp (disch := first | omega | assumption | exact Or.inl rfl | exact Or.inr rfl | exact wN_kls (by omega) | exact wE_kls (by omega) | (simp only [a_cat_nil, a_cat_int, a_cat_ref, a_cat_null, a_cat_long]; done) | (simp only [a_cat_nil, a_cat_int, a_cat_ref, a_cat_null, a_cat_long]; omega) | decide | rfl | (apply Or.inr; omega) | (apply Or.inl; omega)) only [w_X1_fewestArrows_0, w_X1_fewestArrows_1, w_X1_fewestArrows_2, w_X1_fewestArrows_3, w_X1_fewestArrows_6, w_X1_fewestArrows_7, w_X1_fewestArrows_10, w_X1_fewestArrows_11, w_X1_fewestArrows_12, w_X1_fewestArrows_13, w_X1_fewestArrows_16, w_X1_fewestArrows_19, w_ret, w_exc, Nat.reduceAdd, Option.toList_some, Option.toList_none, List.cons_append, List.nil_append, Option.bind_some, nI_add, q_mul, q_sub, q_eq, q_eqz, q_lt, q_ltz, q_gtz, q_le, q_lez, q_div, q_or, q_and, q_shl, q_shr, q_m1, q_eqm, q_meq, q_mm, q_mlt, q_mgt, q_mlt2, q_dec, Nat.add_sub_cancel, q_ltT, q_ltF, q_leT, q_leF, q_eqT, q_eqF, ↓reduceIte, uN_s, uN_n, upN_app, uG_s, uG_n, uG_uG, if_true, if_false, Nat.reduceMul, Nat.reduceSub, Nat.reduceEqDiff, Nat.reduceLT, and_true, true_and, and_false, false_and, or_true, true_or, or_false, false_or, not_true_eq_false, not_false_eq_true, Option.some.injEq, wEg_froms, wEg_tos, wEg_least, wEg_layers, wEg_rows, wEg_lengths, wEg_uppers, wEg_lowers, wEg_near, wEg_medians, wEg_points, wEg_boxes, wEp_boxes, wEg_arrows, wEp_arrows, wEg_depth, wEp_depth, wEg_made, wEp_made, wEg_come, wEp_come, wEr_uppers, wEw_uppers, wEr_lowers, wEw_lowers, wEr_near, wEw_near, wEr_medians, wEw_medians, wEr_points, wEw_points, wEr_froms, wEw_froms, wEr_tos, wEw_tos, wEr_least, wEw_least, wEr_layers, wEw_layers, wEr_rows, wEw_rows, wEr_lengths, wEw_lengths, wE_kls, g0, k1, y2, z4, t4]
  rfl
theorem x_fewestArrows {b o : Nat} (i : cI H g m (nb, na, fr, to, le, row, ma, co) hs kp tx) (hb : b < nb) (ho : o < nb) (q : t_G (t_wk 1) (t_wi 1 b) na fr to 25 o ≠ 4294967295) : cZ (d+40) MX1_fewestArrows [.int (nI b), .int (nI o)] H g m (.inl (.int (nI (t_G (t_wk 1) (t_wi 1 b) na fr to 25 o)))) (nb, na, fr, to, le, row, ma, co) hs kp tx := by
  obtain ⟨h, G, N, rfl, hm, hq, c⟩ := cI_E i
  have ⟨g1, g2, kg, g0⟩ := cI_g i
  have s := c.2.1
  have a := cD_cA c
  have hd := cQ_dp a.2.1 s.1
  have s1 := s.1
  have s2 := s.2.1
  have hq1 : 1024 ≤ h.1 := by omega
  have k1 := x_two1 (d := d+33) (g := g) (x := nI b) (z := nI o) hm hq kg g0 c ⟨⟨b, hb, rfl⟩, ⟨o, ho, rfl⟩⟩
  have ⟨f', y2⟩ := c_arrowsOn (d := d+38) (h := h) (up := true) (W := 1) hm hq rfl s a.2.1 hb ho
  have bd := t_wk_bd (W := 1) (box := b) (na := na) (fr := fr) (to := to) (by decide) a.2.1.2.2.2 25 o
  have yb := (a.2.1.1 o (by omega)).2
  rw [Bool.toNat_true] at y2
  have th := k_there1 (d := d+33) (h := wE (hB h 16 f') m G N) (k := t_G (t_wk 1) (t_wi 1 b) na fr to 25 o) (by omega)
  refine cZ_q hq i (hX_B (n := 16) (f := f')) (by omega) (by omega) (fun _ _ => rfl) ?_
  rw [e_X1_fewestArrows]
  simp (disch := first | omega | assumption | exact Or.inl rfl | exact Or.inr rfl | exact wN_kls (by omega) | exact wE_kls (by omega) | (simp only [a_cat_nil, a_cat_int, a_cat_ref, a_cat_null, a_cat_long]; done) | (simp only [a_cat_nil, a_cat_int, a_cat_ref, a_cat_null, a_cat_long]; omega) | decide | rfl | (apply Or.inr; omega) | (apply Or.inl; omega)) only [w_X1_fewestArrows_0, w_X1_fewestArrows_1, w_X1_fewestArrows_2, w_X1_fewestArrows_3, w_X1_fewestArrows_6, w_X1_fewestArrows_7, w_X1_fewestArrows_10, w_X1_fewestArrows_11, w_X1_fewestArrows_12, w_X1_fewestArrows_13, w_X1_fewestArrows_16, w_X1_fewestArrows_19, w_ret, w_exc, Nat.reduceAdd, Option.toList_some, Option.toList_none, List.cons_append, List.nil_append, Option.bind_some, nI_add, q_mul, q_sub, q_eq, q_eqz, q_lt, q_ltz, q_gtz, q_le, q_lez, q_div, q_or, q_and, q_shl, q_shr, q_m1, q_eqm, q_meq, q_mm, q_mlt, q_mgt, q_mlt2, q_dec, Nat.add_sub_cancel, q_ltT, q_ltF, q_leT, q_leF, q_eqT, q_eqF, ↓reduceIte, uN_s, uN_n, upN_app, uG_s, uG_n, uG_uG, if_true, if_false, Nat.reduceMul, Nat.reduceSub, Nat.reduceEqDiff, Nat.reduceLT, and_true, true_and, and_false, false_and, or_true, true_or, or_false, false_or, not_true_eq_false, not_false_eq_true, Option.some.injEq, wEg_froms, wEg_tos, wEg_least, wEg_layers, wEg_rows, wEg_lengths, wEg_uppers, wEg_lowers, wEg_near, wEg_medians, wEg_points, wEg_boxes, wEp_boxes, wEg_arrows, wEp_arrows, wEg_depth, wEp_depth, wEg_made, wEp_made, wEg_come, wEp_come, wEr_uppers, wEw_uppers, wEr_lowers, wEw_lowers, wEr_near, wEw_near, wEr_medians, wEw_medians, wEr_points, wEw_points, wEr_froms, wEw_froms, wEr_tos, wEw_tos, wEr_least, wEw_least, wEr_layers, wEw_layers, wEr_rows, wEw_rows, wEr_lengths, wEw_lengths, wE_kls, g0, k1, y2, th]
theorem x_mostArrows2 {b o : Nat} (i : cI H g m (nb, na, fr, to, le, row, ma, co) hs kp tx) (hb : b < nb) (ho : o < nb) (q : t_G (t_wk 2) (t_wi 2 b) na fr to 25 o = 4294967295) : cZ (d+40) MX1_mostArrows [.int (nI b), .int (nI o)] H g m (.inr 10) (nb, na, fr, to, le, row, ma, co) hs kp tx := by
  obtain ⟨h, G, N, rfl, hm, hq, c⟩ := cI_E i
  have ⟨g1, g2, kg, g0⟩ := cI_g i
  have s := c.2.1
  have a := cD_cA c
  have hd := cQ_dp a.2.1 s.1
  have s1 := s.1
  have s2 := s.2.1
  have hq1 : 1024 ≤ h.1 := by omega
  have k1 := x_two1 (d := d+33) (g := g) (x := nI b) (z := nI o) hm hq kg g0 c ⟨⟨b, hb, rfl⟩, ⟨o, ho, rfl⟩⟩
  have ⟨f', y2⟩ := c_arrowsOn (d := d+38) (h := h) (up := false) (W := 2) hm hq rfl s a.2.1 hb ho
  rw [Bool.toNat_false, q] at y2
  have ⟨h2, z1, z2, ⟨t, z3⟩, z4⟩ := k_there0 (d := d+33) (h := wE (hB h 16 f') m G N) (show 1024 ≤ h.1 + 1 by omega)
  have ⟨h3, w1, w2⟩ := wE_lift z1 (show m + 11 < h.1 + 1 by omega)
  subst w1
  have t4 := fun pc L => w_thr0 (d := d+39) (M := MX1_mostArrows) (pc := pc) (L := L) (a_cls_o z3) (show 1024 ≤ h.1 + 1 by omega) rfl
  refine cZ_t hq i (hX_tr (hX_B (n := 16) (f := f')) w2) (by omega) (by omega) (fun _ _ => rfl) (show 1024 ≤ h.1 + 1 by omega) z3 ?_
  rw [e_X1_mostArrows]
  simp (disch := first | omega | assumption | exact Or.inl rfl | exact Or.inr rfl | exact wN_kls (by omega) | exact wE_kls (by omega) | (simp only [a_cat_nil, a_cat_int, a_cat_ref, a_cat_null, a_cat_long]; done) | (simp only [a_cat_nil, a_cat_int, a_cat_ref, a_cat_null, a_cat_long]; omega) | decide | rfl | (apply Or.inr; omega) | (apply Or.inl; omega)) only [w_X1_mostArrows_0, w_X1_mostArrows_1, w_X1_mostArrows_2, w_X1_mostArrows_3, w_X1_mostArrows_6, w_X1_mostArrows_7, w_X1_mostArrows_10, w_X1_mostArrows_11, w_X1_mostArrows_12, w_X1_mostArrows_13, w_X1_mostArrows_16, w_X1_mostArrows_19, w_ret, w_exc, Nat.reduceAdd, Option.toList_some, Option.toList_none, List.cons_append, List.nil_append, Option.bind_some, nI_add, q_mul, q_sub, q_eq, q_eqz, q_lt, q_ltz, q_gtz, q_le, q_lez, q_div, q_or, q_and, q_shl, q_shr, q_m1, q_eqm, q_meq, q_mm, q_mlt, q_mgt, q_mlt2, q_dec, Nat.add_sub_cancel, q_ltT, q_ltF, q_leT, q_leF, q_eqT, q_eqF, ↓reduceIte, uN_s, uN_n, upN_app, uG_s, uG_n, uG_uG, if_true, if_false, Nat.reduceMul, Nat.reduceSub, Nat.reduceEqDiff, Nat.reduceLT, and_true, true_and, and_false, false_and, or_true, true_or, or_false, false_or, not_true_eq_false, not_false_eq_true, Option.some.injEq, wEg_froms, wEg_tos, wEg_least, wEg_layers, wEg_rows, wEg_lengths, wEg_uppers, wEg_lowers, wEg_near, wEg_medians, wEg_points, wEg_boxes, wEp_boxes, wEg_arrows, wEp_arrows, wEg_depth, wEp_depth, wEg_made, wEp_made, wEg_come, wEp_come, wEr_uppers, wEw_uppers, wEr_lowers, wEw_lowers, wEr_near, wEw_near, wEr_medians, wEw_medians, wEr_points, wEw_points, wEr_froms, wEw_froms, wEr_tos, wEw_tos, wEr_least, wEw_least, wEr_layers, wEw_layers, wEr_rows, wEw_rows, wEr_lengths, wEw_lengths, wE_kls, g0, k1, y2, z4, t4]
  rfl
theorem x_mostArrows {b o : Nat} (i : cI H g m (nb, na, fr, to, le, row, ma, co) hs kp tx) (hb : b < nb) (ho : o < nb) (q : t_G (t_wk 2) (t_wi 2 b) na fr to 25 o ≠ 4294967295) : cZ (d+40) MX1_mostArrows [.int (nI b), .int (nI o)] H g m (.inl (.int (nI (t_G (t_wk 2) (t_wi 2 b) na fr to 25 o)))) (nb, na, fr, to, le, row, ma, co) hs kp tx := by
  obtain ⟨h, G, N, rfl, hm, hq, c⟩ := cI_E i
  have ⟨g1, g2, kg, g0⟩ := cI_g i
  have s := c.2.1
  have a := cD_cA c
  have hd := cQ_dp a.2.1 s.1
  have s1 := s.1
  have s2 := s.2.1
  have hq1 : 1024 ≤ h.1 := by omega
  have k1 := x_two1 (d := d+33) (g := g) (x := nI b) (z := nI o) hm hq kg g0 c ⟨⟨b, hb, rfl⟩, ⟨o, ho, rfl⟩⟩
  have ⟨f', y2⟩ := c_arrowsOn (d := d+38) (h := h) (up := false) (W := 2) hm hq rfl s a.2.1 hb ho
  have bd := t_wk_bd (W := 2) (box := b) (na := na) (fr := fr) (to := to) (by decide) a.2.1.2.2.2 25 o
  have yb := (a.2.1.1 o (by omega)).2
  rw [Bool.toNat_false] at y2
  have th := k_there1 (d := d+33) (h := wE (hB h 16 f') m G N) (k := t_G (t_wk 2) (t_wi 2 b) na fr to 25 o) (by omega)
  refine cZ_q hq i (hX_B (n := 16) (f := f')) (by omega) (by omega) (fun _ _ => rfl) ?_
  rw [e_X1_mostArrows]
  simp (disch := first | omega | assumption | exact Or.inl rfl | exact Or.inr rfl | exact wN_kls (by omega) | exact wE_kls (by omega) | (simp only [a_cat_nil, a_cat_int, a_cat_ref, a_cat_null, a_cat_long]; done) | (simp only [a_cat_nil, a_cat_int, a_cat_ref, a_cat_null, a_cat_long]; omega) | decide | rfl | (apply Or.inr; omega) | (apply Or.inl; omega)) only [w_X1_mostArrows_0, w_X1_mostArrows_1, w_X1_mostArrows_2, w_X1_mostArrows_3, w_X1_mostArrows_6, w_X1_mostArrows_7, w_X1_mostArrows_10, w_X1_mostArrows_11, w_X1_mostArrows_12, w_X1_mostArrows_13, w_X1_mostArrows_16, w_X1_mostArrows_19, w_ret, w_exc, Nat.reduceAdd, Option.toList_some, Option.toList_none, List.cons_append, List.nil_append, Option.bind_some, nI_add, q_mul, q_sub, q_eq, q_eqz, q_lt, q_ltz, q_gtz, q_le, q_lez, q_div, q_or, q_and, q_shl, q_shr, q_m1, q_eqm, q_meq, q_mm, q_mlt, q_mgt, q_mlt2, q_dec, Nat.add_sub_cancel, q_ltT, q_ltF, q_leT, q_leF, q_eqT, q_eqF, ↓reduceIte, uN_s, uN_n, upN_app, uG_s, uG_n, uG_uG, if_true, if_false, Nat.reduceMul, Nat.reduceSub, Nat.reduceEqDiff, Nat.reduceLT, and_true, true_and, and_false, false_and, or_true, true_or, or_false, false_or, not_true_eq_false, not_false_eq_true, Option.some.injEq, wEg_froms, wEg_tos, wEg_least, wEg_layers, wEg_rows, wEg_lengths, wEg_uppers, wEg_lowers, wEg_near, wEg_medians, wEg_points, wEg_boxes, wEp_boxes, wEg_arrows, wEp_arrows, wEg_depth, wEp_depth, wEg_made, wEp_made, wEg_come, wEp_come, wEr_uppers, wEw_uppers, wEr_lowers, wEw_lowers, wEr_near, wEw_near, wEr_medians, wEw_medians, wEr_points, wEw_points, wEr_froms, wEw_froms, wEr_tos, wEw_tos, wEr_least, wEw_least, wEr_layers, wEw_layers, wEr_rows, wEw_rows, wEr_lengths, wEw_lengths, wE_kls, g0, k1, y2, th]
theorem x_crowdedLayer1 (i : cI H g m (nb, na, fr, to, le, row, ma, co) hs kp tx) (q : t_dp (t_ly na fr to le) nb = 0) : cZ (d+40) MX1_crowdedLayer [] H g m (.inr 10) (nb, na, fr, to, le, row, ma, co) hs kp tx := by
  obtain ⟨h, G, N, rfl, hm, hq, c⟩ := cI_E i
  have ⟨g1, g2, kg, g0⟩ := cI_g i
  have s := c.2.1
  have a := cD_cA c
  have hd := cQ_dp a.2.1 s.1
  have s1 := s.1
  have s2 := s.2.1
  have hq1 : 1024 ≤ h.1 := by omega
  have e := c.2.2.1.2.2.1
  have ⟨h', y1, ⟨t, y2⟩, y3, y4⟩ := k_suchE (d := d+34) (G := G) (N := N) hm hq
  have t4 := fun pc L => y4 (d+39) MX1_crowdedLayer pc L rfl
  refine cZ_t hq i y1 (by omega) (by omega) (fun _ _ => rfl) (show 1024 ≤ h.1 by omega) y2 ?_
  rw [e_X1_crowdedLayer]
  simp (disch := first | omega | assumption | exact Or.inl rfl | exact Or.inr rfl | exact wN_kls (by omega) | exact wE_kls (by omega) | (simp only [a_cat_nil, a_cat_int, a_cat_ref, a_cat_null, a_cat_long]; done) | (simp only [a_cat_nil, a_cat_int, a_cat_ref, a_cat_null, a_cat_long]; omega) | decide | rfl | (apply Or.inr; omega) | (apply Or.inl; omega)) only [w_X1_crowdedLayer_0, w_X1_crowdedLayer_1, w_X1_crowdedLayer_4, w_X1_crowdedLayer_7, w_X1_crowdedLayer_10, w_X1_crowdedLayer_11, w_X1_crowdedLayer_14, w_X1_crowdedLayer_15, w_ret, w_exc, Nat.reduceAdd, Option.toList_some, Option.toList_none, List.cons_append, List.nil_append, Option.bind_some, nI_add, q_mul, q_sub, q_eq, q_eqz, q_lt, q_ltz, q_gtz, q_le, q_lez, q_div, q_or, q_and, q_shl, q_shr, q_m1, q_eqm, q_meq, q_mm, q_mlt, q_mgt, q_mlt2, q_dec, Nat.add_sub_cancel, q_ltT, q_ltF, q_leT, q_leF, q_eqT, q_eqF, ↓reduceIte, uN_s, uN_n, upN_app, uG_s, uG_n, uG_uG, if_true, if_false, Nat.reduceMul, Nat.reduceSub, Nat.reduceEqDiff, Nat.reduceLT, and_true, true_and, and_false, false_and, or_true, true_or, or_false, false_or, not_true_eq_false, not_false_eq_true, Option.some.injEq, wEg_froms, wEg_tos, wEg_least, wEg_layers, wEg_rows, wEg_lengths, wEg_uppers, wEg_lowers, wEg_near, wEg_medians, wEg_points, wEg_boxes, wEp_boxes, wEg_arrows, wEp_arrows, wEg_depth, wEp_depth, wEg_made, wEp_made, wEg_come, wEp_come, wEr_uppers, wEw_uppers, wEr_lowers, wEw_lowers, wEr_near, wEw_near, wEr_medians, wEw_medians, wEr_points, wEw_points, wEr_froms, wEw_froms, wEr_tos, wEw_tos, wEr_least, wEw_least, wEr_layers, wEw_layers, wEr_rows, wEw_rows, wEr_lengths, wEw_lengths, wE_kls, g0, e, q, y3, t4]
theorem x_crowdedLayer (i : cI H g m (nb, na, fr, to, le, row, ma, co) hs kp tx) (q : t_dp (t_ly na fr to le) nb ≠ 0) : cZ (d+40) MX1_crowdedLayer [] H g m (.inl (.int (nI (t_cw (t_cn nb na fr to (t_ly na fr to le)) (t_dp (t_ly na fr to le) nb - 1))))) (nb, na, fr, to, le, row, ma, co) hs kp tx := by
  obtain ⟨h, G, N, rfl, hm, hq, c⟩ := cI_E i
  have ⟨g1, g2, kg, g0⟩ := cI_g i
  have s := c.2.1
  have a := cD_cA c
  have hd := cQ_dp a.2.1 s.1
  have s1 := s.1
  have s2 := s.2.1
  have hq1 : 1024 ≤ h.1 := by omega
  have e := c.2.2.1.2.2.1
  have nd := k_such1 (d := d+34) (h := wE h m G N)
  have ⟨_, _, z2⟩ := l_for (σ := Unit) (fun k x => a_run (d+39) MX1_crowdedLayer 22 [some (.ref g), some (.int (nI (t_cw (t_cn nb na fr to (t_ly na fr to le)) k))), some (.int (nI (k+1)))] [] (wE h m G N)) (fun k x => True) (t_dp (t_ly na fr to le) nb - 1) (fun k x hk _ => ⟨(), trivial, by
    have g6 := a.2.1.2.1 (k + 1) (by omega)
    have wl := t_cw_le (f := t_cn nb na fr to (t_ly na fr to le)) k
    have g7 := a.2.1.2.1 (t_cw (t_cn nb na fr to (t_ly na fr to le)) k) (by omega)
    have c1 := t_cn_le (nb := nb) (na := na) (fr := fr) (to := to) (y := (t_ly na fr to le)) (l := k + 1)
    have c2 := t_cn_le (nb := nb) (na := na) (fr := fr) (to := to) (y := (t_ly na fr to le)) (l := t_cw (t_cn nb na fr to (t_ly na fr to le)) k)
    try dsimp only
    rw [w_X1_crowdedLayer_22, show t_cw (t_cn nb na fr to (t_ly na fr to le)) (k + 1) = if t_cn nb na fr to (t_ly na fr to le) (t_cw (t_cn nb na fr to (t_ly na fr to le)) k) < t_cn nb na fr to (t_ly na fr to le) (k + 1) then k + 1 else t_cw (t_cn nb na fr to (t_ly na fr to le)) k from rfl]
    by_cases w : t_cn nb na fr to (t_ly na fr to le) (t_cw (t_cn nb na fr to (t_ly na fr to le)) k) < t_cn nb na fr to (t_ly na fr to le) (k + 1)
    · rw [if_pos w]
      simp (disch := first | omega | assumption | exact Or.inl rfl | exact Or.inr rfl | exact wN_kls (by omega) | exact wE_kls (by omega) | (simp only [a_cat_nil, a_cat_int, a_cat_ref, a_cat_null, a_cat_long]; done) | (simp only [a_cat_nil, a_cat_int, a_cat_ref, a_cat_null, a_cat_long]; omega) | decide | rfl | (apply Or.inr; omega) | (apply Or.inl; omega)) only [w_X1_crowdedLayer_23, w_X1_crowdedLayer_24, w_X1_crowdedLayer_27, w_X1_crowdedLayer_30, w_X1_crowdedLayer_33, w_X1_crowdedLayer_34, w_X1_crowdedLayer_37, w_X1_crowdedLayer_40, w_X1_crowdedLayer_41, w_X1_crowdedLayer_42, w_X1_crowdedLayer_43, w_X1_crowdedLayer_46, w_X1_crowdedLayer_49, w_X1_crowdedLayer_50, w_X1_crowdedLayer_51, w_X1_crowdedLayer_54, w_X1_crowdedLayer_55, w_X1_crowdedLayer_58, w_X1_crowdedLayer_59, w_X1_crowdedLayer_60, w_X1_crowdedLayer_63, w_ret, w_exc, Nat.reduceAdd, Option.toList_some, Option.toList_none, List.cons_append, List.nil_append, Option.bind_some, nI_add, q_mul, q_sub, q_eq, q_eqz, q_lt, q_ltz, q_gtz, q_le, q_lez, q_div, q_or, q_and, q_shl, q_shr, q_m1, q_eqm, q_meq, q_mm, q_mlt, q_mgt, q_mlt2, q_dec, Nat.add_sub_cancel, q_ltT, q_ltF, q_leT, q_leF, q_eqT, q_eqF, ↓reduceIte, uN_s, uN_n, upN_app, uG_s, uG_n, uG_uG, if_true, if_false, Nat.reduceMul, Nat.reduceSub, Nat.reduceEqDiff, Nat.reduceLT, and_true, true_and, and_false, false_and, or_true, true_or, or_false, false_or, not_true_eq_false, not_false_eq_true, Option.some.injEq, wEg_froms, wEg_tos, wEg_least, wEg_layers, wEg_rows, wEg_lengths, wEg_uppers, wEg_lowers, wEg_near, wEg_medians, wEg_points, wEg_boxes, wEp_boxes, wEg_arrows, wEp_arrows, wEg_depth, wEp_depth, wEg_made, wEp_made, wEg_come, wEp_come, wEr_uppers, wEw_uppers, wEr_lowers, wEw_lowers, wEr_near, wEw_near, wEr_medians, wEw_medians, wEr_points, wEw_points, wEr_froms, wEw_froms, wEr_tos, wEw_tos, wEr_least, wEw_least, wEr_layers, wEw_layers, wEr_rows, wEw_rows, wEr_lengths, wEw_lengths, wE_kls, g0, e, g6, g7]
    · rw [if_neg w]
      simp (disch := first | omega | assumption | exact Or.inl rfl | exact Or.inr rfl | exact wN_kls (by omega) | exact wE_kls (by omega) | (simp only [a_cat_nil, a_cat_int, a_cat_ref, a_cat_null, a_cat_long]; done) | (simp only [a_cat_nil, a_cat_int, a_cat_ref, a_cat_null, a_cat_long]; omega) | decide | rfl | (apply Or.inr; omega) | (apply Or.inl; omega)) only [w_X1_crowdedLayer_23, w_X1_crowdedLayer_24, w_X1_crowdedLayer_27, w_X1_crowdedLayer_30, w_X1_crowdedLayer_33, w_X1_crowdedLayer_34, w_X1_crowdedLayer_37, w_X1_crowdedLayer_40, w_X1_crowdedLayer_41, w_X1_crowdedLayer_42, w_X1_crowdedLayer_43, w_X1_crowdedLayer_46, w_X1_crowdedLayer_49, w_X1_crowdedLayer_50, w_X1_crowdedLayer_51, w_X1_crowdedLayer_54, w_X1_crowdedLayer_55, w_X1_crowdedLayer_58, w_X1_crowdedLayer_59, w_X1_crowdedLayer_60, w_X1_crowdedLayer_63, w_ret, w_exc, Nat.reduceAdd, Option.toList_some, Option.toList_none, List.cons_append, List.nil_append, Option.bind_some, nI_add, q_mul, q_sub, q_eq, q_eqz, q_lt, q_ltz, q_gtz, q_le, q_lez, q_div, q_or, q_and, q_shl, q_shr, q_m1, q_eqm, q_meq, q_mm, q_mlt, q_mgt, q_mlt2, q_dec, Nat.add_sub_cancel, q_ltT, q_ltF, q_leT, q_leF, q_eqT, q_eqF, ↓reduceIte, uN_s, uN_n, upN_app, uG_s, uG_n, uG_uG, if_true, if_false, Nat.reduceMul, Nat.reduceSub, Nat.reduceEqDiff, Nat.reduceLT, and_true, true_and, and_false, false_and, or_true, true_or, or_false, false_or, not_true_eq_false, not_false_eq_true, Option.some.injEq, wEg_froms, wEg_tos, wEg_least, wEg_layers, wEg_rows, wEg_lengths, wEg_uppers, wEg_lowers, wEg_near, wEg_medians, wEg_points, wEg_boxes, wEp_boxes, wEg_arrows, wEp_arrows, wEg_depth, wEp_depth, wEg_made, wEp_made, wEg_come, wEp_come, wEr_uppers, wEw_uppers, wEr_lowers, wEw_lowers, wEr_near, wEw_near, wEr_medians, wEw_medians, wEr_points, wEw_points, wEr_froms, wEw_froms, wEr_tos, wEw_tos, wEr_least, wEw_least, wEr_layers, wEw_layers, wEr_rows, wEw_rows, wEr_lengths, wEw_lengths, wE_kls, g0, e, g6, g7]⟩) _ 0 () (Nat.zero_add _) trivial
  rw [show t_cw (t_cn nb na fr to (t_ly na fr to le)) 0 = 0 from rfl, Nat.zero_add] at z2
  have wl := t_cw_le (f := t_cn nb na fr to (t_ly na fr to le)) (t_dp (t_ly na fr to le) nb - 1)
  refine cZ_0 hq i (fun _ _ => rfl) ?_
  rw [e_X1_crowdedLayer]
  simp (disch := first | omega | assumption | exact Or.inl rfl | exact Or.inr rfl | exact wN_kls (by omega) | exact wE_kls (by omega) | (simp only [a_cat_nil, a_cat_int, a_cat_ref, a_cat_null, a_cat_long]; done) | (simp only [a_cat_nil, a_cat_int, a_cat_ref, a_cat_null, a_cat_long]; omega) | decide | rfl | (apply Or.inr; omega) | (apply Or.inl; omega)) only [w_X1_crowdedLayer_0, w_X1_crowdedLayer_1, w_X1_crowdedLayer_4, w_X1_crowdedLayer_7, w_X1_crowdedLayer_10, w_X1_crowdedLayer_11, w_X1_crowdedLayer_14, w_X1_crowdedLayer_15, w_X1_crowdedLayer_18, w_X1_crowdedLayer_19, w_X1_crowdedLayer_20, w_X1_crowdedLayer_21, w_ret, w_exc, Nat.reduceAdd, Option.toList_some, Option.toList_none, List.cons_append, List.nil_append, Option.bind_some, nI_add, q_mul, q_sub, q_eq, q_eqz, q_lt, q_ltz, q_gtz, q_le, q_lez, q_div, q_or, q_and, q_shl, q_shr, q_m1, q_eqm, q_meq, q_mm, q_mlt, q_mgt, q_mlt2, q_dec, Nat.add_sub_cancel, q_ltT, q_ltF, q_leT, q_leF, q_eqT, q_eqF, ↓reduceIte, uN_s, uN_n, upN_app, uG_s, uG_n, uG_uG, if_true, if_false, Nat.reduceMul, Nat.reduceSub, Nat.reduceEqDiff, Nat.reduceLT, and_true, true_and, and_false, false_and, or_true, true_or, or_false, false_or, not_true_eq_false, not_false_eq_true, Option.some.injEq, wEg_froms, wEg_tos, wEg_least, wEg_layers, wEg_rows, wEg_lengths, wEg_uppers, wEg_lowers, wEg_near, wEg_medians, wEg_points, wEg_boxes, wEp_boxes, wEg_arrows, wEp_arrows, wEg_depth, wEp_depth, wEg_made, wEp_made, wEg_come, wEp_come, wEr_uppers, wEw_uppers, wEr_lowers, wEw_lowers, wEr_near, wEw_near, wEr_medians, wEw_medians, wEr_points, wEw_points, wEr_froms, wEw_froms, wEr_tos, wEw_tos, wEr_least, wEw_least, wEr_layers, wEw_layers, wEr_rows, wEw_rows, wEr_lengths, wEw_lengths, wE_kls, g0, e, nd]
  rw [z2, w_X1_crowdedLayer_22]
  simp (disch := first | omega | assumption | exact Or.inl rfl | exact Or.inr rfl | exact wN_kls (by omega) | exact wE_kls (by omega) | (simp only [a_cat_nil, a_cat_int, a_cat_ref, a_cat_null, a_cat_long]; done) | (simp only [a_cat_nil, a_cat_int, a_cat_ref, a_cat_null, a_cat_long]; omega) | decide | rfl | (apply Or.inr; omega) | (apply Or.inl; omega)) only [w_X1_crowdedLayer_23, w_X1_crowdedLayer_24, w_X1_crowdedLayer_27, w_X1_crowdedLayer_30, w_X1_crowdedLayer_66, w_X1_crowdedLayer_67, w_ret, w_exc, Nat.reduceAdd, Option.toList_some, Option.toList_none, List.cons_append, List.nil_append, Option.bind_some, nI_add, q_mul, q_sub, q_eq, q_eqz, q_lt, q_ltz, q_gtz, q_le, q_lez, q_div, q_or, q_and, q_shl, q_shr, q_m1, q_eqm, q_meq, q_mm, q_mlt, q_mgt, q_mlt2, q_dec, Nat.add_sub_cancel, q_ltT, q_ltF, q_leT, q_leF, q_eqT, q_eqF, ↓reduceIte, uN_s, uN_n, upN_app, uG_s, uG_n, uG_uG, if_true, if_false, Nat.reduceMul, Nat.reduceSub, Nat.reduceEqDiff, Nat.reduceLT, and_true, true_and, and_false, false_and, or_true, true_or, or_false, false_or, not_true_eq_false, not_false_eq_true, Option.some.injEq, wEg_froms, wEg_tos, wEg_least, wEg_layers, wEg_rows, wEg_lengths, wEg_uppers, wEg_lowers, wEg_near, wEg_medians, wEg_points, wEg_boxes, wEp_boxes, wEg_arrows, wEp_arrows, wEg_depth, wEp_depth, wEg_made, wEp_made, wEg_come, wEp_come, wEr_uppers, wEw_uppers, wEr_lowers, wEw_lowers, wEr_near, wEw_near, wEr_medians, wEw_medians, wEr_points, wEw_points, wEr_froms, wEw_froms, wEr_tos, wEw_tos, wEr_least, wEw_least, wEr_layers, wEw_layers, wEr_rows, wEw_rows, wEr_lengths, wEw_lengths, wE_kls, g0, e]
theorem x_crossingsByPuttingIn (i : cI H g m (nb, na, fr, to, le, row, ma, co) hs kp tx) : cZ (d+40) MX1_crossingsByPuttingIn [] H g m (.inl (.int (nI (t_cx nb na fr to (t_ly na fr to le) row)))) (nb, na, fr, to, le, row, ma, co) hs kp tx := by
  obtain ⟨h, G, N, rfl, hm, hq, c⟩ := cI_E i
  have ⟨g1, g2, kg, g0⟩ := cI_g i
  have s := c.2.1
  have a := cD_cA c
  have hd := cQ_dp a.2.1 s.1
  have s1 := s.1
  have s2 := s.2.1
  have hq1 : 1024 ≤ h.1 := by omega
  have go := cI_out i
  have gl : g < h.1 := g2
  have bd := t_cx_le (nb := nb) (fr := fr) (to := to) (y := (t_ly na fr to le)) (row := row) s2 hd
  have ⟨⟨h', N'⟩, ⟨z1, z2⟩, z4⟩ := l_for (fun k (x : a_H × (Nat → Nat → Nat)) => a_run (d+39) MX1_crossingsByPuttingIn 4 [some (.ref g), some (.int (nI (t_sum (t_ca nb na fr to (t_ly na fr to le) row) k))), some (.int (nI k))] [] (wE x.1 m G x.2)) (fun k x => hX h x.1 k (46 * k) ∧ ∀ j, j ≠ 0 → j ≠ 1 → x.2 j = N j) (t_dp (t_ly na fr to le) nb - 1) (fun k x hk ⟨i1, i2⟩ => by
    obtain ⟨h', N'⟩ := x
    dsimp only at i1 i2 ⊢
    have a' := cA_N (fun j h1 h2 => i2 j (by omega) (by omega)) a
    have hq' : m + 11 < h'.1 := Nat.lt_of_lt_of_le hq i1.1
    have e' := a'.2.1.2.2.1
    have g' := (gf_keep (G := G) (G' := G) (N := N) (N' := N') (k := 0) (cs := [0]) i1 gl go).trans g0
    have ⟨f2, N2, p1, p2⟩ := c_putIn (d := d+34) (h := h') hm hq' a' (show k + 1 < t_dp (t_ly na fr to le) nb by omega)
    refine ⟨(hB h' 46 f2, N2), ⟨hX_le (hX_tr i1 (hX_B (n := 46) (f := f2))) (Nat.le_refl _) (by omega), fun j h0 h1 => (p1 j h0 h1).trans (i2 j h0 h1)⟩, ?_⟩
    try dsimp only
    rw [show t_sum (t_ca nb na fr to (t_ly na fr to le) row) (k + 1) = t_sum (t_ca nb na fr to (t_ly na fr to le) row) k + t_ca nb na fr to (t_ly na fr to le) row k from rfl, w_X1_crossingsByPuttingIn_4]
    simp (disch := first | omega | assumption | exact Or.inl rfl | exact Or.inr rfl | exact wN_kls (by omega) | exact wE_kls (by omega) | (simp only [a_cat_nil, a_cat_int, a_cat_ref, a_cat_null, a_cat_long]; done) | (simp only [a_cat_nil, a_cat_int, a_cat_ref, a_cat_null, a_cat_long]; omega) | decide | rfl | (apply Or.inr; omega) | (apply Or.inl; omega)) only [w_X1_crossingsByPuttingIn_5, w_X1_crossingsByPuttingIn_6, w_X1_crossingsByPuttingIn_7, w_X1_crossingsByPuttingIn_8, w_X1_crossingsByPuttingIn_11, w_X1_crossingsByPuttingIn_14, w_X1_crossingsByPuttingIn_17, w_X1_crossingsByPuttingIn_18, w_X1_crossingsByPuttingIn_19, w_X1_crossingsByPuttingIn_22, w_X1_crossingsByPuttingIn_23, w_X1_crossingsByPuttingIn_26, w_X1_crossingsByPuttingIn_27, w_X1_crossingsByPuttingIn_28, w_X1_crossingsByPuttingIn_31, w_ret, w_exc, Nat.reduceAdd, Option.toList_some, Option.toList_none, List.cons_append, List.nil_append, Option.bind_some, nI_add, q_mul, q_sub, q_eq, q_eqz, q_lt, q_ltz, q_gtz, q_le, q_lez, q_div, q_or, q_and, q_shl, q_shr, q_m1, q_eqm, q_meq, q_mm, q_mlt, q_mgt, q_mlt2, q_dec, Nat.add_sub_cancel, q_ltT, q_ltF, q_leT, q_leF, q_eqT, q_eqF, ↓reduceIte, uN_s, uN_n, upN_app, uG_s, uG_n, uG_uG, if_true, if_false, Nat.reduceMul, Nat.reduceSub, Nat.reduceEqDiff, Nat.reduceLT, and_true, true_and, and_false, false_and, or_true, true_or, or_false, false_or, not_true_eq_false, not_false_eq_true, Option.some.injEq, wEg_froms, wEg_tos, wEg_least, wEg_layers, wEg_rows, wEg_lengths, wEg_uppers, wEg_lowers, wEg_near, wEg_medians, wEg_points, wEg_boxes, wEp_boxes, wEg_arrows, wEp_arrows, wEg_depth, wEp_depth, wEg_made, wEp_made, wEg_come, wEp_come, wEr_uppers, wEw_uppers, wEr_lowers, wEw_lowers, wEr_near, wEw_near, wEr_medians, wEw_medians, wEr_points, wEw_points, wEr_froms, wEw_froms, wEr_tos, wEw_tos, wEr_least, wEw_least, wEr_layers, wEw_layers, wEr_rows, wEw_rows, wEr_lengths, wEw_lengths, wE_kls, g', e', p2]) _ 0 (h, N) (Nat.zero_add _) ⟨hX_le (hX_id h) (Nat.le_refl _) (by omega), fun _ _ _ => rfl⟩
  dsimp only at z1 z2 z4
  have e' := (cA_N (fun j h1 h2 => z2 j (by omega) (by omega)) a).2.1.2.2.1
  have g' := (gf_keep (G := G) (G' := G) (N := N) (N' := N') (k := 0) (cs := [0]) z1 gl go).trans g0
  refine cZ_q hq i z1 (by omega) (by omega) (fun j h5 => z2 j (by omega) (by omega)) ?_
  rw [e_X1_crossingsByPuttingIn]
  simp (disch := first | omega | assumption | exact Or.inl rfl | exact Or.inr rfl | exact wN_kls (by omega) | exact wE_kls (by omega) | (simp only [a_cat_nil, a_cat_int, a_cat_ref, a_cat_null, a_cat_long]; done) | (simp only [a_cat_nil, a_cat_int, a_cat_ref, a_cat_null, a_cat_long]; omega) | decide | rfl | (apply Or.inr; omega) | (apply Or.inl; omega)) only [w_X1_crossingsByPuttingIn_0, w_X1_crossingsByPuttingIn_1, w_X1_crossingsByPuttingIn_2, w_X1_crossingsByPuttingIn_3, w_ret, w_exc, Nat.reduceAdd, Option.toList_some, Option.toList_none, List.cons_append, List.nil_append, Option.bind_some, nI_add, q_mul, q_sub, q_eq, q_eqz, q_lt, q_ltz, q_gtz, q_le, q_lez, q_div, q_or, q_and, q_shl, q_shr, q_m1, q_eqm, q_meq, q_mm, q_mlt, q_mgt, q_mlt2, q_dec, Nat.add_sub_cancel, q_ltT, q_ltF, q_leT, q_leF, q_eqT, q_eqF, ↓reduceIte, uN_s, uN_n, upN_app, uG_s, uG_n, uG_uG, if_true, if_false, Nat.reduceMul, Nat.reduceSub, Nat.reduceEqDiff, Nat.reduceLT, and_true, true_and, and_false, false_and, or_true, true_or, or_false, false_or, not_true_eq_false, not_false_eq_true, Option.some.injEq, wEg_froms, wEg_tos, wEg_least, wEg_layers, wEg_rows, wEg_lengths, wEg_uppers, wEg_lowers, wEg_near, wEg_medians, wEg_points, wEg_boxes, wEp_boxes, wEg_arrows, wEp_arrows, wEg_depth, wEp_depth, wEg_made, wEp_made, wEg_come, wEp_come, wEr_uppers, wEw_uppers, wEr_lowers, wEw_lowers, wEr_near, wEw_near, wEr_medians, wEw_medians, wEr_points, wEw_points, wEr_froms, wEw_froms, wEr_tos, wEw_tos, wEr_least, wEw_least, wEr_layers, wEw_layers, wEr_rows, wEw_rows, wEr_lengths, wEw_lengths, wE_kls]
  rw [show t_sum (t_ca nb na fr to (t_ly na fr to le) row) 0 = 0 from rfl] at z4
  rw [z4, show t_cx nb na fr to (t_ly na fr to le) row = t_sum (t_ca nb na fr to (t_ly na fr to le) row) (t_dp (t_ly na fr to le) nb - 1) from rfl, w_X1_crossingsByPuttingIn_4]
  rw [show t_cx nb na fr to (t_ly na fr to le) row = t_sum (t_ca nb na fr to (t_ly na fr to le) row) (t_dp (t_ly na fr to le) nb - 1) from rfl] at bd
  simp (disch := first | omega | assumption | exact Or.inl rfl | exact Or.inr rfl | exact wN_kls (by omega) | exact wE_kls (by omega) | (simp only [a_cat_nil, a_cat_int, a_cat_ref, a_cat_null, a_cat_long]; done) | (simp only [a_cat_nil, a_cat_int, a_cat_ref, a_cat_null, a_cat_long]; omega) | decide | rfl | (apply Or.inr; omega) | (apply Or.inl; omega)) only [w_X1_crossingsByPuttingIn_5, w_X1_crossingsByPuttingIn_6, w_X1_crossingsByPuttingIn_7, w_X1_crossingsByPuttingIn_8, w_X1_crossingsByPuttingIn_11, w_X1_crossingsByPuttingIn_14, w_X1_crossingsByPuttingIn_34, w_X1_crossingsByPuttingIn_35, w_ret, w_exc, Nat.reduceAdd, Option.toList_some, Option.toList_none, List.cons_append, List.nil_append, Option.bind_some, nI_add, q_mul, q_sub, q_eq, q_eqz, q_lt, q_ltz, q_gtz, q_le, q_lez, q_div, q_or, q_and, q_shl, q_shr, q_m1, q_eqm, q_meq, q_mm, q_mlt, q_mgt, q_mlt2, q_dec, Nat.add_sub_cancel, q_ltT, q_ltF, q_leT, q_leF, q_eqT, q_eqF, ↓reduceIte, uN_s, uN_n, upN_app, uG_s, uG_n, uG_uG, if_true, if_false, Nat.reduceMul, Nat.reduceSub, Nat.reduceEqDiff, Nat.reduceLT, and_true, true_and, and_false, false_and, or_true, true_or, or_false, false_or, not_true_eq_false, not_false_eq_true, Option.some.injEq, wEg_froms, wEg_tos, wEg_least, wEg_layers, wEg_rows, wEg_lengths, wEg_uppers, wEg_lowers, wEg_near, wEg_medians, wEg_points, wEg_boxes, wEp_boxes, wEg_arrows, wEp_arrows, wEg_depth, wEp_depth, wEg_made, wEp_made, wEg_come, wEp_come, wEr_uppers, wEw_uppers, wEr_lowers, wEw_lowers, wEr_near, wEw_near, wEr_medians, wEw_medians, wEr_points, wEw_points, wEr_froms, wEw_froms, wEr_tos, wEw_tos, wEr_least, wEw_least, wEr_layers, wEw_layers, wEr_rows, wEw_rows, wEr_lengths, wEw_lengths, wE_kls, g', e']
theorem x_ifSweptDown (i : cI H g m (nb, na, fr, to, le, row, ma, co) hs kp tx) : cZ (d+40) MX1_ifSweptDown [] H g m (.inl (.int (nI (t_cx nb na fr to (t_ly na fr to le) (t_sw nb na fr to (t_ly na fr to le) row true (t_dp (t_ly na fr to le) nb - 1)))))) (nb, na, fr, to, le, row, ma, co) hs kp tx := by
  obtain ⟨h, G, N, rfl, hm, hq, c⟩ := cI_E i
  have ⟨g1, g2, kg, g0⟩ := cI_g i
  have s := c.2.1
  have a := cD_cA c
  have hd := cQ_dp a.2.1 s.1
  have s1 := s.1
  have s2 := s.2.1
  have hq1 : 1024 ≤ h.1 := by omega
  have cp := c_copy (d := d+38) (h := h) (G := G) (N := N) hm hq
  have e14 := c.2.2.2.2.1
  have at0 : cA (nK N) G nb na fr to le (t_ly na fr to le) row := cA_N (fun j h1 h2 => if_neg (by omega)) a
  have ⟨N', y1, y2, y3⟩ := c_goes (d := d+31) (h := wE (hK h) m G N) (m := h.1) (up := true) hq1 at0 e14
  rw [Bool.toNat_true] at y3
  rw [wE_comm (m := m) (m' := h.1) (Or.inl hq), wE_comm (m := m) (m' := h.1) (Or.inl hq)] at y3
  have kt : a_kls (wE (wE (hK h) h.1 G (nK N)) m G N) h.1 = some 1 := by
    rw [← wE_comm (Or.inl hq)]
    exact wE_kls hq1
  refine cZ_q (h' := wE (hK h) h.1 (uG G 14 (ma + 1)) N') hq i ⟨show h.1 ≤ h.1 + 12 by omega, show h.1 + 12 ≤ h.1 + 120 by omega, show h.2.1 + 1465 ≤ h.2.1 + 2000 by omega, fun q hq2 => wE_out (Or.inl hq2)⟩ (by omega) (by omega) (fun _ _ => rfl) ?_
  rw [e_X1_ifSweptDown]
  simp (disch := first | omega | assumption | exact Or.inl rfl | exact Or.inr rfl | exact wN_kls (by omega) | exact wE_kls (by omega) | (simp only [a_cat_nil, a_cat_int, a_cat_ref, a_cat_null, a_cat_long]; done) | (simp only [a_cat_nil, a_cat_int, a_cat_ref, a_cat_null, a_cat_long]; omega) | decide | rfl | (apply Or.inr; omega) | (apply Or.inl; omega)) only [w_X1_ifSweptDown_0, w_X1_ifSweptDown_3, w_X1_ifSweptDown_3I, w_X1_ifSweptDown_4, w_X1_ifSweptDown_5, w_X1_ifSweptDown_8, w_X1_ifSweptDown_11, w_X1_ifSweptDown_12, w_X1_ifSweptDown_15, w_ret, w_exc, Nat.reduceAdd, Option.toList_some, Option.toList_none, List.cons_append, List.nil_append, Option.bind_some, nI_add, q_mul, q_sub, q_eq, q_eqz, q_lt, q_ltz, q_gtz, q_le, q_lez, q_div, q_or, q_and, q_shl, q_shr, q_m1, q_eqm, q_meq, q_mm, q_mlt, q_mgt, q_mlt2, q_dec, Nat.add_sub_cancel, q_ltT, q_ltF, q_leT, q_leF, q_eqT, q_eqF, ↓reduceIte, uN_s, uN_n, upN_app, uG_s, uG_n, uG_uG, if_true, if_false, Nat.reduceMul, Nat.reduceSub, Nat.reduceEqDiff, Nat.reduceLT, and_true, true_and, and_false, false_and, or_true, true_or, or_false, false_or, not_true_eq_false, not_false_eq_true, Option.some.injEq, wEg_froms, wEg_tos, wEg_least, wEg_layers, wEg_rows, wEg_lengths, wEg_uppers, wEg_lowers, wEg_near, wEg_medians, wEg_points, wEg_boxes, wEp_boxes, wEg_arrows, wEp_arrows, wEg_depth, wEp_depth, wEg_made, wEp_made, wEg_come, wEp_come, wEr_uppers, wEw_uppers, wEr_lowers, wEw_lowers, wEr_near, wEw_near, wEr_medians, wEw_medians, wEr_points, wEw_points, wEr_froms, wEw_froms, wEr_tos, wEw_tos, wEr_least, wEw_least, wEr_layers, wEw_layers, wEr_rows, wEw_rows, wEr_lengths, wEw_lengths, wE_kls, wE_1, hO_i, gf_hO g2, g0, cp, y3]
theorem x_ifSweptUp (i : cI H g m (nb, na, fr, to, le, row, ma, co) hs kp tx) : cZ (d+40) MX1_ifSweptUp [] H g m (.inl (.int (nI (t_cx nb na fr to (t_ly na fr to le) (t_sw nb na fr to (t_ly na fr to le) row false (t_dp (t_ly na fr to le) nb - 1)))))) (nb, na, fr, to, le, row, ma, co) hs kp tx := by
  obtain ⟨h, G, N, rfl, hm, hq, c⟩ := cI_E i
  have ⟨g1, g2, kg, g0⟩ := cI_g i
  have s := c.2.1
  have a := cD_cA c
  have hd := cQ_dp a.2.1 s.1
  have s1 := s.1
  have s2 := s.2.1
  have hq1 : 1024 ≤ h.1 := by omega
  have cp := c_copy (d := d+38) (h := h) (G := G) (N := N) hm hq
  have e14 := c.2.2.2.2.1
  have at0 : cA (nK N) G nb na fr to le (t_ly na fr to le) row := cA_N (fun j h1 h2 => if_neg (by omega)) a
  have ⟨N', y1, y2, y3⟩ := c_goes (d := d+31) (h := wE (hK h) m G N) (m := h.1) (up := false) hq1 at0 e14
  rw [Bool.toNat_false] at y3
  rw [wE_comm (m := m) (m' := h.1) (Or.inl hq), wE_comm (m := m) (m' := h.1) (Or.inl hq)] at y3
  have kt : a_kls (wE (wE (hK h) h.1 G (nK N)) m G N) h.1 = some 1 := by
    rw [← wE_comm (Or.inl hq)]
    exact wE_kls hq1
  refine cZ_q (h' := wE (hK h) h.1 (uG G 14 (ma + 1)) N') hq i ⟨show h.1 ≤ h.1 + 12 by omega, show h.1 + 12 ≤ h.1 + 120 by omega, show h.2.1 + 1465 ≤ h.2.1 + 2000 by omega, fun q hq2 => wE_out (Or.inl hq2)⟩ (by omega) (by omega) (fun _ _ => rfl) ?_
  rw [e_X1_ifSweptUp]
  simp (disch := first | omega | assumption | exact Or.inl rfl | exact Or.inr rfl | exact wN_kls (by omega) | exact wE_kls (by omega) | (simp only [a_cat_nil, a_cat_int, a_cat_ref, a_cat_null, a_cat_long]; done) | (simp only [a_cat_nil, a_cat_int, a_cat_ref, a_cat_null, a_cat_long]; omega) | decide | rfl | (apply Or.inr; omega) | (apply Or.inl; omega)) only [w_X1_ifSweptUp_0, w_X1_ifSweptUp_3, w_X1_ifSweptUp_3I, w_X1_ifSweptUp_4, w_X1_ifSweptUp_5, w_X1_ifSweptUp_8, w_X1_ifSweptUp_11, w_X1_ifSweptUp_12, w_X1_ifSweptUp_15, w_ret, w_exc, Nat.reduceAdd, Option.toList_some, Option.toList_none, List.cons_append, List.nil_append, Option.bind_some, nI_add, q_mul, q_sub, q_eq, q_eqz, q_lt, q_ltz, q_gtz, q_le, q_lez, q_div, q_or, q_and, q_shl, q_shr, q_m1, q_eqm, q_meq, q_mm, q_mlt, q_mgt, q_mlt2, q_dec, Nat.add_sub_cancel, q_ltT, q_ltF, q_leT, q_leF, q_eqT, q_eqF, ↓reduceIte, uN_s, uN_n, upN_app, uG_s, uG_n, uG_uG, if_true, if_false, Nat.reduceMul, Nat.reduceSub, Nat.reduceEqDiff, Nat.reduceLT, and_true, true_and, and_false, false_and, or_true, true_or, or_false, false_or, not_true_eq_false, not_false_eq_true, Option.some.injEq, wEg_froms, wEg_tos, wEg_least, wEg_layers, wEg_rows, wEg_lengths, wEg_uppers, wEg_lowers, wEg_near, wEg_medians, wEg_points, wEg_boxes, wEp_boxes, wEg_arrows, wEp_arrows, wEg_depth, wEp_depth, wEg_made, wEp_made, wEg_come, wEp_come, wEr_uppers, wEw_uppers, wEr_lowers, wEw_lowers, wEr_near, wEw_near, wEr_medians, wEw_medians, wEr_points, wEw_points, wEr_froms, wEw_froms, wEr_tos, wEw_tos, wEr_least, wEw_least, wEr_layers, wEw_layers, wEr_rows, wEw_rows, wEr_lengths, wEw_lengths, wE_kls, wE_1, hO_i, gf_hO g2, g0, cp, y3]
theorem x_columnAt {l p : Nat} (i : cI H g m (nb, na, fr, to, le, row, ma, co) hs kp tx) (hl : l < t_dp (t_ly na fr to le) nb) (hp : p < t_cn nb na fr to (t_ly na fr to le) l) : cZ (d+40) MX1_columnAt [.int (nI l), .int (nI p)] H g m (.inl (.int (nI (t_c2 nb na fr to (t_ly na fr to le) row l p)))) (nb, na, fr, to, le, row, ma, co) hs kp tx := by
  obtain ⟨h, G, N, rfl, hm, hq, c⟩ := cI_E i
  have ⟨g1, g2, kg, g0⟩ := cI_g i
  have s := c.2.1
  have a := cD_cA c
  have hd := cQ_dp a.2.1 s.1
  have s1 := s.1
  have s2 := s.2.1
  have hq1 : 1024 ≤ h.1 := by omega
  have k1 := x_point (d := d+33) (g := g) hm hq kg g0 c hl hp
  have ⟨f', N', p1, p2, p3⟩ := c_columns (d := d+34) (h := h) hm hq a
  have a' := cA_N (fun j h1 h2 => p1 j (by omega)) a
  have rd : ∀ i, i < 1150 → a_rdi (wE (hB h 1150 f') m G N') h.1 a_int (nI i) = some (.int (nI (f' i))) := fun i hi => hB_rd hm hq hi (by omega)
  have fin := fun {M as v} => cZ_q (d := d+40) (M := M) (as := as) (v := v) hq i (hX_B (n := 1150) (f := f')) (by omega) (by omega) (fun j h5 => p1 j (by omega))
  have p46 := c_cn46 s hp
  have r := rd (l * 46 + p) (by omega)
  rw [p2.1 l p (Or.inl hl) hp] at r
  refine fin ?_
  rw [e_X1_columnAt]
  simp (disch := first | omega | assumption | exact Or.inl rfl | exact Or.inr rfl | exact wN_kls (by omega) | exact wE_kls (by omega) | (simp only [a_cat_nil, a_cat_int, a_cat_ref, a_cat_null, a_cat_long]; done) | (simp only [a_cat_nil, a_cat_int, a_cat_ref, a_cat_null, a_cat_long]; omega) | decide | rfl | (apply Or.inr; omega) | (apply Or.inl; omega)) only [w_X1_columnAt_0, w_X1_columnAt_1, w_X1_columnAt_2, w_X1_columnAt_3, w_X1_columnAt_6, w_X1_columnAt_7, w_X1_columnAt_10, w_X1_columnAt_13, w_X1_columnAt_14, w_X1_columnAt_16, w_X1_columnAt_17, w_X1_columnAt_18, w_X1_columnAt_19, w_X1_columnAt_20, w_ret, w_exc, Nat.reduceAdd, Option.toList_some, Option.toList_none, List.cons_append, List.nil_append, Option.bind_some, nI_add, q_mul, q_sub, q_eq, q_eqz, q_lt, q_ltz, q_gtz, q_le, q_lez, q_div, q_or, q_and, q_shl, q_shr, q_m1, q_eqm, q_meq, q_mm, q_mlt, q_mgt, q_mlt2, q_dec, Nat.add_sub_cancel, q_ltT, q_ltF, q_leT, q_leF, q_eqT, q_eqF, ↓reduceIte, uN_s, uN_n, upN_app, uG_s, uG_n, uG_uG, if_true, if_false, Nat.reduceMul, Nat.reduceSub, Nat.reduceEqDiff, Nat.reduceLT, and_true, true_and, and_false, false_and, or_true, true_or, or_false, false_or, not_true_eq_false, not_false_eq_true, Option.some.injEq, wEg_froms, wEg_tos, wEg_least, wEg_layers, wEg_rows, wEg_lengths, wEg_uppers, wEg_lowers, wEg_near, wEg_medians, wEg_points, wEg_boxes, wEp_boxes, wEg_arrows, wEp_arrows, wEg_depth, wEp_depth, wEg_made, wEp_made, wEg_come, wEp_come, wEr_uppers, wEw_uppers, wEr_lowers, wEw_lowers, wEr_near, wEw_near, wEr_medians, wEw_medians, wEr_points, wEw_points, wEr_froms, wEw_froms, wEr_tos, wEw_tos, wEr_least, wEw_least, wEr_layers, wEw_layers, wEr_rows, wEw_rows, wEr_lengths, wEw_lengths, wE_kls, g0, k1, p3, r]
theorem x_bendsOf {k : Nat} (i : cI H g m (nb, na, fr, to, le, row, ma, co) hs kp tx) (hk : k < na) : cZ (d+40) MX1_bendsOf [.int (nI k)] H g m (.inl (.int (nI (t_bn nb na fr to (t_ly na fr to le) row k)))) (nb, na, fr, to, le, row, ma, co) hs kp tx := by
  obtain ⟨h, G, N, rfl, hm, hq, c⟩ := cI_E i
  have ⟨g1, g2, kg, g0⟩ := cI_g i
  have s := c.2.1
  have a := cD_cA c
  have hd := cQ_dp a.2.1 s.1
  have s1 := s.1
  have s2 := s.2.1
  have hq1 : 1024 ≤ h.1 := by omega
  have k1 := x_arrow1 (d := d+33) (g := g) (x := nI k) hm hq kg g0 c ⟨k, hk, rfl⟩
  have ⟨f', N', p1, p2, p3⟩ := c_columns (d := d+34) (h := h) hm hq a
  have a' := cA_N (fun j h1 h2 => p1 j (by omega)) a
  have rd : ∀ i, i < 1150 → a_rdi (wE (hB h 1150 f') m G N') h.1 a_int (nI i) = some (.int (nI (f' i))) := fun i hi => hB_rd hm hq hi (by omega)
  have fin := fun {M as v} => cZ_q (d := d+40) (M := M) (as := as) (v := v) hq i (hX_B (n := 1150) (f := f')) (by omega) (by omega) (fun j h5 => p1 j (by omega))
  have b := c_bendsBy (d := d+34) hm a' p2 rd hk
  refine fin ?_
  rw [e_X1_bendsOf]
  simp (disch := first | omega | assumption | exact Or.inl rfl | exact Or.inr rfl | exact wN_kls (by omega) | exact wE_kls (by omega) | (simp only [a_cat_nil, a_cat_int, a_cat_ref, a_cat_null, a_cat_long]; done) | (simp only [a_cat_nil, a_cat_int, a_cat_ref, a_cat_null, a_cat_long]; omega) | decide | rfl | (apply Or.inr; omega) | (apply Or.inl; omega)) only [w_X1_bendsOf_0, w_X1_bendsOf_1, w_X1_bendsOf_2, w_X1_bendsOf_5, w_X1_bendsOf_6, w_X1_bendsOf_7, w_X1_bendsOf_10, w_X1_bendsOf_11, w_X1_bendsOf_12, w_X1_bendsOf_15, w_X1_bendsOf_18, w_X1_bendsOf_21, w_ret, w_exc, Nat.reduceAdd, Option.toList_some, Option.toList_none, List.cons_append, List.nil_append, Option.bind_some, nI_add, q_mul, q_sub, q_eq, q_eqz, q_lt, q_ltz, q_gtz, q_le, q_lez, q_div, q_or, q_and, q_shl, q_shr, q_m1, q_eqm, q_meq, q_mm, q_mlt, q_mgt, q_mlt2, q_dec, Nat.add_sub_cancel, q_ltT, q_ltF, q_leT, q_leF, q_eqT, q_eqF, ↓reduceIte, uN_s, uN_n, upN_app, uG_s, uG_n, uG_uG, if_true, if_false, Nat.reduceMul, Nat.reduceSub, Nat.reduceEqDiff, Nat.reduceLT, and_true, true_and, and_false, false_and, or_true, true_or, or_false, false_or, not_true_eq_false, not_false_eq_true, Option.some.injEq, wEg_froms, wEg_tos, wEg_least, wEg_layers, wEg_rows, wEg_lengths, wEg_uppers, wEg_lowers, wEg_near, wEg_medians, wEg_points, wEg_boxes, wEp_boxes, wEg_arrows, wEp_arrows, wEg_depth, wEp_depth, wEg_made, wEp_made, wEg_come, wEp_come, wEr_uppers, wEw_uppers, wEr_lowers, wEw_lowers, wEr_near, wEw_near, wEr_medians, wEw_medians, wEr_points, wEw_points, wEr_froms, wEw_froms, wEr_tos, wEw_tos, wEr_least, wEw_least, wEr_layers, wEw_layers, wEr_rows, wEw_rows, wEr_lengths, wEw_lengths, wE_kls, g0, k1, p3, b]
theorem x_straightLines (i : cI H g m (nb, na, fr, to, le, row, ma, co) hs kp tx) : cZ (d+40) MX1_straightLines [] H g m (.inl (.int (nI (t_li nb na fr to (t_ly na fr to le) row false)))) (nb, na, fr, to, le, row, ma, co) hs kp tx := by
  obtain ⟨h, G, N, rfl, hm, hq, c⟩ := cI_E i
  have ⟨g1, g2, kg, g0⟩ := cI_g i
  have s := c.2.1
  have a := cD_cA c
  have hd := cQ_dp a.2.1 s.1
  have s1 := s.1
  have s2 := s.2.1
  have hq1 : 1024 ≤ h.1 := by omega
  have ⟨f', N', p1, p2, p3⟩ := c_columns (d := d+34) (h := h) hm hq a
  have a' := cA_N (fun j h1 h2 => p1 j (by omega)) a
  have rd : ∀ i, i < 1150 → a_rdi (wE (hB h 1150 f') m G N') h.1 a_int (nI i) = some (.int (nI (f' i))) := fun i hi => hB_rd hm hq hi (by omega)
  have fin := fun {M as v} => cZ_q (d := d+40) (M := M) (as := as) (v := v) hq i (hX_B (n := 1150) (f := f')) (by omega) (by omega) (fun j h5 => p1 j (by omega))
  have b := c_straights (d := d+34) hm a' p2 rd
  refine fin ?_
  rw [e_X1_straightLines]
  simp (disch := first | omega | assumption | exact Or.inl rfl | exact Or.inr rfl | exact wN_kls (by omega) | exact wE_kls (by omega) | (simp only [a_cat_nil, a_cat_int, a_cat_ref, a_cat_null, a_cat_long]; done) | (simp only [a_cat_nil, a_cat_int, a_cat_ref, a_cat_null, a_cat_long]; omega) | decide | rfl | (apply Or.inr; omega) | (apply Or.inl; omega)) only [w_X1_straightLines_0, w_X1_straightLines_1, w_X1_straightLines_4, w_X1_straightLines_5, w_X1_straightLines_8, w_X1_straightLines_11, w_X1_straightLines_14, w_ret, w_exc, Nat.reduceAdd, Option.toList_some, Option.toList_none, List.cons_append, List.nil_append, Option.bind_some, nI_add, q_mul, q_sub, q_eq, q_eqz, q_lt, q_ltz, q_gtz, q_le, q_lez, q_div, q_or, q_and, q_shl, q_shr, q_m1, q_eqm, q_meq, q_mm, q_mlt, q_mgt, q_mlt2, q_dec, Nat.add_sub_cancel, q_ltT, q_ltF, q_leT, q_leF, q_eqT, q_eqF, ↓reduceIte, uN_s, uN_n, upN_app, uG_s, uG_n, uG_uG, if_true, if_false, Nat.reduceMul, Nat.reduceSub, Nat.reduceEqDiff, Nat.reduceLT, and_true, true_and, and_false, false_and, or_true, true_or, or_false, false_or, not_true_eq_false, not_false_eq_true, Option.some.injEq, wEg_froms, wEg_tos, wEg_least, wEg_layers, wEg_rows, wEg_lengths, wEg_uppers, wEg_lowers, wEg_near, wEg_medians, wEg_points, wEg_boxes, wEp_boxes, wEg_arrows, wEp_arrows, wEg_depth, wEp_depth, wEg_made, wEp_made, wEg_come, wEp_come, wEr_uppers, wEw_uppers, wEr_lowers, wEw_lowers, wEr_near, wEw_near, wEr_medians, wEw_medians, wEr_points, wEw_points, wEr_froms, wEw_froms, wEr_tos, wEw_tos, wEr_least, wEw_least, wEr_layers, wEw_layers, wEr_rows, wEw_rows, wEr_lengths, wEw_lengths, wE_kls, g0, p3, b]
theorem x_slant (i : cI H g m (nb, na, fr, to, le, row, ma, co) hs kp tx) : cZ (d+40) MX1_slant [] H g m (.inl (.int (nI (t_li nb na fr to (t_ly na fr to le) row true)))) (nb, na, fr, to, le, row, ma, co) hs kp tx := by
  obtain ⟨h, G, N, rfl, hm, hq, c⟩ := cI_E i
  have ⟨g1, g2, kg, g0⟩ := cI_g i
  have s := c.2.1
  have a := cD_cA c
  have hd := cQ_dp a.2.1 s.1
  have s1 := s.1
  have s2 := s.2.1
  have hq1 : 1024 ≤ h.1 := by omega
  have ⟨f', N', p1, p2, p3⟩ := c_columns (d := d+34) (h := h) hm hq a
  have a' := cA_N (fun j h1 h2 => p1 j (by omega)) a
  have rd : ∀ i, i < 1150 → a_rdi (wE (hB h 1150 f') m G N') h.1 a_int (nI i) = some (.int (nI (f' i))) := fun i hi => hB_rd hm hq hi (by omega)
  have fin := fun {M as v} => cZ_q (d := d+40) (M := M) (as := as) (v := v) hq i (hX_B (n := 1150) (f := f')) (by omega) (by omega) (fun j h5 => p1 j (by omega))
  have b := c_slants (d := d+34) hm a' p2 rd
  refine fin ?_
  rw [e_X1_slant]
  simp (disch := first | omega | assumption | exact Or.inl rfl | exact Or.inr rfl | exact wN_kls (by omega) | exact wE_kls (by omega) | (simp only [a_cat_nil, a_cat_int, a_cat_ref, a_cat_null, a_cat_long]; done) | (simp only [a_cat_nil, a_cat_int, a_cat_ref, a_cat_null, a_cat_long]; omega) | decide | rfl | (apply Or.inr; omega) | (apply Or.inl; omega)) only [w_X1_slant_0, w_X1_slant_1, w_X1_slant_4, w_X1_slant_5, w_X1_slant_8, w_X1_slant_11, w_X1_slant_14, w_ret, w_exc, Nat.reduceAdd, Option.toList_some, Option.toList_none, List.cons_append, List.nil_append, Option.bind_some, nI_add, q_mul, q_sub, q_eq, q_eqz, q_lt, q_ltz, q_gtz, q_le, q_lez, q_div, q_or, q_and, q_shl, q_shr, q_m1, q_eqm, q_meq, q_mm, q_mlt, q_mgt, q_mlt2, q_dec, Nat.add_sub_cancel, q_ltT, q_ltF, q_leT, q_leF, q_eqT, q_eqF, ↓reduceIte, uN_s, uN_n, upN_app, uG_s, uG_n, uG_uG, if_true, if_false, Nat.reduceMul, Nat.reduceSub, Nat.reduceEqDiff, Nat.reduceLT, and_true, true_and, and_false, false_and, or_true, true_or, or_false, false_or, not_true_eq_false, not_false_eq_true, Option.some.injEq, wEg_froms, wEg_tos, wEg_least, wEg_layers, wEg_rows, wEg_lengths, wEg_uppers, wEg_lowers, wEg_near, wEg_medians, wEg_points, wEg_boxes, wEp_boxes, wEg_arrows, wEp_arrows, wEg_depth, wEp_depth, wEg_made, wEp_made, wEg_come, wEp_come, wEr_uppers, wEw_uppers, wEr_lowers, wEw_lowers, wEr_near, wEw_near, wEr_medians, wEw_medians, wEr_points, wEw_points, wEr_froms, wEw_froms, wEr_tos, wEw_tos, wEr_least, wEw_least, wEr_layers, wEw_layers, wEr_rows, wEw_rows, wEr_lengths, wEw_lengths, wE_kls, g0, p3, b]
theorem x_bends (i : cI H g m (nb, na, fr, to, le, row, ma, co) hs kp tx) : cZ (d+40) MX1_bends [] H g m (.inl (.int (nI (t_bs nb na fr to (t_ly na fr to le) row)))) (nb, na, fr, to, le, row, ma, co) hs kp tx := by
  obtain ⟨h, G, N, rfl, hm, hq, c⟩ := cI_E i
  have ⟨g1, g2, kg, g0⟩ := cI_g i
  have s := c.2.1
  have a := cD_cA c
  have hd := cQ_dp a.2.1 s.1
  have s1 := s.1
  have s2 := s.2.1
  have hq1 : 1024 ≤ h.1 := by omega
  have go := cI_out i
  have gl : g < h.1 := g2
  have ⟨f', N', p1, p2, p3⟩ := c_columns (d := d+34) (h := h) hm hq a
  have a' := cA_N (fun j h1 h2 => p1 j (by omega)) a
  have rd : ∀ i, i < 1150 → a_rdi (wE (hB h 1150 f') m G N') h.1 a_int (nI i) = some (.int (nI (f' i))) := fun i hi => hB_rd hm hq hi (by omega)
  have fin := fun {M as v} => cZ_q (d := d+40) (M := M) (as := as) (v := v) hq i (hX_B (n := 1150) (f := f')) (by omega) (by omega) (fun j h5 => p1 j (by omega))
  have g' := (gf_keep (G := G) (G' := G) (N := N) (N' := N') (k := 0) (cs := [0]) (hX_B (n := 1150) (f := f')) gl go).trans g0
  have e := a'.1.2.2.2.1
  have ⟨_, _, z2⟩ := l_for (σ := Unit) (fun k x => a_run (d+39) MX1_bends 12 [some (.ref g), some (.ref (h.1)), some (.int (nI (t_sum (t_bn nb na fr to (t_ly na fr to le) row) k))), some (.int (nI k))] [] (wE (hB h 1150 f') m G N')) (fun k x => True) na (fun k x hk _ => ⟨(), trivial, by
    have b := c_bendsBy (d := d+34) hm a' p2 rd hk
    try dsimp only
    rw [show t_sum (t_bn nb na fr to (t_ly na fr to le) row) (k + 1) = t_sum (t_bn nb na fr to (t_ly na fr to le) row) k + t_bn nb na fr to (t_ly na fr to le) row k from rfl, w_X1_bends_12]
    simp (disch := first | omega | assumption | exact Or.inl rfl | exact Or.inr rfl | exact wN_kls (by omega) | exact wE_kls (by omega) | (simp only [a_cat_nil, a_cat_int, a_cat_ref, a_cat_null, a_cat_long]; done) | (simp only [a_cat_nil, a_cat_int, a_cat_ref, a_cat_null, a_cat_long]; omega) | decide | rfl | (apply Or.inr; omega) | (apply Or.inl; omega)) only [w_X1_bends_13, w_X1_bends_14, w_X1_bends_17, w_X1_bends_20, w_X1_bends_23, w_X1_bends_24, w_X1_bends_25, w_X1_bends_28, w_X1_bends_29, w_X1_bends_29N, w_X1_bends_30, w_X1_bends_33, w_X1_bends_34, w_X1_bends_35, w_X1_bends_38, w_ret, w_exc, Nat.reduceAdd, Option.toList_some, Option.toList_none, List.cons_append, List.nil_append, Option.bind_some, nI_add, q_mul, q_sub, q_eq, q_eqz, q_lt, q_ltz, q_gtz, q_le, q_lez, q_div, q_or, q_and, q_shl, q_shr, q_m1, q_eqm, q_meq, q_mm, q_mlt, q_mgt, q_mlt2, q_dec, Nat.add_sub_cancel, q_ltT, q_ltF, q_leT, q_leF, q_eqT, q_eqF, ↓reduceIte, uN_s, uN_n, upN_app, uG_s, uG_n, uG_uG, if_true, if_false, Nat.reduceMul, Nat.reduceSub, Nat.reduceEqDiff, Nat.reduceLT, and_true, true_and, and_false, false_and, or_true, true_or, or_false, false_or, not_true_eq_false, not_false_eq_true, Option.some.injEq, wEg_froms, wEg_tos, wEg_least, wEg_layers, wEg_rows, wEg_lengths, wEg_uppers, wEg_lowers, wEg_near, wEg_medians, wEg_points, wEg_boxes, wEp_boxes, wEg_arrows, wEp_arrows, wEg_depth, wEp_depth, wEg_made, wEp_made, wEg_come, wEp_come, wEr_uppers, wEw_uppers, wEr_lowers, wEw_lowers, wEr_near, wEw_near, wEr_medians, wEw_medians, wEr_points, wEw_points, wEr_froms, wEw_froms, wEr_tos, wEw_tos, wEr_least, wEw_least, wEr_layers, wEw_layers, wEr_rows, wEw_rows, wEr_lengths, wEw_lengths, wE_kls, g', e, b]⟩) _ 0 () (Nat.zero_add _) trivial
  rw [show t_sum (t_bn nb na fr to (t_ly na fr to le) row) 0 = 0 from rfl, show t_sum (t_bn nb na fr to (t_ly na fr to le) row) na = t_bs nb na fr to (t_ly na fr to le) row from rfl] at z2
  refine fin ?_
  rw [e_X1_bends]
  simp (disch := first | omega | assumption | exact Or.inl rfl | exact Or.inr rfl | exact wN_kls (by omega) | exact wE_kls (by omega) | (simp only [a_cat_nil, a_cat_int, a_cat_ref, a_cat_null, a_cat_long]; done) | (simp only [a_cat_nil, a_cat_int, a_cat_ref, a_cat_null, a_cat_long]; omega) | decide | rfl | (apply Or.inr; omega) | (apply Or.inl; omega)) only [w_X1_bends_0, w_X1_bends_1, w_X1_bends_4, w_X1_bends_7, w_X1_bends_7N, w_X1_bends_8, w_X1_bends_9, w_X1_bends_10, w_X1_bends_11, w_ret, w_exc, Nat.reduceAdd, Option.toList_some, Option.toList_none, List.cons_append, List.nil_append, Option.bind_some, nI_add, q_mul, q_sub, q_eq, q_eqz, q_lt, q_ltz, q_gtz, q_le, q_lez, q_div, q_or, q_and, q_shl, q_shr, q_m1, q_eqm, q_meq, q_mm, q_mlt, q_mgt, q_mlt2, q_dec, Nat.add_sub_cancel, q_ltT, q_ltF, q_leT, q_leF, q_eqT, q_eqF, ↓reduceIte, uN_s, uN_n, upN_app, uG_s, uG_n, uG_uG, if_true, if_false, Nat.reduceMul, Nat.reduceSub, Nat.reduceEqDiff, Nat.reduceLT, and_true, true_and, and_false, false_and, or_true, true_or, or_false, false_or, not_true_eq_false, not_false_eq_true, Option.some.injEq, wEg_froms, wEg_tos, wEg_least, wEg_layers, wEg_rows, wEg_lengths, wEg_uppers, wEg_lowers, wEg_near, wEg_medians, wEg_points, wEg_boxes, wEp_boxes, wEg_arrows, wEp_arrows, wEg_depth, wEp_depth, wEg_made, wEp_made, wEg_come, wEp_come, wEr_uppers, wEw_uppers, wEr_lowers, wEw_lowers, wEr_near, wEw_near, wEr_medians, wEw_medians, wEr_points, wEw_points, wEr_froms, wEw_froms, wEr_tos, wEw_tos, wEr_least, wEw_least, wEr_layers, wEw_layers, wEr_rows, wEw_rows, wEr_lengths, wEw_lengths, wE_kls, g0, p3]
  rw [z2, w_X1_bends_12]
  simp (disch := first | omega | assumption | exact Or.inl rfl | exact Or.inr rfl | exact wN_kls (by omega) | exact wE_kls (by omega) | (simp only [a_cat_nil, a_cat_int, a_cat_ref, a_cat_null, a_cat_long]; done) | (simp only [a_cat_nil, a_cat_int, a_cat_ref, a_cat_null, a_cat_long]; omega) | decide | rfl | (apply Or.inr; omega) | (apply Or.inl; omega)) only [w_X1_bends_13, w_X1_bends_14, w_X1_bends_17, w_X1_bends_20, w_X1_bends_41, w_X1_bends_42, w_ret, w_exc, Nat.reduceAdd, Option.toList_some, Option.toList_none, List.cons_append, List.nil_append, Option.bind_some, nI_add, q_mul, q_sub, q_eq, q_eqz, q_lt, q_ltz, q_gtz, q_le, q_lez, q_div, q_or, q_and, q_shl, q_shr, q_m1, q_eqm, q_meq, q_mm, q_mlt, q_mgt, q_mlt2, q_dec, Nat.add_sub_cancel, q_ltT, q_ltF, q_leT, q_leF, q_eqT, q_eqF, ↓reduceIte, uN_s, uN_n, upN_app, uG_s, uG_n, uG_uG, if_true, if_false, Nat.reduceMul, Nat.reduceSub, Nat.reduceEqDiff, Nat.reduceLT, and_true, true_and, and_false, false_and, or_true, true_or, or_false, false_or, not_true_eq_false, not_false_eq_true, Option.some.injEq, wEg_froms, wEg_tos, wEg_least, wEg_layers, wEg_rows, wEg_lengths, wEg_uppers, wEg_lowers, wEg_near, wEg_medians, wEg_points, wEg_boxes, wEp_boxes, wEg_arrows, wEp_arrows, wEg_depth, wEp_depth, wEg_made, wEp_made, wEg_come, wEp_come, wEr_uppers, wEw_uppers, wEr_lowers, wEw_lowers, wEr_near, wEw_near, wEr_medians, wEw_medians, wEr_points, wEw_points, wEr_froms, wEw_froms, wEr_tos, wEw_tos, wEr_least, wEw_least, wEr_layers, wEw_layers, wEr_rows, wEw_rows, wEr_lengths, wEw_lengths, wE_kls, g', e]
theorem x_widest (i : cI H g m (nb, na, fr, to, le, row, ma, co) hs kp tx) : cZ (d+40) MX1_widest [] H g m (.inl (.int (nI (t_wd nb na fr to (t_ly na fr to le) row)))) (nb, na, fr, to, le, row, ma, co) hs kp tx := by
  obtain ⟨h, G, N, rfl, hm, hq, c⟩ := cI_E i
  have ⟨g1, g2, kg, g0⟩ := cI_g i
  have s := c.2.1
  have a := cD_cA c
  have hd := cQ_dp a.2.1 s.1
  have s1 := s.1
  have s2 := s.2.1
  have hq1 : 1024 ≤ h.1 := by omega
  have ⟨f', N', p1, p2, p3⟩ := c_columns (d := d+34) (h := h) hm hq a
  have a' := cA_N (fun j h1 h2 => p1 j (by omega)) a
  have rd : ∀ i, i < 1150 → a_rdi (wE (hB h 1150 f') m G N') h.1 a_int (nI i) = some (.int (nI (f' i))) := fun i hi => hB_rd hm hq hi (by omega)
  have fin := fun {M as v} => cZ_q (d := d+40) (M := M) (as := as) (v := v) hq i (hX_B (n := 1150) (f := f')) (by omega) (by omega) (fun j h5 => p1 j (by omega))
  have bd : ∀ i, f' i < 10000 := fun i => by
    rcases p2.2 i with w | ⟨l, q, w1, w2, w3⟩
    · omega
    · have q46 := c_cn46 s w2
      rw [w3, p2.1 l q w1 w2]
      have := t_c2_le (fr := fr) (to := to) (y := (t_ly na fr to le)) (row := row) s1 s2 l q
      omega
  have ln : a_len (wE (hB h 1150 f') m G N') h.1 = some (.int (nI 1150)) := by
    unfold a_len
    rw [hB_at hq]
    exact if_pos (Or.inl hq1)
  have wd : t_mx f' 1150 = t_wd nb na fr to (t_ly na fr to le) row := by
    refine Nat.le_antisymm (t_mx_bd _ fun i hi => ?_) (t_mx_bd _ fun l hl => t_mx_bd _ fun p hp => ?_)
    · rcases p2.2 i with w | ⟨l, q, w1, w2, w3⟩
      · omega
      · rw [w3, p2.1 l q w1 w2]
        exact Nat.le_trans (t_mx_le (f := t_c2 nb na fr to (t_ly na fr to le) row l) _ w2) (t_mx_le (f := fun l => t_mx (t_c2 nb na fr to (t_ly na fr to le) row l) (t_cn nb na fr to (t_ly na fr to le) l)) _ (show l < t_dp (t_ly na fr to le) nb by omega))
    · have p46 := c_cn46 s hp
      rw [← p2.1 l p (Or.inl hl) hp]
      exact t_mx_le _ (by omega)
  have ⟨x5, _, z2⟩ := l_for (fun k (x : Option Value) => a_run (d+39) MX1_widest 16 [some (.ref g), some (.int (nI (t_mx f' k))), some (.ref (h.1)), some (.int (nI 1150)), some (.int (nI k)), x] [] (wE (hB h 1150 f') m G N')) (fun k x => True) 1150 (fun k x hk _ => by
    have b := bd k
    have b' : t_mx f' k < 10001 := Nat.lt_succ_of_le (t_mx_bd k fun i hi => Nat.le_of_lt (bd i))
    have r := rd k hk
    refine ⟨some (.int (nI (f' k))), trivial, ?_⟩
    try dsimp only
    rw [w_X1_widest_16, show t_mx f' (k + 1) = if t_mx f' k < f' k then f' k else t_mx f' k from rfl]
    by_cases w : t_mx f' k < f' k
    · rw [if_pos w]
      simp (disch := first | omega | assumption | exact Or.inl rfl | exact Or.inr rfl | exact wN_kls (by omega) | exact wE_kls (by omega) | (simp only [a_cat_nil, a_cat_int, a_cat_ref, a_cat_null, a_cat_long]; done) | (simp only [a_cat_nil, a_cat_int, a_cat_ref, a_cat_null, a_cat_long]; omega) | decide | rfl | (apply Or.inr; omega) | (apply Or.inl; omega)) only [w_X1_widest_18, w_X1_widest_19, w_X1_widest_22, w_X1_widest_22N, w_X1_widest_23, w_X1_widest_25, w_X1_widest_26, w_X1_widest_28, w_X1_widest_29, w_X1_widest_31, w_X1_widest_34, w_X1_widest_35, w_X1_widest_38, w_ret, w_exc, Nat.reduceAdd, Option.toList_some, Option.toList_none, List.cons_append, List.nil_append, Option.bind_some, nI_add, q_mul, q_sub, q_eq, q_eqz, q_lt, q_ltz, q_gtz, q_le, q_lez, q_div, q_or, q_and, q_shl, q_shr, q_m1, q_eqm, q_meq, q_mm, q_mlt, q_mgt, q_mlt2, q_dec, Nat.add_sub_cancel, q_ltT, q_ltF, q_leT, q_leF, q_eqT, q_eqF, ↓reduceIte, uN_s, uN_n, upN_app, uG_s, uG_n, uG_uG, if_true, if_false, Nat.reduceMul, Nat.reduceSub, Nat.reduceEqDiff, Nat.reduceLT, and_true, true_and, and_false, false_and, or_true, true_or, or_false, false_or, not_true_eq_false, not_false_eq_true, Option.some.injEq, wEg_froms, wEg_tos, wEg_least, wEg_layers, wEg_rows, wEg_lengths, wEg_uppers, wEg_lowers, wEg_near, wEg_medians, wEg_points, wEg_boxes, wEp_boxes, wEg_arrows, wEp_arrows, wEg_depth, wEp_depth, wEg_made, wEp_made, wEg_come, wEp_come, wEr_uppers, wEw_uppers, wEr_lowers, wEw_lowers, wEr_near, wEw_near, wEr_medians, wEw_medians, wEr_points, wEw_points, wEr_froms, wEw_froms, wEr_tos, wEw_tos, wEr_least, wEw_least, wEr_layers, wEw_layers, wEr_rows, wEw_rows, wEr_lengths, wEw_lengths, wE_kls, r]
    · rw [if_neg w]
      simp (disch := first | omega | assumption | exact Or.inl rfl | exact Or.inr rfl | exact wN_kls (by omega) | exact wE_kls (by omega) | (simp only [a_cat_nil, a_cat_int, a_cat_ref, a_cat_null, a_cat_long]; done) | (simp only [a_cat_nil, a_cat_int, a_cat_ref, a_cat_null, a_cat_long]; omega) | decide | rfl | (apply Or.inr; omega) | (apply Or.inl; omega)) only [w_X1_widest_18, w_X1_widest_19, w_X1_widest_22, w_X1_widest_22N, w_X1_widest_23, w_X1_widest_25, w_X1_widest_26, w_X1_widest_28, w_X1_widest_29, w_X1_widest_31, w_X1_widest_34, w_X1_widest_35, w_X1_widest_38, w_ret, w_exc, Nat.reduceAdd, Option.toList_some, Option.toList_none, List.cons_append, List.nil_append, Option.bind_some, nI_add, q_mul, q_sub, q_eq, q_eqz, q_lt, q_ltz, q_gtz, q_le, q_lez, q_div, q_or, q_and, q_shl, q_shr, q_m1, q_eqm, q_meq, q_mm, q_mlt, q_mgt, q_mlt2, q_dec, Nat.add_sub_cancel, q_ltT, q_ltF, q_leT, q_leF, q_eqT, q_eqF, ↓reduceIte, uN_s, uN_n, upN_app, uG_s, uG_n, uG_uG, if_true, if_false, Nat.reduceMul, Nat.reduceSub, Nat.reduceEqDiff, Nat.reduceLT, and_true, true_and, and_false, false_and, or_true, true_or, or_false, false_or, not_true_eq_false, not_false_eq_true, Option.some.injEq, wEg_froms, wEg_tos, wEg_least, wEg_layers, wEg_rows, wEg_lengths, wEg_uppers, wEg_lowers, wEg_near, wEg_medians, wEg_points, wEg_boxes, wEp_boxes, wEg_arrows, wEp_arrows, wEg_depth, wEp_depth, wEg_made, wEp_made, wEg_come, wEp_come, wEr_uppers, wEw_uppers, wEr_lowers, wEw_lowers, wEr_near, wEw_near, wEr_medians, wEw_medians, wEr_points, wEw_points, wEr_froms, wEw_froms, wEr_tos, wEw_tos, wEr_least, wEw_least, wEr_layers, wEw_layers, wEr_rows, wEw_rows, wEr_lengths, wEw_lengths, wE_kls, r]) _ 0 none (Nat.zero_add _) trivial
  rw [show t_mx f' 0 = 0 from rfl, wd] at z2
  refine fin ?_
  rw [e_X1_widest]
  simp (disch := first | omega | assumption | exact Or.inl rfl | exact Or.inr rfl | exact wN_kls (by omega) | exact wE_kls (by omega) | (simp only [a_cat_nil, a_cat_int, a_cat_ref, a_cat_null, a_cat_long]; done) | (simp only [a_cat_nil, a_cat_int, a_cat_ref, a_cat_null, a_cat_long]; omega) | decide | rfl | (apply Or.inr; omega) | (apply Or.inl; omega)) only [w_X1_widest_0, w_X1_widest_1, w_X1_widest_2, w_X1_widest_3, w_X1_widest_6, w_X1_widest_9, w_X1_widest_9N, w_X1_widest_10, w_X1_widest_10N, w_X1_widest_11, w_X1_widest_12, w_X1_widest_13, w_X1_widest_14, w_ret, w_exc, Nat.reduceAdd, Option.toList_some, Option.toList_none, List.cons_append, List.nil_append, Option.bind_some, nI_add, q_mul, q_sub, q_eq, q_eqz, q_lt, q_ltz, q_gtz, q_le, q_lez, q_div, q_or, q_and, q_shl, q_shr, q_m1, q_eqm, q_meq, q_mm, q_mlt, q_mgt, q_mlt2, q_dec, Nat.add_sub_cancel, q_ltT, q_ltF, q_leT, q_leF, q_eqT, q_eqF, ↓reduceIte, uN_s, uN_n, upN_app, uG_s, uG_n, uG_uG, if_true, if_false, Nat.reduceMul, Nat.reduceSub, Nat.reduceEqDiff, Nat.reduceLT, and_true, true_and, and_false, false_and, or_true, true_or, or_false, false_or, not_true_eq_false, not_false_eq_true, Option.some.injEq, wEg_froms, wEg_tos, wEg_least, wEg_layers, wEg_rows, wEg_lengths, wEg_uppers, wEg_lowers, wEg_near, wEg_medians, wEg_points, wEg_boxes, wEp_boxes, wEg_arrows, wEp_arrows, wEg_depth, wEp_depth, wEg_made, wEp_made, wEg_come, wEp_come, wEr_uppers, wEw_uppers, wEr_lowers, wEw_lowers, wEr_near, wEw_near, wEr_medians, wEw_medians, wEr_points, wEw_points, wEr_froms, wEw_froms, wEr_tos, wEw_tos, wEr_least, wEw_least, wEr_layers, wEw_layers, wEr_rows, wEw_rows, wEr_lengths, wEw_lengths, wE_kls, g0, p3, ln]
  rw [z2, w_X1_widest_16]
  simp (disch := first | omega | assumption | exact Or.inl rfl | exact Or.inr rfl | exact wN_kls (by omega) | exact wE_kls (by omega) | (simp only [a_cat_nil, a_cat_int, a_cat_ref, a_cat_null, a_cat_long]; done) | (simp only [a_cat_nil, a_cat_int, a_cat_ref, a_cat_null, a_cat_long]; omega) | decide | rfl | (apply Or.inr; omega) | (apply Or.inl; omega)) only [w_X1_widest_18, w_X1_widest_19, w_X1_widest_41, w_X1_widest_42, w_ret, w_exc, Nat.reduceAdd, Option.toList_some, Option.toList_none, List.cons_append, List.nil_append, Option.bind_some, nI_add, q_mul, q_sub, q_eq, q_eqz, q_lt, q_ltz, q_gtz, q_le, q_lez, q_div, q_or, q_and, q_shl, q_shr, q_m1, q_eqm, q_meq, q_mm, q_mlt, q_mgt, q_mlt2, q_dec, Nat.add_sub_cancel, q_ltT, q_ltF, q_leT, q_leF, q_eqT, q_eqF, ↓reduceIte, uN_s, uN_n, upN_app, uG_s, uG_n, uG_uG, if_true, if_false, Nat.reduceMul, Nat.reduceSub, Nat.reduceEqDiff, Nat.reduceLT, and_true, true_and, and_false, false_and, or_true, true_or, or_false, false_or, not_true_eq_false, not_false_eq_true, Option.some.injEq, wEg_froms, wEg_tos, wEg_least, wEg_layers, wEg_rows, wEg_lengths, wEg_uppers, wEg_lowers, wEg_near, wEg_medians, wEg_points, wEg_boxes, wEp_boxes, wEg_arrows, wEp_arrows, wEg_depth, wEp_depth, wEg_made, wEp_made, wEg_come, wEp_come, wEr_uppers, wEw_uppers, wEr_lowers, wEw_lowers, wEr_near, wEw_near, wEr_medians, wEw_medians, wEr_points, wEw_points, wEr_froms, wEw_froms, wEr_tos, wEw_tos, wEr_least, wEw_least, wEr_layers, wEw_layers, wEr_rows, wEw_rows, wEr_lengths, wEw_lengths, wE_kls]
theorem x_meanPoints1 (i : cI H g m (nb, na, fr, to, le, row, ma, co) hs kp tx) (q : nb = 0) : cZ (d+40) MX1_meanPoints [] H g m (.inr 10) (nb, na, fr, to, le, row, ma, co) hs kp tx := by
  obtain ⟨h, G, N, rfl, hm, hq, c⟩ := cI_E i
  have ⟨g1, g2, kg, g0⟩ := cI_g i
  have s := c.2.1
  have a := cD_cA c
  have hd := cQ_dp a.2.1 s.1
  have s1 := s.1
  have s2 := s.2.1
  have hq1 : 1024 ≤ h.1 := by omega
  have e := s.2.2.1
  have ⟨h', y1, ⟨t, y2⟩, y3, y4⟩ := k_suchE (d := d+34) (G := G) (N := N) hm hq
  have t4 := fun pc L => y4 (d+39) MX1_meanPoints pc L rfl
  refine cZ_t hq i y1 (by omega) (by omega) (fun _ _ => rfl) (show 1024 ≤ h.1 by omega) y2 ?_
  rw [e_X1_meanPoints]
  simp (disch := first | omega | assumption | exact Or.inl rfl | exact Or.inr rfl | exact wN_kls (by omega) | exact wE_kls (by omega) | (simp only [a_cat_nil, a_cat_int, a_cat_ref, a_cat_null, a_cat_long]; done) | (simp only [a_cat_nil, a_cat_int, a_cat_ref, a_cat_null, a_cat_long]; omega) | decide | rfl | (apply Or.inr; omega) | (apply Or.inl; omega)) only [w_X1_meanPoints_0, w_X1_meanPoints_1, w_X1_meanPoints_4, w_X1_meanPoints_7, w_X1_meanPoints_10, w_X1_meanPoints_11, w_X1_meanPoints_14, w_X1_meanPoints_15, w_ret, w_exc, Nat.reduceAdd, Option.toList_some, Option.toList_none, List.cons_append, List.nil_append, Option.bind_some, nI_add, q_mul, q_sub, q_eq, q_eqz, q_lt, q_ltz, q_gtz, q_le, q_lez, q_div, q_or, q_and, q_shl, q_shr, q_m1, q_eqm, q_meq, q_mm, q_mlt, q_mgt, q_mlt2, q_dec, Nat.add_sub_cancel, q_ltT, q_ltF, q_leT, q_leF, q_eqT, q_eqF, ↓reduceIte, uN_s, uN_n, upN_app, uG_s, uG_n, uG_uG, if_true, if_false, Nat.reduceMul, Nat.reduceSub, Nat.reduceEqDiff, Nat.reduceLT, and_true, true_and, and_false, false_and, or_true, true_or, or_false, false_or, not_true_eq_false, not_false_eq_true, Option.some.injEq, wEg_froms, wEg_tos, wEg_least, wEg_layers, wEg_rows, wEg_lengths, wEg_uppers, wEg_lowers, wEg_near, wEg_medians, wEg_points, wEg_boxes, wEp_boxes, wEg_arrows, wEp_arrows, wEg_depth, wEp_depth, wEg_made, wEp_made, wEg_come, wEp_come, wEr_uppers, wEw_uppers, wEr_lowers, wEw_lowers, wEr_near, wEw_near, wEr_medians, wEw_medians, wEr_points, wEw_points, wEr_froms, wEw_froms, wEr_tos, wEw_tos, wEr_least, wEw_least, wEr_layers, wEw_layers, wEr_rows, wEw_rows, wEr_lengths, wEw_lengths, wE_kls, g0, e, q, y3, t4]
theorem x_meanPoints (i : cI H g m (nb, na, fr, to, le, row, ma, co) hs kp tx) (q : nb ≠ 0) : cZ (d+40) MX1_meanPoints [] H g m (.inl (.float (FP.fdiv (FP.i2f (nI (t_al nb na fr to (t_ly na fr to le)))) (FP.i2f (nI (t_dp (t_ly na fr to le) nb)))))) (nb, na, fr, to, le, row, ma, co) hs kp tx := by
  obtain ⟨h, G, N, rfl, hm, hq, c⟩ := cI_E i
  have ⟨g1, g2, kg, g0⟩ := cI_g i
  have s := c.2.1
  have a := cD_cA c
  have hd := cQ_dp a.2.1 s.1
  have s1 := s.1
  have s2 := s.2.1
  have hq1 : 1024 ≤ h.1 := by omega
  have e := s.2.2.1
  have e2 := c.2.2.1.2.2.1
  have nd := k_such1 (d := d+34) (h := wE h m G N)
  have pc := c_pointCount (d := d+38) (h := h) hm a
  have al : t_al nb na fr to (t_ly na fr to le) ≤ 706 := t_st_le s1 s2 (fun k hk => by
    have := t_OK_y c.1 (t_OK_BX c.1 k hk).2
    omega) _
  have dd := t_dp_le (y := (t_ly na fr to le)) nb (show 0 < nb by omega)
  have hf := q_fd al hd (show t_dp (t_ly na fr to le) nb ≠ 0 by omega)
  refine cZ_0 hq i (fun _ _ => rfl) ?_
  rw [e_X1_meanPoints]
  simp (disch := first | omega | assumption | exact Or.inl rfl | exact Or.inr rfl | exact wN_kls (by omega) | exact wE_kls (by omega) | (simp only [a_cat_nil, a_cat_int, a_cat_ref, a_cat_null, a_cat_long]; done) | (simp only [a_cat_nil, a_cat_int, a_cat_ref, a_cat_null, a_cat_long]; omega) | decide | rfl | (apply Or.inr; omega) | (apply Or.inl; omega)) only [w_X1_meanPoints_0, w_X1_meanPoints_1, w_X1_meanPoints_4, w_X1_meanPoints_7, w_X1_meanPoints_10, w_X1_meanPoints_11, w_X1_meanPoints_14, w_X1_meanPoints_15, w_X1_meanPoints_18, w_X1_meanPoints_19, w_X1_meanPoints_22, w_X1_meanPoints_25, w_X1_meanPoints_26, w_X1_meanPoints_27, w_X1_meanPoints_30, w_X1_meanPoints_33, w_X1_meanPoints_34, w_X1_meanPoints_35, w_ret, w_exc, Nat.reduceAdd, Option.toList_some, Option.toList_none, List.cons_append, List.nil_append, Option.bind_some, nI_add, q_mul, q_sub, q_eq, q_eqz, q_lt, q_ltz, q_gtz, q_le, q_lez, q_div, q_or, q_and, q_shl, q_shr, q_m1, q_eqm, q_meq, q_mm, q_mlt, q_mgt, q_mlt2, q_dec, Nat.add_sub_cancel, q_ltT, q_ltF, q_leT, q_leF, q_eqT, q_eqF, ↓reduceIte, uN_s, uN_n, upN_app, uG_s, uG_n, uG_uG, if_true, if_false, Nat.reduceMul, Nat.reduceSub, Nat.reduceEqDiff, Nat.reduceLT, and_true, true_and, and_false, false_and, or_true, true_or, or_false, false_or, not_true_eq_false, not_false_eq_true, Option.some.injEq, wEg_froms, wEg_tos, wEg_least, wEg_layers, wEg_rows, wEg_lengths, wEg_uppers, wEg_lowers, wEg_near, wEg_medians, wEg_points, wEg_boxes, wEp_boxes, wEg_arrows, wEp_arrows, wEg_depth, wEp_depth, wEg_made, wEp_made, wEg_come, wEp_come, wEr_uppers, wEw_uppers, wEr_lowers, wEw_lowers, wEr_near, wEw_near, wEr_medians, wEw_medians, wEr_points, wEw_points, wEr_froms, wEw_froms, wEr_tos, wEw_tos, wEr_least, wEw_least, wEr_layers, wEw_layers, wEr_rows, wEw_rows, wEr_lengths, wEw_lengths, wE_kls, g0, e, e2, nd, pc]
theorem x_doesHear1 {x z : Int32} (i : cI H g m (nb, na, fr, to, le, row, ma, co) hs kp tx) (q : ¬ (vB nb x ∧ vB nb z)) : cZ (d+40) MX1_doesHear [.int x, .int z] H g m (.inr 11) (nb, na, fr, to, le, row, ma, co) hs kp tx := by
  obtain ⟨h, G, N, rfl, hm, hq, c⟩ := cI_E i
  have ⟨g1, g2, kg, g0⟩ := cI_g i
  have s := c.2.1
  have a := cD_cA c
  have hd := cQ_dp a.2.1 s.1
  have s1 := s.1
  have s2 := s.2.1
  have hq1 : 1024 ≤ h.1 := by omega
  have ⟨b, b1, b2⟩ := c_isBox (d := d+37) (h := h) (N := N) (x := x) hm s.2.2.1 s1
  have ⟨b', p1, p2⟩ := c_isBox (d := d+37) (h := h) (N := N) (x := z) hm s.2.2.1 s1
  have ⟨h', y1, ⟨t, y2⟩, y3, y4⟩ := k_argE (d := d+34) (G := G) (N := N) hm hq
  have t4 := fun pc L => y4 (d+39) MX1_doesHear pc L rfl
  refine cZ_t hq i y1 (by omega) (by omega) (fun _ _ => rfl) (show 1024 ≤ h.1 by omega) y2 ?_
  rw [e_X1_doesHear]
  cases b
  · rw [Bool.toNat_false] at b2
    simp (disch := first | omega | assumption | exact Or.inl rfl | exact Or.inr rfl | exact wN_kls (by omega) | exact wE_kls (by omega) | (simp only [a_cat_nil, a_cat_int, a_cat_ref, a_cat_null, a_cat_long]; done) | (simp only [a_cat_nil, a_cat_int, a_cat_ref, a_cat_null, a_cat_long]; omega) | decide | rfl | (apply Or.inr; omega) | (apply Or.inl; omega)) only [w_X1_doesHear_0, w_X1_doesHear_1, w_X1_doesHear_4, w_X1_doesHear_5, w_X1_doesHear_8, w_X1_doesHear_11, w_X1_doesHear_12, w_X1_doesHear_15, w_X1_doesHear_16, w_X1_doesHear_19, w_X1_doesHear_22, w_X1_doesHear_23, w_X1_doesHear_26, w_X1_doesHear_27, w_ret, w_exc, Nat.reduceAdd, Option.toList_some, Option.toList_none, List.cons_append, List.nil_append, Option.bind_some, nI_add, q_mul, q_sub, q_eq, q_eqz, q_lt, q_ltz, q_gtz, q_le, q_lez, q_div, q_or, q_and, q_shl, q_shr, q_m1, q_eqm, q_meq, q_mm, q_mlt, q_mgt, q_mlt2, q_dec, Nat.add_sub_cancel, q_ltT, q_ltF, q_leT, q_leF, q_eqT, q_eqF, ↓reduceIte, uN_s, uN_n, upN_app, uG_s, uG_n, uG_uG, if_true, if_false, Nat.reduceMul, Nat.reduceSub, Nat.reduceEqDiff, Nat.reduceLT, and_true, true_and, and_false, false_and, or_true, true_or, or_false, false_or, not_true_eq_false, not_false_eq_true, Option.some.injEq, wEg_froms, wEg_tos, wEg_least, wEg_layers, wEg_rows, wEg_lengths, wEg_uppers, wEg_lowers, wEg_near, wEg_medians, wEg_points, wEg_boxes, wEp_boxes, wEg_arrows, wEp_arrows, wEg_depth, wEp_depth, wEg_made, wEp_made, wEg_come, wEp_come, wEr_uppers, wEw_uppers, wEr_lowers, wEw_lowers, wEr_near, wEw_near, wEr_medians, wEw_medians, wEr_points, wEw_points, wEr_froms, wEw_froms, wEr_tos, wEw_tos, wEr_least, wEw_least, wEr_layers, wEw_layers, wEr_rows, wEw_rows, wEr_lengths, wEw_lengths, wE_kls, g0, b2, y3, t4]
  · rw [Bool.toNat_true] at b2
    rw [Bool.eq_false_iff.mpr (fun w => q ⟨b1.mp rfl, p1.mp w⟩), Bool.toNat_false] at p2
    simp (disch := first | omega | assumption | exact Or.inl rfl | exact Or.inr rfl | exact wN_kls (by omega) | exact wE_kls (by omega) | (simp only [a_cat_nil, a_cat_int, a_cat_ref, a_cat_null, a_cat_long]; done) | (simp only [a_cat_nil, a_cat_int, a_cat_ref, a_cat_null, a_cat_long]; omega) | decide | rfl | (apply Or.inr; omega) | (apply Or.inl; omega)) only [w_X1_doesHear_0, w_X1_doesHear_1, w_X1_doesHear_4, w_X1_doesHear_5, w_X1_doesHear_8, w_X1_doesHear_11, w_X1_doesHear_12, w_X1_doesHear_15, w_X1_doesHear_16, w_X1_doesHear_19, w_X1_doesHear_22, w_X1_doesHear_23, w_X1_doesHear_26, w_X1_doesHear_27, w_ret, w_exc, Nat.reduceAdd, Option.toList_some, Option.toList_none, List.cons_append, List.nil_append, Option.bind_some, nI_add, q_mul, q_sub, q_eq, q_eqz, q_lt, q_ltz, q_gtz, q_le, q_lez, q_div, q_or, q_and, q_shl, q_shr, q_m1, q_eqm, q_meq, q_mm, q_mlt, q_mgt, q_mlt2, q_dec, Nat.add_sub_cancel, q_ltT, q_ltF, q_leT, q_leF, q_eqT, q_eqF, ↓reduceIte, uN_s, uN_n, upN_app, uG_s, uG_n, uG_uG, if_true, if_false, Nat.reduceMul, Nat.reduceSub, Nat.reduceEqDiff, Nat.reduceLT, and_true, true_and, and_false, false_and, or_true, true_or, or_false, false_or, not_true_eq_false, not_false_eq_true, Option.some.injEq, wEg_froms, wEg_tos, wEg_least, wEg_layers, wEg_rows, wEg_lengths, wEg_uppers, wEg_lowers, wEg_near, wEg_medians, wEg_points, wEg_boxes, wEp_boxes, wEg_arrows, wEp_arrows, wEg_depth, wEp_depth, wEg_made, wEp_made, wEg_come, wEp_come, wEr_uppers, wEw_uppers, wEr_lowers, wEw_lowers, wEr_near, wEw_near, wEr_medians, wEw_medians, wEr_points, wEw_points, wEr_froms, wEw_froms, wEr_tos, wEw_tos, wEr_least, wEw_least, wEr_layers, wEw_layers, wEr_rows, wEw_rows, wEr_lengths, wEw_lengths, wE_kls, g0, b2, p2, y3, t4]
theorem x_doesHear {b o : Nat} (i : cI H g m (nb, na, fr, to, le, row, ma, co) hs kp tx) (hb : b < nb) (ho : o < nb) : cZ (d+40) MX1_doesHear [.int (nI b), .int (nI o)] H g m (.inl (.int (nI ((t_hb (fun k => k < na) fr to b o).toNat)))) (nb, na, fr, to, le, row, ma, co) hs kp tx := by
  obtain ⟨h, G, N, rfl, hm, hq, c⟩ := cI_E i
  have ⟨g1, g2, kg, g0⟩ := cI_g i
  have s := c.2.1
  have a := cD_cA c
  have hd := cQ_dp a.2.1 s.1
  have s1 := s.1
  have s2 := s.2.1
  have hq1 : 1024 ≤ h.1 := by omega
  have ⟨b', b1, b2⟩ := c_isBox (d := d+37) (h := h) (N := N) (x := nI b) hm s.2.2.1 s1
  have ⟨b'', p1, p2⟩ := c_isBox (d := d+37) (h := h) (N := N) (x := nI o) hm s.2.2.1 s1
  rw [b1.mpr ⟨b, hb, rfl⟩, Bool.toNat_true] at b2
  rw [p1.mpr ⟨o, ho, rfl⟩, Bool.toNat_true] at p2
  have nd := k_arg1 (d := d+34) (h := wE h m G N)
  have ⟨h', y1, y2⟩ := c_listens (d := d+35) (h := h) (b := b) (o := o) (bt := 4294967295) hm hq s hb ho (Or.inr rfl)
  have ee : t_hb (fun k => k < na ∧ k ≠ 4294967295) fr to b o = t_hb (fun k => k < na) fr to b o := congrArg (fun E => t_hb E fr to b o) (funext fun k => propext ⟨fun w => w.1, fun w => ⟨w, by omega⟩⟩)
  rw [ee] at y2
  have rt := fun L hh => w_X1_doesHear_40 (d+39) L _ hh (q_b01 (t_hb (fun k => k < na) fr to b o))
  refine cZ_q hq i y1 (by omega) (by omega) (fun _ _ => rfl) ?_
  rw [e_X1_doesHear]
  simp (disch := first | omega | assumption | exact Or.inl rfl | exact Or.inr rfl | exact wN_kls (by omega) | exact wE_kls (by omega) | (simp only [a_cat_nil, a_cat_int, a_cat_ref, a_cat_null, a_cat_long]; done) | (simp only [a_cat_nil, a_cat_int, a_cat_ref, a_cat_null, a_cat_long]; omega) | decide | rfl | (apply Or.inr; omega) | (apply Or.inl; omega)) only [w_X1_doesHear_0, w_X1_doesHear_1, w_X1_doesHear_4, w_X1_doesHear_5, w_X1_doesHear_8, w_X1_doesHear_11, w_X1_doesHear_12, w_X1_doesHear_15, w_X1_doesHear_16, w_X1_doesHear_19, w_X1_doesHear_22, w_X1_doesHear_23, w_X1_doesHear_26, w_X1_doesHear_27, w_X1_doesHear_30, w_X1_doesHear_31, w_X1_doesHear_34, w_X1_doesHear_35, w_X1_doesHear_36, w_X1_doesHear_37, w_ret, w_exc, Nat.reduceAdd, Option.toList_some, Option.toList_none, List.cons_append, List.nil_append, Option.bind_some, nI_add, q_mul, q_sub, q_eq, q_eqz, q_lt, q_ltz, q_gtz, q_le, q_lez, q_div, q_or, q_and, q_shl, q_shr, q_m1, q_eqm, q_meq, q_mm, q_mlt, q_mgt, q_mlt2, q_dec, Nat.add_sub_cancel, q_ltT, q_ltF, q_leT, q_leF, q_eqT, q_eqF, ↓reduceIte, uN_s, uN_n, upN_app, uG_s, uG_n, uG_uG, if_true, if_false, Nat.reduceMul, Nat.reduceSub, Nat.reduceEqDiff, Nat.reduceLT, and_true, true_and, and_false, false_and, or_true, true_or, or_false, false_or, not_true_eq_false, not_false_eq_true, Option.some.injEq, wEg_froms, wEg_tos, wEg_least, wEg_layers, wEg_rows, wEg_lengths, wEg_uppers, wEg_lowers, wEg_near, wEg_medians, wEg_points, wEg_boxes, wEp_boxes, wEg_arrows, wEp_arrows, wEg_depth, wEp_depth, wEg_made, wEp_made, wEg_come, wEp_come, wEr_uppers, wEw_uppers, wEr_lowers, wEw_lowers, wEr_near, wEw_near, wEr_medians, wEw_medians, wEr_points, wEw_points, wEr_froms, wEw_froms, wEr_tos, wEw_tos, wEr_least, wEw_least, wEr_layers, wEw_layers, wEr_rows, wEw_rows, wEr_lengths, wEw_lengths, wE_kls, g0, b2, p2, nd, y2, rt]
end X2
