theorem q_nn {x : Int32} (h : 0 ≤ x.toInt) : x = nI x.toInt.toNat := by
  apply Int32.toInt_inj.mp
  have := Int32.toInt_lt x
  rw [nI_toInt (by omega)]
  omega
theorem q_tx (x : Int32) : ∃ b : Bool, (b = true ↔ vT x) ∧ (if (32 : Int64) ≤ x.toInt64 ∧ x.toInt64 ≤ (126 : Int64) then (1 : Int32) else 0) = nI b.toNat := by
  rw [show (32 : Int64) = (nI 32).toInt64 from rfl, show (126 : Int64) = (nI 126).toInt64 from rfl, q_64]
  have e1 : (nI 32).toInt = 32 := rfl
  have e2 : (nI 126).toInt = 126 := rfl
  by_cases c : nI 32 ≤ x ∧ x ≤ nI 126
  · refine ⟨true, ⟨fun _ => ?_, fun _ => rfl⟩, if_pos c⟩
    rw [Int32.le_iff_toInt_le, Int32.le_iff_toInt_le] at c
    exact ⟨x.toInt.toNat, by omega, by omega, q_nn (by omega)⟩
  · refine ⟨false, ⟨fun z => Bool.noConfusion z, fun ⟨k, h1, h2, h3⟩ => absurd ?_ c⟩, if_neg c⟩
    rw [h3, q_le (by omega) (by omega), q_le (by omega) (by omega)]
    exact ⟨h1, h2⟩
theorem wQ_set {H : a_H} {q e g Hd T : Nat} {f : Nat → Option Nat} {v : a_C} (h1 : q ≠ g) (h2 : e ≠ g) : a_set (wQ H q e Hd T f) g v = wQ (a_set H g v) q e Hd T f := a_Hx rfl rfl fun x => by
  show (if x = g then _ else if x = q then _ else if x = e then _ else _) = (if x = q then _ else if x = e then _ else if x = g then _ else _)
  by_cases e1 : x = g
  · rw [if_pos e1, if_neg (by omega), if_neg (by omega), if_pos e1]
  · rw [if_neg e1, if_neg e1]
section X5
variable {d : Nat} {H : a_H} {g m nb na ma co : Nat} {fr to le : Nat → Nat} {row : Nat → Nat → Nat} {D : t_D} {hs : List t_D} {kp : Option t_D} {tx : List Nat}
theorem cHs_last {E : t_D} : ∀ (xs : List Nat) (hs : List t_D), cHs H xs (hs ++ [E]) → ∃ xs' x, xs = xs' ++ [x] ∧ cHs H xs' hs ∧ cM H x E
  | [], [], c => c.elim
  | [], _ :: _, c => c.elim
  | x :: xs, [], c => by
    have c2 : cHs H xs [] := c.2
    cases xs with
    | nil => exact ⟨[], x, rfl, trivial, c.1⟩
    | cons y ys => exact c2.elim
  | x :: xs, F :: hs, c => by
    have ⟨xs', y, e1, e2, e3⟩ := cHs_last xs hs c.2
    exact ⟨x :: xs', y, by rw [e1]; rfl, ⟨c.1, e2⟩, e3⟩
theorem x_states (i : cI H g m D hs kp tx) : cZ (d+40) MX1_states [] H g m (.inl (.int (nI hs.length))) D hs kp tx := by
  refine ⟨H, m, i, gR_hX (hX_le (hX_id H) (by omega) (by omega)), ?_⟩
  obtain ⟨kv, q, s, g1, g2, g3, cm, ck, ⟨e, Hd, T, f, xs, q1, q2, e1, e2, q3, e3, dl, ch⟩, hl, tx0⟩ := i
  have nqe : e ≠ q := fun z => by rw [z, q3] at e3; cases e3
  have sz := q_size (d := d+37) (g := H) (f := f) q1 e1 nqe dl.1 (dL_T dl)
  rw [dL_sz dl, cHs_len xs hs ch, wQ_id q3 e3] at sz
  have g2' : a_gf H g 2 [0] = some (.ref q) := a_gf_o g1 rfl g3
  have kq : a_kls H q = some 7 := a_kls_o q1 q3
  show a_call (d+40) MX1_states [.ref g] H = _
  rw [e_X1_states]
  simp (disch := first | omega | assumption | exact Or.inl rfl | exact Or.inr rfl | exact wN_kls (by omega) | exact wE_kls (by omega) | (simp only [a_cat_nil, a_cat_int, a_cat_ref, a_cat_null, a_cat_long]; done) | (simp only [a_cat_nil, a_cat_int, a_cat_ref, a_cat_null, a_cat_long]; omega) | decide | rfl | (apply Or.inr; omega) | (apply Or.inl; omega)) only [w_X1_states_0, w_X1_states_1, w_X1_states_4, w_X1_states_7, w_ret, w_exc, Nat.reduceAdd, Option.toList_some, Option.toList_none, List.cons_append, List.nil_append, Option.bind_some, nI_add, q_mul, q_sub, q_eq, q_eqz, q_lt, q_ltz, q_gtz, q_le, q_lez, q_div, q_or, q_and, q_shl, q_shr, q_m1, q_eqm, q_meq, q_mm, q_mlt, q_mgt, q_mlt2, q_dec, Nat.add_sub_cancel, q_ltT, q_ltF, q_leT, q_leF, q_eqT, q_eqF, ↓reduceIte, uN_s, uN_n, upN_app, uG_s, uG_n, uG_uG, if_true, if_false, Nat.reduceMul, Nat.reduceSub, Nat.reduceEqDiff, Nat.reduceLT, and_true, true_and, and_false, false_and, or_true, true_or, or_false, false_or, not_true_eq_false, not_false_eq_true, Option.some.injEq, wEg_froms, wEg_tos, wEg_least, wEg_layers, wEg_rows, wEg_lengths, wEg_uppers, wEg_lowers, wEg_near, wEg_medians, wEg_points, wEg_boxes, wEp_boxes, wEg_arrows, wEp_arrows, wEg_depth, wEp_depth, wEg_made, wEp_made, wEg_come, wEp_come, wEr_uppers, wEw_uppers, wEr_lowers, wEw_lowers, wEr_near, wEw_near, wEr_medians, wEw_medians, wEr_points, wEw_points, wEr_froms, wEw_froms, wEr_tos, wEw_tos, wEr_least, wEw_least, wEr_layers, wEw_layers, wEr_rows, wEw_rows, wEr_lengths, wEw_lengths, wE_kls, g2', sz]
theorem x_keep (i : cI H g m (nb, na, fr, to, le, row, ma, co) hs kp tx) : cZ (d+40) MX1_keep [] H g m (.inl (.int (nI nb))) (nb, na, fr, to, le, row, ma, co) hs (some (nb, na, fr, to, le, row, ma, co)) tx := by
  obtain ⟨kv, q, s, g1, g2, g3, cm, ck, ⟨e, Hd, T, f, xs, q1, q2, e1, e2, q3, e3, dl, ch⟩, hl, tx0⟩ := i
  have mk := cI_mk (D := (nb, na, fr, to, le, row, ma, co)) (kp := some (nb, na, fr, to, le, row, ma, co)) (t := m) (kv := .ref m) g3 g1 g2 q1 q2 e1 e2 q3 e3 dl ch hl cm ⟨m, rfl, cm⟩ tx0
  rw [wQ_id q3 e3] at mk
  refine ⟨_, m, mk.1, ⟨Nat.le_refl _, Nat.le_add_right _ _, Nat.le_add_right _ _, fun x _ h2 _ => mk.2 x h2⟩, ?_⟩
  have ⟨cm1, cm2, G, N, cm3, cm4, cm5⟩ := cm
  have nmg : m ≠ g := fun z => by rw [z, g3] at cm3; cases cm3
  have g0 : a_gf H g 0 [0] = some (.ref m) := a_gf_o g1 rfl g3
  have pf : a_pf H g 1 [0] (.ref m) = some (a_set H g (.inr (0, [.ref m, .ref m, .ref q, .ref s]))) := by
    unfold a_pf
    rw [g3]
    exact if_pos ⟨rfl, Nat.le_of_ble_eq_true rfl, g1⟩
  have ga : a_gf (a_set H g (.inr (0, [.ref m, .ref m, .ref q, .ref s]))) g 0 [0] = some (.ref m) := a_gf_o g1 rfl (show (a_set H g (.inr (0, [.ref m, .ref m, .ref q, .ref s]))).2.2 g = .inr (0, [.ref m, .ref m, .ref q, .ref s]) from if_pos rfl)
  have gb : a_gf (a_set H g (.inr (0, [.ref m, .ref m, .ref q, .ref s]))) m 11 [1] = some (.int (nI (G 11))) := by
    have e1 : (a_set H g (.inr (0, [.ref m, .ref m, .ref q, .ref s]))).2.2 m = .inr (1, wDF m fun k => nI (G k)) := (if_neg nmg).trans cm3
    exact a_gf_o cm1 rfl e1
  rw [cm5.2.1.2.2.1] at gb
  show a_call (d+40) MX1_keep [.ref g] H = _
  rw [e_X1_keep]
  simp (disch := first | omega | assumption | exact Or.inl rfl | exact Or.inr rfl | exact wN_kls (by omega) | exact wE_kls (by omega) | (simp only [a_cat_nil, a_cat_int, a_cat_ref, a_cat_null, a_cat_long]; done) | (simp only [a_cat_nil, a_cat_int, a_cat_ref, a_cat_null, a_cat_long]; omega) | decide | rfl | (apply Or.inr; omega) | (apply Or.inl; omega)) only [w_X1_keep_0, w_X1_keep_1, w_X1_keep_2, w_X1_keep_5, w_X1_keep_5N, w_X1_keep_8, w_X1_keep_9, w_X1_keep_12, w_X1_keep_15, w_ret, w_exc, Nat.reduceAdd, Option.toList_some, Option.toList_none, List.cons_append, List.nil_append, Option.bind_some, nI_add, q_mul, q_sub, q_eq, q_eqz, q_lt, q_ltz, q_gtz, q_le, q_lez, q_div, q_or, q_and, q_shl, q_shr, q_m1, q_eqm, q_meq, q_mm, q_mlt, q_mgt, q_mlt2, q_dec, Nat.add_sub_cancel, q_ltT, q_ltF, q_leT, q_leF, q_eqT, q_eqF, ↓reduceIte, uN_s, uN_n, upN_app, uG_s, uG_n, uG_uG, if_true, if_false, Nat.reduceMul, Nat.reduceSub, Nat.reduceEqDiff, Nat.reduceLT, and_true, true_and, and_false, false_and, or_true, true_or, or_false, false_or, not_true_eq_false, not_false_eq_true, Option.some.injEq, wEg_froms, wEg_tos, wEg_least, wEg_layers, wEg_rows, wEg_lengths, wEg_uppers, wEg_lowers, wEg_near, wEg_medians, wEg_points, wEg_boxes, wEp_boxes, wEg_arrows, wEp_arrows, wEg_depth, wEp_depth, wEg_made, wEp_made, wEg_come, wEp_come, wEr_uppers, wEw_uppers, wEr_lowers, wEw_lowers, wEr_near, wEw_near, wEr_medians, wEw_medians, wEr_points, wEw_points, wEr_froms, wEw_froms, wEr_tos, wEw_tos, wEr_least, wEw_least, wEr_layers, wEw_layers, wEr_rows, wEw_rows, wEr_lengths, wEw_lengths, wE_kls, g0, pf, ga, gb]
theorem x_goBack1 (i : cI H g m D hs none tx) : cZ (d+40) MX1_goBack [] H g m (.inr 9) D hs none tx := by
  have i0 := i
  obtain ⟨kv, q, s, g1, g2, g3, cm, ck, _⟩ := i0
  have ck : kv = .null := ck
  subst ck
  have hh : 1024 ≤ H.1 := by omega
  have ⟨h', z1, z2, ⟨t, z3⟩, z4⟩ := k_state0 (d := d+34) hh
  have gk : a_gf H g 1 [0] = some .null := a_gf_o g1 rfl g3
  have tt := fun pc L => w_thr0 (d := d+39) (M := MX1_goBack) (pc := pc) (L := L) (a_cls_o z3) hh rfl
  refine ⟨h', m, cI_X z1 i, gR_hX (hX_le z1 (by omega) (by omega)), H.1, t, hh, z3, ?_⟩
  rw [e_X1_goBack]
  simp (disch := first | omega | assumption | exact Or.inl rfl | exact Or.inr rfl | exact wN_kls (by omega) | exact wE_kls (by omega) | (simp only [a_cat_nil, a_cat_int, a_cat_ref, a_cat_null, a_cat_long]; done) | (simp only [a_cat_nil, a_cat_int, a_cat_ref, a_cat_null, a_cat_long]; omega) | decide | rfl | (apply Or.inr; omega) | (apply Or.inl; omega)) only [w_X1_goBack_0, w_X1_goBack_1, w_X1_goBack_4, w_X1_goBack_4N, w_X1_goBack_7, w_X1_goBack_8, w_X1_goBack_11, w_X1_goBack_12, w_ret, w_exc, Nat.reduceAdd, Option.toList_some, Option.toList_none, List.cons_append, List.nil_append, Option.bind_some, nI_add, q_mul, q_sub, q_eq, q_eqz, q_lt, q_ltz, q_gtz, q_le, q_lez, q_div, q_or, q_and, q_shl, q_shr, q_m1, q_eqm, q_meq, q_mm, q_mlt, q_mgt, q_mlt2, q_dec, Nat.add_sub_cancel, q_ltT, q_ltF, q_leT, q_leF, q_eqT, q_eqF, ↓reduceIte, uN_s, uN_n, upN_app, uG_s, uG_n, uG_uG, if_true, if_false, Nat.reduceMul, Nat.reduceSub, Nat.reduceEqDiff, Nat.reduceLT, and_true, true_and, and_false, false_and, or_true, true_or, or_false, false_or, not_true_eq_false, not_false_eq_true, Option.some.injEq, wEg_froms, wEg_tos, wEg_least, wEg_layers, wEg_rows, wEg_lengths, wEg_uppers, wEg_lowers, wEg_near, wEg_medians, wEg_points, wEg_boxes, wEp_boxes, wEg_arrows, wEp_arrows, wEg_depth, wEp_depth, wEg_made, wEp_made, wEg_come, wEp_come, wEr_uppers, wEw_uppers, wEr_lowers, wEw_lowers, wEr_near, wEw_near, wEr_medians, wEw_medians, wEr_points, wEw_points, wEr_froms, wEw_froms, wEr_tos, wEw_tos, wEr_least, wEw_least, wEr_layers, wEw_layers, wEr_rows, wEw_rows, wEr_lengths, wEw_lengths, wE_kls, gk, z4, tt]
theorem x_goBack (i : cI H g m D hs (some (nb, na, fr, to, le, row, ma, co)) tx) : cZ (d+40) MX1_goBack [] H g m (.inl (.int (nI nb))) (nb, na, fr, to, le, row, ma, co) (t_pu hs D) (some (nb, na, fr, to, le, row, ma, co)) tx := by
  have i0 := i
  obtain ⟨kv, q, s, g1, g2, g3, cm, ⟨k, e, ck⟩, _⟩ := i0
  subst e
  have ⟨H', z1, z2, z3, z4, z5⟩ := x_changed (d := d+35) (r := nI nb) i ck
  have ⟨cm1, cm2, G, N, cm3, cm4, cm5⟩ := ck
  have gk : a_gf H g 1 [0] = some (.ref k) := a_gf_o g1 rfl g3
  have gb : a_gf H k 11 [1] = some (.int (nI (G 11))) := a_gf_o cm1 rfl cm3
  rw [cm5.2.1.2.2.1] at gb
  have nd := k_state1 (d := d+34) (h := H)
  have kg := a_kls_o g1 g3
  refine ⟨H', k, z1, ⟨by omega, by omega, by omega, fun x _ h2 _ => z4 x h2⟩, ?_⟩
  show a_call (d+40) MX1_goBack [.ref g] H = _
  rw [e_X1_goBack]
  simp (disch := first | omega | assumption | exact Or.inl rfl | exact Or.inr rfl | exact wN_kls (by omega) | exact wE_kls (by omega) | (simp only [a_cat_nil, a_cat_int, a_cat_ref, a_cat_null, a_cat_long]; done) | (simp only [a_cat_nil, a_cat_int, a_cat_ref, a_cat_null, a_cat_long]; omega) | decide | rfl | (apply Or.inr; omega) | (apply Or.inl; omega)) only [w_X1_goBack_0, w_X1_goBack_1, w_X1_goBack_4, w_X1_goBack_4N, w_X1_goBack_7, w_X1_goBack_8, w_X1_goBack_11, w_X1_goBack_12, w_X1_goBack_15, w_X1_goBack_16, w_X1_goBack_17, w_X1_goBack_20, w_X1_goBack_21, w_X1_goBack_24, w_X1_goBack_27, w_X1_goBack_30, w_ret, w_exc, Nat.reduceAdd, Option.toList_some, Option.toList_none, List.cons_append, List.nil_append, Option.bind_some, nI_add, q_mul, q_sub, q_eq, q_eqz, q_lt, q_ltz, q_gtz, q_le, q_lez, q_div, q_or, q_and, q_shl, q_shr, q_m1, q_eqm, q_meq, q_mm, q_mlt, q_mgt, q_mlt2, q_dec, Nat.add_sub_cancel, q_ltT, q_ltF, q_leT, q_leF, q_eqT, q_eqF, ↓reduceIte, uN_s, uN_n, upN_app, uG_s, uG_n, uG_uG, if_true, if_false, Nat.reduceMul, Nat.reduceSub, Nat.reduceEqDiff, Nat.reduceLT, and_true, true_and, and_false, false_and, or_true, true_or, or_false, false_or, not_true_eq_false, not_false_eq_true, Option.some.injEq, wEg_froms, wEg_tos, wEg_least, wEg_layers, wEg_rows, wEg_lengths, wEg_uppers, wEg_lowers, wEg_near, wEg_medians, wEg_points, wEg_boxes, wEp_boxes, wEg_arrows, wEp_arrows, wEg_depth, wEp_depth, wEg_made, wEp_made, wEg_come, wEp_come, wEr_uppers, wEw_uppers, wEr_lowers, wEw_lowers, wEr_near, wEw_near, wEr_medians, wEw_medians, wEr_points, wEw_points, wEr_froms, wEw_froms, wEr_tos, wEw_tos, wEr_least, wEw_least, wEr_layers, wEw_layers, wEr_rows, wEw_rows, wEr_lengths, wEw_lengths, wE_kls, gk, gb, nd, z5]
theorem x_undo1 (i : cI H g m D [] kp tx) : cZ (d+40) MX1_undo [] H g m (.inr 9) D [] kp tx := by
  have i0 := i
  obtain ⟨kv, q, s, g1, g2, g3, cm, ck, ⟨e, Hd, T, f, xs, q1, q2, e1, e2, q3, e3, dl, ch⟩, hl, tx0⟩ := i0
  have xe : xs = [] := by
    cases xs with
    | nil => rfl
    | cons x xs => exact ch.elim
  have em := q_empty (d := d+38) (g := H) (e := e) (f := f) q1 dl.1 (dL_T dl)
  rw [if_pos ((dL_emp dl).mpr xe), wQ_id q3 e3] at em
  have hh : 1024 ≤ H.1 := by omega
  have ⟨h', z1, z2, ⟨t, z3⟩, z4⟩ := k_state0 (d := d+34) hh
  have g2' : a_gf H g 2 [0] = some (.ref q) := a_gf_o g1 rfl g3
  have kq : a_kls H q = some 7 := a_kls_o q1 q3
  have tt := fun pc L => w_thr0 (d := d+39) (M := MX1_undo) (pc := pc) (L := L) (a_cls_o z3) hh rfl
  refine ⟨h', m, cI_X z1 i, gR_hX (hX_le z1 (by omega) (by omega)), H.1, t, hh, z3, ?_⟩
  rw [e_X1_undo]
  simp (disch := first | omega | assumption | exact Or.inl rfl | exact Or.inr rfl | exact wN_kls (by omega) | exact wE_kls (by omega) | (simp only [a_cat_nil, a_cat_int, a_cat_ref, a_cat_null, a_cat_long]; done) | (simp only [a_cat_nil, a_cat_int, a_cat_ref, a_cat_null, a_cat_long]; omega) | decide | rfl | (apply Or.inr; omega) | (apply Or.inl; omega)) only [w_X1_undo_0, w_X1_undo_1, w_X1_undo_4, w_X1_undo_7, w_X1_undo_10, w_X1_undo_11, w_X1_undo_14, w_X1_undo_15, w_ret, w_exc, Nat.reduceAdd, Option.toList_some, Option.toList_none, List.cons_append, List.nil_append, Option.bind_some, nI_add, q_mul, q_sub, q_eq, q_eqz, q_lt, q_ltz, q_gtz, q_le, q_lez, q_div, q_or, q_and, q_shl, q_shr, q_m1, q_eqm, q_meq, q_mm, q_mlt, q_mgt, q_mlt2, q_dec, Nat.add_sub_cancel, q_ltT, q_ltF, q_leT, q_leF, q_eqT, q_eqF, ↓reduceIte, uN_s, uN_n, upN_app, uG_s, uG_n, uG_uG, if_true, if_false, Nat.reduceMul, Nat.reduceSub, Nat.reduceEqDiff, Nat.reduceLT, and_true, true_and, and_false, false_and, or_true, true_or, or_false, false_or, not_true_eq_false, not_false_eq_true, Option.some.injEq, wEg_froms, wEg_tos, wEg_least, wEg_layers, wEg_rows, wEg_lengths, wEg_uppers, wEg_lowers, wEg_near, wEg_medians, wEg_points, wEg_boxes, wEp_boxes, wEg_arrows, wEp_arrows, wEg_depth, wEp_depth, wEg_made, wEp_made, wEg_come, wEp_come, wEr_uppers, wEw_uppers, wEr_lowers, wEw_lowers, wEr_near, wEw_near, wEr_medians, wEw_medians, wEr_points, wEw_points, wEr_froms, wEw_froms, wEr_tos, wEw_tos, wEr_least, wEw_least, wEr_layers, wEw_layers, wEr_rows, wEw_rows, wEr_lengths, wEw_lengths, wE_kls, g2', em, z4, tt]
theorem x_undo {E : t_D} (i : cI H g m D (hs ++ [E]) kp tx) : cZ (d+40) MX1_undo [] H g m (.inl (.int (nI hs.length))) E hs kp tx := by
  obtain ⟨kv, q, s, g1, g2, g3, cm, ck, ⟨e, Hd, T, f, xs, q1, q2, e1, e2, q3, e3, dl, ch⟩, hl, tx0⟩ := i
  obtain ⟨xs', x, xe, ch', cx⟩ := cHs_last xs hs ch
  subst xe
  have ngq : g ≠ q := fun z => by rw [← z, g3] at q3; cases q3
  have nge : g ≠ e := fun z => by rw [← z, g3] at e3; cases e3
  have nqe : e ≠ q := fun z => by rw [z, q3] at e3; cases e3
  have idq := wQ_id q3 e3
  have hT := dL_T dl
  have em := q_empty (d := d+38) (g := H) (e := e) (f := f) q1 dl.1 hT
  rw [if_neg (fun z => List.append_ne_nil_of_right_ne_nil xs' (List.cons_ne_nil x []) ((dL_emp dl).mp z)), idq] at em
  have nd := k_state1 (d := d+34) (h := H)
  have ⟨l1, l2⟩ := dL_la dl
  have la := q_last (d := d+36) (g := H) (H := Hd) q1 e1 nqe hT cx.1 l1
  rw [idq] at la
  have hT2 := dL_T l2
  have sz0 := dL_sz l2
  revert l1 l2 la hT2 sz0
  generalize (if T = 0 then 16 else T - 1) = T'
  intro l1 l2 la hT2 sz0
  have hl2 : hs.length ≤ 4 := by rw [List.length_append] at hl; omega
  have mk := cI_mk (D := E) (kp := kp) (t := x) (kv := kv) g3 g1 g2 q1 q2 e1 e2 q3 e3 l2 ch' hl2 cx ck tx0
  have sz := q_size (d := d+37) (g := a_set H g (.inr (0, [.ref x, kv, .ref q, .ref s]))) (f := va_up f T' none) q1 e1 nqe dl.1 hT2
  rw [sz0, cHs_len xs' hs ch', ← wQ_set (Ne.symm ngq) (Ne.symm nge)] at sz
  refine ⟨_, x, mk.1, ⟨Nat.le_refl _, Nat.le_add_right _ _, Nat.le_add_right _ _, fun y _ h2 _ => mk.2 y h2⟩, ?_⟩
  have g2' : a_gf H g 2 [0] = some (.ref q) := a_gf_o g1 rfl g3
  have kq : a_kls H q = some 7 := a_kls_o q1 q3
  have ⟨cx1, cx2, G, N, cx3, _⟩ := cx
  have nxq : x ≠ q := fun z => by rw [z, q3] at cx3; cases cx3
  have nxe : x ≠ e := fun z => by rw [z, e3] at cx3; cases cx3
  have kx : a_kls (wQ H q e Hd T' (va_up f T' none)) x = some 1 := a_kls_o cx1 ((wQ_o nxq nxe).trans cx3)
  have ct := fun L st => w_X1_undo_26 (d+39) L x 1 st _ kx rfl
  have pf : a_pf (wQ H q e Hd T' (va_up f T' none)) g 0 [0] (.ref x) = some (a_set (wQ H q e Hd T' (va_up f T' none)) g (.inr (0, [.ref x, kv, .ref q, .ref s]))) := by
    unfold a_pf
    rw [(wQ_o ngq nge).trans g3]
    exact if_pos ⟨rfl, Nat.le_of_ble_eq_true rfl, g1⟩
  have gb : a_gf (a_set (wQ H q e Hd T' (va_up f T' none)) g (.inr (0, [.ref x, kv, .ref q, .ref s]))) g 2 [0] = some (.ref q) := a_gf_o g1 rfl (show (a_set (wQ H q e Hd T' (va_up f T' none)) g (.inr (0, [.ref x, kv, .ref q, .ref s]))).2.2 g = .inr (0, [.ref x, kv, .ref q, .ref s]) from if_pos rfl)
  have kb : a_kls (a_set (wQ H q e Hd T' (va_up f T' none)) g (.inr (0, [.ref x, kv, .ref q, .ref s]))) q = some 7 := a_kls_o q1 ((if_neg (Ne.symm ngq)).trans wQ_q)
  show a_call (d+40) MX1_undo [.ref g] H = _
  rw [e_X1_undo]
  simp (disch := first | omega | assumption | exact Or.inl rfl | exact Or.inr rfl | exact wN_kls (by omega) | exact wE_kls (by omega) | (simp only [a_cat_nil, a_cat_int, a_cat_ref, a_cat_null, a_cat_long]; done) | (simp only [a_cat_nil, a_cat_int, a_cat_ref, a_cat_null, a_cat_long]; omega) | decide | rfl | (apply Or.inr; omega) | (apply Or.inl; omega)) only [w_X1_undo_0, w_X1_undo_1, w_X1_undo_4, w_X1_undo_7, w_X1_undo_10, w_X1_undo_11, w_X1_undo_14, w_X1_undo_15, w_X1_undo_18, w_X1_undo_19, w_X1_undo_20, w_X1_undo_23, w_X1_undo_29, w_X1_undo_29N, w_X1_undo_32, w_X1_undo_33, w_X1_undo_36, w_X1_undo_39, w_ret, w_exc, Nat.reduceAdd, Option.toList_some, Option.toList_none, List.cons_append, List.nil_append, Option.bind_some, nI_add, q_mul, q_sub, q_eq, q_eqz, q_lt, q_ltz, q_gtz, q_le, q_lez, q_div, q_or, q_and, q_shl, q_shr, q_m1, q_eqm, q_meq, q_mm, q_mlt, q_mgt, q_mlt2, q_dec, Nat.add_sub_cancel, q_ltT, q_ltF, q_leT, q_leF, q_eqT, q_eqF, ↓reduceIte, uN_s, uN_n, upN_app, uG_s, uG_n, uG_uG, if_true, if_false, Nat.reduceMul, Nat.reduceSub, Nat.reduceEqDiff, Nat.reduceLT, and_true, true_and, and_false, false_and, or_true, true_or, or_false, false_or, not_true_eq_false, not_false_eq_true, Option.some.injEq, wEg_froms, wEg_tos, wEg_least, wEg_layers, wEg_rows, wEg_lengths, wEg_uppers, wEg_lowers, wEg_near, wEg_medians, wEg_points, wEg_boxes, wEp_boxes, wEg_arrows, wEp_arrows, wEg_depth, wEp_depth, wEg_made, wEp_made, wEg_come, wEp_come, wEr_uppers, wEw_uppers, wEr_lowers, wEw_lowers, wEr_near, wEw_near, wEr_medians, wEw_medians, wEr_points, wEw_points, wEr_froms, wEw_froms, wEr_tos, wEw_tos, wEr_least, wEw_least, wEr_layers, wEw_layers, wEr_rows, wEw_rows, wEr_lengths, wEw_lengths, wE_kls, g2', em, nd, la, ct, pf, gb, sz]
/-- another text -/
theorem cI_tx {K : a_H} {kv : Value} {q s b : Nat} {ml : Int32} {n l : Nat} {tf : Nat → Nat} {tx' : List Nat} (i : 1024 ≤ g ∧ g < H.1 ∧ H.2.2 g = .inr (0, [.ref m, kv, .ref q, .ref s]) ∧ cM H m D ∧ cKp H kv kp ∧ cHi H q hs ∧ hs.length ≤ 4) (s3 : H.2.2 s = cSB b ml l) (b3 : H.2.2 b = cBy n tf) (h1 : H.1 ≤ K.1) (f : ∀ x, x < H.1 → x ≠ s → x ≠ b → K.2.2 x = H.2.2 x) (t : cTx K s tx') : cI K g m D hs kp tx' := by
  obtain ⟨g1, g2, g3, cm, ck, ⟨e, Hd, T, ff, xs, q1, q2, e1, e2, q3, e3, dl, ch⟩, hl⟩ := i
  have mp : ∀ k L, cM H k L → cM K k L := fun k L => cM_kX (fun x hx kx => f x hx (fun z => by rw [z, s3] at kx; exact k_tf kx) (fun z => by rw [z, b3] at kx; exact k_tf kx)) h1
  have gs : g ≠ s := fun z => by rw [z, s3] at g3; cases g3
  have gb : g ≠ b := fun z => by rw [z, b3] at g3; cases g3
  have qs : q ≠ s := fun z => by rw [z, s3] at q3; cases q3
  have qb : q ≠ b := fun z => by rw [z, b3] at q3; cases q3
  have es : e ≠ s := fun z => by rw [z, s3] at e3; cases e3
  have eb : e ≠ b := fun z => by rw [z, b3] at e3; cases e3
  exact ⟨kv, q, s, g1, by omega, (f g g2 gs gb).trans g3, mp _ _ cm, cKp_map mp ck, ⟨e, Hd, T, ff, xs, q1, by omega, e1, by omega, (f q q2 qs qb).trans q3, (f e e2 es eb).trans e3, dl, cHs_map mp _ _ ch⟩, hl, t⟩
theorem x_clearText (i : cI H g m D hs kp tx) : cZ (d+40) MX1_clearText [] H g m (.inl (.int (nI tx.length))) D hs kp [] := by
  obtain ⟨kv, q, s, g1, g2, g3, cm, ck, ci, hl, ⟨b, ml, n, tf, s1, s2, b1, b2, s3, b3, t1, t2, t3, t4, t5⟩⟩ := i
  have ne : b ≠ s := fun z => by rw [z, s3] at b3; cases b3
  have gs : g ≠ s := fun z => by rw [z, s3] at g3; cases g3
  have gb : g ≠ b := fun z => by rw [z, b3] at g3; cases g3
  have ids := wT_id s3 b3
  have ln := j_length (d := d+37) (g := H) (b := b) (ml := ml) (l := tx.length) (n := n) (f := tf) s1
  have ⟨ml', cl⟩ := j_clear (d := d+36) (g := H) (ml := ml) (f := tf) s1 b1 ne (show n < 400 by omega) t2
  rw [ids] at ln cl
  have g3' : a_gf H g 3 [0] = some (.ref s) := a_gf_o g1 rfl g3
  have ks : a_kls H s = some 8 := a_kls_o s1 s3
  have f : ∀ x, x < H.1 → x ≠ s → x ≠ b → (wT H s b ml' 0 n tf).2.2 x = H.2.2 x := fun x _ h1 h2 => wT_o h1 h2
  refine ⟨wT H s b ml' 0 n tf, m, cI_tx ⟨g1, g2, g3, cm, ck, ci, hl⟩ s3 b3 (Nat.le_refl _) f ⟨b, ml', n, tf, s1, s2, b1, b2, wT_s, wT_b ne, Nat.zero_le _, Nat.zero_le _, t3, fun i hi => absurd hi (Nat.not_lt_zero _), t5⟩, ⟨Nat.le_refl _, Nat.le_add_right _ _, Nat.le_add_right _ _, fun x hx h2 _ => f x hx (fun z => by rw [z, s3] at h2; exact k_tf h2) (fun z => by rw [z, b3] at h2; exact k_tf h2)⟩, ?_⟩
  show a_call (d+40) MX1_clearText [.ref g] H = _
  rw [e_X1_clearText]
  simp (disch := first | omega | assumption | exact Or.inl rfl | exact Or.inr rfl | exact wN_kls (by omega) | exact wE_kls (by omega) | (simp only [a_cat_nil, a_cat_int, a_cat_ref, a_cat_null, a_cat_long]; done) | (simp only [a_cat_nil, a_cat_int, a_cat_ref, a_cat_null, a_cat_long]; omega) | decide | rfl | (apply Or.inr; omega) | (apply Or.inl; omega)) only [w_X1_clearText_0, w_X1_clearText_1, w_X1_clearText_4, w_X1_clearText_7, w_X1_clearText_8, w_X1_clearText_9, w_X1_clearText_12, w_X1_clearText_13, w_X1_clearText_16, w_X1_clearText_17, w_ret, w_exc, Nat.reduceAdd, Option.toList_some, Option.toList_none, List.cons_append, List.nil_append, Option.bind_some, nI_add, q_mul, q_sub, q_eq, q_eqz, q_lt, q_ltz, q_gtz, q_le, q_lez, q_div, q_or, q_and, q_shl, q_shr, q_m1, q_eqm, q_meq, q_mm, q_mlt, q_mgt, q_mlt2, q_dec, Nat.add_sub_cancel, q_ltT, q_ltF, q_leT, q_leF, q_eqT, q_eqF, ↓reduceIte, uN_s, uN_n, upN_app, uG_s, uG_n, uG_uG, if_true, if_false, Nat.reduceMul, Nat.reduceSub, Nat.reduceEqDiff, Nat.reduceLT, and_true, true_and, and_false, false_and, or_true, true_or, or_false, false_or, not_true_eq_false, not_false_eq_true, Option.some.injEq, wEg_froms, wEg_tos, wEg_least, wEg_layers, wEg_rows, wEg_lengths, wEg_uppers, wEg_lowers, wEg_near, wEg_medians, wEg_points, wEg_boxes, wEp_boxes, wEg_arrows, wEp_arrows, wEg_depth, wEp_depth, wEg_made, wEp_made, wEg_come, wEp_come, wEr_uppers, wEw_uppers, wEr_lowers, wEw_lowers, wEr_near, wEw_near, wEr_medians, wEw_medians, wEr_points, wEw_points, wEr_froms, wEw_froms, wEr_tos, wEw_tos, wEr_least, wEw_least, wEr_layers, wEw_layers, wEr_rows, wEw_rows, wEr_lengths, wEw_lengths, wE_kls, g3', ln, cl]
theorem x_type1 {x : Int32} (i : cI H g m D hs kp tx) (hx : ¬ vT x) : cZ (d+40) MX1_type [.int x] H g m (.inr 11) D hs kp tx := by
  have ⟨g1, g2, _⟩ := cI_g i
  have hh : 1024 ≤ H.1 := by omega
  have ⟨b, b1, b2⟩ := q_tx x
  have bt := c_btw (d := d+38) (h := H) (v := x.toInt64) (a := 32) (b := 126)
  rw [b2, Bool.eq_false_iff.mpr (fun w => hx (b1.mp w)), Bool.toNat_false] at bt
  have ⟨h', z1, z2, ⟨t, z3⟩, z4⟩ := k_arg0 (d := d+34) hh
  have tt := fun pc L => w_thr0 (d := d+39) (M := MX1_type) (pc := pc) (L := L) (a_cls_o z3) hh rfl
  refine ⟨h', m, cI_X z1 i, gR_hX (hX_le z1 (by omega) (by omega)), H.1, t, hh, z3, ?_⟩
  rw [e_X1_type]
  simp (disch := first | omega | assumption | exact Or.inl rfl | exact Or.inr rfl | exact wN_kls (by omega) | exact wE_kls (by omega) | (simp only [a_cat_nil, a_cat_int, a_cat_ref, a_cat_null, a_cat_long]; done) | (simp only [a_cat_nil, a_cat_int, a_cat_ref, a_cat_null, a_cat_long]; omega) | decide | rfl | (apply Or.inr; omega) | (apply Or.inl; omega)) only [w_X1_type_0, w_X1_type_1, w_X1_type_2, w_X1_type_5, w_X1_type_8, w_X1_type_11, w_ret, w_exc, Nat.reduceAdd, Option.toList_some, Option.toList_none, List.cons_append, List.nil_append, Option.bind_some, nI_add, q_mul, q_sub, q_eq, q_eqz, q_lt, q_ltz, q_gtz, q_le, q_lez, q_div, q_or, q_and, q_shl, q_shr, q_m1, q_eqm, q_meq, q_mm, q_mlt, q_mgt, q_mlt2, q_dec, Nat.add_sub_cancel, q_ltT, q_ltF, q_leT, q_leF, q_eqT, q_eqF, ↓reduceIte, uN_s, uN_n, upN_app, uG_s, uG_n, uG_uG, if_true, if_false, Nat.reduceMul, Nat.reduceSub, Nat.reduceEqDiff, Nat.reduceLT, and_true, true_and, and_false, false_and, or_true, true_or, or_false, false_or, not_true_eq_false, not_false_eq_true, Option.some.injEq, wEg_froms, wEg_tos, wEg_least, wEg_layers, wEg_rows, wEg_lengths, wEg_uppers, wEg_lowers, wEg_near, wEg_medians, wEg_points, wEg_boxes, wEp_boxes, wEg_arrows, wEp_arrows, wEg_depth, wEp_depth, wEg_made, wEp_made, wEg_come, wEp_come, wEr_uppers, wEw_uppers, wEr_lowers, wEw_lowers, wEr_near, wEw_near, wEr_medians, wEw_medians, wEr_points, wEw_points, wEr_froms, wEw_froms, wEr_tos, wEw_tos, wEr_least, wEw_least, wEr_layers, wEw_layers, wEr_rows, wEw_rows, wEr_lengths, wEw_lengths, wE_kls, bt, z4, tt]
theorem x_type2 {c : Nat} (i : cI H g m D hs kp tx) (h1 : 32 ≤ c) (h2 : c ≤ 126) (hl : tx.length = 60) : cZ (d+40) MX1_type [.int (nI c)] H g m (.inr 9) D hs kp tx := by
  have i0 := i
  obtain ⟨kv, q, s, g1, g2, g3, cm, ck, ci, _, ⟨b, ml, n, tf, s1, s2, b1, b2, s3, b3, t1, t2, t3, t4, t5⟩⟩ := i0
  have hh : 1024 ≤ H.1 := by omega
  have ids := wT_id s3 b3
  have ln := j_length (d := d+37) (g := H) (b := b) (ml := ml) (l := tx.length) (n := n) (f := tf) s1
  rw [ids, hl] at ln
  have ⟨b, b1, b2⟩ := q_tx (nI c)
  have bt := c_btw (d := d+38) (h := H) (v := (nI c).toInt64) (a := 32) (b := 126)
  rw [b2, b1.mpr ⟨c, h1, h2, rfl⟩, Bool.toNat_true] at bt
  have nd := k_arg1 (d := d+34) (h := H)
  have g3' : a_gf H g 3 [0] = some (.ref s) := a_gf_o g1 rfl g3
  have ks : a_kls H s = some 8 := a_kls_o s1 s3
  have ⟨h', z1, z2, ⟨t, z3⟩, z4⟩ := k_state0 (d := d+34) hh
  have tt := fun pc L => w_thr0 (d := d+39) (M := MX1_type) (pc := pc) (L := L) (a_cls_o z3) hh rfl
  refine ⟨h', m, cI_X z1 i, gR_hX (hX_le z1 (by omega) (by omega)), H.1, t, hh, z3, ?_⟩
  rw [e_X1_type]
  simp (disch := first | omega | assumption | exact Or.inl rfl | exact Or.inr rfl | exact wN_kls (by omega) | exact wE_kls (by omega) | (simp only [a_cat_nil, a_cat_int, a_cat_ref, a_cat_null, a_cat_long]; done) | (simp only [a_cat_nil, a_cat_int, a_cat_ref, a_cat_null, a_cat_long]; omega) | decide | rfl | (apply Or.inr; omega) | (apply Or.inl; omega)) only [w_X1_type_0, w_X1_type_1, w_X1_type_2, w_X1_type_5, w_X1_type_8, w_X1_type_11, w_X1_type_14, w_X1_type_15, w_X1_type_18, w_X1_type_21, w_X1_type_23, w_X1_type_26, w_X1_type_27, w_X1_type_30, w_X1_type_31, w_ret, w_exc, Nat.reduceAdd, Option.toList_some, Option.toList_none, List.cons_append, List.nil_append, Option.bind_some, nI_add, q_mul, q_sub, q_eq, q_eqz, q_lt, q_ltz, q_gtz, q_le, q_lez, q_div, q_or, q_and, q_shl, q_shr, q_m1, q_eqm, q_meq, q_mm, q_mlt, q_mgt, q_mlt2, q_dec, Nat.add_sub_cancel, q_ltT, q_ltF, q_leT, q_leF, q_eqT, q_eqF, ↓reduceIte, uN_s, uN_n, upN_app, uG_s, uG_n, uG_uG, if_true, if_false, Nat.reduceMul, Nat.reduceSub, Nat.reduceEqDiff, Nat.reduceLT, and_true, true_and, and_false, false_and, or_true, true_or, or_false, false_or, not_true_eq_false, not_false_eq_true, Option.some.injEq, wEg_froms, wEg_tos, wEg_least, wEg_layers, wEg_rows, wEg_lengths, wEg_uppers, wEg_lowers, wEg_near, wEg_medians, wEg_points, wEg_boxes, wEp_boxes, wEg_arrows, wEp_arrows, wEg_depth, wEp_depth, wEg_made, wEp_made, wEg_come, wEp_come, wEr_uppers, wEw_uppers, wEr_lowers, wEw_lowers, wEr_near, wEw_near, wEr_medians, wEw_medians, wEr_points, wEw_points, wEr_froms, wEw_froms, wEr_tos, wEw_tos, wEr_least, wEw_least, wEr_layers, wEw_layers, wEr_rows, wEw_rows, wEr_lengths, wEw_lengths, wE_kls, bt, nd, g3', ln, z4, tt]
theorem x_type {c : Nat} (i : cI H g m D hs kp tx) (h1 : 32 ≤ c) (h2 : c ≤ 126) (hl : tx.length < 60) : cZ (d+40) MX1_type [.int (nI c)] H g m (.inl (.int (nI (tx.length + 1)))) D hs kp (tx ++ [c]) := by
  obtain ⟨kv, q, s, g1, g2, g3, cm, ck, ci, h4, ⟨b, ml, n, tf, s1, s2, b1, b2, s3, b3, t1, t2, t3, t4, t5⟩⟩ := i
  have ne : b ≠ s := fun z => by rw [z, s3] at b3; cases b3
  have ids := wT_id s3 b3
  have ln := j_length (d := d+37) (g := H) (b := b) (ml := ml) (l := tx.length) (n := n) (f := tf) s1
  rw [ids] at ln
  have ⟨bb, y1, y2⟩ := q_tx (nI c)
  have bt := c_btw (d := d+38) (h := H) (v := (nI c).toInt64) (a := 32) (b := 126)
  rw [y2, y1.mpr ⟨c, h1, h2, rfl⟩, Bool.toNat_true] at bt
  have nd := k_arg1 (d := d+34) (h := H)
  have nd2 := k_state1 (d := d+34) (h := H)
  have g3' : a_gf H g 3 [0] = some (.ref s) := a_gf_o g1 rfl g3
  have ks : a_kls H s = some 8 := a_kls_o s1 s3
  have gs : g ≠ s := fun z => by rw [z, s3] at g3; cases g3
  have gb : g ≠ b := fun z => by rw [z, b3] at g3; cases g3
  have ⟨g', b', n', f', p1, p2, p3, p4, p5, p6, p7, p8, p9, p10⟩ := j_append (d := d+34) (g := H) (ml := ml) (c := c) s1 b1 ne ⟨s2, b2⟩ (show n < 400 by omega) t2 t5 (show c < 128 by omega)
  rw [ids] at p1 p2
  have b1' : 1024 ≤ b' := by rcases p3 with e | e <;> omega
  have ne' : b' ≠ s := by rcases p3 with e | e <;> omega
  have gb' : g ≠ b' := by rcases p3 with e | e <;> omega
  have ln2 := j_length (d := d+37) (g := g') (b := b') (ml := ml) (l := tx.length + 1) (n := n') (f := f') s1
  have g4' : a_gf (wT g' s b' ml (tx.length + 1) n' f') g 3 [0] = some (.ref s) := a_gf_o g1 rfl (((wT_o gs gb').trans (p2.2.2.2 g g2)).trans g3)
  have ks' : a_kls (wT g' s b' ml (tx.length + 1) n' f') s = some 8 := wT_kls s1
  have cc := (q_by (show c < 128 by omega)).2.2.2.2
  have f : ∀ x, x < H.1 → x ≠ s → x ≠ b → (wT g' s b' ml (tx.length + 1) n' f').2.2 x = H.2.2 x := fun x hx z1 z2 => (wT_o z1 (by rcases p3 with e | e <;> omega)).trans (p2.2.2.2 x hx)
  have len : (tx ++ [c]).length = tx.length + 1 := by rw [List.length_append, List.length_singleton]
  have ct : cTx (wT g' s b' ml (tx.length + 1) n' f') s (tx ++ [c]) := by
    refine ⟨b', ml, n', f', s1, Nat.lt_of_lt_of_le s2 p2.1, b1', p4, by rw [len]; exact wT_s, wT_b ne', by omega, by omega, ?_, fun i hi => ?_, p10⟩
    · rcases p5 with e | e
      · omega
      · rcases p6 with e2 | e2 <;> omega
    · rw [len] at hi
      rw [t_gd_snoc hi]
      by_cases e : i = tx.length
      · rw [if_pos e, e]; exact p9
      · rw [if_neg e, p8 i (by omega)]; exact t4 i (by omega)
  refine ⟨wT g' s b' ml (tx.length + 1) n' f', m, cI_tx ⟨g1, g2, g3, cm, ck, ci, h4⟩ s3 b3 p2.1 f ct, ⟨p2.1, Nat.le_trans p2.2.1 (by omega), Nat.le_trans p2.2.2.1 (by omega), fun x hx h2 _ => f x hx (fun z => by rw [z, s3] at h2; exact k_tf h2) (fun z => by rw [z, b3] at h2; exact k_tf h2)⟩, ?_⟩
  show a_call (d+40) MX1_type [.ref g, .int (nI c)] H = _
  rw [e_X1_type]
  simp (disch := first | omega | assumption | exact Or.inl rfl | exact Or.inr rfl | exact wN_kls (by omega) | exact wE_kls (by omega) | (simp only [a_cat_nil, a_cat_int, a_cat_ref, a_cat_null, a_cat_long]; done) | (simp only [a_cat_nil, a_cat_int, a_cat_ref, a_cat_null, a_cat_long]; omega) | decide | rfl | (apply Or.inr; omega) | (apply Or.inl; omega)) only [w_X1_type_0, w_X1_type_1, w_X1_type_2, w_X1_type_5, w_X1_type_8, w_X1_type_11, w_X1_type_14, w_X1_type_15, w_X1_type_18, w_X1_type_21, w_X1_type_23, w_X1_type_26, w_X1_type_27, w_X1_type_30, w_X1_type_31, w_X1_type_34, w_X1_type_35, w_X1_type_38, w_X1_type_39, w_X1_type_40, w_X1_type_43, w_X1_type_43I, w_X1_type_44, w_X1_type_45, w_X1_type_48, w_X1_type_51, w_ret, w_exc, Nat.reduceAdd, Option.toList_some, Option.toList_none, List.cons_append, List.nil_append, Option.bind_some, nI_add, q_mul, q_sub, q_eq, q_eqz, q_lt, q_ltz, q_gtz, q_le, q_lez, q_div, q_or, q_and, q_shl, q_shr, q_m1, q_eqm, q_meq, q_mm, q_mlt, q_mgt, q_mlt2, q_dec, Nat.add_sub_cancel, q_ltT, q_ltF, q_leT, q_leF, q_eqT, q_eqF, ↓reduceIte, uN_s, uN_n, upN_app, uG_s, uG_n, uG_uG, if_true, if_false, Nat.reduceMul, Nat.reduceSub, Nat.reduceEqDiff, Nat.reduceLT, and_true, true_and, and_false, false_and, or_true, true_or, or_false, false_or, not_true_eq_false, not_false_eq_true, Option.some.injEq, wEg_froms, wEg_tos, wEg_least, wEg_layers, wEg_rows, wEg_lengths, wEg_uppers, wEg_lowers, wEg_near, wEg_medians, wEg_points, wEg_boxes, wEp_boxes, wEg_arrows, wEp_arrows, wEg_depth, wEp_depth, wEg_made, wEp_made, wEg_come, wEp_come, wEr_uppers, wEw_uppers, wEr_lowers, wEw_lowers, wEr_near, wEw_near, wEr_medians, wEw_medians, wEr_points, wEw_points, wEr_froms, wEw_froms, wEr_tos, wEw_tos, wEr_least, wEw_least, wEr_layers, wEw_layers, wEr_rows, wEw_rows, wEr_lengths, wEw_lengths, wE_kls, bt, nd, g3', ln, nd2, cc, p1, g4', ln2]
end X5
