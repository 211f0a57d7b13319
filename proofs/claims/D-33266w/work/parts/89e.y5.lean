section Y5
variable {d : Nat} {H H1 : a_H} {g m mm o p n i : Nat} {S : Nat → Int32} {D D' : t_D} {hs hs' : List t_D} {kp kp' : Option t_D} {tx tx' : List Nat} {x6 x7 : Option Value} {G G' : Nat → Nat} {N N' : Nat → Nat → Nat}
theorem wN_gW {a b x : Nat} {w : a_C} (e : wN H mm G N = H) (hm : mm + 19 < H.1) (i : cI H g m D hs kp tx) (hw : H.2.2 x = w) (w1 : ∀ t, w ≠ .inr (2, t)) (w2 : ∀ n f, w ≠ .inl (.int, n, .inl f)) (y : gO H H1 m x a b) : wN H1 mm G N = H1 := by
  have ko := wN_kind e hw w1 w2
  obtain ⟨kv, q, s, g1, g2, g3, cm, _⟩ := i
  have ap := cM_wN e cm
  have h0 : H.2.2 mm = .inr (2, wMF mm fun k => nI (G k)) := by rw [← e]; exact wN_obj
  have h1 : ∀ j, j < 19 → H.2.2 (mm + (j + 1)) = .inl (.int, wMN j, .inl fun i => nI (N j i)) := fun j hj => by rw [← e]; exact wN_arr hj
  exact (wM_ext rfl rfl ((y.2.2.2 mm (by omega) (by rw [h0]; rfl) (by omega) (by omega)).trans h0) (fun j hj => (y.2.2.2 _ (by omega) (by rw [h1 j hj]; rfl) (by omega) (by omega)).trans (h1 j hj)) (fun _ _ => rfl) : H1 = wN H1 mm G N).symm
/-- the state behind a call of the model -/
theorem l_fin {f : Nat → Int64} {e : Nat → UInt32} (hm : 1024 ≤ mm) (h2 : mm + 19 < H1.1) (e1 : wN H1 mm G N = H1) (i1 : cI H1 g m D hs kp tx) (o1 : 1024 ≤ o) (o2 : o < H1.1) (o4 : H1.2.2 o = .inl (.long, 1, .inr (.inl f))) (p1 : 1024 ≤ p) (p2 : p < H1.1) (p4 : H1.2.2 p = .inl (.float, 1, .inr (.inr (.inl e)))) (sc : H1.2.2 650 = .inl (.int, n, .inl S)) (z1 : mI N' G' D hs kp) (z2 : mX N' G' tx) (z3 : G' 20 = 0) : lI (wN H1 mm G' N') g mm o p n S D hs kp tx ∧ (wN H1 mm G' N').2.2 p = .inl (.float, 1, .inr (.inr (.inl e))) := by
  have oo := wN_kind e1 o4 (fun t z => by cases z) (fun n f z => by cases z)
  have pp := wN_kind e1 p4 (fun t z => by cases z) (fun n f z => by cases z)
  exact ⟨⟨m, G', N', f, e, cI_wN e1 i1, hm, h2, wN_wN, z1, z2, z3, o1, o2, (wN_out oo).trans o4, p1, p2, (wN_out pp).trans p4, (wN_out (Or.inl (by omega))).trans sc⟩, (wN_out pp).trans p4⟩
theorem l_meanPoints (L : lI H g mm o p n S D hs kp tx) : lC d 2561 H g mm o p n i S x6 x7 := by
  obtain ⟨nb, na, fr, to, le, row, ma, co⟩ := D
  obtain ⟨m, G, N, f, e, i0, hm, h2, h3, h4, h5, h6, o1, o2, o3, p1, p2, p3, sc⟩ := L
  have kg := (cI_g i0).2.2.1
  have hm1 : 1024 ≤ m := by
    obtain ⟨_, _, _, _, _, _, cm, _⟩ := i0
    exact cm.1
  have nop : o ≠ p := fun z => by rw [z, p3] at o3; cases o3
  have n65 : (650 : Nat) ≠ p := by omega
  have po := cI_kind i0 p3 (fun t z => by cases z) (fun n f z => by cases z)
  have oo := cI_kind i0 o3 (fun t z => by cases z) (fun n f z => by cases z)
  by_cases q : nb = 0
  · obtain ⟨H1, m1, z1, z2, x, t, x1, x2, x3⟩ := x_meanPoints1 (d := d) i0 q
    have tc : ∀ L, a_cont (d+40) MX0_meanPoints (a_thr MX0_meanPoints 3 L x H1) = a_run (d+40) MX0_meanPoints 10 L [.ref x] H1 := fun L => w_thrC (a_cls_o x2) x1 rfl
    have f1 : a_call (d+41) MX0_meanPoints [.ref g, .ref p] H = some (.inl (some (.int (nI 1))), H1) := by
      rw [e_X0_meanPoints]
      simp (disch := first | omega | assumption | exact Or.inl rfl | exact Or.inr rfl | exact wN_kls (by omega) | exact wE_kls (by omega) | (simp only [a_cat_nil, a_cat_int, a_cat_ref, a_cat_null, a_cat_long]; done) | (simp only [a_cat_nil, a_cat_int, a_cat_ref, a_cat_null, a_cat_long]; omega) | decide | rfl | (apply Or.inr; omega) | (apply Or.inl; omega)) only [w_X0_meanPoints_0, w_X0_meanPoints_0N, w_X0_meanPoints_1, w_X0_meanPoints_2, w_X0_meanPoints_3, w_X0_meanPoints_6, w_X0_meanPoints_7, w_X0_meanPoints_10, w_X0_meanPoints_10N, w_X0_meanPoints_11, w_X0_meanPoints_12, w_X0_meanPoints_13, w_X0_meanPoints_14, w_ret, w_exc, Nat.reduceAdd, Option.toList_some, Option.toList_none, List.cons_append, List.nil_append, Option.bind_some, nI_add, q_mul, q_sub, q_eq, q_eqz, q_lt, q_ltz, q_gtz, q_le, q_lez, q_div, q_or, q_and, q_shl, q_shr, q_m1, q_eqm, q_meq, q_mm, q_mlt, q_mgt, q_mlt2, q_dec, Nat.add_sub_cancel, q_ltT, q_ltF, q_leT, q_leF, q_eqT, q_eqF, ↓reduceIte, uN_s, uN_n, upN_app, uG_s, uG_n, uG_uG, if_true, if_false, Nat.reduceMul, Nat.reduceSub, Nat.reduceEqDiff, Nat.reduceLT, and_true, true_and, and_false, false_and, or_true, true_or, or_false, false_or, not_true_eq_false, not_false_eq_true, Option.some.injEq, x3, tc]
    have e1 := wN_gW h3 h2 i0 o3 (fun t z => by cases z) (fun n f z => by cases z) (gO_R z2)
    have zz := z2.1
    have ⟨N', G', u, y1, y2, y3, y4, y5⟩ := o_meanPoints (d := d+33) (h := H1) hm h4
    rw [e1] at y5
    have dp : t_dp (t_ly na fr to le) nb = 0 := by rw [q]; rfl
    rw [if_pos dp] at y3
    have p4 := (z2.2.2.2 p p2 (by rw [p3]; rfl) po).trans p3
    have o4 := (z2.2.2.2 o o2 (by rw [o3]; rfl) oo).trans o3
    have sc1 := (z2.2.2.2 650 (by omega) (by rw [sc]; rfl) (Or.inl (by omega))).trans sc
    have g20 : G' 20 = 0 := (y1.2.2.2 20 (by decide) (by decide) (by decide)).trans h6
    have mx : mX N' G' tx := ⟨(y1.2.2.2 23 (by decide) (by decide) (by decide)).trans h5.1, h5.2.1, fun i c h => by rw [y1.2.1]; exact h5.2.2 i c h⟩
    have ⟨L2, _⟩ := l_fin hm (by omega) e1 z1 o1 (by omega) o4 p1 (by omega) p4 sc1 y2 mx g20
    have k1 : a_kls H1 mm = some 2 := by rw [← e1]; exact wN_kls hm
    have k2 := (lI_S L2).1
    have th := l_thr (d := d) (H := wN H1 mm G' N') (c := 1) hm (by rw [wNg_last hm, y3])
    refine ⟨wN H1 mm G' N', some (.int (nI 1)), some (.float u), _, _, _, _, L2, ⟨z2.1, z2.2.1, z2.2.2.1⟩, ?_⟩
    simp (disch := first | omega | assumption | exact Or.inl rfl | exact Or.inr rfl | exact wN_kls (by omega) | exact wE_kls (by omega) | (simp only [a_cat_nil, a_cat_int, a_cat_ref, a_cat_null, a_cat_long]; done) | (simp only [a_cat_nil, a_cat_int, a_cat_ref, a_cat_null, a_cat_long]; omega) | decide | rfl | (apply Or.inr; omega) | (apply Or.inl; omega)) only [w_L_law_2561, w_L_law_2561N, w_L_law_2562, w_L_law_2562N, w_L_law_2564, w_L_law_2567, w_L_law_2569, w_L_law_2569N, w_L_law_2570, w_L_law_2573, w_L_law_2575, w_L_law_2575N, w_L_law_2576, w_L_law_2579, w_L_law_2581, w_L_law_2584, w_L_law_2585, w_L_law_2586, w_L_law_2588, w_L_law_2591, w_L_law_2591N, w_L_law_2593, w_L_law_2594, w_L_law_2595, w_L_law_2597, w_L_law_2598, w_L_law_2601, w_L_law_2601N, w_L_law_2603, w_L_law_2604, w_L_law_2605, w_L_law_2605N, w_L_law_2607, w_L_law_2608, w_L_law_2609, w_L_law_2610, w_L_law_2613, w_L_law_2615, w_L_law_2617, w_L_law_2618, w_L_law_2621, w_L_law_2622, w_L_law_2623, w_ret, w_exc, Nat.reduceAdd, Option.toList_some, Option.toList_none, List.cons_append, List.nil_append, Option.bind_some, nI_add, q_mul, q_sub, q_eq, q_eqz, q_lt, q_ltz, q_gtz, q_le, q_lez, q_div, q_or, q_and, q_shl, q_shr, q_m1, q_eqm, q_meq, q_mm, q_mlt, q_mgt, q_mlt2, q_dec, Nat.add_sub_cancel, q_ltT, q_ltF, q_leT, q_leF, q_eqT, q_eqF, ↓reduceIte, uN_s, uN_n, upN_app, uG_s, uG_n, uG_uG, if_true, if_false, Nat.reduceMul, Nat.reduceSub, Nat.reduceEqDiff, Nat.reduceLT, and_true, true_and, and_false, false_and, or_true, true_or, or_false, false_or, not_true_eq_false, not_false_eq_true, Option.some.injEq, f1, y5, th]
  · obtain ⟨H1, m1, z1, z2, x3⟩ := x_meanPoints (d := d) i0 q
    have x3 : a_call (d+40) MX1_meanPoints [.ref g] H = some (.inl (some (.float (FP.fdiv (FP.i2f (nI (t_al nb na fr to (t_ly na fr to le)))) (FP.i2f (nI (t_dp (t_ly na fr to le) nb)))))), H1) := x3
    have dp : t_dp (t_ly na fr to le) nb ≠ 0 := by
      have := t_dp_le (y := t_ly na fr to le) nb (show 0 < nb by omega)
      omega
    have p4 := (z2.2.2.2 p p2 (by rw [p3]; rfl) po).trans p3
    have o4 := (z2.2.2.2 o o2 (by rw [o3]; rfl) oo).trans o3
    have sc1 := (z2.2.2.2 650 (by omega) (by rw [sc]; rfl) (Or.inl (by omega))).trans sc
    have zz := z2.1
    revert x3
    generalize hU : FP.fdiv (FP.i2f (nI (t_al nb na fr to (t_ly na fr to le)))) (FP.i2f (nI (t_dp (t_ly na fr to le) nb))) = U
    intro x3
    have wr : a_wrf H1 p (nI 0) U = some (a_set H1 p (.inl (.float, 1, .inr (.inr (.inl (vf_upd e 0 U)))))) := by
      unfold a_wrf
      rw [p4]
      refine (if_pos ⟨a_out_nI (by decide) (by decide), p1⟩).trans ?_
      rw [nI_clamp (by decide)]
    have f1 : a_call (d+41) MX0_meanPoints [.ref g, .ref p] H = some (.inl (some (.int (nI 0))), a_set H1 p (.inl (.float, 1, .inr (.inr (.inl (vf_upd e 0 U)))))) := by
      rw [e_X0_meanPoints]
      simp (disch := first | omega | assumption | exact Or.inl rfl | exact Or.inr rfl | exact wN_kls (by omega) | exact wE_kls (by omega) | (simp only [a_cat_nil, a_cat_int, a_cat_ref, a_cat_null, a_cat_long]; done) | (simp only [a_cat_nil, a_cat_int, a_cat_ref, a_cat_null, a_cat_long]; omega) | decide | rfl | (apply Or.inr; omega) | (apply Or.inl; omega)) only [w_X0_meanPoints_0, w_X0_meanPoints_0N, w_X0_meanPoints_1, w_X0_meanPoints_2, w_X0_meanPoints_3, w_X0_meanPoints_6, w_X0_meanPoints_7, w_X0_meanPoints_10, w_X0_meanPoints_10N, w_X0_meanPoints_11, w_X0_meanPoints_12, w_X0_meanPoints_13, w_X0_meanPoints_14, w_ret, w_exc, Nat.reduceAdd, Option.toList_some, Option.toList_none, List.cons_append, List.nil_append, Option.bind_some, nI_add, q_mul, q_sub, q_eq, q_eqz, q_lt, q_ltz, q_gtz, q_le, q_lez, q_div, q_or, q_and, q_shl, q_shr, q_m1, q_eqm, q_meq, q_mm, q_mlt, q_mgt, q_mlt2, q_dec, Nat.add_sub_cancel, q_ltT, q_ltF, q_leT, q_leF, q_eqT, q_eqF, ↓reduceIte, uN_s, uN_n, upN_app, uG_s, uG_n, uG_uG, if_true, if_false, Nat.reduceMul, Nat.reduceSub, Nat.reduceEqDiff, Nat.reduceLT, and_true, true_and, and_false, false_and, or_true, true_or, or_false, false_or, not_true_eq_false, not_false_eq_true, Option.some.injEq, x3, wr]
    have i1 : cI (a_set H1 p (.inl (.float, 1, .inr (.inr (.inl (vf_upd e 0 U)))))) g m1 _ _ _ _ := cI_o z1 p4 rfl (fun t z => by cases z) (fun n f z => by cases z)
    have e1 := wN_gW h3 h2 i0 p3 (fun t z => by cases z) (fun n f z => by cases z) (gO_set (w := .inl (.float, 1, .inr (.inr (.inl (vf_upd e 0 U))))) z2)
    have p5 : (a_set H1 p (.inl (.float, 1, .inr (.inr (.inl (vf_upd e 0 U)))))).2.2 p = .inl (.float, 1, .inr (.inr (.inl (vf_upd e 0 U)))) := if_pos rfl
    have o5 : (a_set H1 p (.inl (.float, 1, .inr (.inr (.inl (vf_upd e 0 U)))))).2.2 o = .inl (.long, 1, .inr (.inl f)) := (if_neg nop).trans o4
    have sc2 : (a_set H1 p (.inl (.float, 1, .inr (.inr (.inl (vf_upd e 0 U)))))).2.2 650 = .inl (.int, n, .inl S) := (if_neg n65).trans sc1
    have hH : (a_set H1 p (.inl (.float, 1, .inr (.inr (.inl (vf_upd e 0 U)))))).1 = H1.1 := rfl
    have hH2 : (a_set H1 p (.inl (.float, 1, .inr (.inr (.inl (vf_upd e 0 U)))))).2.1 = H1.2.1 := rfl
    revert f1 i1 e1 p5 o5 sc2 hH hH2
    generalize a_set H1 p (.inl (.float, 1, .inr (.inr (.inl (vf_upd e 0 U))))) = H3
    intro f1 i1 e1 p5 o5 sc2 hH hH2
    have ⟨N', G', u, y1, y2, y3, y4, y5⟩ := o_meanPoints (d := d+33) (h := H3) hm h4
    rw [e1] at y5
    rw [if_neg dp] at y3
    have y4 := y4 dp
    rw [hU] at y4
    subst y4
    have g20 : G' 20 = 0 := (y1.2.2.2 20 (by decide) (by decide) (by decide)).trans h6
    have mx : mX N' G' tx := ⟨(y1.2.2.2 23 (by decide) (by decide) (by decide)).trans h5.1, h5.2.1, fun i c h => by rw [y1.2.1]; exact h5.2.2 i c h⟩
    have ⟨L2, p6⟩ := l_fin hm (by omega) e1 i1 o1 (by omega) o5 p1 (by omega) p5 sc2 y2 mx g20
    have k1 : a_kls H3 mm = some 2 := by rw [← e1]; exact wN_kls hm
    have k2 := (lI_S L2).1
    have th := l_thr (d := d) (H := wN H3 mm G' N') (c := 0) hm (by rw [wNg_last hm, y3])
    have rf : a_rdf (wN H3 mm G' N') p (nI 0) = some (.float u) := by
      unfold a_rdf
      rw [p6]
      refine (if_pos ⟨a_out_nI (by decide) (by decide), p1⟩).trans ?_
      rw [nI_clamp (by decide)]
      rfl
    have ⟨zz1, zz2, zz3, _⟩ := z2
    refine ⟨wN H3 mm G' N', some (.int (nI 0)), some (.float u), _, _, _, _, L2, ⟨by show H.1 ≤ H3.1; omega, by show H3.1 ≤ H.1 + 4000; omega, by show H3.2.1 ≤ H.2.1 + 70000; omega⟩, ?_⟩
    by_cases w : Op.cmpValue (FP.fcmp u u) .l = 0
    · have w := eq_true w
      simp (disch := first | omega | assumption | exact Or.inl rfl | exact Or.inr rfl | exact wN_kls (by omega) | exact wE_kls (by omega) | (simp only [a_cat_nil, a_cat_int, a_cat_ref, a_cat_null, a_cat_long]; done) | (simp only [a_cat_nil, a_cat_int, a_cat_ref, a_cat_null, a_cat_long]; omega) | decide | rfl | (apply Or.inr; omega) | (apply Or.inl; omega)) only [w_L_law_2561, w_L_law_2561N, w_L_law_2562, w_L_law_2562N, w_L_law_2564, w_L_law_2567, w_L_law_2569, w_L_law_2569N, w_L_law_2570, w_L_law_2573, w_L_law_2575, w_L_law_2575N, w_L_law_2576, w_L_law_2579, w_L_law_2581, w_L_law_2584, w_L_law_2585, w_L_law_2586, w_L_law_2588, w_L_law_2591, w_L_law_2591N, w_L_law_2593, w_L_law_2594, w_L_law_2595, w_L_law_2597, w_L_law_2598, w_L_law_2601, w_L_law_2601N, w_L_law_2603, w_L_law_2604, w_L_law_2605, w_L_law_2605N, w_L_law_2607, w_L_law_2608, w_L_law_2609, w_L_law_2610, w_L_law_2613, w_L_law_2615, w_L_law_2617, w_L_law_2618, w_L_law_2621, w_L_law_2622, w_L_law_2623, w_ret, w_exc, Nat.reduceAdd, Option.toList_some, Option.toList_none, List.cons_append, List.nil_append, Option.bind_some, nI_add, q_mul, q_sub, q_eq, q_eqz, q_lt, q_ltz, q_gtz, q_le, q_lez, q_div, q_or, q_and, q_shl, q_shr, q_m1, q_eqm, q_meq, q_mm, q_mlt, q_mgt, q_mlt2, q_dec, Nat.add_sub_cancel, q_ltT, q_ltF, q_leT, q_leF, q_eqT, q_eqF, ↓reduceIte, uN_s, uN_n, upN_app, uG_s, uG_n, uG_uG, if_true, if_false, Nat.reduceMul, Nat.reduceSub, Nat.reduceEqDiff, Nat.reduceLT, and_true, true_and, and_false, false_and, or_true, true_or, or_false, false_or, not_true_eq_false, not_false_eq_true, Option.some.injEq, f1, y5, th, rf, w]
    · have w := eq_false w
      simp (disch := first | omega | assumption | exact Or.inl rfl | exact Or.inr rfl | exact wN_kls (by omega) | exact wE_kls (by omega) | (simp only [a_cat_nil, a_cat_int, a_cat_ref, a_cat_null, a_cat_long]; done) | (simp only [a_cat_nil, a_cat_int, a_cat_ref, a_cat_null, a_cat_long]; omega) | decide | rfl | (apply Or.inr; omega) | (apply Or.inl; omega)) only [w_L_law_2561, w_L_law_2561N, w_L_law_2562, w_L_law_2562N, w_L_law_2564, w_L_law_2567, w_L_law_2569, w_L_law_2569N, w_L_law_2570, w_L_law_2573, w_L_law_2575, w_L_law_2575N, w_L_law_2576, w_L_law_2579, w_L_law_2581, w_L_law_2584, w_L_law_2585, w_L_law_2586, w_L_law_2588, w_L_law_2591, w_L_law_2591N, w_L_law_2593, w_L_law_2594, w_L_law_2595, w_L_law_2597, w_L_law_2598, w_L_law_2601, w_L_law_2601N, w_L_law_2603, w_L_law_2604, w_L_law_2605, w_L_law_2605N, w_L_law_2607, w_L_law_2608, w_L_law_2609, w_L_law_2610, w_L_law_2613, w_L_law_2615, w_L_law_2617, w_L_law_2618, w_L_law_2621, w_L_law_2622, w_L_law_2623, w_ret, w_exc, Nat.reduceAdd, Option.toList_some, Option.toList_none, List.cons_append, List.nil_append, Option.bind_some, nI_add, q_mul, q_sub, q_eq, q_eqz, q_lt, q_ltz, q_gtz, q_le, q_lez, q_div, q_or, q_and, q_shl, q_shr, q_m1, q_eqm, q_meq, q_mm, q_mlt, q_mgt, q_mlt2, q_dec, Nat.add_sub_cancel, q_ltT, q_ltF, q_leT, q_leF, q_eqT, q_eqF, ↓reduceIte, uN_s, uN_n, upN_app, uG_s, uG_n, uG_uG, if_true, if_false, Nat.reduceMul, Nat.reduceSub, Nat.reduceEqDiff, Nat.reduceLT, and_true, true_and, and_false, false_and, or_true, true_or, or_false, false_or, not_true_eq_false, not_false_eq_true, Option.some.injEq, f1, y5, th, rf, w]
end Y5
