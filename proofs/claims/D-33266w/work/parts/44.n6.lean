/-- it is one of the first -/
def vB (n : Nat) (x : Int32) : Prop := ∃ f, f < n ∧ x = nI f
theorem t_ca_congr {nb na l : Nat} {fr to y : Nat → Nat} {row row' : Nat → Nat → Nat} (h1 : row l = row' l) (h2 : row (l + 1) = row' (l + 1)) : t_ca nb na fr to y row l = t_ca nb na fr to y row' l := by
  have e : ∀ j, row j = row' j → t_pl nb na fr to y row j = t_pl nb na fr to y row' j := fun j hj => funext fun k => by
    unfold t_pl
    rw [hj]
  unfold t_ca
  rw [e l h1, e (l + 1) h2]
theorem t_cx_two {nb na l : Nat} {fr to y : Nat → Nat} {row row' : Nat → Nat → Nat} (hl : l < t_dp y nb) (h : ∀ j, j ≠ l → row' j = row j) : t_cx nb na fr to y row' + t_ar nb na fr to y row l = t_cx nb na fr to y row + t_ar nb na fr to y row' l := by
  have z := t_sum_two (f := t_ca nb na fr to y row') (g := t_ca nb na fr to y row) (l := l) (t_dp y nb - 1) (fun i h1 h2 => t_ca_congr (h i h2) (h (i + 1) h1))
  have e1 : (0 < l ∧ l - 1 < t_dp y nb - 1) = (0 < l) := propext (by omega)
  have e2 : (l < t_dp y nb - 1) = (l + 1 < t_dp y nb) := propext (by omega)
  simp only [e1, e2] at z
  exact z
theorem t_u1_le {nb na l k : Nat} {fr to y : Nat → Nat} {row : Nat → Nat → Nat} (hl : l < t_dp y nb) : t_cx nb na fr to y (t_u1 nb na fr to y row l k) ≤ t_cx nb na fr to y row := by
  unfold t_u1
  split
  · exact Nat.le_refl _
  · have := t_cx_two (nb := nb) (na := na) (fr := fr) (to := to) (y := y) (row := row) (row' := t_tw row l k (k + 1)) hl (fun j hj => t_rw_n hj)
    omega
theorem t_u2_le {nb na l : Nat} {fr to y : Nat → Nat} {row : Nat → Nat → Nat} (hl : l < t_dp y nb) : ∀ k, t_cx nb na fr to y (t_u2 nb na fr to y row l k) ≤ t_cx nb na fr to y row
  | 0 => Nat.le_refl _
  | k + 1 => Nat.le_trans (t_u1_le hl) (t_u2_le hl k)
theorem t_u3_le {nb na : Nat} {fr to y : Nat → Nat} {row : Nat → Nat → Nat} : ∀ l, l ≤ t_dp y nb → t_cx nb na fr to y (t_u3 nb na fr to y row l) ≤ t_cx nb na fr to y row
  | 0, _ => Nat.le_refl _
  | l + 1, h => Nat.le_trans (t_u2_le (by omega) _) (t_u3_le l (by omega))
/-- arrows are taken out from the last on, if they tell nothing new -/
noncomputable def t_pr : Nat → Nat × (Nat → Nat) × (Nat → Nat) → Nat × (Nat → Nat) × (Nat → Nat)
  | 0, S => S
  | k + 1, S => t_pr k (if t_hb (fun j => j < S.1 ∧ j ≠ k) S.2.1 S.2.2 (S.2.2 k) (S.2.1 k) = true then (S.1 - 1, t_rm S.2.1 k, t_rm S.2.2 k) else S)
/-- settling: points now, best ones, how many crossings they have -/
def t_se (nb na : Nat) (fr to y : Nat → Nat) (row : Nat → Nat → Nat) : Nat → (Nat → Nat → Nat) × (Nat → Nat → Nat) × Nat
  | 0 => (row, row, t_cx nb na fr to y row)
  | k + 1 =>
    let s := t_se nb na fr to y row k
    let rw := if k % 3 = 2 then t_u3 nb na fr to y s.1 (t_dp y nb) else t_sw nb na fr to y s.1 (decide (k % 3 = 0)) (t_dp y nb - 1)
    if t_cx nb na fr to y rw < s.2.2 then (rw, rw, t_cx nb na fr to y rw) else (rw, s.2.1, s.2.2)
theorem mA_D {N : Nat → Nat → Nat} {G : Nat → Nat} {nb na ma co : Nat} {fr to le : Nat → Nat} {row row' : Nat → Nat → Nat} (o : t_OK nb na fr to le (t_ly na fr to le) row) (a : mA N G nb na fr to le (t_ly na fr to le) row') (e1 : N 0 78 = ma) (e2 : N 0 79 = co) : mD (N 0) (nb, na, fr, to, le, row', ma, co) :=
  ⟨⟨o.1, o.2.1, o.2.2.1, o.2.2.2.1, o.2.2.2.2.1, o.2.2.2.2.2.1, o.2.2.2.2.2.2.1, a.2.2.2⟩, a.1, a.2.2.1, e1, e2⟩
section N6
variable {d : Nat} {h : a_H} {m : Nat} {G : Nat → Nat} {N : Nat → Nat → Nat} {nb na ma co : Nat} {fr to le y : Nat → Nat} {row : Nat → Nat → Nat} {hs : List t_D} {kp : Option t_D}
theorem n_isBoxX {x : Int32} (hm : 1024 ≤ m) (h0 : N 0 0 = nb) (hn : nb ≤ 16) : ∃ b : Bool, (b = true ↔ vB nb x) ∧ a_call (d+2) MX3_isBox [.ref m, .int x] (wN h m G N) = some (.inl (some (.int (nI b.toNat))), wN h m G N) := by
  rcases q_in (x := x) (n := nb) (by omega) with ⟨f, hf, e⟩ | ⟨q1, q2⟩
  · subst e
    exact ⟨true, ⟨fun _ => ⟨f, hf, rfl⟩, fun _ => rfl⟩, n_isBox hm h0 hn hf⟩
  · exact ⟨false, ⟨fun z => Bool.noConfusion z, fun ⟨f, hf, e⟩ => absurd e (q1 f hf)⟩, n_isBox0 hm h0 q2⟩
theorem n_isArrowX {x : Int32} (hm : 1024 ≤ m) (h0 : N 0 1 = na) (hn : na ≤ 30) : ∃ b : Bool, (b = true ↔ vB na x) ∧ a_call (d+2) MX3_isArrow [.ref m, .int x] (wN h m G N) = some (.inl (some (.int (nI b.toNat))), wN h m G N) := by
  rcases q_in (x := x) (n := na) (by omega) with ⟨f, hf, e⟩ | ⟨q1, q2⟩
  · subst e
    exact ⟨true, ⟨fun _ => ⟨f, hf, rfl⟩, fun _ => rfl⟩, n_isArrow hm h0 hn hf⟩
  · exact ⟨false, ⟨fun z => Bool.noConfusion z, fun ⟨f, hf, e⟩ => absurd e (q1 f hf)⟩, n_isArrow0 hm h0 q2⟩
theorem n_inX {x : Int32} {n : Nat} (hn : n < 1000) : ∃ b : Bool, (b = true ↔ vB (n + 1) x) ∧ a_call (d+1) MX3_in [.int x, .int (nI 0), .int (nI n)] h = some (.inl (some (.int (nI b.toNat))), h) := by
  rcases q_in (x := x) (n := n + 1) (by omega) with ⟨f, hf, e⟩ | ⟨q1, q2⟩
  · subst e
    refine ⟨true, ⟨fun _ => ⟨f, hf, rfl⟩, fun _ => rfl⟩, ?_⟩
    have c := n_in (d := d) (h := h) (v := f) (a := 0) (b := n) (by omega) (by omega) (by omega)
    rw [if_pos (by omega)] at c
    exact c
  · refine ⟨false, ⟨fun z => Bool.noConfusion z, fun ⟨f, hf, e⟩ => absurd e (q1 f hf)⟩, ?_⟩
    rw [q_sub (by omega), Nat.add_sub_cancel] at q2
    exact n_in_no q2
theorem o_addChain1 {x z u : Int32} (hm : 1024 ≤ m) (i : mI N G (nb, na, fr, to, le, row, ma, co) hs kp) (q : ¬ (vB nb x ∧ vB nb z ∧ vB nb u)) : mZ (d+8) MX3_addChain [.int x, .int z, .int u] h m N G 1 0 (nb, na, fr, to, le, row, ma, co) hs kp := by
  have ⟨n0, n1⟩ := mD_lt i.1
  have hb := i.1.1.1
  have ⟨b1, p1, c1⟩ := n_isBoxX (d := d+5) (h := h) (G := G) (x := x) hm n0 hb
  have ⟨b2, p2, c2⟩ := n_isBoxX (d := d+5) (h := h) (G := G) (x := z) hm n0 hb
  have ⟨b3, p3, c3⟩ := n_isBoxX (d := d+5) (h := h) (G := G) (x := u) hm n0 hb
  refine mZ_no i (fun _ _ => rfl) i.1 ?_
  rw [e_X3_addChain]
  cases b1
  · simp (disch := first | omega | assumption | exact Or.inl rfl | exact Or.inr rfl | exact wN_kls (by omega) | exact wE_kls (by omega) | (simp only [a_cat_nil, a_cat_int, a_cat_ref, a_cat_null, a_cat_long]; done) | (simp only [a_cat_nil, a_cat_int, a_cat_ref, a_cat_null, a_cat_long]; omega) | decide) only [w_X3_addChain_0, w_X3_addChain_1, w_X3_addChain_2, w_X3_addChain_3, w_X3_addChain_6, w_X3_addChain_9, w_X3_addChain_10, w_X3_addChain_11, w_X3_addChain_14, w_X3_addChain_17, w_X3_addChain_18, w_X3_addChain_19, w_X3_addChain_22, w_X3_addChain_25, w_X3_addChain_26, w_X3_addChain_29, w_X3_addChain_30, w_X3_addChain_31, w_X3_addChain_32, w_X3_addChain_33, w_X3_addChain_36, w_X3_addChain_39, w_X3_addChain_40, w_X3_addChain_43, w_X3_addChain_44, w_X3_addChain_47, w_X3_addChain_48, w_X3_addChain_51, w_X3_addChain_54, w_X3_addChain_55, w_X3_addChain_56, w_X3_addChain_57, w_X3_addChain_60, w_X3_addChain_61, w_X3_addChain_62, w_X3_addChain_63, w_X3_addChain_66, w_X3_addChain_67, w_X3_addChain_68, w_X3_addChain_69, w_X3_addChain_72, w_X3_addChain_73, w_X3_addChain_76, w_X3_addChain_78, w_X3_addChain_79, w_X3_addChain_80, w_X3_addChain_81, w_X3_addChain_82, w_X3_addChain_83, w_X3_addChain_84, w_X3_addChain_87, w_X3_addChain_88, w_X3_addChain_91, w_X3_addChain_92, w_X3_addChain_93, w_X3_addChain_94, w_X3_addChain_95, w_ret, w_exc, Nat.reduceAdd, Option.toList_some, Option.toList_none, List.cons_append, List.nil_append, Option.bind_some, nI_add, q_mul, q_sub, q_eq, q_eqz, q_lt, q_ltz, q_gtz, q_le, q_lez, q_div, q_or, q_and, q_shl, q_shr, q_m1, q_eqm, q_meq, q_mm, q_mlt, q_mgt, q_mlt2, q_dec, Nat.add_sub_cancel, q_ltT, q_ltF, q_leT, q_leF, q_eqT, q_eqF, ↓reduceIte, uN_s, uN_n, upN_app, uG_s, uG_n, uG_uG, if_true, if_false, Nat.reduceMul, Nat.reduceSub, Nat.reduceEqDiff, Nat.reduceLT, and_true, true_and, and_false, false_and, or_true, true_or, or_false, false_or, not_true_eq_false, not_false_eq_true, Option.some.injEq, wNg_s, wNg_past, wNg_kept, wNg_aside, wNg_lay, wNg_start, wNg_count, wNg_deep, wNp_deep, wNg_near, wNg_medians, wNg_points, wNg_columns, wNg_upper, wNg_lower, wNg_heard, wNg_walks, wNg_spare, wNg_best, wNg_isKept, wNp_isKept, wNg_pasts, wNp_pasts, wNg_runs, wNp_runs, wNg_last, wNp_last, wNg_text, wNg_typed, wNp_typed, wNg_spot, wNp_spot, wNg_from, wNp_from, wNg_reason, wNp_reason, wNg_cause, wNp_cause, wNg_orders, wNp_orders, wNg_letter, wNp_letter, wNg_numbers, wNr_s, wNw_s, wNr_past, wNw_past, wNr_kept, wNw_kept, wNr_aside, wNw_aside, wNr_lay, wNw_lay, wNr_start, wNw_start, wNr_count, wNw_count, wNr_near, wNw_near, wNr_medians, wNw_medians, wNr_points, wNw_points, wNr_columns, wNw_columns, wNr_upper, wNw_upper, wNr_lower, wNw_lower, wNr_heard, wNw_heard, wNr_walks, wNw_walks, wNr_spare, wNw_spare, wNr_best, wNw_best, wNr_text, wNw_text, wNr_numbers, wNw_numbers, wN_kls, c1, Bool.toNat_false]
  · cases b2
    · simp (disch := first | omega | assumption | exact Or.inl rfl | exact Or.inr rfl | exact wN_kls (by omega) | exact wE_kls (by omega) | (simp only [a_cat_nil, a_cat_int, a_cat_ref, a_cat_null, a_cat_long]; done) | (simp only [a_cat_nil, a_cat_int, a_cat_ref, a_cat_null, a_cat_long]; omega) | decide) only [w_X3_addChain_0, w_X3_addChain_1, w_X3_addChain_2, w_X3_addChain_3, w_X3_addChain_6, w_X3_addChain_9, w_X3_addChain_10, w_X3_addChain_11, w_X3_addChain_14, w_X3_addChain_17, w_X3_addChain_18, w_X3_addChain_19, w_X3_addChain_22, w_X3_addChain_25, w_X3_addChain_26, w_X3_addChain_29, w_X3_addChain_30, w_X3_addChain_31, w_X3_addChain_32, w_X3_addChain_33, w_X3_addChain_36, w_X3_addChain_39, w_X3_addChain_40, w_X3_addChain_43, w_X3_addChain_44, w_X3_addChain_47, w_X3_addChain_48, w_X3_addChain_51, w_X3_addChain_54, w_X3_addChain_55, w_X3_addChain_56, w_X3_addChain_57, w_X3_addChain_60, w_X3_addChain_61, w_X3_addChain_62, w_X3_addChain_63, w_X3_addChain_66, w_X3_addChain_67, w_X3_addChain_68, w_X3_addChain_69, w_X3_addChain_72, w_X3_addChain_73, w_X3_addChain_76, w_X3_addChain_78, w_X3_addChain_79, w_X3_addChain_80, w_X3_addChain_81, w_X3_addChain_82, w_X3_addChain_83, w_X3_addChain_84, w_X3_addChain_87, w_X3_addChain_88, w_X3_addChain_91, w_X3_addChain_92, w_X3_addChain_93, w_X3_addChain_94, w_X3_addChain_95, w_ret, w_exc, Nat.reduceAdd, Option.toList_some, Option.toList_none, List.cons_append, List.nil_append, Option.bind_some, nI_add, q_mul, q_sub, q_eq, q_eqz, q_lt, q_ltz, q_gtz, q_le, q_lez, q_div, q_or, q_and, q_shl, q_shr, q_m1, q_eqm, q_meq, q_mm, q_mlt, q_mgt, q_mlt2, q_dec, Nat.add_sub_cancel, q_ltT, q_ltF, q_leT, q_leF, q_eqT, q_eqF, ↓reduceIte, uN_s, uN_n, upN_app, uG_s, uG_n, uG_uG, if_true, if_false, Nat.reduceMul, Nat.reduceSub, Nat.reduceEqDiff, Nat.reduceLT, and_true, true_and, and_false, false_and, or_true, true_or, or_false, false_or, not_true_eq_false, not_false_eq_true, Option.some.injEq, wNg_s, wNg_past, wNg_kept, wNg_aside, wNg_lay, wNg_start, wNg_count, wNg_deep, wNp_deep, wNg_near, wNg_medians, wNg_points, wNg_columns, wNg_upper, wNg_lower, wNg_heard, wNg_walks, wNg_spare, wNg_best, wNg_isKept, wNp_isKept, wNg_pasts, wNp_pasts, wNg_runs, wNp_runs, wNg_last, wNp_last, wNg_text, wNg_typed, wNp_typed, wNg_spot, wNp_spot, wNg_from, wNp_from, wNg_reason, wNp_reason, wNg_cause, wNp_cause, wNg_orders, wNp_orders, wNg_letter, wNp_letter, wNg_numbers, wNr_s, wNw_s, wNr_past, wNw_past, wNr_kept, wNw_kept, wNr_aside, wNw_aside, wNr_lay, wNw_lay, wNr_start, wNw_start, wNr_count, wNw_count, wNr_near, wNw_near, wNr_medians, wNw_medians, wNr_points, wNw_points, wNr_columns, wNw_columns, wNr_upper, wNw_upper, wNr_lower, wNw_lower, wNr_heard, wNw_heard, wNr_walks, wNw_walks, wNr_spare, wNw_spare, wNr_best, wNw_best, wNr_text, wNw_text, wNr_numbers, wNw_numbers, wN_kls, c1, c2, Bool.toNat_false, Bool.toNat_true]
    · cases b3
      · simp (disch := first | omega | assumption | exact Or.inl rfl | exact Or.inr rfl | exact wN_kls (by omega) | exact wE_kls (by omega) | (simp only [a_cat_nil, a_cat_int, a_cat_ref, a_cat_null, a_cat_long]; done) | (simp only [a_cat_nil, a_cat_int, a_cat_ref, a_cat_null, a_cat_long]; omega) | decide) only [w_X3_addChain_0, w_X3_addChain_1, w_X3_addChain_2, w_X3_addChain_3, w_X3_addChain_6, w_X3_addChain_9, w_X3_addChain_10, w_X3_addChain_11, w_X3_addChain_14, w_X3_addChain_17, w_X3_addChain_18, w_X3_addChain_19, w_X3_addChain_22, w_X3_addChain_25, w_X3_addChain_26, w_X3_addChain_29, w_X3_addChain_30, w_X3_addChain_31, w_X3_addChain_32, w_X3_addChain_33, w_X3_addChain_36, w_X3_addChain_39, w_X3_addChain_40, w_X3_addChain_43, w_X3_addChain_44, w_X3_addChain_47, w_X3_addChain_48, w_X3_addChain_51, w_X3_addChain_54, w_X3_addChain_55, w_X3_addChain_56, w_X3_addChain_57, w_X3_addChain_60, w_X3_addChain_61, w_X3_addChain_62, w_X3_addChain_63, w_X3_addChain_66, w_X3_addChain_67, w_X3_addChain_68, w_X3_addChain_69, w_X3_addChain_72, w_X3_addChain_73, w_X3_addChain_76, w_X3_addChain_78, w_X3_addChain_79, w_X3_addChain_80, w_X3_addChain_81, w_X3_addChain_82, w_X3_addChain_83, w_X3_addChain_84, w_X3_addChain_87, w_X3_addChain_88, w_X3_addChain_91, w_X3_addChain_92, w_X3_addChain_93, w_X3_addChain_94, w_X3_addChain_95, w_ret, w_exc, Nat.reduceAdd, Option.toList_some, Option.toList_none, List.cons_append, List.nil_append, Option.bind_some, nI_add, q_mul, q_sub, q_eq, q_eqz, q_lt, q_ltz, q_gtz, q_le, q_lez, q_div, q_or, q_and, q_shl, q_shr, q_m1, q_eqm, q_meq, q_mm, q_mlt, q_mgt, q_mlt2, q_dec, Nat.add_sub_cancel, q_ltT, q_ltF, q_leT, q_leF, q_eqT, q_eqF, ↓reduceIte, uN_s, uN_n, upN_app, uG_s, uG_n, uG_uG, if_true, if_false, Nat.reduceMul, Nat.reduceSub, Nat.reduceEqDiff, Nat.reduceLT, and_true, true_and, and_false, false_and, or_true, true_or, or_false, false_or, not_true_eq_false, not_false_eq_true, Option.some.injEq, wNg_s, wNg_past, wNg_kept, wNg_aside, wNg_lay, wNg_start, wNg_count, wNg_deep, wNp_deep, wNg_near, wNg_medians, wNg_points, wNg_columns, wNg_upper, wNg_lower, wNg_heard, wNg_walks, wNg_spare, wNg_best, wNg_isKept, wNp_isKept, wNg_pasts, wNp_pasts, wNg_runs, wNp_runs, wNg_last, wNp_last, wNg_text, wNg_typed, wNp_typed, wNg_spot, wNp_spot, wNg_from, wNp_from, wNg_reason, wNp_reason, wNg_cause, wNp_cause, wNg_orders, wNp_orders, wNg_letter, wNp_letter, wNg_numbers, wNr_s, wNw_s, wNr_past, wNw_past, wNr_kept, wNw_kept, wNr_aside, wNw_aside, wNr_lay, wNw_lay, wNr_start, wNw_start, wNr_count, wNw_count, wNr_near, wNw_near, wNr_medians, wNw_medians, wNr_points, wNw_points, wNr_columns, wNw_columns, wNr_upper, wNw_upper, wNr_lower, wNw_lower, wNr_heard, wNw_heard, wNr_walks, wNw_walks, wNr_spare, wNw_spare, wNr_best, wNw_best, wNr_text, wNw_text, wNr_numbers, wNw_numbers, wN_kls, c1, c2, c3, Bool.toNat_false, Bool.toNat_true]
      · exact absurd ⟨p1.mp rfl, p2.mp rfl, p3.mp rfl⟩ q
theorem t_nc_le {a b c : Nat} : t_nc na fr to a b c ≤ 24 := by
  unfold t_nc
  have h1 := t_rf_le (na := na) (fr := fr) (to := to) (f := a) (t := b)
  have h2 := t_rf_le (na := na + 1) (fr := upN fr na a) (to := upN to na b) (f := b) (t := c)
  split
  · omega
  · split <;> omega
theorem o_addChain2 {a b c : Nat} (hm : 1024 ≤ m) (i : mI N G (nb, na, fr, to, le, row, ma, co) hs kp) (ha : a < nb) (hb : b < nb) (hc : c < nb) (q : 0 < t_nc na fr to a b c) : mZ (d+8) MX3_addChain [.int (nI a), .int (nI b), .int (nI c)] h m N G 2 0 (nb, na, fr, to, le, row, ma, co) hs kp := by
  have ⟨n0, n1⟩ := mD_lt i.1
  have o := i.1.1
  have ⟨r, r1, r2⟩ := o.2.2.2.2.2.1
  have c1 := n_isBox (d := d+5) (h := h) (G := G) hm n0 o.1 ha
  have c2 := n_isBox (d := d+5) (h := h) (G := G) hm n0 o.1 hb
  have c3 := n_isBox (d := d+5) (h := h) (G := G) hm n0 o.1 hc
  have ⟨N', z1, z2, z3, z4⟩ := n_noChain (d := d+3) (h := h) (G := G) hm (mS_i rfl i.1.2.1) r1 ha hb hc
  have l := t_nc_le (na := na) (fr := fr) (to := to) (a := a) (b := b) (c := c)
  refine mZ_no i (fun j hj => z1 j (by omega) (by omega)) (mD_62 z2 (mS_i (N := fun _ => N' 0) rfl z3) i.1) ?_
  rw [e_X3_addChain]
  simp (disch := first | omega | assumption | exact Or.inl rfl | exact Or.inr rfl | exact wN_kls (by omega) | exact wE_kls (by omega) | (simp only [a_cat_nil, a_cat_int, a_cat_ref, a_cat_null, a_cat_long]; done) | (simp only [a_cat_nil, a_cat_int, a_cat_ref, a_cat_null, a_cat_long]; omega) | decide) only [w_X3_addChain_0, w_X3_addChain_1, w_X3_addChain_2, w_X3_addChain_3, w_X3_addChain_6, w_X3_addChain_9, w_X3_addChain_10, w_X3_addChain_11, w_X3_addChain_14, w_X3_addChain_17, w_X3_addChain_18, w_X3_addChain_19, w_X3_addChain_22, w_X3_addChain_25, w_X3_addChain_26, w_X3_addChain_29, w_X3_addChain_30, w_X3_addChain_31, w_X3_addChain_32, w_X3_addChain_33, w_X3_addChain_36, w_X3_addChain_39, w_X3_addChain_40, w_X3_addChain_43, w_X3_addChain_44, w_X3_addChain_47, w_X3_addChain_48, w_X3_addChain_51, w_X3_addChain_54, w_X3_addChain_55, w_X3_addChain_56, w_X3_addChain_57, w_X3_addChain_60, w_X3_addChain_61, w_X3_addChain_62, w_X3_addChain_63, w_X3_addChain_66, w_X3_addChain_67, w_X3_addChain_68, w_X3_addChain_69, w_X3_addChain_72, w_X3_addChain_73, w_X3_addChain_76, w_X3_addChain_78, w_X3_addChain_79, w_X3_addChain_80, w_X3_addChain_81, w_X3_addChain_82, w_X3_addChain_83, w_X3_addChain_84, w_X3_addChain_87, w_X3_addChain_88, w_X3_addChain_91, w_X3_addChain_92, w_X3_addChain_93, w_X3_addChain_94, w_X3_addChain_95, w_ret, w_exc, Nat.reduceAdd, Option.toList_some, Option.toList_none, List.cons_append, List.nil_append, Option.bind_some, nI_add, q_mul, q_sub, q_eq, q_eqz, q_lt, q_ltz, q_gtz, q_le, q_lez, q_div, q_or, q_and, q_shl, q_shr, q_m1, q_eqm, q_meq, q_mm, q_mlt, q_mgt, q_mlt2, q_dec, Nat.add_sub_cancel, q_ltT, q_ltF, q_leT, q_leF, q_eqT, q_eqF, ↓reduceIte, uN_s, uN_n, upN_app, uG_s, uG_n, uG_uG, if_true, if_false, Nat.reduceMul, Nat.reduceSub, Nat.reduceEqDiff, Nat.reduceLT, and_true, true_and, and_false, false_and, or_true, true_or, or_false, false_or, not_true_eq_false, not_false_eq_true, Option.some.injEq, wNg_s, wNg_past, wNg_kept, wNg_aside, wNg_lay, wNg_start, wNg_count, wNg_deep, wNp_deep, wNg_near, wNg_medians, wNg_points, wNg_columns, wNg_upper, wNg_lower, wNg_heard, wNg_walks, wNg_spare, wNg_best, wNg_isKept, wNp_isKept, wNg_pasts, wNp_pasts, wNg_runs, wNp_runs, wNg_last, wNp_last, wNg_text, wNg_typed, wNp_typed, wNg_spot, wNp_spot, wNg_from, wNp_from, wNg_reason, wNp_reason, wNg_cause, wNp_cause, wNg_orders, wNp_orders, wNg_letter, wNp_letter, wNg_numbers, wNr_s, wNw_s, wNr_past, wNw_past, wNr_kept, wNw_kept, wNr_aside, wNw_aside, wNr_lay, wNw_lay, wNr_start, wNw_start, wNr_count, wNw_count, wNr_near, wNw_near, wNr_medians, wNw_medians, wNr_points, wNw_points, wNr_columns, wNw_columns, wNr_upper, wNw_upper, wNr_lower, wNw_lower, wNr_heard, wNw_heard, wNr_walks, wNw_walks, wNr_spare, wNw_spare, wNr_best, wNw_best, wNr_text, wNw_text, wNr_numbers, wNw_numbers, wN_kls, c1, c2, c3, z4]
end N6
