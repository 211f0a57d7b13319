/-- columns: the middle of the neighbours above, by their columns -/
def t_cm (na : Nat) (fr to : Nat → Nat) (row : Nat → Nat → Nat) (pl : Nat → Nat) (prev : Nat → Nat) (l p : Nat) : Nat := if l = 0 then 0 else if (t_nn (t_nP true fr to (row l p)) (fun k => prev (pl k)) na).1 = 0 then 0 else t_mid (t_nn (t_nP true fr to (row l p)) (fun k => prev (pl k)) na).1 (t_nn (t_nP true fr to (row l p)) (fun k => prev (pl k)) na).2 / 2
/-- the columns of a layer, after those of the layer above -/
def t_c1 (M : Nat → Nat) : Nat → Nat
  | 0 => if 0 < M 0 then M 0 else 0
  | p + 1 => if t_c1 M p + 1 < M (p + 1) then M (p + 1) else t_c1 M p + 1
def t_c2 (nb na : Nat) (fr to y : Nat → Nat) (row : Nat → Nat → Nat) : Nat → Nat → Nat
  | 0 => t_c1 (t_cm na fr to row (t_pl nb na fr to y row 0) (fun _ => 0) 0)
  | l + 1 => t_c1 (t_cm na fr to row (t_pl nb na fr to y row l) (t_c2 nb na fr to y row l) (l + 1))
/-- the column of an arrow in a layer -/
def t_cl (nb na : Nat) (fr to y : Nat → Nat) (row : Nat → Nat → Nat) (k l : Nat) : Nat := t_c2 nb na fr to y row l (t_pl nb na fr to y row l k)
theorem t_mid_lt {n c : Nat} {a : Nat → Nat} (h : ∀ i, a i ≤ c) : t_mid n a / 2 ≤ c := by
  unfold t_mid
  have h1 := h (n / 2)
  have h2 := h (n / 2 - 1)
  split <;> omega
theorem t_c1_le {M : Nat → Nat} {c : Nat} (h : ∀ p, M p ≤ c) : ∀ p, t_c1 M p ≤ c + p
  | 0 => by
    have := h 0
    unfold t_c1
    split <;> omega
  | p + 1 => by
    have := h (p + 1)
    have := t_c1_le h p
    unfold t_c1
    split <;> omega
theorem t_c2_le {nb na : Nat} {fr to y : Nat → Nat} {row : Nat → Nat → Nat} (hb : nb ≤ 16) (ha : na ≤ 30) : ∀ l p, t_c2 nb na fr to y row l p ≤ 50 * l + p
  | 0, p => t_c1_le (c := 0) (fun p => by unfold t_cm; rw [if_pos rfl]; exact Nat.le_refl 0) p
  | l + 1, p => by
    refine t_c1_le (c := 50 * (l + 1)) (fun p => ?_) p
    unfold t_cm
    rw [if_neg (by omega)]
    have bd := t_nn_bd (P := t_nP true fr to (row (l + 1) p)) (nv := fun k => t_c2 nb na fr to y row l (t_pl nb na fr to y row l k)) (c := 50 * (l + 1) + 1) (by omega) na (fun k _ _ => by
      have := t_c2_le (fr := fr) (to := to) (y := y) (row := row) hb ha l (t_pl nb na fr to y row l k)
      have := t_pl_le (nb := nb) (na := na) (fr := fr) (to := to) (y := y) (row := row) (l := l) (k := k)
      show t_c2 nb na fr to y row l (t_pl nb na fr to y row l k) < _
      omega)
    split
    · omega
    · exact t_mid_lt fun i => by
        have := bd i
        omega
def t_be (nb na : Nat) (fr to y : Nat → Nat) (row : Nat → Nat → Nat) (k l : Nat) : Nat := if nI (t_cl nb na fr to y row k l) - nI (t_cl nb na fr to y row k (l - 1)) = nI (t_cl nb na fr to y row k (l + 1)) - nI (t_cl nb na fr to y row k l) then 0 else 1
/-- how often an arrow's line bends -/
def t_bn (nb na : Nat) (fr to y : Nat → Nat) (row : Nat → Nat → Nat) (k : Nat) : Nat := p_sm (t_be nb na fr to y row k) (y (fr k) + 1) (y (to k) - (y (fr k) + 1))
def t_bs (nb na : Nat) (fr to y : Nat → Nat) (row : Nat → Nat → Nat) : Nat := t_sum (t_bn nb na fr to y row) na
section Q5
variable {d : Nat} {h : a_H} {m : Nat} {G : Nat → Nat} {N : Nat → Nat → Nat} {nb na ma co : Nat} {fr to le y : Nat → Nat} {row : Nat → Nat → Nat} {hs : List t_D} {kp : Option t_D}
theorem t_c2_s {l p : Nat} : t_c2 nb na fr to y row l (p + 1) = if t_c2 nb na fr to y row l p + 1 < t_cm na fr to row (t_pl nb na fr to y row (l - 1)) (t_c2 nb na fr to y row (l - 1)) l (p + 1) then t_cm na fr to row (t_pl nb na fr to y row (l - 1)) (t_c2 nb na fr to y row (l - 1)) l (p + 1) else t_c2 nb na fr to y row l p + 1 := by
  cases l with
  | zero =>
    have e : ∀ M : Nat → Nat, t_c1 M (p + 1) = if t_c1 M p + 1 < M (p + 1) then M (p + 1) else t_c1 M p + 1 := fun _ => rfl
    show t_c1 _ (p + 1) = _
    rw [e]
    have z : ∀ pl prev q, t_cm na fr to row pl prev 0 q = 0 := fun _ _ _ => if_pos rfl
    simp only [z]
    show (if t_c2 nb na fr to y row 0 p + 1 < 0 then 0 else t_c2 nb na fr to y row 0 p + 1) = _
    rfl
  | succ l => rfl
theorem t_c2_z {l : Nat} : t_c2 nb na fr to y row l 0 = t_cm na fr to row (t_pl nb na fr to y row (l - 1)) (t_c2 nb na fr to y row (l - 1)) l 0 := by
  have e : ∀ M : Nat → Nat, t_c1 M 0 = M 0 := fun M => by
    show (if 0 < M 0 then M 0 else 0) = M 0
    split <;> omega
  cases l with
  | zero =>
    have z : ∀ pl prev q, t_cm na fr to row pl prev 0 q = 0 := fun _ _ _ => if_pos rfl
    show t_c1 _ 0 = _
    rw [e, z, z]
  | succ l => exact e _
/-- the middle of a point's neighbours above -/
theorem n_sh0 {l p x3 : Nat} {x4 x5 : Option Value} (hm : 1024 ≤ m) (a : mA N G nb na fr to le y row) (hl : l < t_dp y nb) (hp : p < t_cn nb na fr to y l) (hc : ∀ l' q, l' < l → q < t_cn nb na fr to y l' → N 10 (t_st nb na fr to y l' + q) = t_c2 nb na fr to y row l' q) : ∃ (N' : Nat → Nat → Nat) (z4 : Option Value), (∀ j, j ≠ 7 → N' j = N j) ∧ a_run (d+3) MX3_shifts 52 [some (.ref m), some (.int (nI l)), some (.int (nI p)), some (.int (nI x3)), x4, x5] [] (wN h m G N) = a_run (d+3) MX3_shifts 89 [some (.ref m), some (.int (nI l)), some (.int (nI p)), some (.int (nI x3)), z4, some (.int (nI (t_cm na fr to row (t_pl nb na fr to y row (l - 1)) (t_c2 nb na fr to y row (l - 1)) l p)))] [] (wN h m G N') := by
  have hd := mQ_dp a.2.1 a.1.1
  have s1 := a.1.1
  have s2 := a.1.2.1
  unfold t_cm
  by_cases c : l = 0
  · rw [if_pos c]
    refine ⟨N, some (.int (nI 0)), fun _ _ => rfl, ?_⟩
    simp (disch := first | omega | assumption | exact Or.inl rfl | exact Or.inr rfl | exact wN_kls (by omega) | exact wE_kls (by omega) | (simp only [a_cat_nil, a_cat_int, a_cat_ref, a_cat_null, a_cat_long]; done) | (simp only [a_cat_nil, a_cat_int, a_cat_ref, a_cat_null, a_cat_long]; omega) | decide) only [w_X3_shifts_52, w_X3_shifts_53, w_X3_shifts_56, w_X3_shifts_57, w_X3_shifts_60, w_X3_shifts_61, w_X3_shifts_62, w_X3_shifts_63, w_X3_shifts_64, w_X3_shifts_65, w_X3_shifts_68, w_X3_shifts_70, w_X3_shifts_72, w_X3_shifts_75, w_X3_shifts_76, w_X3_shifts_79, w_X3_shifts_80, w_X3_shifts_82, w_X3_shifts_85, w_X3_shifts_86, w_X3_shifts_87, w_ret, w_exc, Nat.reduceAdd, Option.toList_some, Option.toList_none, List.cons_append, List.nil_append, Option.bind_some, nI_add, q_mul, q_sub, q_eq, q_eqz, q_lt, q_ltz, q_gtz, q_le, q_lez, q_div, q_or, q_and, q_shl, q_shr, q_m1, q_eqm, q_meq, q_mm, q_mlt, q_mgt, q_mlt2, q_dec, Nat.add_sub_cancel, q_ltT, q_ltF, q_leT, q_leF, q_eqT, q_eqF, ↓reduceIte, uN_s, uN_n, upN_app, uG_s, uG_n, uG_uG, if_true, if_false, Nat.reduceMul, Nat.reduceSub, Nat.reduceEqDiff, Nat.reduceLT, and_true, true_and, and_false, false_and, or_true, true_or, or_false, false_or, not_true_eq_false, not_false_eq_true, Option.some.injEq, wNg_s, wNg_past, wNg_kept, wNg_aside, wNg_lay, wNg_start, wNg_count, wNg_deep, wNp_deep, wNg_near, wNg_medians, wNg_points, wNg_columns, wNg_upper, wNg_lower, wNg_heard, wNg_walks, wNg_spare, wNg_best, wNg_isKept, wNp_isKept, wNg_pasts, wNp_pasts, wNg_runs, wNp_runs, wNg_last, wNp_last, wNg_text, wNg_typed, wNp_typed, wNg_spot, wNp_spot, wNg_from, wNp_from, wNg_reason, wNp_reason, wNg_cause, wNp_cause, wNg_orders, wNp_orders, wNg_letter, wNp_letter, wNg_numbers, wNr_s, wNw_s, wNr_past, wNw_past, wNr_kept, wNw_kept, wNr_aside, wNw_aside, wNr_lay, wNw_lay, wNr_start, wNw_start, wNr_count, wNw_count, wNr_near, wNw_near, wNr_medians, wNw_medians, wNr_points, wNw_points, wNr_columns, wNw_columns, wNr_upper, wNw_upper, wNr_lower, wNw_lower, wNr_heard, wNw_heard, wNr_walks, wNw_walks, wNr_spare, wNw_spare, wNr_best, wNw_best, wNr_text, wNw_text, wNr_numbers, wNw_numbers, wN_kls]
  · rw [if_neg c]
    have ⟨N', ⟨z1, z2⟩, z3⟩ := n_nears (d := d) (h := h) (ww := 4294967295) (up := true) (c := true) (l' := l - 1) (nv := fun k => t_c2 nb na fr to y row (l - 1) (t_pl nb na fr to y row (l - 1) k)) hm a (show l < 26 by omega) hp rfl (by omega) (show l - 1 + 1 = l by omega) (fun k hk q => by
      have f := a.1.2.2.2.2.1 k hk
      have ⟨u1, u2⟩ := t_nP_ok (l' := l - 1) (up := true) a hk hp (show l - 1 + 1 = l by omega) q
      have ⟨p1, _, _⟩ := t_pl_sp a.2.2.2 hk f.2.2.1 f.2.2.2 u1 u2
      have b := t_c2_le (fr := fr) (to := to) (y := y) (row := row) s1 s2 (l - 1) (t_pl nb na fr to y row (l - 1) k)
      have b2 := t_pl_le (nb := nb) (na := na) (fr := fr) (to := to) (y := y) (row := row) (l := l - 1) (k := k)
      refine ⟨?_, by omega⟩
      rw [if_pos rfl, hc (l - 1) _ (by omega) p1])
    have ln := t_nn_le (P := t_nP true fr to (row l p)) (nv := fun k => t_c2 nb na fr to y row (l - 1) (t_pl nb na fr to y row (l - 1) k)) na
    have bdd := t_nn_bd (P := t_nP true fr to (row l p)) (nv := fun k => t_c2 nb na fr to y row (l - 1) (t_pl nb na fr to y row (l - 1) k)) (c := 2000) (by omega) na (fun k _ _ => by
      have b := t_c2_le (fr := fr) (to := to) (y := y) (row := row) s1 s2 (l - 1) (t_pl nb na fr to y row (l - 1) k)
      have b2 := t_pl_le (nb := nb) (na := na) (fr := fr) (to := to) (y := y) (row := row) (l := l - 1) (k := k)
      omega)
    revert z2 z3 ln bdd
    generalize t_nn (t_nP true fr to (row l p)) (fun k => t_c2 nb na fr to y row (l - 1) (t_pl nb na fr to y row (l - 1) k)) na = T
    intro z2 z3 ln bdd
    rw [Bool.toNat_true] at z3
    refine ⟨N', some (.int (nI T.1)), z1, ?_⟩
    by_cases q : T.1 = 0
    · rw [if_pos q]
      simp (disch := first | omega | assumption | exact Or.inl rfl | exact Or.inr rfl | exact wN_kls (by omega) | exact wE_kls (by omega) | (simp only [a_cat_nil, a_cat_int, a_cat_ref, a_cat_null, a_cat_long]; done) | (simp only [a_cat_nil, a_cat_int, a_cat_ref, a_cat_null, a_cat_long]; omega) | decide) only [w_X3_shifts_52, w_X3_shifts_53, w_X3_shifts_56, w_X3_shifts_57, w_X3_shifts_60, w_X3_shifts_61, w_X3_shifts_62, w_X3_shifts_63, w_X3_shifts_64, w_X3_shifts_65, w_X3_shifts_68, w_X3_shifts_70, w_X3_shifts_72, w_X3_shifts_75, w_X3_shifts_76, w_X3_shifts_79, w_X3_shifts_80, w_X3_shifts_82, w_X3_shifts_85, w_X3_shifts_86, w_X3_shifts_87, w_ret, w_exc, Nat.reduceAdd, Option.toList_some, Option.toList_none, List.cons_append, List.nil_append, Option.bind_some, nI_add, q_mul, q_sub, q_eq, q_eqz, q_lt, q_ltz, q_gtz, q_le, q_lez, q_div, q_or, q_and, q_shl, q_shr, q_m1, q_eqm, q_meq, q_mm, q_mlt, q_mgt, q_mlt2, q_dec, Nat.add_sub_cancel, q_ltT, q_ltF, q_leT, q_leF, q_eqT, q_eqF, ↓reduceIte, uN_s, uN_n, upN_app, uG_s, uG_n, uG_uG, if_true, if_false, Nat.reduceMul, Nat.reduceSub, Nat.reduceEqDiff, Nat.reduceLT, and_true, true_and, and_false, false_and, or_true, true_or, or_false, false_or, not_true_eq_false, not_false_eq_true, Option.some.injEq, wNg_s, wNg_past, wNg_kept, wNg_aside, wNg_lay, wNg_start, wNg_count, wNg_deep, wNp_deep, wNg_near, wNg_medians, wNg_points, wNg_columns, wNg_upper, wNg_lower, wNg_heard, wNg_walks, wNg_spare, wNg_best, wNg_isKept, wNp_isKept, wNg_pasts, wNp_pasts, wNg_runs, wNp_runs, wNg_last, wNp_last, wNg_text, wNg_typed, wNp_typed, wNg_spot, wNp_spot, wNg_from, wNp_from, wNg_reason, wNp_reason, wNg_cause, wNp_cause, wNg_orders, wNp_orders, wNg_letter, wNp_letter, wNg_numbers, wNr_s, wNw_s, wNr_past, wNw_past, wNr_kept, wNw_kept, wNr_aside, wNw_aside, wNr_lay, wNw_lay, wNr_start, wNw_start, wNr_count, wNw_count, wNr_near, wNw_near, wNr_medians, wNw_medians, wNr_points, wNw_points, wNr_columns, wNw_columns, wNr_upper, wNw_upper, wNr_lower, wNw_lower, wNr_heard, wNw_heard, wNr_walks, wNw_walks, wNr_spare, wNw_spare, wNr_best, wNw_best, wNr_text, wNw_text, wNr_numbers, wNw_numbers, wN_kls, z3, q]
    · rw [if_neg q, t_mid_congr (show 1 ≤ T.1 by omega) (fun i hi => (z2 i hi).symm)]
      have cm := n_middle (d := d+2) (h := h) (G := G) (N := N') (n := T.1) hm (by omega) (by omega)
      have mb : t_mid T.1 (N' 7) < 10000 := by
        rw [t_mid_congr (show 1 ≤ T.1 by omega) z2]
        unfold t_mid
        have h1 := bdd (T.1 / 2)
        have h2 := bdd (T.1 / 2 - 1)
        split <;> omega
      simp (disch := first | omega | assumption | exact Or.inl rfl | exact Or.inr rfl | exact wN_kls (by omega) | exact wE_kls (by omega) | (simp only [a_cat_nil, a_cat_int, a_cat_ref, a_cat_null, a_cat_long]; done) | (simp only [a_cat_nil, a_cat_int, a_cat_ref, a_cat_null, a_cat_long]; omega) | decide) only [w_X3_shifts_52, w_X3_shifts_53, w_X3_shifts_56, w_X3_shifts_57, w_X3_shifts_60, w_X3_shifts_61, w_X3_shifts_62, w_X3_shifts_63, w_X3_shifts_64, w_X3_shifts_65, w_X3_shifts_68, w_X3_shifts_70, w_X3_shifts_72, w_X3_shifts_75, w_X3_shifts_76, w_X3_shifts_79, w_X3_shifts_80, w_X3_shifts_82, w_X3_shifts_85, w_X3_shifts_86, w_X3_shifts_87, w_ret, w_exc, Nat.reduceAdd, Option.toList_some, Option.toList_none, List.cons_append, List.nil_append, Option.bind_some, nI_add, q_mul, q_sub, q_eq, q_eqz, q_lt, q_ltz, q_gtz, q_le, q_lez, q_div, q_or, q_and, q_shl, q_shr, q_m1, q_eqm, q_meq, q_mm, q_mlt, q_mgt, q_mlt2, q_dec, Nat.add_sub_cancel, q_ltT, q_ltF, q_leT, q_leF, q_eqT, q_eqF, ↓reduceIte, uN_s, uN_n, upN_app, uG_s, uG_n, uG_uG, if_true, if_false, Nat.reduceMul, Nat.reduceSub, Nat.reduceEqDiff, Nat.reduceLT, and_true, true_and, and_false, false_and, or_true, true_or, or_false, false_or, not_true_eq_false, not_false_eq_true, Option.some.injEq, wNg_s, wNg_past, wNg_kept, wNg_aside, wNg_lay, wNg_start, wNg_count, wNg_deep, wNp_deep, wNg_near, wNg_medians, wNg_points, wNg_columns, wNg_upper, wNg_lower, wNg_heard, wNg_walks, wNg_spare, wNg_best, wNg_isKept, wNp_isKept, wNg_pasts, wNp_pasts, wNg_runs, wNp_runs, wNg_last, wNp_last, wNg_text, wNg_typed, wNp_typed, wNg_spot, wNp_spot, wNg_from, wNp_from, wNg_reason, wNp_reason, wNg_cause, wNp_cause, wNg_orders, wNp_orders, wNg_letter, wNp_letter, wNg_numbers, wNr_s, wNw_s, wNr_past, wNw_past, wNr_kept, wNw_kept, wNr_aside, wNw_aside, wNr_lay, wNw_lay, wNr_start, wNw_start, wNr_count, wNw_count, wNr_near, wNw_near, wNr_medians, wNw_medians, wNr_points, wNw_points, wNr_columns, wNw_columns, wNr_upper, wNw_upper, wNr_lower, wNw_lower, wNr_heard, wNw_heard, wNr_walks, wNw_walks, wNr_spare, wNw_spare, wNr_best, wNw_best, wNr_text, wNw_text, wNr_numbers, wNw_numbers, wN_kls, z3, cm]
theorem n_sh1 {l : Nat} {x3 x4 x5 : Option Value} (hm : 1024 ≤ m) (a : mA N G nb na fr to le y row) (hl : l < t_dp y nb) (hc : ∀ l' q, l' < l → q < t_cn nb na fr to y l' → N 10 (t_st nb na fr to y l' + q) = t_c2 nb na fr to y row l' q) : ∃ z : (Nat → Nat → Nat) × Option Value × Option Value × Option Value, ((∀ j, j ≠ 7 → j ≠ 10 → z.1 j = N j) ∧ (∀ l' q, l' < l → q < t_cn nb na fr to y l' → z.1 10 (t_st nb na fr to y l' + q) = t_c2 nb na fr to y row l' q) ∧ ∀ q, q < t_cn nb na fr to y l → z.1 10 (t_st nb na fr to y l + q) = t_c2 nb na fr to y row l q) ∧ a_run (d+3) MX3_shifts 16 [some (.ref m), some (.int (nI l)), some (.int (nI 0)), x3, x4, x5] [] (wN h m G N) = a_run (d+3) MX3_shifts 16 [some (.ref m), some (.int (nI l)), some (.int (nI (t_cn nb na fr to y l))), z.2.1, z.2.2.1, z.2.2.2] [] (wN h m G z.1) := by
  have hd := mQ_dp a.2.1 a.1.1
  have s1 := a.1.1
  have s2 := a.1.2.1
  have cn := t_cn_le (nb := nb) (na := na) (fr := fr) (to := to) (y := y) (l := l)
  refine l_for (fun p (x : (Nat → Nat → Nat) × Option Value × Option Value × Option Value) => a_run (d+3) MX3_shifts 16 [some (.ref m), some (.int (nI l)), some (.int (nI p)), x.2.1, x.2.2.1, x.2.2.2] [] (wN h m G x.1)) (fun p x => (∀ j, j ≠ 7 → j ≠ 10 → x.1 j = N j) ∧ (∀ l' q, l' < l → q < t_cn nb na fr to y l' → x.1 10 (t_st nb na fr to y l' + q) = t_c2 nb na fr to y row l' q) ∧ ∀ q, q < p → x.1 10 (t_st nb na fr to y l + q) = t_c2 nb na fr to y row l q) (t_cn nb na fr to y l) (fun p x hp ⟨i1, i2, i3⟩ => ?_) _ 0 (N, x3, x4, x5) (Nat.zero_add _) ⟨fun _ _ _ => rfl, hc, fun q hq => absurd hq (Nat.not_lt_zero _)⟩
  obtain ⟨N1, y3, y4, y5⟩ := x
  dsimp only at i1 i2 i3 ⊢
  have a1 := mA_N (i1 0 (by decide) (by decide)) (i1 4 (by decide) (by decide)) (i1 5 (by decide) (by decide)) (i1 6 (by decide) (by decide)) a
  have st := mQ_st a.1 a.2.1 hp
  have g5 := (a1.2.1.2.1 l (by omega)).1
  have g6 := (a1.2.1.2.1 l (by omega)).2
  have cb := t_c2_le (fr := fr) (to := to) (y := y) (row := row) s1 s2 l p
  suffices key : ∃ x3 : Nat, a_run (d+3) MX3_shifts 16 [some (.ref m), some (.int (nI l)), some (.int (nI p)), y3, y4, y5] [] (wN h m G N1) = a_run (d+3) MX3_shifts 52 [some (.ref m), some (.int (nI l)), some (.int (nI p)), some (.int (nI x3)), y4, y5] [] (wN h m G N1) ∧ (t_c2 nb na fr to y row l p = if x3 < t_cm na fr to row (t_pl nb na fr to y row (l - 1)) (t_c2 nb na fr to y row (l - 1)) l p then t_cm na fr to row (t_pl nb na fr to y row (l - 1)) (t_c2 nb na fr to y row (l - 1)) l p else x3) by
    have ⟨w3, k1, k2⟩ := key
    have ⟨N2, w4, b1, b2⟩ := n_sh0 (d := d) (h := h) (x3 := w3) (x4 := y4) (x5 := y5) hm a1 hl hp i2
    have g5' := (congrFun (b1 5 (by decide)) l).trans g5
    have f : ∀ i, uN N2 10 (t_st nb na fr to y l + p) (t_c2 nb na fr to y row l p) 10 i = if i = t_st nb na fr to y l + p then t_c2 nb na fr to y row l p else N1 10 i := fun i => by rw [uN_s, b1 10 (by decide)]; rfl
    refine ⟨(uN N2 10 (t_st nb na fr to y l + p) (t_c2 nb na fr to y row l p), some (.int (nI w3)), w4, some (.int (nI (t_cm na fr to row (t_pl nb na fr to y row (l - 1)) (t_c2 nb na fr to y row (l - 1)) l p)))), ⟨fun j h7 h10 => (uN_n h10).trans ((b1 j h7).trans (i1 j h7 h10)), fun l' q hl' hq => ?_, fun q hq => ?_⟩, ?_⟩
    · have := t_st_far hl' hq
      try dsimp only
      rw [f, if_neg (by omega)]; exact i2 l' q hl' hq
    · try dsimp only
      rw [f]
      by_cases e : q = p
      · rw [if_pos (by omega), e]
      · rw [if_neg (by omega)]; exact i3 q (by omega)
    · try dsimp only
      rw [k1, b2]
      by_cases c : w3 < t_cm na fr to row (t_pl nb na fr to y row (l - 1)) (t_c2 nb na fr to y row (l - 1)) l p
      · rw [if_pos c] at k2
        rw [k2]
        rw [k2] at cb
        generalize t_cm na fr to row (t_pl nb na fr to y row (l - 1)) (t_c2 nb na fr to y row (l - 1)) l p = M at *
        simp (disch := first | omega | assumption | exact Or.inl rfl | exact Or.inr rfl | exact wN_kls (by omega) | exact wE_kls (by omega) | (simp only [a_cat_nil, a_cat_int, a_cat_ref, a_cat_null, a_cat_long]; done) | (simp only [a_cat_nil, a_cat_int, a_cat_ref, a_cat_null, a_cat_long]; omega) | decide) only [w_X3_shifts_89, w_X3_shifts_90, w_X3_shifts_93, w_X3_shifts_94, w_X3_shifts_97, w_X3_shifts_98, w_X3_shifts_99, w_X3_shifts_100, w_X3_shifts_101, w_X3_shifts_103, w_X3_shifts_104, w_X3_shifts_107, w_X3_shifts_109, w_X3_shifts_112, w_X3_shifts_113, w_X3_shifts_114, w_X3_shifts_117, w_ret, w_exc, Nat.reduceAdd, Option.toList_some, Option.toList_none, List.cons_append, List.nil_append, Option.bind_some, nI_add, q_mul, q_sub, q_eq, q_eqz, q_lt, q_ltz, q_gtz, q_le, q_lez, q_div, q_or, q_and, q_shl, q_shr, q_m1, q_eqm, q_meq, q_mm, q_mlt, q_mgt, q_mlt2, q_dec, Nat.add_sub_cancel, q_ltT, q_ltF, q_leT, q_leF, q_eqT, q_eqF, ↓reduceIte, uN_s, uN_n, upN_app, uG_s, uG_n, uG_uG, if_true, if_false, Nat.reduceMul, Nat.reduceSub, Nat.reduceEqDiff, Nat.reduceLT, and_true, true_and, and_false, false_and, or_true, true_or, or_false, false_or, not_true_eq_false, not_false_eq_true, Option.some.injEq, wNg_s, wNg_past, wNg_kept, wNg_aside, wNg_lay, wNg_start, wNg_count, wNg_deep, wNp_deep, wNg_near, wNg_medians, wNg_points, wNg_columns, wNg_upper, wNg_lower, wNg_heard, wNg_walks, wNg_spare, wNg_best, wNg_isKept, wNp_isKept, wNg_pasts, wNp_pasts, wNg_runs, wNp_runs, wNg_last, wNp_last, wNg_text, wNg_typed, wNp_typed, wNg_spot, wNp_spot, wNg_from, wNp_from, wNg_reason, wNp_reason, wNg_cause, wNp_cause, wNg_orders, wNp_orders, wNg_letter, wNp_letter, wNg_numbers, wNr_s, wNw_s, wNr_past, wNw_past, wNr_kept, wNw_kept, wNr_aside, wNw_aside, wNr_lay, wNw_lay, wNr_start, wNw_start, wNr_count, wNw_count, wNr_near, wNw_near, wNr_medians, wNw_medians, wNr_points, wNw_points, wNr_columns, wNw_columns, wNr_upper, wNw_upper, wNr_lower, wNw_lower, wNr_heard, wNw_heard, wNr_walks, wNw_walks, wNr_spare, wNw_spare, wNr_best, wNw_best, wNr_text, wNw_text, wNr_numbers, wNw_numbers, wN_kls, g5']
      · rw [if_neg c] at k2
        rw [k2]
        rw [k2] at cb
        generalize t_cm na fr to row (t_pl nb na fr to y row (l - 1)) (t_c2 nb na fr to y row (l - 1)) l p = M at *
        simp (disch := first | omega | assumption | exact Or.inl rfl | exact Or.inr rfl | exact wN_kls (by omega) | exact wE_kls (by omega) | (simp only [a_cat_nil, a_cat_int, a_cat_ref, a_cat_null, a_cat_long]; done) | (simp only [a_cat_nil, a_cat_int, a_cat_ref, a_cat_null, a_cat_long]; omega) | decide) only [w_X3_shifts_89, w_X3_shifts_90, w_X3_shifts_93, w_X3_shifts_94, w_X3_shifts_97, w_X3_shifts_98, w_X3_shifts_99, w_X3_shifts_100, w_X3_shifts_101, w_X3_shifts_103, w_X3_shifts_104, w_X3_shifts_107, w_X3_shifts_109, w_X3_shifts_112, w_X3_shifts_113, w_X3_shifts_114, w_X3_shifts_117, w_ret, w_exc, Nat.reduceAdd, Option.toList_some, Option.toList_none, List.cons_append, List.nil_append, Option.bind_some, nI_add, q_mul, q_sub, q_eq, q_eqz, q_lt, q_ltz, q_gtz, q_le, q_lez, q_div, q_or, q_and, q_shl, q_shr, q_m1, q_eqm, q_meq, q_mm, q_mlt, q_mgt, q_mlt2, q_dec, Nat.add_sub_cancel, q_ltT, q_ltF, q_leT, q_leF, q_eqT, q_eqF, ↓reduceIte, uN_s, uN_n, upN_app, uG_s, uG_n, uG_uG, if_true, if_false, Nat.reduceMul, Nat.reduceSub, Nat.reduceEqDiff, Nat.reduceLT, and_true, true_and, and_false, false_and, or_true, true_or, or_false, false_or, not_true_eq_false, not_false_eq_true, Option.some.injEq, wNg_s, wNg_past, wNg_kept, wNg_aside, wNg_lay, wNg_start, wNg_count, wNg_deep, wNp_deep, wNg_near, wNg_medians, wNg_points, wNg_columns, wNg_upper, wNg_lower, wNg_heard, wNg_walks, wNg_spare, wNg_best, wNg_isKept, wNp_isKept, wNg_pasts, wNp_pasts, wNg_runs, wNp_runs, wNg_last, wNp_last, wNg_text, wNg_typed, wNp_typed, wNg_spot, wNp_spot, wNg_from, wNp_from, wNg_reason, wNp_reason, wNg_cause, wNp_cause, wNg_orders, wNp_orders, wNg_letter, wNp_letter, wNg_numbers, wNr_s, wNw_s, wNr_past, wNw_past, wNr_kept, wNw_kept, wNr_aside, wNw_aside, wNr_lay, wNw_lay, wNr_start, wNw_start, wNr_count, wNw_count, wNr_near, wNw_near, wNr_medians, wNw_medians, wNr_points, wNw_points, wNr_columns, wNw_columns, wNr_upper, wNw_upper, wNr_lower, wNw_lower, wNr_heard, wNw_heard, wNr_walks, wNw_walks, wNr_spare, wNw_spare, wNr_best, wNw_best, wNr_text, wNw_text, wNr_numbers, wNw_numbers, wN_kls, g5']
  cases p with
  | zero =>
    refine ⟨0, ?_, ?_⟩
    · rw [w_X3_shifts_16]
      simp (disch := first | omega | assumption | exact Or.inl rfl | exact Or.inr rfl | exact wN_kls (by omega) | exact wE_kls (by omega) | (simp only [a_cat_nil, a_cat_int, a_cat_ref, a_cat_null, a_cat_long]; done) | (simp only [a_cat_nil, a_cat_int, a_cat_ref, a_cat_null, a_cat_long]; omega) | decide) only [w_X3_shifts_17, w_X3_shifts_18, w_X3_shifts_21, w_X3_shifts_22, w_X3_shifts_23, w_X3_shifts_26, w_X3_shifts_27, w_X3_shifts_30, w_X3_shifts_31, w_X3_shifts_34, w_X3_shifts_35, w_X3_shifts_38, w_X3_shifts_39, w_X3_shifts_42, w_X3_shifts_43, w_X3_shifts_44, w_X3_shifts_45, w_X3_shifts_46, w_X3_shifts_47, w_X3_shifts_48, w_X3_shifts_49, w_X3_shifts_50, w_X3_shifts_51, w_ret, w_exc, Nat.reduceAdd, Option.toList_some, Option.toList_none, List.cons_append, List.nil_append, Option.bind_some, nI_add, q_mul, q_sub, q_eq, q_eqz, q_lt, q_ltz, q_gtz, q_le, q_lez, q_div, q_or, q_and, q_shl, q_shr, q_m1, q_eqm, q_meq, q_mm, q_mlt, q_mgt, q_mlt2, q_dec, Nat.add_sub_cancel, q_ltT, q_ltF, q_leT, q_leF, q_eqT, q_eqF, ↓reduceIte, uN_s, uN_n, upN_app, uG_s, uG_n, uG_uG, if_true, if_false, Nat.reduceMul, Nat.reduceSub, Nat.reduceEqDiff, Nat.reduceLT, and_true, true_and, and_false, false_and, or_true, true_or, or_false, false_or, not_true_eq_false, not_false_eq_true, Option.some.injEq, wNg_s, wNg_past, wNg_kept, wNg_aside, wNg_lay, wNg_start, wNg_count, wNg_deep, wNp_deep, wNg_near, wNg_medians, wNg_points, wNg_columns, wNg_upper, wNg_lower, wNg_heard, wNg_walks, wNg_spare, wNg_best, wNg_isKept, wNp_isKept, wNg_pasts, wNp_pasts, wNg_runs, wNp_runs, wNg_last, wNp_last, wNg_text, wNg_typed, wNp_typed, wNg_spot, wNp_spot, wNg_from, wNp_from, wNg_reason, wNp_reason, wNg_cause, wNp_cause, wNg_orders, wNp_orders, wNg_letter, wNp_letter, wNg_numbers, wNr_s, wNw_s, wNr_past, wNw_past, wNr_kept, wNw_kept, wNr_aside, wNw_aside, wNr_lay, wNw_lay, wNr_start, wNw_start, wNr_count, wNw_count, wNr_near, wNw_near, wNr_medians, wNw_medians, wNr_points, wNw_points, wNr_columns, wNw_columns, wNr_upper, wNw_upper, wNr_lower, wNw_lower, wNr_heard, wNw_heard, wNr_walks, wNw_walks, wNr_spare, wNw_spare, wNr_best, wNw_best, wNr_text, wNw_text, wNr_numbers, wNw_numbers, wN_kls, g6]
    · rw [t_c2_z]
      split <;> omega
  | succ p =>
    have e := i3 p (by omega)
    refine ⟨t_c2 nb na fr to y row l p + 1, ?_, t_c2_s⟩
    have ix : t_st nb na fr to y l + (p + 1) - 1 = t_st nb na fr to y l + p := by omega
    rw [w_X3_shifts_16]
    simp (disch := first | omega | assumption | exact Or.inl rfl | exact Or.inr rfl | exact wN_kls (by omega) | exact wE_kls (by omega) | (simp only [a_cat_nil, a_cat_int, a_cat_ref, a_cat_null, a_cat_long]; done) | (simp only [a_cat_nil, a_cat_int, a_cat_ref, a_cat_null, a_cat_long]; omega) | decide) only [w_X3_shifts_17, w_X3_shifts_18, w_X3_shifts_21, w_X3_shifts_22, w_X3_shifts_23, w_X3_shifts_26, w_X3_shifts_27, w_X3_shifts_30, w_X3_shifts_31, w_X3_shifts_34, w_X3_shifts_35, w_X3_shifts_38, w_X3_shifts_39, w_X3_shifts_42, w_X3_shifts_43, w_X3_shifts_44, w_X3_shifts_45, w_X3_shifts_46, w_X3_shifts_47, w_X3_shifts_48, w_X3_shifts_49, w_X3_shifts_50, w_X3_shifts_51, w_ret, w_exc, Nat.reduceAdd, Option.toList_some, Option.toList_none, List.cons_append, List.nil_append, Option.bind_some, nI_add, q_mul, q_sub, q_eq, q_eqz, q_lt, q_ltz, q_gtz, q_le, q_lez, q_div, q_or, q_and, q_shl, q_shr, q_m1, q_eqm, q_meq, q_mm, q_mlt, q_mgt, q_mlt2, q_dec, Nat.add_sub_cancel, q_ltT, q_ltF, q_leT, q_leF, q_eqT, q_eqF, ↓reduceIte, uN_s, uN_n, upN_app, uG_s, uG_n, uG_uG, if_true, if_false, Nat.reduceMul, Nat.reduceSub, Nat.reduceEqDiff, Nat.reduceLT, and_true, true_and, and_false, false_and, or_true, true_or, or_false, false_or, not_true_eq_false, not_false_eq_true, Option.some.injEq, wNg_s, wNg_past, wNg_kept, wNg_aside, wNg_lay, wNg_start, wNg_count, wNg_deep, wNp_deep, wNg_near, wNg_medians, wNg_points, wNg_columns, wNg_upper, wNg_lower, wNg_heard, wNg_walks, wNg_spare, wNg_best, wNg_isKept, wNp_isKept, wNg_pasts, wNp_pasts, wNg_runs, wNp_runs, wNg_last, wNp_last, wNg_text, wNg_typed, wNp_typed, wNg_spot, wNp_spot, wNg_from, wNp_from, wNg_reason, wNp_reason, wNg_cause, wNp_cause, wNg_orders, wNp_orders, wNg_letter, wNp_letter, wNg_numbers, wNr_s, wNw_s, wNr_past, wNw_past, wNr_kept, wNw_kept, wNr_aside, wNw_aside, wNr_lay, wNw_lay, wNr_start, wNw_start, wNr_count, wNw_count, wNr_near, wNw_near, wNr_medians, wNw_medians, wNr_points, wNw_points, wNr_columns, wNw_columns, wNr_upper, wNw_upper, wNr_lower, wNw_lower, wNr_heard, wNw_heard, wNr_walks, wNw_walks, wNr_spare, wNw_spare, wNr_best, wNw_best, wNr_text, wNw_text, wNr_numbers, wNw_numbers, wN_kls, g6, g5, ix, e]
/-- the model has told the columns -/
theorem n_shifts (hm : 1024 ≤ m) (i : mD (N 0) (nb, na, fr, to, le, row, ma, co)) : ∃ N' : Nat → Nat → Nat, (∀ j, j ≠ 4 → j ≠ 5 → j ≠ 6 → j ≠ 7 → j ≠ 10 → N' j = N j) ∧ mA N' (uG G 7 (t_dp (t_ly na fr to le) nb)) nb na fr to le (t_ly na fr to le) row ∧ (∀ l p, l < t_dp (t_ly na fr to le) nb → p < t_cn nb na fr to (t_ly na fr to le) l → N' 10 (t_st nb na fr to (t_ly na fr to le) l + p) = t_c2 nb na fr to (t_ly na fr to le) row l p) ∧ a_call (d+4) MX3_shifts [.ref m] (wN h m G N) = some (.inl none, wN h m (uG G 7 (t_dp (t_ly na fr to le) nb)) N') := by
  have ⟨N1, a1, a2, a3⟩ := n_looks (d := d+2) (h := h) (G := G) hm i
  have hd := mD_dp i
  have ⟨z, ⟨z1, z2⟩, z4⟩ := l_for (fun l (x : (Nat → Nat → Nat) × Option Value × Option Value × Option Value × Option Value) => a_run (d+3) MX3_shifts 6 [some (.ref m), some (.int (nI l)), x.2.1, x.2.2.1, x.2.2.2.1, x.2.2.2.2] [] (wN h m (uG G 7 (t_dp (t_ly na fr to le) nb)) x.1)) (fun l x => (∀ j, j ≠ 7 → j ≠ 10 → x.1 j = N1 j) ∧ ∀ l' q, l' < l → q < t_cn nb na fr to (t_ly na fr to le) l' → x.1 10 (t_st nb na fr to (t_ly na fr to le) l' + q) = t_c2 nb na fr to (t_ly na fr to le) row l' q) (t_dp (t_ly na fr to le) nb) (fun l x hl ⟨i1, i2⟩ => by
    have a4 := mA_N (i1 0 (by decide) (by decide)) (i1 4 (by decide) (by decide)) (i1 5 (by decide) (by decide)) (i1 6 (by decide) (by decide)) a2
    have ⟨w, ⟨w1, w2, w3⟩, w4⟩ := n_sh1 (d := d) (h := h) (x3 := x.2.2.1) (x4 := x.2.2.2.1) (x5 := x.2.2.2.2) hm a4 hl i2
    have g2 := a4.2.1.2.2.1
    have g6 := ((mA_N (w1 0 (by decide) (by decide)) (w1 4 (by decide) (by decide)) (w1 5 (by decide) (by decide)) (w1 6 (by decide) (by decide)) a4).2.1.2.1 l (by omega)).2
    have cn := t_cn_le (nb := nb) (na := na) (fr := fr) (to := to) (y := t_ly na fr to le) (l := l)
    have o1 := i.1.1
    have o2 := i.1.2.1
    refine ⟨(w.1, some (.int (nI (t_cn nb na fr to (t_ly na fr to le) l))), w.2.1, w.2.2.1, w.2.2.2), ⟨fun j h7 h10 => (w1 j h7 h10).trans (i1 j h7 h10), fun l' q hl' hq => ?_⟩, ?_⟩
    · by_cases e : l' = l
      · subst e; exact w3 q hq
      · exact w2 l' q (by omega) hq
    · try dsimp only
      rw [w_X3_shifts_6]
      simp (disch := first | omega | assumption | exact Or.inl rfl | exact Or.inr rfl | exact wN_kls (by omega) | exact wE_kls (by omega) | (simp only [a_cat_nil, a_cat_int, a_cat_ref, a_cat_null, a_cat_long]; done) | (simp only [a_cat_nil, a_cat_int, a_cat_ref, a_cat_null, a_cat_long]; omega) | decide) only [w_X3_shifts_7, w_X3_shifts_8, w_X3_shifts_11, w_X3_shifts_14, w_X3_shifts_15, w_ret, w_exc, Nat.reduceAdd, Option.toList_some, Option.toList_none, List.cons_append, List.nil_append, Option.bind_some, nI_add, q_mul, q_sub, q_eq, q_eqz, q_lt, q_ltz, q_gtz, q_le, q_lez, q_div, q_or, q_and, q_shl, q_shr, q_m1, q_eqm, q_meq, q_mm, q_mlt, q_mgt, q_mlt2, q_dec, Nat.add_sub_cancel, q_ltT, q_ltF, q_leT, q_leF, q_eqT, q_eqF, ↓reduceIte, uN_s, uN_n, upN_app, uG_s, uG_n, uG_uG, if_true, if_false, Nat.reduceMul, Nat.reduceSub, Nat.reduceEqDiff, Nat.reduceLT, and_true, true_and, and_false, false_and, or_true, true_or, or_false, false_or, not_true_eq_false, not_false_eq_true, Option.some.injEq, wNg_s, wNg_past, wNg_kept, wNg_aside, wNg_lay, wNg_start, wNg_count, wNg_deep, wNp_deep, wNg_near, wNg_medians, wNg_points, wNg_columns, wNg_upper, wNg_lower, wNg_heard, wNg_walks, wNg_spare, wNg_best, wNg_isKept, wNp_isKept, wNg_pasts, wNp_pasts, wNg_runs, wNp_runs, wNg_last, wNp_last, wNg_text, wNg_typed, wNp_typed, wNg_spot, wNp_spot, wNg_from, wNp_from, wNg_reason, wNp_reason, wNg_cause, wNp_cause, wNg_orders, wNp_orders, wNg_letter, wNp_letter, wNg_numbers, wNr_s, wNw_s, wNr_past, wNw_past, wNr_kept, wNw_kept, wNr_aside, wNw_aside, wNr_lay, wNw_lay, wNr_start, wNw_start, wNr_count, wNw_count, wNr_near, wNw_near, wNr_medians, wNw_medians, wNr_points, wNw_points, wNr_columns, wNw_columns, wNr_upper, wNw_upper, wNr_lower, wNw_lower, wNr_heard, wNw_heard, wNr_walks, wNw_walks, wNr_spare, wNw_spare, wNr_best, wNw_best, wNr_text, wNw_text, wNr_numbers, wNw_numbers, wN_kls]
      rw [w4, w_X3_shifts_16]
      simp (disch := first | omega | assumption | exact Or.inl rfl | exact Or.inr rfl | exact wN_kls (by omega) | exact wE_kls (by omega) | (simp only [a_cat_nil, a_cat_int, a_cat_ref, a_cat_null, a_cat_long]; done) | (simp only [a_cat_nil, a_cat_int, a_cat_ref, a_cat_null, a_cat_long]; omega) | decide) only [w_X3_shifts_17, w_X3_shifts_18, w_X3_shifts_21, w_X3_shifts_22, w_X3_shifts_23, w_X3_shifts_120, w_X3_shifts_123, w_ret, w_exc, Nat.reduceAdd, Option.toList_some, Option.toList_none, List.cons_append, List.nil_append, Option.bind_some, nI_add, q_mul, q_sub, q_eq, q_eqz, q_lt, q_ltz, q_gtz, q_le, q_lez, q_div, q_or, q_and, q_shl, q_shr, q_m1, q_eqm, q_meq, q_mm, q_mlt, q_mgt, q_mlt2, q_dec, Nat.add_sub_cancel, q_ltT, q_ltF, q_leT, q_leF, q_eqT, q_eqF, ↓reduceIte, uN_s, uN_n, upN_app, uG_s, uG_n, uG_uG, if_true, if_false, Nat.reduceMul, Nat.reduceSub, Nat.reduceEqDiff, Nat.reduceLT, and_true, true_and, and_false, false_and, or_true, true_or, or_false, false_or, not_true_eq_false, not_false_eq_true, Option.some.injEq, wNg_s, wNg_past, wNg_kept, wNg_aside, wNg_lay, wNg_start, wNg_count, wNg_deep, wNp_deep, wNg_near, wNg_medians, wNg_points, wNg_columns, wNg_upper, wNg_lower, wNg_heard, wNg_walks, wNg_spare, wNg_best, wNg_isKept, wNp_isKept, wNg_pasts, wNp_pasts, wNg_runs, wNp_runs, wNg_last, wNp_last, wNg_text, wNg_typed, wNp_typed, wNg_spot, wNp_spot, wNg_from, wNp_from, wNg_reason, wNp_reason, wNg_cause, wNp_cause, wNg_orders, wNp_orders, wNg_letter, wNp_letter, wNg_numbers, wNr_s, wNw_s, wNr_past, wNw_past, wNr_kept, wNw_kept, wNr_aside, wNw_aside, wNr_lay, wNw_lay, wNr_start, wNw_start, wNr_count, wNw_count, wNr_near, wNw_near, wNr_medians, wNw_medians, wNr_points, wNw_points, wNr_columns, wNw_columns, wNr_upper, wNw_upper, wNr_lower, wNw_lower, wNr_heard, wNw_heard, wNr_walks, wNw_walks, wNr_spare, wNw_spare, wNr_best, wNw_best, wNr_text, wNw_text, wNr_numbers, wNw_numbers, wN_kls, g6]) _ 0 (N1, none, none, none, none) (Nat.zero_add _) ⟨fun _ _ _ => rfl, fun l' q hl' => absurd hl' (Nat.not_lt_zero _)⟩
  have a5 := mA_N (z1 0 (by decide) (by decide)) (z1 4 (by decide) (by decide)) (z1 5 (by decide) (by decide)) (z1 6 (by decide) (by decide)) a2
  have g2 := a5.2.1.2.2.1
  refine ⟨z.1, fun j h4 h5 h6 h7 h10 => (z1 j h7 h10).trans (a1 j h4 h5 h6), a5, z2, ?_⟩
  rw [e_X3_shifts]
  simp (disch := first | omega | assumption | exact Or.inl rfl | exact Or.inr rfl | exact wN_kls (by omega) | exact wE_kls (by omega) | (simp only [a_cat_nil, a_cat_int, a_cat_ref, a_cat_null, a_cat_long]; done) | (simp only [a_cat_nil, a_cat_int, a_cat_ref, a_cat_null, a_cat_long]; omega) | decide) only [w_X3_shifts_0, w_X3_shifts_1, w_X3_shifts_4, w_X3_shifts_5, w_ret, w_exc, Nat.reduceAdd, Option.toList_some, Option.toList_none, List.cons_append, List.nil_append, Option.bind_some, nI_add, q_mul, q_sub, q_eq, q_eqz, q_lt, q_ltz, q_gtz, q_le, q_lez, q_div, q_or, q_and, q_shl, q_shr, q_m1, q_eqm, q_meq, q_mm, q_mlt, q_mgt, q_mlt2, q_dec, Nat.add_sub_cancel, q_ltT, q_ltF, q_leT, q_leF, q_eqT, q_eqF, ↓reduceIte, uN_s, uN_n, upN_app, uG_s, uG_n, uG_uG, if_true, if_false, Nat.reduceMul, Nat.reduceSub, Nat.reduceEqDiff, Nat.reduceLT, and_true, true_and, and_false, false_and, or_true, true_or, or_false, false_or, not_true_eq_false, not_false_eq_true, Option.some.injEq, wNg_s, wNg_past, wNg_kept, wNg_aside, wNg_lay, wNg_start, wNg_count, wNg_deep, wNp_deep, wNg_near, wNg_medians, wNg_points, wNg_columns, wNg_upper, wNg_lower, wNg_heard, wNg_walks, wNg_spare, wNg_best, wNg_isKept, wNp_isKept, wNg_pasts, wNp_pasts, wNg_runs, wNp_runs, wNg_last, wNp_last, wNg_text, wNg_typed, wNp_typed, wNg_spot, wNp_spot, wNg_from, wNp_from, wNg_reason, wNp_reason, wNg_cause, wNp_cause, wNg_orders, wNp_orders, wNg_letter, wNp_letter, wNg_numbers, wNr_s, wNw_s, wNr_past, wNw_past, wNr_kept, wNw_kept, wNr_aside, wNw_aside, wNr_lay, wNw_lay, wNr_start, wNw_start, wNr_count, wNw_count, wNr_near, wNw_near, wNr_medians, wNw_medians, wNr_points, wNw_points, wNr_columns, wNw_columns, wNr_upper, wNw_upper, wNr_lower, wNw_lower, wNr_heard, wNw_heard, wNr_walks, wNw_walks, wNr_spare, wNw_spare, wNr_best, wNw_best, wNr_text, wNw_text, wNr_numbers, wNw_numbers, wN_kls, a3]
  rw [z4, w_X3_shifts_6]
  simp (disch := first | omega | assumption | exact Or.inl rfl | exact Or.inr rfl | exact wN_kls (by omega) | exact wE_kls (by omega) | (simp only [a_cat_nil, a_cat_int, a_cat_ref, a_cat_null, a_cat_long]; done) | (simp only [a_cat_nil, a_cat_int, a_cat_ref, a_cat_null, a_cat_long]; omega) | decide) only [w_X3_shifts_7, w_X3_shifts_8, w_X3_shifts_11, w_X3_shifts_126, w_ret, w_exc, Nat.reduceAdd, Option.toList_some, Option.toList_none, List.cons_append, List.nil_append, Option.bind_some, nI_add, q_mul, q_sub, q_eq, q_eqz, q_lt, q_ltz, q_gtz, q_le, q_lez, q_div, q_or, q_and, q_shl, q_shr, q_m1, q_eqm, q_meq, q_mm, q_mlt, q_mgt, q_mlt2, q_dec, Nat.add_sub_cancel, q_ltT, q_ltF, q_leT, q_leF, q_eqT, q_eqF, ↓reduceIte, uN_s, uN_n, upN_app, uG_s, uG_n, uG_uG, if_true, if_false, Nat.reduceMul, Nat.reduceSub, Nat.reduceEqDiff, Nat.reduceLT, and_true, true_and, and_false, false_and, or_true, true_or, or_false, false_or, not_true_eq_false, not_false_eq_true, Option.some.injEq, wNg_s, wNg_past, wNg_kept, wNg_aside, wNg_lay, wNg_start, wNg_count, wNg_deep, wNp_deep, wNg_near, wNg_medians, wNg_points, wNg_columns, wNg_upper, wNg_lower, wNg_heard, wNg_walks, wNg_spare, wNg_best, wNg_isKept, wNp_isKept, wNg_pasts, wNp_pasts, wNg_runs, wNp_runs, wNg_last, wNp_last, wNg_text, wNg_typed, wNp_typed, wNg_spot, wNp_spot, wNg_from, wNp_from, wNg_reason, wNp_reason, wNg_cause, wNp_cause, wNg_orders, wNp_orders, wNg_letter, wNp_letter, wNg_numbers, wNr_s, wNw_s, wNr_past, wNw_past, wNr_kept, wNw_kept, wNr_aside, wNw_aside, wNr_lay, wNw_lay, wNr_start, wNw_start, wNr_count, wNw_count, wNr_near, wNw_near, wNr_medians, wNw_medians, wNr_points, wNw_points, wNr_columns, wNw_columns, wNr_upper, wNw_upper, wNr_lower, wNw_lower, wNr_heard, wNw_heard, wNr_walks, wNw_walks, wNr_spare, wNw_spare, wNr_best, wNw_best, wNr_text, wNw_text, wNr_numbers, wNw_numbers, wN_kls]
end Q5
