/-- crossings below a layer -/
def t_ca (nb na : Nat) (fr to y : Nat → Nat) (row : Nat → Nat → Nat) (l : Nat) : Nat := p_sm (p_c1 (fun j => p_ps fr to y j l) (t_pl nb na fr to y row l) (t_pl nb na fr to y row (l + 1))) 0 na
/-- all crossings -/
def t_cx (nb na : Nat) (fr to y : Nat → Nat) (row : Nat → Nat → Nat) : Nat := t_sum (t_ca nb na fr to y row) (t_dp y nb - 1)
theorem t_is_lt {nb na l x : Nat} {fr to y : Nat → Nat} (hb : nb ≤ 16) (ha : na ≤ 30) (h : t_is nb na fr to y l x) : x < 130 := by
  rcases h with ⟨h, _⟩ | ⟨_, h, _⟩ <;> omega
theorem p_sm_le {f : Nat → Nat} {c : Nat} (h : ∀ i, f i ≤ c) : ∀ r j, p_sm f j r ≤ r * c
  | 0, _ => Nat.zero_le _
  | r + 1, j => by
    have := p_sm_le h r (j + 1)
    have := h j
    rw [Nat.succ_mul]
    show f j + p_sm f (j + 1) r ≤ _
    omega
theorem t_ca_le {nb na : Nat} {fr to y : Nat → Nat} {row : Nat → Nat → Nat} {l : Nat} (ha : na ≤ 30) : t_ca nb na fr to y row l ≤ 900 := by
  unfold t_ca
  rw [p_sm_sum]
  have := t_sum_le (f := p_c1 (fun j => p_ps fr to y j l) (t_pl nb na fr to y row l) (t_pl nb na fr to y row (l + 1))) (g := fun _ => 30) na (fun k hk => by
    unfold p_c1
    split
    · have := p_sm_le (f := p_cr (fun j => p_ps fr to y j l) (t_pl nb na fr to y row l) (t_pl nb na fr to y row (l + 1)) k) (c := 1) (fun i => by unfold p_cr; split <;> omega) k 0
      omega
    · exact Nat.zero_le _)
  rw [t_sum_const] at this
  have : na * 30 ≤ 30 * 30 := Nat.mul_le_mul_right 30 ha
  omega
theorem t_cx_le {nb na : Nat} {fr to y : Nat → Nat} {row : Nat → Nat → Nat} (ha : na ≤ 30) (hd : t_dp y nb ≤ 25) : t_cx nb na fr to y row ≤ 30000 := by
  unfold t_cx
  have := t_sum_le (f := t_ca nb na fr to y row) (g := fun _ => 900) (t_dp y nb - 1) (fun l _ => t_ca_le ha)
  rw [t_sum_const] at this
  have : (t_dp y nb - 1) * 900 ≤ 25 * 900 := Nat.mul_le_mul_right 900 (by omega)
  omega
/-- the model has looked, and its points stand in order -/
def mA (N : Nat → Nat → Nat) (G : Nat → Nat) (nb na : Nat) (fr to le y : Nat → Nat) (row : Nat → Nat → Nat) : Prop := mS N nb na fr to le ∧ mQ N G nb na fr to y ∧ mR N nb na fr to y row ∧ t_RW nb na fr to y row
theorem mA_N {N N' : Nat → Nat → Nat} {G : Nat → Nat} {nb na : Nat} {fr to le y : Nat → Nat} {row : Nat → Nat → Nat} (e0 : N' 0 = N 0) (e4 : N' 4 = N 4) (e5 : N' 5 = N 5) (e6 : N' 6 = N 6) (a : mA N G nb na fr to le y row) : mA N' G nb na fr to le y row := by
  unfold mA mS mQ mR at a ⊢
  rw [e0, e4, e5, e6]
  exact a
section M5
variable {d : Nat} {h : a_H} {m : Nat} {G : Nat → Nat} {N : Nat → Nat → Nat} {nb na : Nat} {fr to le r y : Nat → Nat} {row : Nat → Nat → Nat}
theorem n_point {l p : Nat} (hm : 1024 ≤ m) (a : mA N G nb na fr to le y row) (hl : l < 26) (hp : p < t_cn nb na fr to y l) : a_call (d+1) MX3_point [.ref m, .int (nI l), .int (nI p)] (wN h m G N) = some (.inl (some (.int (nI (row l p)))), wN h m G N) := by
  have st := mQ_st a.1 a.2.1 hp
  have z := m_point (d := d) (h := h) (F := fun k => nI (G k)) (A := fun j i => nI (N j i)) (l := l) (p := p) (sta := t_st nb na fr to y l) hm hl (congrArg nI (a.2.1.2.1 l hl).1) (by omega)
  rw [← a.2.2.1 l p hl hp]
  exact z
theorem n_place {l p : Nat} (hm : 1024 ≤ m) (a : mA N G nb na fr to le y row) (hl : l < 26) (hp : p < t_cn nb na fr to y l) : a_call (d+2) MX3_place [.ref m, .int (nI l), .int (nI (row l p))] (wN h m G N) = some (.inl (some (.int (nI p))), wN h m G N) := by
  have st := mQ_st a.1 a.2.1 hp
  refine m_place (d := d) (h := h) (F := fun k => nI (G k)) (A := fun j i => nI (N j i)) (l := l) (n := p) (sta := t_st nb na fr to y l) hm hl (congrArg nI (a.2.1.2.1 l hl).1) (by omega) (congrArg nI (a.2.2.1 l p hl hp)) fun i hi e => ?_
  have hi2 : i < t_cn nb na fr to y l := by omega
  rw [a.2.2.1 l i hl hi2] at e
  have b1 := t_is_lt a.1.1 a.1.2.1 ((a.2.2.2 l).1 i hi2)
  have b2 := t_is_lt a.1.1 a.1.2.1 ((a.2.2.2 l).1 p hp)
  rw [q_eq (by omega) (by omega)] at e
  have := (a.2.2.2 l).2.2 i p hi2 hp e
  omega
theorem mS_W (s : mS N nb na fr to le) : mW (fun j i => nI (N j i)) nb na fr to := by
  have ⟨s1, s2, s3, s4, s5, s6⟩ := s
  exact ⟨s1, s2, congrArg nI s3, congrArg nI s4, fun k hk => ⟨congrArg nI (s5 k hk).1, congrArg nI (s5 k hk).2.1, (s5 k hk).2.2⟩⟩
theorem mQ_Y (q : mQ N G nb na fr to y) : mY (fun j i => nI (N j i)) y := fun k hk => ⟨congrArg nI (q.1 k hk).1, by have := (q.1 k hk).2; omega⟩
theorem n_pointOf1 {k l : Nat} (hm : 1024 ≤ m) (a : mA N G nb na fr to le y row) (hk : k < na) (hl : l < 1000) : a_call (d+1) MX3_pointOf1 [.ref m, .int (nI k), .int (nI l)] (wN h m G N) = some (.inl (some (.int (nI (p_pt fr to y k l)))), wN h m G N) :=
  m_pointOf1 (d := d) (h := h) (F := fun k => nI (G k)) (A := fun j i => nI (N j i)) hm (mS_W a.1) (mQ_Y a.2.1) hk hl
theorem n_passes {k l : Nat} (hm : 1024 ≤ m) (s : mS N nb na fr to le) (q : mQ N G nb na fr to y) (hk : k < na) (hl : l < 1000) : a_call (d+1) MX3_passes [.ref m, .int (nI k), .int (nI l)] (wN h m G N) = some (.inl (some (.int (nI (p_ps fr to y k l).toNat))), wN h m G N) :=
  m_passes (d := d) (h := h) (F := fun k => nI (G k)) (A := fun j i => nI (N j i)) hm (mS_W s) (mQ_Y q) hk hl
/-- the place of an arrow's point -/
theorem n_placeA {k l : Nat} (hm : 1024 ≤ m) (a : mA N G nb na fr to le y row) (hk : k < na) (hl : l < 26) (h1 : y (fr k) ≤ l) (h2 : l ≤ y (to k)) : a_call (d+2) MX3_place [.ref m, .int (nI l), .int (nI (p_pt fr to y k l))] (wN h m G N) = some (.inl (some (.int (nI (t_pl nb na fr to y row l k)))), wN h m G N) := by
  have f := a.1.2.2.2.2.1 k hk
  have ⟨p1, p2, _⟩ := t_pl_sp a.2.2.2 hk f.2.2.1 f.2.2.2 h1 h2
  have z := n_place (d := d) (h := h) hm a hl p1
  rw [p2] at z
  exact z
theorem mA_O (a : mA N G nb na fr to le y row) : mO (fun j i => nI (N j i)) na fr to y (t_st nb na fr to y) (t_pl nb na fr to y row) := by
  refine ⟨fun l hl => congrArg nI (a.2.1.2.1 l hl).1, fun k l hk h1 h2 => ?_⟩
  have f := a.1.2.2.2.2.1 k hk
  have ⟨p1, p2, p3⟩ := t_pl_sp a.2.2.2 hk f.2.2.1 f.2.2.2 h1 h2
  have hl : l < 26 := by
    have := (a.2.1.1 (to k) (by have := a.1.1; omega)).2
    omega
  have st := mQ_st a.1 a.2.1 p1
  refine ⟨by omega, congrArg nI ((a.2.2.1 l _ hl p1).trans p2), fun i hi e => p3 i hi ?_⟩
  have hi2 : i < t_cn nb na fr to y l := by omega
  have e : nI (N 0 (80 + t_st nb na fr to y l + i)) = _ := e
  rw [a.2.2.1 l i hl hi2] at e
  have b1 := t_is_lt a.1.1 a.1.2.1 ((a.2.2.2 l).1 i hi2)
  have b2 := t_is_lt a.1.1 a.1.2.1 ((a.2.2.2 l).1 _ p1)
  rw [p2] at b2
  rw [q_eq (by omega) (by omega)] at e
  exact e
/-- a heap of the model is one of naturals -/
theorem wN_of {F : Nat → Int32} {A : Nat → Nat → Int32} (hA : ∀ i, i ≠ 11 → i ≠ 12 → A i = fun j => nI (N i j)) : ∃ N' : Nat → Nat → Nat, wM h m (fun k => nI (G k)) A = wN h m G N' ∧ ∀ i, i ≠ 11 → i ≠ 12 → N' i = N i := by
  refine ⟨fun i => if i = 11 ∨ i = 12 then fun j => q_cd (A i j) else N i, ?_, fun i h1 h2 => if_neg fun q => q.elim h1 h2⟩
  unfold wN
  refine congrArg _ (funext fun i => ?_)
  dsimp only
  by_cases c : i = 11 ∨ i = 12
  · funext j
    rw [if_pos c, q_cd_eq]
  · rw [if_neg c]
    exact hA i (fun e => c (Or.inl e)) (fun e => c (Or.inr e))
theorem n_crossBelow {l : Nat} (hm : 1024 ≤ m) (a : mA N G nb na fr to le y row) (hl : l + 1 < 26) : ∃ N' : Nat → Nat → Nat, a_call (d+3) MX3_crossBelow [.ref m, .int (nI l)] (wN h m G N) = some (.inl (some (.int (nI (t_ca nb na fr to y row l)))), wN h m G N') ∧ ∀ i, i ≠ 11 → i ≠ 12 → N' i = N i := by
  have ⟨A', e1, e2⟩ := m_crossBelow (d := d) (h := h) (F := fun k => nI (G k)) (A := fun j i => nI (N j i)) hm hl (mS_W a.1) (mQ_Y a.2.1) (mA_O a)
  have ⟨N', f1, f2⟩ := wN_of (h := h) (m := m) (G := G) (N := N) (F := fun k => nI (G k)) e2
  rw [f1] at e1
  exact ⟨N', e1, f2⟩
theorem n_cross (hm : 1024 ≤ m) (a : mA N G nb na fr to le y row) : ∃ N' : Nat → Nat → Nat, a_call (d+4) MX3_cross [.ref m] (wN h m G N) = some (.inl (some (.int (nI (t_cx nb na fr to y row)))), wN h m G N') ∧ ∀ i, i ≠ 11 → i ≠ 12 → N' i = N i := by
  have hd := mQ_dp a.2.1 a.1.1
  have ⟨A', e1, e2⟩ := m_cross (d := d) (h := h) (F := fun k => nI (G k)) (A := fun j i => nI (N j i)) (dp := t_dp y nb) hm (by omega) (congrArg nI a.2.1.2.2.1) (mS_W a.1) (mQ_Y a.2.1) (mA_O a)
  have ⟨N', f1, f2⟩ := wN_of (h := h) (m := m) (G := G) (N := N) (F := fun k => nI (G k)) e2
  rw [f1, p_sm_sum] at e1
  exact ⟨N', e1, f2⟩
theorem n_in {v a b : Nat} (hv : v < 2147483648) (ha : a < 2147483648) (hb : b < 2147483648) : a_call (d+1) MX3_in [.int (nI v), .int (nI a), .int (nI b)] h = some (.inl (some (.int (nI (if a ≤ v ∧ v ≤ b then 1 else 0)))), h) := by
  rw [e_X3_in]
  by_cases c1 : v < a
  · rw [if_neg (by omega)]
    simp (disch := first | omega | assumption | exact Or.inl rfl | exact Or.inr rfl | exact wN_kls (by omega) | exact wE_kls (by omega) | (simp only [a_cat_nil, a_cat_int, a_cat_ref, a_cat_null, a_cat_long]; done) | (simp only [a_cat_nil, a_cat_int, a_cat_ref, a_cat_null, a_cat_long]; omega) | decide) only [w_X3_in_0, w_X3_in_1, w_X3_in_2, w_X3_in_5, w_X3_in_6, w_X3_in_7, w_X3_in_10, w_X3_in_11, w_X3_in_14, w_X3_in_15, w_ret, w_exc, Nat.reduceAdd, Option.toList_some, Option.toList_none, List.cons_append, List.nil_append, Option.bind_some, nI_add, q_mul, q_sub, q_eq, q_eqz, q_lt, q_ltz, q_gtz, q_le, q_lez, q_div, q_or, q_and, q_shl, q_shr, q_m1, q_eqm, q_meq, q_mm, q_mlt, q_mgt, q_mlt2, q_dec, Nat.add_sub_cancel, q_ltT, q_ltF, q_leT, q_leF, q_eqT, q_eqF, ↓reduceIte, uN_s, uN_n, upN_app, uG_s, uG_n, uG_uG, if_true, if_false, Nat.reduceMul, Nat.reduceSub, Nat.reduceEqDiff, Nat.reduceLT, and_true, true_and, and_false, false_and, or_true, true_or, or_false, false_or, not_true_eq_false, not_false_eq_true, Option.some.injEq, wNg_s, wNg_past, wNg_kept, wNg_aside, wNg_lay, wNg_start, wNg_count, wNg_deep, wNp_deep, wNg_near, wNg_medians, wNg_points, wNg_columns, wNg_upper, wNg_lower, wNg_heard, wNg_walks, wNg_spare, wNg_best, wNg_isKept, wNp_isKept, wNg_pasts, wNp_pasts, wNg_runs, wNp_runs, wNg_last, wNp_last, wNg_text, wNg_typed, wNp_typed, wNg_spot, wNp_spot, wNg_from, wNp_from, wNg_reason, wNp_reason, wNg_cause, wNp_cause, wNg_orders, wNp_orders, wNg_letter, wNp_letter, wNg_numbers, wNr_s, wNw_s, wNr_past, wNw_past, wNr_kept, wNw_kept, wNr_aside, wNw_aside, wNr_lay, wNw_lay, wNr_start, wNw_start, wNr_count, wNw_count, wNr_near, wNw_near, wNr_medians, wNw_medians, wNr_points, wNw_points, wNr_columns, wNw_columns, wNr_upper, wNw_upper, wNr_lower, wNw_lower, wNr_heard, wNw_heard, wNr_walks, wNw_walks, wNr_spare, wNw_spare, wNr_best, wNw_best, wNr_text, wNw_text, wNr_numbers, wNw_numbers, wN_kls]
  · by_cases c2 : b < v
    · rw [if_neg (by omega)]
      simp (disch := first | omega | assumption | exact Or.inl rfl | exact Or.inr rfl | exact wN_kls (by omega) | exact wE_kls (by omega) | (simp only [a_cat_nil, a_cat_int, a_cat_ref, a_cat_null, a_cat_long]; done) | (simp only [a_cat_nil, a_cat_int, a_cat_ref, a_cat_null, a_cat_long]; omega) | decide) only [w_X3_in_0, w_X3_in_1, w_X3_in_2, w_X3_in_5, w_X3_in_6, w_X3_in_7, w_X3_in_10, w_X3_in_11, w_X3_in_14, w_X3_in_15, w_ret, w_exc, Nat.reduceAdd, Option.toList_some, Option.toList_none, List.cons_append, List.nil_append, Option.bind_some, nI_add, q_mul, q_sub, q_eq, q_eqz, q_lt, q_ltz, q_gtz, q_le, q_lez, q_div, q_or, q_and, q_shl, q_shr, q_m1, q_eqm, q_meq, q_mm, q_mlt, q_mgt, q_mlt2, q_dec, Nat.add_sub_cancel, q_ltT, q_ltF, q_leT, q_leF, q_eqT, q_eqF, ↓reduceIte, uN_s, uN_n, upN_app, uG_s, uG_n, uG_uG, if_true, if_false, Nat.reduceMul, Nat.reduceSub, Nat.reduceEqDiff, Nat.reduceLT, and_true, true_and, and_false, false_and, or_true, true_or, or_false, false_or, not_true_eq_false, not_false_eq_true, Option.some.injEq, wNg_s, wNg_past, wNg_kept, wNg_aside, wNg_lay, wNg_start, wNg_count, wNg_deep, wNp_deep, wNg_near, wNg_medians, wNg_points, wNg_columns, wNg_upper, wNg_lower, wNg_heard, wNg_walks, wNg_spare, wNg_best, wNg_isKept, wNp_isKept, wNg_pasts, wNp_pasts, wNg_runs, wNp_runs, wNg_last, wNp_last, wNg_text, wNg_typed, wNp_typed, wNg_spot, wNp_spot, wNg_from, wNp_from, wNg_reason, wNp_reason, wNg_cause, wNp_cause, wNg_orders, wNp_orders, wNg_letter, wNp_letter, wNg_numbers, wNr_s, wNw_s, wNr_past, wNw_past, wNr_kept, wNw_kept, wNr_aside, wNw_aside, wNr_lay, wNw_lay, wNr_start, wNw_start, wNr_count, wNw_count, wNr_near, wNw_near, wNr_medians, wNw_medians, wNr_points, wNw_points, wNr_columns, wNw_columns, wNr_upper, wNw_upper, wNr_lower, wNw_lower, wNr_heard, wNw_heard, wNr_walks, wNw_walks, wNr_spare, wNw_spare, wNr_best, wNw_best, wNr_text, wNw_text, wNr_numbers, wNw_numbers, wN_kls]
    · rw [if_pos (by omega)]
      simp (disch := first | omega | assumption | exact Or.inl rfl | exact Or.inr rfl | exact wN_kls (by omega) | exact wE_kls (by omega) | (simp only [a_cat_nil, a_cat_int, a_cat_ref, a_cat_null, a_cat_long]; done) | (simp only [a_cat_nil, a_cat_int, a_cat_ref, a_cat_null, a_cat_long]; omega) | decide) only [w_X3_in_0, w_X3_in_1, w_X3_in_2, w_X3_in_5, w_X3_in_6, w_X3_in_7, w_X3_in_10, w_X3_in_11, w_X3_in_14, w_X3_in_15, w_ret, w_exc, Nat.reduceAdd, Option.toList_some, Option.toList_none, List.cons_append, List.nil_append, Option.bind_some, nI_add, q_mul, q_sub, q_eq, q_eqz, q_lt, q_ltz, q_gtz, q_le, q_lez, q_div, q_or, q_and, q_shl, q_shr, q_m1, q_eqm, q_meq, q_mm, q_mlt, q_mgt, q_mlt2, q_dec, Nat.add_sub_cancel, q_ltT, q_ltF, q_leT, q_leF, q_eqT, q_eqF, ↓reduceIte, uN_s, uN_n, upN_app, uG_s, uG_n, uG_uG, if_true, if_false, Nat.reduceMul, Nat.reduceSub, Nat.reduceEqDiff, Nat.reduceLT, and_true, true_and, and_false, false_and, or_true, true_or, or_false, false_or, not_true_eq_false, not_false_eq_true, Option.some.injEq, wNg_s, wNg_past, wNg_kept, wNg_aside, wNg_lay, wNg_start, wNg_count, wNg_deep, wNp_deep, wNg_near, wNg_medians, wNg_points, wNg_columns, wNg_upper, wNg_lower, wNg_heard, wNg_walks, wNg_spare, wNg_best, wNg_isKept, wNp_isKept, wNg_pasts, wNp_pasts, wNg_runs, wNp_runs, wNg_last, wNp_last, wNg_text, wNg_typed, wNp_typed, wNg_spot, wNp_spot, wNg_from, wNp_from, wNg_reason, wNp_reason, wNg_cause, wNp_cause, wNg_orders, wNp_orders, wNg_letter, wNp_letter, wNg_numbers, wNr_s, wNw_s, wNr_past, wNw_past, wNr_kept, wNw_kept, wNr_aside, wNw_aside, wNr_lay, wNw_lay, wNr_start, wNw_start, wNr_count, wNw_count, wNr_near, wNw_near, wNr_medians, wNw_medians, wNr_points, wNw_points, wNr_columns, wNw_columns, wNr_upper, wNw_upper, wNr_lower, wNw_lower, wNr_heard, wNw_heard, wNr_walks, wNw_walks, wNr_spare, wNw_spare, wNr_best, wNw_best, wNr_text, wNw_text, wNr_numbers, wNw_numbers, wN_kls]
theorem n_inm {b : Int32} : a_call (d+1) MX3_in [.int (nI 4294967295), .int (nI 0), .int b] h = some (.inl (some (.int (nI 0))), h) := by
  rw [e_X3_in]
  have e : (nI 4294967295 < nI 0) = True := eq_true (by decide)
  simp (disch := first | omega | assumption | exact Or.inl rfl | exact Or.inr rfl | exact wN_kls (by omega) | exact wE_kls (by omega) | (simp only [a_cat_nil, a_cat_int, a_cat_ref, a_cat_null, a_cat_long]; done) | (simp only [a_cat_nil, a_cat_int, a_cat_ref, a_cat_null, a_cat_long]; omega) | decide) only [w_X3_in_0, w_X3_in_1, w_X3_in_2, w_X3_in_5, w_X3_in_6, w_X3_in_7, w_X3_in_10, w_X3_in_11, w_X3_in_14, w_X3_in_15, w_ret, w_exc, Nat.reduceAdd, Option.toList_some, Option.toList_none, List.cons_append, List.nil_append, Option.bind_some, nI_add, q_mul, q_sub, q_eq, q_eqz, q_lt, q_ltz, q_gtz, q_le, q_lez, q_div, q_or, q_and, q_shl, q_shr, q_m1, q_eqm, q_meq, q_mm, q_mlt, q_mgt, q_mlt2, q_dec, Nat.add_sub_cancel, q_ltT, q_ltF, q_leT, q_leF, q_eqT, q_eqF, ↓reduceIte, uN_s, uN_n, upN_app, uG_s, uG_n, uG_uG, if_true, if_false, Nat.reduceMul, Nat.reduceSub, Nat.reduceEqDiff, Nat.reduceLT, and_true, true_and, and_false, false_and, or_true, true_or, or_false, false_or, not_true_eq_false, not_false_eq_true, Option.some.injEq, wNg_s, wNg_past, wNg_kept, wNg_aside, wNg_lay, wNg_start, wNg_count, wNg_deep, wNp_deep, wNg_near, wNg_medians, wNg_points, wNg_columns, wNg_upper, wNg_lower, wNg_heard, wNg_walks, wNg_spare, wNg_best, wNg_isKept, wNp_isKept, wNg_pasts, wNp_pasts, wNg_runs, wNp_runs, wNg_last, wNp_last, wNg_text, wNg_typed, wNp_typed, wNg_spot, wNp_spot, wNg_from, wNp_from, wNg_reason, wNp_reason, wNg_cause, wNp_cause, wNg_orders, wNp_orders, wNg_letter, wNp_letter, wNg_numbers, wNr_s, wNw_s, wNr_past, wNw_past, wNr_kept, wNw_kept, wNr_aside, wNw_aside, wNr_lay, wNw_lay, wNr_start, wNw_start, wNr_count, wNw_count, wNr_near, wNw_near, wNr_medians, wNw_medians, wNr_points, wNw_points, wNr_columns, wNw_columns, wNr_upper, wNw_upper, wNr_lower, wNw_lower, wNr_heard, wNw_heard, wNr_walks, wNw_walks, wNr_spare, wNw_spare, wNr_best, wNw_best, wNr_text, wNw_text, wNr_numbers, wNw_numbers, wN_kls, e]
end M5
