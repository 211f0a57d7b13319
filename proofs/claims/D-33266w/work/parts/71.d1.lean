/-- a deque at q with its array at e -/
abbrev cArr (f : Nat → Option Nat) : a_C := .inl (.object "java/lang/Object", 17, .inr (.inr (.inr (.inr f))))
abbrev cDq (e H T : Nat) : a_C := .inr (7, [.ref e, .int (nI H), .int (nI T)])
def wQ (g : a_H) (q e H T : Nat) (f : Nat → Option Nat) : a_H := a_set (a_set g e (cArr f)) q (cDq e H T)
section D1
variable {d : Nat} {g : a_H} {q e H T : Nat} {f : Nat → Option Nat}
theorem wQ_q : (wQ g q e H T f).2.2 q = cDq e H T := if_pos rfl
theorem wQ_e (ne : e ≠ q) : (wQ g q e H T f).2.2 e = cArr f := (if_neg ne).trans (if_pos rfl)
theorem wQ_o {x : Nat} (n1 : x ≠ q) (n2 : x ≠ e) : (wQ g q e H T f).2.2 x = g.2.2 x := (if_neg n1).trans (if_neg n2)
theorem wQ_wQ {H' T' : Nat} {f' : Nat → Option Nat} : wQ (wQ g q e H T f) q e H' T' f' = wQ g q e H' T' f' := a_Hx rfl rfl fun x => by
  show (if x = q then _ else if x = e then _ else if x = q then _ else if x = e then _ else _) = (if x = q then _ else if x = e then _ else _)
  by_cases h1 : x = q
  · rw [if_pos h1, if_pos h1]
  · rw [if_neg h1, if_neg h1, if_neg h1]
    by_cases h2 : x = e
    · rw [if_pos h2, if_pos h2]
    · rw [if_neg h2, if_neg h2, if_neg h2]
theorem wQ_id (h1 : g.2.2 q = cDq e H T) (h2 : g.2.2 e = cArr f) : wQ g q e H T f = g := a_Hx rfl rfl fun x => by
  show (if x = q then _ else if x = e then _ else _) = _
  by_cases z : x = q
  · rw [if_pos z, z, h1]
  · rw [if_neg z]
    by_cases z2 : x = e
    · rw [if_pos z2, z2, h2]
    · rw [if_neg z2]
theorem wQ_kls (hq : 1024 ≤ q) : a_kls (wQ g q e H T f) q = some 7 := a_kls_o hq wQ_q
theorem wQ_g0 (hq : 1024 ≤ q) : a_gf (wQ g q e H T f) q 0 [7] = some (.ref e) := a_gf_o hq rfl wQ_q
theorem wQ_g1 (hq : 1024 ≤ q) : a_gf (wQ g q e H T f) q 1 [7] = some (.int (nI H)) := a_gf_o hq rfl wQ_q
theorem wQ_g2 (hq : 1024 ≤ q) : a_gf (wQ g q e H T f) q 2 [7] = some (.int (nI T)) := a_gf_o hq rfl wQ_q
theorem wQ_p1 {x : Nat} (hq : 1024 ≤ q) : a_pf (wQ g q e H T f) q 1 [7] (.int (nI x)) = some (wQ g q e x T f) := by
  unfold a_pf
  rw [wQ_q]
  refine (if_pos ⟨rfl, Nat.le_of_ble_eq_true rfl, hq⟩).trans (congrArg some (a_Hx rfl rfl fun y => ?_))
  show (if y = q then _ else if y = q then _ else _) = (if y = q then _ else _)
  split <;> rfl
theorem wQ_p2 {x : Nat} (hq : 1024 ≤ q) : a_pf (wQ g q e H T f) q 2 [7] (.int (nI x)) = some (wQ g q e H x f) := by
  unfold a_pf
  rw [wQ_q]
  refine (if_pos ⟨rfl, Nat.le_of_ble_eq_true rfl, hq⟩).trans (congrArg some (a_Hx rfl rfl fun y => ?_))
  show (if y = q then _ else if y = q then _ else _) = (if y = q then _ else _)
  split <;> rfl
theorem wQ_len (he : 1024 ≤ e) (ne : e ≠ q) : a_len (wQ g q e H T f) e = some (.int (nI 17)) := by
  unfold a_len
  rw [wQ_e ne]
  exact if_pos (Or.inl he)
theorem wQ_rd {i x : Nat} (he : 1024 ≤ e) (ne : e ≠ q) (hi : i < 17) (hx : f i = some x) (hs : x < 600 ∨ 1024 ≤ x) : a_rdq (wQ g q e H T f) e (nI i) = some (.ref x) := by
  unfold a_rdq
  rw [wQ_e ne]
  have c : (nI i).toNatClampNeg = i := nI_clamp (by omega)
  refine (if_pos ⟨rfl, a_out_nI hi (by omega), he, ?_⟩).trans ?_
  · rw [c, hx]
    rfl
  · rw [c, hx]
    show (decide (x ≠ 600) && decide (x ≠ 601)) = true
    rw [decide_eq_true (show x ≠ 600 by omega), decide_eq_true (show x ≠ 601 by omega)]
    rfl
theorem wQ_wr {i x : Nat} (he : 1024 ≤ e) (ne : e ≠ q) (hi : i < 17) (hk : a_kob (wQ g q e H T f) x = true) : a_wrq (wQ g q e H T f) e (nI i) (.ref x) = some (wQ g q e H T (va_up f i (some x))) := by
  unfold a_wrq
  rw [wQ_e ne]
  have c : (nI i).toNatClampNeg = i := nI_clamp (by omega)
  refine (if_pos ⟨rfl, a_out_nI hi (by omega), he⟩).trans ?_
  rw [c]
  refine (if_pos hk).trans (congrArg some (a_Hx rfl rfl fun y => ?_))
  show (if y = e then _ else if y = q then _ else if y = e then _ else _) = (if y = q then _ else if y = e then _ else _)
  by_cases h1 : y = e
  · rw [if_pos h1, if_neg (by omega), if_pos h1]
  · rw [if_neg h1, if_neg h1, if_neg h1]
theorem wQ_wn {i : Nat} (he : 1024 ≤ e) (ne : e ≠ q) (hi : i < 17) : a_wrq (wQ g q e H T f) e (nI i) .null = some (wQ g q e H T (va_up f i none)) := by
  unfold a_wrq
  rw [wQ_e ne]
  have c : (nI i).toNatClampNeg = i := nI_clamp (by omega)
  refine (if_pos ⟨rfl, a_out_nI hi (by omega), he⟩).trans ?_
  rw [c]
  refine (congrArg some (a_Hx rfl rfl fun y => ?_))
  show (if y = e then _ else if y = q then _ else if y = e then _ else _) = (if y = q then _ else if y = e then _ else _)
  by_cases h1 : y = e
  · rw [if_pos h1, if_neg (by omega), if_pos h1]
  · rw [if_neg h1, if_neg h1, if_neg h1]
theorem w_ifnull_b {d pc tgt i : Nat} {M : a_M} {L : a_L} {st : List Value} {h : a_H} {off : Int} (hd : decode (mCode M) pc = .ok (.ifnull off, 3)) (ht : (pc : Int) + off = (tgt : Int)) (hi : i < 600 ∨ 1024 ≤ i) : a_run d M pc L (.ref i :: st) h = a_run d M (pc + 3) L st h := by
  rw [w_step hd rfl]
  dsimp only [a_ins]
  rw [if_neg (show ¬ ((i : Nat) = 600 ∨ (i : Nat) = 601) by omega), w_br ht]
  rfl
theorem q_inc {i : Nat} (hi : i < 17) : a_call (d+1) MJ1_inc [.int (nI i), .int (nI 17)] g = some (.inl (some (.int (nI (if i = 16 then 0 else i + 1)))), g) := by
  rw [e_J1_inc]
  by_cases c : i = 16
  · subst c
    simp (disch := first | omega | assumption | exact Or.inl rfl | exact Or.inr rfl | exact wN_kls (by omega) | exact wE_kls (by omega) | (simp only [a_cat_nil, a_cat_int, a_cat_ref, a_cat_null, a_cat_long]; done) | (simp only [a_cat_nil, a_cat_int, a_cat_ref, a_cat_null, a_cat_long]; omega) | decide | rfl | (apply Or.inr; omega) | (apply Or.inl; omega)) only [w_J1_inc_0, w_J1_inc_3, w_J1_inc_4, w_J1_inc_5, w_J1_inc_8, w_J1_inc_9, w_J1_inc_10, w_J1_inc_11, w_ret, w_exc, Nat.reduceAdd, Option.toList_some, Option.toList_none, List.cons_append, List.nil_append, Option.bind_some, nI_add, q_mul, q_sub, q_eq, q_eqz, q_lt, q_ltz, q_gtz, q_le, q_lez, q_div, q_or, q_and, q_shl, q_shr, q_m1, q_eqm, q_meq, q_mm, q_mlt, q_mgt, q_mlt2, q_dec, Nat.add_sub_cancel, q_ltT, q_ltF, q_leT, q_leF, q_eqT, q_eqF, ↓reduceIte, uN_s, uN_n, upN_app, uG_s, uG_n, uG_uG, if_true, if_false, Nat.reduceMul, Nat.reduceSub, Nat.reduceEqDiff, Nat.reduceLT, and_true, true_and, and_false, false_and, or_true, true_or, or_false, false_or, not_true_eq_false, not_false_eq_true, Option.some.injEq]
  · simp (disch := first | omega | assumption | exact Or.inl rfl | exact Or.inr rfl | exact wN_kls (by omega) | exact wE_kls (by omega) | (simp only [a_cat_nil, a_cat_int, a_cat_ref, a_cat_null, a_cat_long]; done) | (simp only [a_cat_nil, a_cat_int, a_cat_ref, a_cat_null, a_cat_long]; omega) | decide | rfl | (apply Or.inr; omega) | (apply Or.inl; omega)) only [w_J1_inc_0, w_J1_inc_3, w_J1_inc_4, w_J1_inc_5, w_J1_inc_8, w_J1_inc_9, w_J1_inc_10, w_J1_inc_11, w_ret, w_exc, Nat.reduceAdd, Option.toList_some, Option.toList_none, List.cons_append, List.nil_append, Option.bind_some, nI_add, q_mul, q_sub, q_eq, q_eqz, q_lt, q_ltz, q_gtz, q_le, q_lez, q_div, q_or, q_and, q_shl, q_shr, q_m1, q_eqm, q_meq, q_mm, q_mlt, q_mgt, q_mlt2, q_dec, Nat.add_sub_cancel, q_ltT, q_ltF, q_leT, q_leF, q_eqT, q_eqF, ↓reduceIte, uN_s, uN_n, upN_app, uG_s, uG_n, uG_uG, if_true, if_false, Nat.reduceMul, Nat.reduceSub, Nat.reduceEqDiff, Nat.reduceLT, and_true, true_and, and_false, false_and, or_true, true_or, or_false, false_or, not_true_eq_false, not_false_eq_true, Option.some.injEq, if_neg c]
theorem q_dec1 {i : Nat} (hi : i < 17) : a_call (d+1) MJ1_dec [.int (nI i), .int (nI 17)] g = some (.inl (some (.int (nI (if i = 0 then 16 else i - 1)))), g) := by
  rw [e_J1_dec]
  by_cases c : i = 0
  · subst c
    simp (disch := first | omega | assumption | exact Or.inl rfl | exact Or.inr rfl | exact wN_kls (by omega) | exact wE_kls (by omega) | (simp only [a_cat_nil, a_cat_int, a_cat_ref, a_cat_null, a_cat_long]; done) | (simp only [a_cat_nil, a_cat_int, a_cat_ref, a_cat_null, a_cat_long]; omega) | decide | rfl | (apply Or.inr; omega) | (apply Or.inl; omega)) only [w_J1_dec_0, w_J1_dec_3, w_J1_dec_4, w_J1_dec_7, w_J1_dec_8, w_J1_dec_9, w_J1_dec_10, w_J1_dec_11, w_J1_dec_12, w_ret, w_exc, Nat.reduceAdd, Option.toList_some, Option.toList_none, List.cons_append, List.nil_append, Option.bind_some, nI_add, q_mul, q_sub, q_eq, q_eqz, q_lt, q_ltz, q_gtz, q_le, q_lez, q_div, q_or, q_and, q_shl, q_shr, q_m1, q_eqm, q_meq, q_mm, q_mlt, q_mgt, q_mlt2, q_dec, Nat.add_sub_cancel, q_ltT, q_ltF, q_leT, q_leF, q_eqT, q_eqF, ↓reduceIte, uN_s, uN_n, upN_app, uG_s, uG_n, uG_uG, if_true, if_false, Nat.reduceMul, Nat.reduceSub, Nat.reduceEqDiff, Nat.reduceLT, and_true, true_and, and_false, false_and, or_true, true_or, or_false, false_or, not_true_eq_false, not_false_eq_true, Option.some.injEq, Nat.zero_add]
  · simp (disch := first | omega | assumption | exact Or.inl rfl | exact Or.inr rfl | exact wN_kls (by omega) | exact wE_kls (by omega) | (simp only [a_cat_nil, a_cat_int, a_cat_ref, a_cat_null, a_cat_long]; done) | (simp only [a_cat_nil, a_cat_int, a_cat_ref, a_cat_null, a_cat_long]; omega) | decide | rfl | (apply Or.inr; omega) | (apply Or.inl; omega)) only [w_J1_dec_0, w_J1_dec_3, w_J1_dec_4, w_J1_dec_7, w_J1_dec_8, w_J1_dec_9, w_J1_dec_10, w_J1_dec_11, w_J1_dec_12, w_ret, w_exc, Nat.reduceAdd, Option.toList_some, Option.toList_none, List.cons_append, List.nil_append, Option.bind_some, nI_add, q_mul, q_sub, q_eq, q_eqz, q_lt, q_ltz, q_gtz, q_le, q_lez, q_div, q_or, q_and, q_shl, q_shr, q_m1, q_eqm, q_meq, q_mm, q_mlt, q_mgt, q_mlt2, q_dec, Nat.add_sub_cancel, q_ltT, q_ltF, q_leT, q_leF, q_eqT, q_eqF, ↓reduceIte, uN_s, uN_n, upN_app, uG_s, uG_n, uG_uG, if_true, if_false, Nat.reduceMul, Nat.reduceSub, Nat.reduceEqDiff, Nat.reduceLT, and_true, true_and, and_false, false_and, or_true, true_or, or_false, false_or, not_true_eq_false, not_false_eq_true, Option.some.injEq, if_neg c]
theorem q_empty (hq : 1024 ≤ q) (hH : H < 17) (hT : T < 17) : a_call (d+1) MJ1_isEmpty [.ref q] (wQ g q e H T f) = some (.inl (some (.int (nI (if H = T then 1 else 0)))), wQ g q e H T f) := by
  rw [e_J1_isEmpty]
  by_cases c : H = T
  · subst c
    simp (disch := first | omega | assumption | exact Or.inl rfl | exact Or.inr rfl | exact wN_kls (by omega) | exact wE_kls (by omega) | (simp only [a_cat_nil, a_cat_int, a_cat_ref, a_cat_null, a_cat_long]; done) | (simp only [a_cat_nil, a_cat_int, a_cat_ref, a_cat_null, a_cat_long]; omega) | decide | rfl | (apply Or.inr; omega) | (apply Or.inl; omega)) only [w_J1_isEmpty_0, w_J1_isEmpty_1, w_J1_isEmpty_4, w_J1_isEmpty_5, w_J1_isEmpty_8, w_J1_isEmpty_11, w_J1_isEmpty_12, w_J1_isEmpty_15, w_J1_isEmpty_16, w_ret, w_exc, Nat.reduceAdd, Option.toList_some, Option.toList_none, List.cons_append, List.nil_append, Option.bind_some, nI_add, q_mul, q_sub, q_eq, q_eqz, q_lt, q_ltz, q_gtz, q_le, q_lez, q_div, q_or, q_and, q_shl, q_shr, q_m1, q_eqm, q_meq, q_mm, q_mlt, q_mgt, q_mlt2, q_dec, Nat.add_sub_cancel, q_ltT, q_ltF, q_leT, q_leF, q_eqT, q_eqF, ↓reduceIte, uN_s, uN_n, upN_app, uG_s, uG_n, uG_uG, if_true, if_false, Nat.reduceMul, Nat.reduceSub, Nat.reduceEqDiff, Nat.reduceLT, and_true, true_and, and_false, false_and, or_true, true_or, or_false, false_or, not_true_eq_false, not_false_eq_true, Option.some.injEq, wQ_g1, wQ_g2]
  · simp (disch := first | omega | assumption | exact Or.inl rfl | exact Or.inr rfl | exact wN_kls (by omega) | exact wE_kls (by omega) | (simp only [a_cat_nil, a_cat_int, a_cat_ref, a_cat_null, a_cat_long]; done) | (simp only [a_cat_nil, a_cat_int, a_cat_ref, a_cat_null, a_cat_long]; omega) | decide | rfl | (apply Or.inr; omega) | (apply Or.inl; omega)) only [w_J1_isEmpty_0, w_J1_isEmpty_1, w_J1_isEmpty_4, w_J1_isEmpty_5, w_J1_isEmpty_8, w_J1_isEmpty_11, w_J1_isEmpty_12, w_J1_isEmpty_15, w_J1_isEmpty_16, w_ret, w_exc, Nat.reduceAdd, Option.toList_some, Option.toList_none, List.cons_append, List.nil_append, Option.bind_some, nI_add, q_mul, q_sub, q_eq, q_eqz, q_lt, q_ltz, q_gtz, q_le, q_lez, q_div, q_or, q_and, q_shl, q_shr, q_m1, q_eqm, q_meq, q_mm, q_mlt, q_mgt, q_mlt2, q_dec, Nat.add_sub_cancel, q_ltT, q_ltF, q_leT, q_leF, q_eqT, q_eqF, ↓reduceIte, uN_s, uN_n, upN_app, uG_s, uG_n, uG_uG, if_true, if_false, Nat.reduceMul, Nat.reduceSub, Nat.reduceEqDiff, Nat.reduceLT, and_true, true_and, and_false, false_and, or_true, true_or, or_false, false_or, not_true_eq_false, not_false_eq_true, Option.some.injEq, wQ_g1, wQ_g2, if_neg c]
theorem q_size (hq : 1024 ≤ q) (he : 1024 ≤ e) (ne : e ≠ q) (hH : H < 17) (hT : T < 17) : a_call (d+2) MJ1_size [.ref q] (wQ g q e H T f) = some (.inl (some (.int (nI (if T < H then T + 17 - H else T - H)))), wQ g q e H T f) := by
  have s : a_call (d+1) MJ1_sub [.int (nI T), .int (nI H), .int (nI 17)] (wQ g q e H T f) = some (.inl (some (.int (nI (if T < H then T + 17 - H else T - H)))), wQ g q e H T f) := by
    rw [e_J1_sub]
    by_cases c : T < H
    · have e : nI T - nI H + nI 17 = nI (T + 17 - H) := by
        rw [← q_sub (by omega), ← nI_add, Int32.sub_eq_add_neg, Int32.sub_eq_add_neg, Int32.add_assoc, Int32.add_comm (-nI H), Int32.add_assoc]
      have z : (nI T - nI H < 0) = True := by
        have al : ∀ T, T < 17 → ∀ H, H < 17 → T < H → nI T - nI H < 0 := by decide
        exact eq_true (al T hT H hH c)
      rw [if_pos c]
      simp (disch := first | omega | assumption | exact Or.inl rfl | exact Or.inr rfl | exact wN_kls (by omega) | exact wE_kls (by omega) | (simp only [a_cat_nil, a_cat_int, a_cat_ref, a_cat_null, a_cat_long]; done) | (simp only [a_cat_nil, a_cat_int, a_cat_ref, a_cat_null, a_cat_long]; omega) | decide | rfl | (apply Or.inr; omega) | (apply Or.inl; omega)) only [w_J1_sub_0, w_J1_sub_1, w_J1_sub_2, w_J1_sub_3, w_J1_sub_3I, w_J1_sub_4, w_J1_sub_5, w_J1_sub_8, w_J1_sub_9, w_J1_sub_10, w_J1_sub_11, w_J1_sub_12, w_J1_sub_13, w_ret, w_exc, Nat.reduceAdd, Option.toList_some, Option.toList_none, List.cons_append, List.nil_append, Option.bind_some, nI_add, q_mul, q_sub, q_eq, q_eqz, q_lt, q_ltz, q_gtz, q_le, q_lez, q_div, q_or, q_and, q_shl, q_shr, q_m1, q_eqm, q_meq, q_mm, q_mlt, q_mgt, q_mlt2, q_dec, Nat.add_sub_cancel, q_ltT, q_ltF, q_leT, q_leF, q_eqT, q_eqF, ↓reduceIte, uN_s, uN_n, upN_app, uG_s, uG_n, uG_uG, if_true, if_false, Nat.reduceMul, Nat.reduceSub, Nat.reduceEqDiff, Nat.reduceLT, and_true, true_and, and_false, false_and, or_true, true_or, or_false, false_or, not_true_eq_false, not_false_eq_true, Option.some.injEq, z, e]
    · rw [if_neg c]
      simp (disch := first | omega | assumption | exact Or.inl rfl | exact Or.inr rfl | exact wN_kls (by omega) | exact wE_kls (by omega) | (simp only [a_cat_nil, a_cat_int, a_cat_ref, a_cat_null, a_cat_long]; done) | (simp only [a_cat_nil, a_cat_int, a_cat_ref, a_cat_null, a_cat_long]; omega) | decide | rfl | (apply Or.inr; omega) | (apply Or.inl; omega)) only [w_J1_sub_0, w_J1_sub_1, w_J1_sub_2, w_J1_sub_3, w_J1_sub_3I, w_J1_sub_4, w_J1_sub_5, w_J1_sub_8, w_J1_sub_9, w_J1_sub_10, w_J1_sub_11, w_J1_sub_12, w_J1_sub_13, w_ret, w_exc, Nat.reduceAdd, Option.toList_some, Option.toList_none, List.cons_append, List.nil_append, Option.bind_some, nI_add, q_mul, q_sub, q_eq, q_eqz, q_lt, q_ltz, q_gtz, q_le, q_lez, q_div, q_or, q_and, q_shl, q_shr, q_m1, q_eqm, q_meq, q_mm, q_mlt, q_mgt, q_mlt2, q_dec, Nat.add_sub_cancel, q_ltT, q_ltF, q_leT, q_leF, q_eqT, q_eqF, ↓reduceIte, uN_s, uN_n, upN_app, uG_s, uG_n, uG_uG, if_true, if_false, Nat.reduceMul, Nat.reduceSub, Nat.reduceEqDiff, Nat.reduceLT, and_true, true_and, and_false, false_and, or_true, true_or, or_false, false_or, not_true_eq_false, not_false_eq_true, Option.some.injEq]
  rw [e_J1_size]
  simp (disch := first | omega | assumption | exact Or.inl rfl | exact Or.inr rfl | exact wN_kls (by omega) | exact wE_kls (by omega) | (simp only [a_cat_nil, a_cat_int, a_cat_ref, a_cat_null, a_cat_long]; done) | (simp only [a_cat_nil, a_cat_int, a_cat_ref, a_cat_null, a_cat_long]; omega) | decide | rfl | (apply Or.inr; omega) | (apply Or.inl; omega)) only [w_J1_size_0, w_J1_size_1, w_J1_size_4, w_J1_size_5, w_J1_size_8, w_J1_size_9, w_J1_size_12, w_J1_size_13, w_J1_size_16, w_ret, w_exc, Nat.reduceAdd, Option.toList_some, Option.toList_none, List.cons_append, List.nil_append, Option.bind_some, nI_add, q_mul, q_sub, q_eq, q_eqz, q_lt, q_ltz, q_gtz, q_le, q_lez, q_div, q_or, q_and, q_shl, q_shr, q_m1, q_eqm, q_meq, q_mm, q_mlt, q_mgt, q_mlt2, q_dec, Nat.add_sub_cancel, q_ltT, q_ltF, q_leT, q_leF, q_eqT, q_eqF, ↓reduceIte, uN_s, uN_n, upN_app, uG_s, uG_n, uG_uG, if_true, if_false, Nat.reduceMul, Nat.reduceSub, Nat.reduceEqDiff, Nat.reduceLT, and_true, true_and, and_false, false_and, or_true, true_or, or_false, false_or, not_true_eq_false, not_false_eq_true, Option.some.injEq, wQ_g0, wQ_g1, wQ_g2, wQ_len, s]
theorem q_add {x : Nat} (hq : 1024 ≤ q) (he : 1024 ≤ e) (ne : e ≠ q) (hH : H < 17) (hT : T < 17) (hx : x < 600 ∨ 1024 ≤ x) (hk : a_kob (wQ g q e H T f) x = true) (hn : H ≠ if T = 16 then 0 else T + 1) : a_call (d+2) MJ1_addLast [.ref q, .ref x] (wQ g q e H T f) = some (.inl none, wQ g q e H (if T = 16 then 0 else T + 1) (va_up f T (some x))) := by
  have i := q_inc (d := d) (g := wQ g q e H T (va_up f T (some x))) hT
  rw [e_J1_addLast]
  revert hn i
  have b : (if T = 16 then 0 else T + 1) < 17 := by split <;> omega
  revert b
  generalize (if T = 16 then 0 else T + 1) = T'
  intro b hn i
  simp (disch := first | omega | assumption | exact Or.inl rfl | exact Or.inr rfl | exact wN_kls (by omega) | exact wE_kls (by omega) | (simp only [a_cat_nil, a_cat_int, a_cat_ref, a_cat_null, a_cat_long]; done) | (simp only [a_cat_nil, a_cat_int, a_cat_ref, a_cat_null, a_cat_long]; omega) | decide | rfl | (apply Or.inr; omega) | (apply Or.inl; omega)) only [w_J1_addLast_0, w_J1_addLast_0N, w_J1_addLast_1, w_J1_addLast_1N, w_J1_addLast_7, w_J1_addLast_7I, w_J1_addLast_11, w_J1_addLast_12, w_J1_addLast_13, w_J1_addLast_16, w_J1_addLast_16N, w_J1_addLast_17, w_J1_addLast_17N, w_J1_addLast_18, w_J1_addLast_19, w_J1_addLast_22, w_J1_addLast_22N, w_J1_addLast_23, w_J1_addLast_24, w_J1_addLast_25, w_J1_addLast_28, w_J1_addLast_29, w_J1_addLast_30, w_J1_addLast_33, w_J1_addLast_33N, w_J1_addLast_34, w_J1_addLast_35, w_J1_addLast_38, w_J1_addLast_38R, w_J1_addLast_39, w_J1_addLast_42, w_J1_addLast_45, w_J1_addLast_46, w_J1_addLast_47, w_J1_addLast_50, w_ret, w_exc, Nat.reduceAdd, Option.toList_some, Option.toList_none, List.cons_append, List.nil_append, Option.bind_some, nI_add, q_mul, q_sub, q_eq, q_eqz, q_lt, q_ltz, q_gtz, q_le, q_lez, q_div, q_or, q_and, q_shl, q_shr, q_m1, q_eqm, q_meq, q_mm, q_mlt, q_mgt, q_mlt2, q_dec, Nat.add_sub_cancel, q_ltT, q_ltF, q_leT, q_leF, q_eqT, q_eqF, ↓reduceIte, uN_s, uN_n, upN_app, uG_s, uG_n, uG_uG, if_true, if_false, Nat.reduceMul, Nat.reduceSub, Nat.reduceEqDiff, Nat.reduceLT, and_true, true_and, and_false, false_and, or_true, true_or, or_false, false_or, not_true_eq_false, not_false_eq_true, Option.some.injEq, wQ_g0, wQ_g1, wQ_g2, wQ_p2, wQ_len, wQ_wr, i]
theorem q_poll {x : Nat} (hq : 1024 ≤ q) (he : 1024 ≤ e) (ne : e ≠ q) (hH : H < 17) (hx : x < 600 ∨ 1024 ≤ x) (hf : f H = some x) : a_call (d+2) MJ1_pollFirst [.ref q] (wQ g q e H T f) = some (.inl (some (.ref x)), wQ g q e (if H = 16 then 0 else H + 1) T (va_up f H none)) := by
  have i := q_inc (d := d) (g := wQ g q e H T (va_up f H none)) hH
  have r17 : ∀ L st h, a_run (d+1) MJ1_pollFirst 17 L (.ref x :: st) h = a_run (d+1) MJ1_pollFirst 20 L st h := fun L st h => w_ifnull_b (tgt := 34) dJ1_pollFirst_17 rfl hx
  have el : a_call (d+1) MJ1_elementAt [.ref e, .int (nI H)] (wQ g q e H T f) = some (.inl (some (.ref x)), wQ g q e H T f) := by
    have r := wQ_rd (g := g) (q := q) (H := H) (T := T) he ne hH hf hx
    rw [e_J1_elementAt]
    simp (disch := first | omega | assumption | exact Or.inl rfl | exact Or.inr rfl | exact wN_kls (by omega) | exact wE_kls (by omega) | (simp only [a_cat_nil, a_cat_int, a_cat_ref, a_cat_null, a_cat_long]; done) | (simp only [a_cat_nil, a_cat_int, a_cat_ref, a_cat_null, a_cat_long]; omega) | decide | rfl | (apply Or.inr; omega) | (apply Or.inl; omega)) only [w_J1_elementAt_0, w_J1_elementAt_1, w_J1_elementAt_2, w_J1_elementAt_3, w_J1_elementAt_3N, w_ret, w_exc, Nat.reduceAdd, Option.toList_some, Option.toList_none, List.cons_append, List.nil_append, Option.bind_some, nI_add, q_mul, q_sub, q_eq, q_eqz, q_lt, q_ltz, q_gtz, q_le, q_lez, q_div, q_or, q_and, q_shl, q_shr, q_m1, q_eqm, q_meq, q_mm, q_mlt, q_mgt, q_mlt2, q_dec, Nat.add_sub_cancel, q_ltT, q_ltF, q_leT, q_leF, q_eqT, q_eqF, ↓reduceIte, uN_s, uN_n, upN_app, uG_s, uG_n, uG_uG, if_true, if_false, Nat.reduceMul, Nat.reduceSub, Nat.reduceEqDiff, Nat.reduceLT, and_true, true_and, and_false, false_and, or_true, true_or, or_false, false_or, not_true_eq_false, not_false_eq_true, Option.some.injEq, r]
  rw [e_J1_pollFirst]
  simp (disch := first | omega | assumption | exact Or.inl rfl | exact Or.inr rfl | exact wN_kls (by omega) | exact wE_kls (by omega) | (simp only [a_cat_nil, a_cat_int, a_cat_ref, a_cat_null, a_cat_long]; done) | (simp only [a_cat_nil, a_cat_int, a_cat_ref, a_cat_null, a_cat_long]; omega) | decide | rfl | (apply Or.inr; omega) | (apply Or.inl; omega)) only [w_J1_pollFirst_0, w_J1_pollFirst_1, w_J1_pollFirst_4, w_J1_pollFirst_4I, w_J1_pollFirst_5, w_J1_pollFirst_5N, w_J1_pollFirst_6, w_J1_pollFirst_7, w_J1_pollFirst_10, w_J1_pollFirst_10I, w_J1_pollFirst_11, w_J1_pollFirst_12, w_J1_pollFirst_15, w_J1_pollFirst_15N, w_J1_pollFirst_16, w_J1_pollFirst_16N, w_J1_pollFirst_20, w_J1_pollFirst_20N, w_J1_pollFirst_21, w_J1_pollFirst_22, w_J1_pollFirst_23, w_J1_pollFirst_24, w_J1_pollFirst_25, w_J1_pollFirst_26, w_J1_pollFirst_26N, w_J1_pollFirst_27, w_J1_pollFirst_28, w_J1_pollFirst_31, w_J1_pollFirst_34, w_J1_pollFirst_34N, w_J1_pollFirst_35, w_J1_pollFirst_35N, w_ret, w_exc, Nat.reduceAdd, Option.toList_some, Option.toList_none, List.cons_append, List.nil_append, Option.bind_some, nI_add, q_mul, q_sub, q_eq, q_eqz, q_lt, q_ltz, q_gtz, q_le, q_lez, q_div, q_or, q_and, q_shl, q_shr, q_m1, q_eqm, q_meq, q_mm, q_mlt, q_mgt, q_mlt2, q_dec, Nat.add_sub_cancel, q_ltT, q_ltF, q_leT, q_leF, q_eqT, q_eqF, ↓reduceIte, uN_s, uN_n, upN_app, uG_s, uG_n, uG_uG, if_true, if_false, Nat.reduceMul, Nat.reduceSub, Nat.reduceEqDiff, Nat.reduceLT, and_true, true_and, and_false, false_and, or_true, true_or, or_false, false_or, not_true_eq_false, not_false_eq_true, Option.some.injEq, wQ_g0, wQ_g1, wQ_g2, wQ_p1, wQ_len, wQ_wn, el, r17, i]
theorem q_first {x : Nat} (hq : 1024 ≤ q) (he : 1024 ≤ e) (ne : e ≠ q) (hH : H < 17) (hx : x < 600 ∨ 1024 ≤ x) (hf : f H = some x) : a_call (d+3) MJ1_removeFirst [.ref q] (wQ g q e H T f) = some (.inl (some (.ref x)), wQ g q e (if H = 16 then 0 else H + 1) T (va_up f H none)) := by
  have p := q_poll (d := d) (g := g) (T := T) hq he ne hH hx hf
  have kk := wQ_kls (g := g) (e := e) (H := H) (T := T) (f := f) hq
  rw [e_J1_removeFirst]
  simp (disch := first | omega | assumption | exact Or.inl rfl | exact Or.inr rfl | exact wN_kls (by omega) | exact wE_kls (by omega) | (simp only [a_cat_nil, a_cat_int, a_cat_ref, a_cat_null, a_cat_long]; done) | (simp only [a_cat_nil, a_cat_int, a_cat_ref, a_cat_null, a_cat_long]; omega) | decide | rfl | (apply Or.inr; omega) | (apply Or.inl; omega)) only [w_J1_removeFirst_0, w_J1_removeFirst_1, w_J1_removeFirst_4, w_J1_removeFirst_4N, w_J1_removeFirst_5, w_J1_removeFirst_5N, w_J1_removeFirst_6, w_J1_removeFirst_6N, w_J1_removeFirst_9, w_J1_removeFirst_12, w_J1_removeFirst_12I, w_J1_removeFirst_13, w_J1_removeFirst_16, w_J1_removeFirst_17, w_J1_removeFirst_17N, w_J1_removeFirst_18, w_J1_removeFirst_18N, w_ret, w_exc, Nat.reduceAdd, Option.toList_some, Option.toList_none, List.cons_append, List.nil_append, Option.bind_some, nI_add, q_mul, q_sub, q_eq, q_eqz, q_lt, q_ltz, q_gtz, q_le, q_lez, q_div, q_or, q_and, q_shl, q_shr, q_m1, q_eqm, q_meq, q_mm, q_mlt, q_mgt, q_mlt2, q_dec, Nat.add_sub_cancel, q_ltT, q_ltF, q_leT, q_leF, q_eqT, q_eqF, ↓reduceIte, uN_s, uN_n, upN_app, uG_s, uG_n, uG_uG, if_true, if_false, Nat.reduceMul, Nat.reduceSub, Nat.reduceEqDiff, Nat.reduceLT, and_true, true_and, and_false, false_and, or_true, true_or, or_false, false_or, not_true_eq_false, not_false_eq_true, Option.some.injEq, p]
theorem q_polll {x : Nat} (hq : 1024 ≤ q) (he : 1024 ≤ e) (ne : e ≠ q) (hT : T < 17) (hx : 1024 ≤ x) (hf : f (if T = 0 then 16 else T - 1) = some x) : a_call (d+2) MJ1_pollLast [.ref q] (wQ g q e H T f) = some (.inl (some (.ref x)), wQ g q e H (if T = 0 then 16 else T - 1) (va_up f (if T = 0 then 16 else T - 1) none)) := by
  have i := q_dec1 (d := d) (g := wQ g q e H T f) hT
  revert hf i
  have b : (if T = 0 then 16 else T - 1) < 17 := by split <;> omega
  revert b
  generalize (if T = 0 then 16 else T - 1) = T'
  intro b hf i
  have el : a_call (d+1) MJ1_elementAt [.ref e, .int (nI T')] (wQ g q e H T f) = some (.inl (some (.ref x)), wQ g q e H T f) := by
    have r := wQ_rd (g := g) (q := q) (H := H) (T := T) he ne b hf (Or.inr hx)
    rw [e_J1_elementAt]
    simp (disch := first | omega | assumption | exact Or.inl rfl | exact Or.inr rfl | exact wN_kls (by omega) | exact wE_kls (by omega) | (simp only [a_cat_nil, a_cat_int, a_cat_ref, a_cat_null, a_cat_long]; done) | (simp only [a_cat_nil, a_cat_int, a_cat_ref, a_cat_null, a_cat_long]; omega) | decide | rfl | (apply Or.inr; omega) | (apply Or.inl; omega)) only [w_J1_elementAt_0, w_J1_elementAt_1, w_J1_elementAt_2, w_J1_elementAt_3, w_J1_elementAt_3N, w_ret, w_exc, Nat.reduceAdd, Option.toList_some, Option.toList_none, List.cons_append, List.nil_append, Option.bind_some, nI_add, q_mul, q_sub, q_eq, q_eqz, q_lt, q_ltz, q_gtz, q_le, q_lez, q_div, q_or, q_and, q_shl, q_shr, q_m1, q_eqm, q_meq, q_mm, q_mlt, q_mgt, q_mlt2, q_dec, Nat.add_sub_cancel, q_ltT, q_ltF, q_leT, q_leF, q_eqT, q_eqF, ↓reduceIte, uN_s, uN_n, upN_app, uG_s, uG_n, uG_uG, if_true, if_false, Nat.reduceMul, Nat.reduceSub, Nat.reduceEqDiff, Nat.reduceLT, and_true, true_and, and_false, false_and, or_true, true_or, or_false, false_or, not_true_eq_false, not_false_eq_true, Option.some.injEq, r]
  rw [e_J1_pollLast]
  simp (disch := first | omega | assumption | exact Or.inl rfl | exact Or.inr rfl | exact wN_kls (by omega) | exact wE_kls (by omega) | (simp only [a_cat_nil, a_cat_int, a_cat_ref, a_cat_null, a_cat_long]; done) | (simp only [a_cat_nil, a_cat_int, a_cat_ref, a_cat_null, a_cat_long]; omega) | decide | rfl | (apply Or.inr; omega) | (apply Or.inl; omega)) only [w_J1_pollLast_0, w_J1_pollLast_1, w_J1_pollLast_4, w_J1_pollLast_4I, w_J1_pollLast_5, w_J1_pollLast_5N, w_J1_pollLast_6, w_J1_pollLast_7, w_J1_pollLast_10, w_J1_pollLast_10N, w_J1_pollLast_11, w_J1_pollLast_12, w_J1_pollLast_15, w_J1_pollLast_15I, w_J1_pollLast_16, w_J1_pollLast_17, w_J1_pollLast_20, w_J1_pollLast_20N, w_J1_pollLast_21, w_J1_pollLast_21N, w_J1_pollLast_22, w_J1_pollLast_22N, w_J1_pollLast_25, w_J1_pollLast_25N, w_J1_pollLast_26, w_J1_pollLast_27, w_J1_pollLast_28, w_J1_pollLast_28R, w_J1_pollLast_29, w_J1_pollLast_32, w_J1_pollLast_33, w_J1_pollLast_34, w_J1_pollLast_34N, w_J1_pollLast_35, w_J1_pollLast_35N, w_ret, w_exc, Nat.reduceAdd, Option.toList_some, Option.toList_none, List.cons_append, List.nil_append, Option.bind_some, nI_add, q_mul, q_sub, q_eq, q_eqz, q_lt, q_ltz, q_gtz, q_le, q_lez, q_div, q_or, q_and, q_shl, q_shr, q_m1, q_eqm, q_meq, q_mm, q_mlt, q_mgt, q_mlt2, q_dec, Nat.add_sub_cancel, q_ltT, q_ltF, q_leT, q_leF, q_eqT, q_eqF, ↓reduceIte, uN_s, uN_n, upN_app, uG_s, uG_n, uG_uG, if_true, if_false, Nat.reduceMul, Nat.reduceSub, Nat.reduceEqDiff, Nat.reduceLT, and_true, true_and, and_false, false_and, or_true, true_or, or_false, false_or, not_true_eq_false, not_false_eq_true, Option.some.injEq, wQ_g0, wQ_g1, wQ_g2, wQ_p2, wQ_len, wQ_wn, el, i]
theorem q_last {x : Nat} (hq : 1024 ≤ q) (he : 1024 ≤ e) (ne : e ≠ q) (hT : T < 17) (hx : 1024 ≤ x) (hf : f (if T = 0 then 16 else T - 1) = some x) : a_call (d+3) MJ1_removeLast [.ref q] (wQ g q e H T f) = some (.inl (some (.ref x)), wQ g q e H (if T = 0 then 16 else T - 1) (va_up f (if T = 0 then 16 else T - 1) none)) := by
  have p := q_polll (d := d) (g := g) (H := H) hq he ne hT hx hf
  have kk := wQ_kls (g := g) (e := e) (H := H) (T := T) (f := f) hq
  rw [e_J1_removeLast]
  simp (disch := first | omega | assumption | exact Or.inl rfl | exact Or.inr rfl | exact wN_kls (by omega) | exact wE_kls (by omega) | (simp only [a_cat_nil, a_cat_int, a_cat_ref, a_cat_null, a_cat_long]; done) | (simp only [a_cat_nil, a_cat_int, a_cat_ref, a_cat_null, a_cat_long]; omega) | decide | rfl | (apply Or.inr; omega) | (apply Or.inl; omega)) only [w_J1_removeLast_0, w_J1_removeLast_1, w_J1_removeLast_4, w_J1_removeLast_4N, w_J1_removeLast_5, w_J1_removeLast_5N, w_J1_removeLast_6, w_J1_removeLast_6N, w_J1_removeLast_9, w_J1_removeLast_12, w_J1_removeLast_12I, w_J1_removeLast_13, w_J1_removeLast_16, w_J1_removeLast_17, w_J1_removeLast_17N, w_J1_removeLast_18, w_J1_removeLast_18N, w_ret, w_exc, Nat.reduceAdd, Option.toList_some, Option.toList_none, List.cons_append, List.nil_append, Option.bind_some, nI_add, q_mul, q_sub, q_eq, q_eqz, q_lt, q_ltz, q_gtz, q_le, q_lez, q_div, q_or, q_and, q_shl, q_shr, q_m1, q_eqm, q_meq, q_mm, q_mlt, q_mgt, q_mlt2, q_dec, Nat.add_sub_cancel, q_ltT, q_ltF, q_leT, q_leF, q_eqT, q_eqF, ↓reduceIte, uN_s, uN_n, upN_app, uG_s, uG_n, uG_uG, if_true, if_false, Nat.reduceMul, Nat.reduceSub, Nat.reduceEqDiff, Nat.reduceLT, and_true, true_and, and_false, false_and, or_true, true_or, or_false, false_or, not_true_eq_false, not_false_eq_true, Option.some.injEq, p]
end D1
/-- the ring holds a list -/
def dL (f : Nat → Option Nat) (H T : Nat) (xs : List Nat) : Prop := H < 17 ∧ xs.length ≤ 16 ∧ T = (H + xs.length) % 17 ∧ ∀ k, k < xs.length → f ((H + k) % 17) = some (xs.getD k 0)
theorem dL_T {f : Nat → Option Nat} {H T : Nat} {xs : List Nat} (h : dL f H T xs) : T < 17 := by
  rw [h.2.2.1]; omega
theorem dL_0 {f : Nat → Option Nat} : dL f 0 0 [] := ⟨by decide, by decide, rfl, fun k hk => absurd hk (Nat.not_lt_zero _)⟩
theorem dL_emp {f : Nat → Option Nat} {H T : Nat} {xs : List Nat} (h : dL f H T xs) : H = T ↔ xs = [] := by
  obtain ⟨h1, h2, h3, _⟩ := h
  cases xs with
  | nil => exact ⟨fun _ => rfl, fun _ => by rw [h3, List.length_nil]; omega⟩
  | cons x r =>
    refine ⟨fun z => ?_, fun z => absurd z (List.cons_ne_nil x r)⟩
    rw [List.length_cons] at h2 h3
    omega
theorem dL_add {f : Nat → Option Nat} {H T x : Nat} {xs : List Nat} (h : dL f H T xs) (hl : xs.length < 16) : (H ≠ if T = 16 then 0 else T + 1) ∧ dL (va_up f T (some x)) H (if T = 16 then 0 else T + 1) (xs ++ [x]) := by
  obtain ⟨h1, h2, h3, h4⟩ := h
  refine ⟨by split <;> omega, h1, by rw [List.length_append]; exact hl, ?_, fun k hk => ?_⟩
  · rw [List.length_append, List.length_singleton]
    split <;> omega
  · rw [List.length_append, List.length_singleton] at hk
    rw [t_gd_snoc hk]
    unfold va_up
    by_cases e : k = xs.length
    · rw [if_pos (by rw [h3, e]), if_pos e]
    · rw [if_neg (by omega), if_neg e]
      exact h4 k (by omega)
theorem dL_hd {f : Nat → Option Nat} {H T x : Nat} {xs : List Nat} (h : dL f H T (x :: xs)) : f H = some x ∧ dL (va_up f H none) (if H = 16 then 0 else H + 1) T xs := by
  obtain ⟨h1, h2, h3, h4⟩ := h
  rw [List.length_cons] at h2 h3
  have e := h4 0 (Nat.zero_lt_succ _)
  rw [Nat.add_zero, Nat.mod_eq_of_lt h1] at e
  refine ⟨e, by split <;> omega, by omega, ?_, fun k hk => ?_⟩
  · split <;> omega
  · have := h4 (k + 1) (by rw [List.length_cons]; omega)
    unfold va_up
    have e2 : ((if H = 16 then 0 else H + 1) + k) % 17 = (H + (k + 1)) % 17 := by split <;> omega
    rw [e2, if_neg (by omega), this]
    rfl
theorem dL_la {f : Nat → Option Nat} {H T x : Nat} {xs : List Nat} (h : dL f H T (xs ++ [x])) : f (if T = 0 then 16 else T - 1) = some x ∧ dL (va_up f (if T = 0 then 16 else T - 1) none) H (if T = 0 then 16 else T - 1) xs := by
  obtain ⟨h1, h2, h3, h4⟩ := h
  rw [List.length_append, List.length_singleton] at h2 h3
  have e2 : (if T = 0 then 16 else T - 1) = (H + xs.length) % 17 := by split <;> omega
  rw [e2]
  have z := h4 xs.length (by rw [List.length_append, List.length_singleton]; omega)
  rw [t_gd_snoc (by omega), if_pos rfl] at z
  refine ⟨z, h1, by omega, rfl, fun k hk => ?_⟩
  have := h4 k (by rw [List.length_append]; omega)
  rw [t_gd_snoc (by omega), if_neg (by omega)] at this
  unfold va_up
  rw [if_neg (by omega)]
  exact this
