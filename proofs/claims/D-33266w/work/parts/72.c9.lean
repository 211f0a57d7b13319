/-- behind all else: a deque, its array, and who was seen -/
def hS (h : a_H) (H T : Nat) (f : Nat → Option Nat) (s : Nat → Nat) : a_H := a_add (a_add (a_add h (cDq (h.1 + 1) H T) 3) (cArr f) 17) (.inl (.boolean, 16, .inl fun i => nI (s i))) 16
section C9
variable {d : Nat} {h : a_H} {m : Nat} {G : Nat → Nat} {N : Nat → Nat → Nat} {nb na : Nat} {fr to le r y : Nat → Nat} {row : Nat → Nat → Nat} {H T : Nat} {f : Nat → Option Nat} {s : Nat → Nat}
theorem hS_q : (hS h H T f s).2.2 h.1 = cDq (h.1 + 1) H T := by
  show (if h.1 = h.1 + 1 + 1 then _ else if h.1 = h.1 + 1 then _ else if h.1 = h.1 then _ else _) = _
  rw [if_neg (by omega), if_neg (by omega), if_pos rfl]
theorem hS_e : (hS h H T f s).2.2 (h.1 + 1) = cArr f := by
  show (if h.1 + 1 = h.1 + 1 + 1 then _ else if h.1 + 1 = h.1 + 1 then _ else _) = _
  rw [if_neg (by omega), if_pos rfl]
theorem hS_s : (hS h H T f s).2.2 (h.1 + 2) = .inl (.boolean, 16, .inl fun i => nI (s i)) := if_pos rfl
theorem hS_o {q : Nat} (hq : q ≠ h.1) (h2 : q ≠ h.1 + 1) (h3 : q ≠ h.1 + 2) : (hS h H T f s).2.2 q = h.2.2 q := by
  show (if q = h.1 + 1 + 1 then _ else if q = h.1 + 1 then _ else if q = h.1 then _ else _) = _
  rw [if_neg (by omega), if_neg (by omega), if_neg (by omega)]
theorem hX_S : hX h (hS h H T f s) 3 36 := ⟨Nat.le_add_right _ 3, Nat.le_refl _, Nat.le_of_eq (show h.2.1 + 3 + 17 + 16 = h.2.1 + 36 by omega), fun q hq => hS_o (by omega) (by omega) (by omega)⟩
theorem hS_Q {H' T' : Nat} {f' : Nat → Option Nat} (hq : m + 11 < h.1) : wQ (wE (hS h H T f s) m G N) h.1 (h.1 + 1) H' T' f' = wE (hS h H' T' f' s) m G N := by
  refine wD_ext rfl rfl ?_ (fun k hk => ?_) (fun q hq2 => ?_)
  · rw [wQ_o (by omega) (by omega)]; exact wE_obj
  · rw [wQ_o (by omega) (by omega)]; exact wE_arr hk
  · by_cases e1 : q = h.1
    · subst e1; rw [wQ_q, hS_q]
    · by_cases e2 : q = h.1 + 1
      · subst e2; rw [wQ_e (by omega), hS_e]
      · rw [wQ_o e1 e2, wE_out hq2]
        by_cases e3 : q = h.1 + 2
        · subst e3; rw [hS_s, hS_s]
        · rw [hS_o e1 e2 e3, hS_o e1 e2 e3]
theorem hS_rd {i : Nat} (hm : 1024 ≤ m) (hq : m + 11 < h.1) (hi : i < 16) : a_rdi (wE (hS h H T f s) m G N) (h.1 + 2) a_bz (nI i) = some (.int (nI (s i))) := by
  unfold a_rdi
  rw [wE_out (Or.inr (by omega)), hS_s]
  show (if a_bz .boolean = true ∧ a_out (nI i) 16 = false ∧ (1024 ≤ h.1 + 2 ∨ (h.1 + 2 = 650 ∧ FieldType.boolean = .int)) then some (Value.int (nI (s (nI i).toNatClampNeg))) else none) = _
  rw [if_pos ⟨rfl, a_out_nI hi (by omega), Or.inl (by omega)⟩, nI_clamp (by omega)]
theorem hS_wr {i : Nat} (hm : 1024 ≤ m) (hq : m + 11 < h.1) (hi : i < 16) : a_wri (wE (hS h H T f s) m G N) (h.1 + 2) a_bz (nI i) (nI 1) = some (wE (hS h H T f (upN s i 1)) m G N) := by
  unfold a_wri
  rw [wE_out (Or.inr (by omega)), hS_s]
  show (if a_bz .boolean = true ∧ a_out (nI i) 16 = false ∧ 1024 ≤ h.1 + 2 then some (a_set (wE (hS h H T f s) m G N) (h.1 + 2) (.inl (.boolean, 16, .inl (upd (fun i => nI (s i)) (nI i).toNatClampNeg (vp_nar .boolean (nI 1)))))) else none) = _
  rw [if_pos ⟨rfl, a_out_nI hi (by omega), by omega⟩, nI_clamp (by omega), wE_set (Or.inr (by omega))]
  refine congrArg (fun z => some (wE z m G N)) (a_Hx rfl rfl fun q => ?_)
  show (if q = h.1 + 2 then _ else (hS h H T f s).2.2 q) = _
  by_cases e : q = h.1 + 2
  · rw [if_pos e, e, hS_s]
    refine congrArg (fun z => (Sum.inl (FieldType.boolean, 16, Sum.inl z) : a_C)) (funext fun j => ?_)
    unfold upd
    rw [upN_app]
    split <;> rfl
  · rw [if_neg e]
    by_cases e1 : q = h.1
    · subst e1; rw [hS_q, hS_q]
    · by_cases e2 : q = h.1 + 1
      · subst e2; rw [hS_e, hS_e]
      · rw [hS_o e1 e2 e, hS_o e1 e2 e]
theorem b_val {b : Nat} {g : a_H} (hb : b < 100) : a_call (d+1) MJ10_valueOf [.int (nI b)] g = some (.inl (some (.ref (b + 128))), g) := by
  refine (a_call_prim (by decide)).trans ?_
  show (if -128 ≤ nI b ∧ nI b ≤ 127 then some ((Sum.inl (some (Value.ref (nI b + 128).toNatClampNeg)), g) : a_R) else none) = _
  have al : ∀ b, b < 100 → (-128 ≤ nI b ∧ nI b ≤ 127) ∧ (nI b + 128).toNatClampNeg = b + 128 := by decide
  rw [if_pos (al b hb).1, (al b hb).2]
theorem b_int {b : Nat} {g : a_H} (hb : b < 100) : a_call (d+1) MJ10_intValue [.ref (b + 128)] g = some (.inl (some (.int (nI b))), g) := by
  refine (a_call_prim (by decide)).trans ?_
  show (if b + 128 < 256 then some ((Sum.inl (some (Value.int (Int32.ofNat (b + 128) - 128))), g) : a_R) else none) = _
  have al : ∀ b, b < 100 → Int32.ofNat (b + 128) - 128 = nI b := by decide
  rw [if_pos (by omega), al b hb]
theorem b_kls {b : Nat} {g : a_H} (hb : b < 100) : a_kls g (b + 128) = some 21 := by
  unfold a_kls
  rw [if_pos (by omega)]
theorem b_kob {b : Nat} {g : a_H} (hb : b < 100) : a_kob g (b + 128) = true := by
  unfold a_kob
  rw [b_kls hb]
  decide
theorem q_init {g : a_H} (hg : 1024 ≤ g.1) : a_call (d+2) MJ1_init [.ref g.1] (hO g 7 [.null, .int 0, .int 0]) = some (.inl none, a_add (a_add g (cDq (g.1 + 1) 0 0) 3) (cArr fun _ => none) 17) := by
  have p : a_pf (a_add (hO g 7 [.null, .int 0, .int 0]) (cArr fun _ => none) 17) g.1 0 [7] (.ref (g.1 + 1)) = some (a_add (a_add g (cDq (g.1 + 1) 0 0) 3) (cArr fun _ => none) 17) := by
    unfold a_pf
    rw [show (a_add (hO g 7 [.null, .int 0, .int 0]) (cArr fun _ => none) 17).2.2 g.1 = .inr (7, [.null, .int 0, .int 0]) from (if_neg (show g.1 ≠ g.1 + 1 by omega)).trans hO_at]
    refine (if_pos ⟨rfl, Nat.le_of_ble_eq_true rfl, hg⟩).trans (congrArg some (a_Hx rfl rfl fun q => ?_))
    show (if q = g.1 then _ else if q = g.1 + 1 then _ else if q = g.1 then _ else _) = (if q = g.1 + 1 then _ else if q = g.1 then _ else _)
    by_cases e : q = g.1
    · rw [if_pos e, if_neg (by omega), if_pos e]; rfl
    · rw [if_neg e, if_neg e, if_neg e]
  have n : a_newa (hO g 7 [.null, .int 0, .int 0]) (.object "java/lang/Object") (nI 17) = some (g.1 + 1, a_add (hO g 7 [.null, .int 0, .int 0]) (cArr fun _ => none) 17) := rfl
  have i0 : a_call (d+1) MJ0_init [.ref g.1] (hO g 7 [.null, .int 0, .int 0]) = some (.inl none, hO g 7 [.null, .int 0, .int 0]) := by
    rw [e_J0_init]
    simp (disch := first | omega | assumption | exact Or.inl rfl | exact Or.inr rfl | exact wN_kls (by omega) | exact wE_kls (by omega) | (simp only [a_cat_nil, a_cat_int, a_cat_ref, a_cat_null, a_cat_long]; done) | (simp only [a_cat_nil, a_cat_int, a_cat_ref, a_cat_null, a_cat_long]; omega) | decide | rfl | (apply Or.inr; omega) | (apply Or.inl; omega)) only [w_J0_init_0, w_J0_init_1, w_J0_init_4, w_ret, w_exc, Nat.reduceAdd, Option.toList_some, Option.toList_none, List.cons_append, List.nil_append, Option.bind_some, nI_add, q_mul, q_sub, q_eq, q_eqz, q_lt, q_ltz, q_gtz, q_le, q_lez, q_div, q_or, q_and, q_shl, q_shr, q_m1, q_eqm, q_meq, q_mm, q_mlt, q_mgt, q_mlt2, q_dec, Nat.add_sub_cancel, q_ltT, q_ltF, q_leT, q_leF, q_eqT, q_eqF, ↓reduceIte, uN_s, uN_n, upN_app, uG_s, uG_n, uG_uG, if_true, if_false, Nat.reduceMul, Nat.reduceSub, Nat.reduceEqDiff, Nat.reduceLT, and_true, true_and, and_false, false_and, or_true, true_or, or_false, false_or, not_true_eq_false, not_false_eq_true, Option.some.injEq]
  rw [e_J1_init]
  simp (disch := first | omega | assumption | exact Or.inl rfl | exact Or.inr rfl | exact wN_kls (by omega) | exact wE_kls (by omega) | (simp only [a_cat_nil, a_cat_int, a_cat_ref, a_cat_null, a_cat_long]; done) | (simp only [a_cat_nil, a_cat_int, a_cat_ref, a_cat_null, a_cat_long]; omega) | decide | rfl | (apply Or.inr; omega) | (apply Or.inl; omega)) only [w_J1_init_0, w_J1_init_1, w_J1_init_4, w_J1_init_5, w_J1_init_7, w_J1_init_10, w_J1_init_10N, w_J1_init_13, w_ret, w_exc, Nat.reduceAdd, Option.toList_some, Option.toList_none, List.cons_append, List.nil_append, Option.bind_some, nI_add, q_mul, q_sub, q_eq, q_eqz, q_lt, q_ltz, q_gtz, q_le, q_lez, q_div, q_or, q_and, q_shl, q_shr, q_m1, q_eqm, q_meq, q_mm, q_mlt, q_mgt, q_mlt2, q_dec, Nat.add_sub_cancel, q_ltT, q_ltF, q_leT, q_leF, q_eqT, q_eqF, ↓reduceIte, uN_s, uN_n, upN_app, uG_s, uG_n, uG_uG, if_true, if_false, Nat.reduceMul, Nat.reduceSub, Nat.reduceEqDiff, Nat.reduceLT, and_true, true_and, and_false, false_and, or_true, true_or, or_false, false_or, not_true_eq_false, not_false_eq_true, Option.some.injEq, i0, n, p]
theorem t_sum_up {s : Nat → Nat} {b : Nat} (h0 : s b = 0) : ∀ n, t_sum (upN s b 1) n = t_sum s n + if b < n then 1 else 0
  | 0 => rfl
  | n + 1 => by
    show t_sum (upN s b 1) n + upN s b 1 n = t_sum s n + s n + _
    rw [t_sum_up h0 n, upN_app]
    by_cases e : n = b
    · subst e
      rw [if_pos rfl, if_neg (Nat.lt_irrefl _), if_pos (Nat.lt_succ_self _), h0]
    · rw [if_neg e]
      by_cases c : b < n
      · rw [if_pos c, if_pos (by omega)]; omega
      · rw [if_neg c, if_neg (by omega)]; omega
theorem t_sum_b01 {s : Nat → Nat} {b : Nat} (h0 : s b = 0) (h1 : ∀ i, s i ≤ 1) : ∀ n, b < n → t_sum s n < n := fun n hb => by
  have := t_sum_up h0 n
  rw [if_pos hb] at this
  have l : t_sum (upN s b 1) n ≤ t_sum (fun _ => 1) n := t_sum_le n fun i _ => by
    rw [upN_app]
    split
    · exact Nat.le_refl _
    · exact h1 i
  rw [t_sum_const] at l
  omega
theorem c_li1 {a b o bt : Nat} {Q : List Nat} {x7 x8 : Option Value} (hm : 1024 ≤ m) (hq : m + 11 < h.1) (c : cS N G nb na fr to le) (ha : a < 16) (ht : bt < 2147483648 ∨ bt = 4294967295) (i1 : dL f H T (Q.map (· + 128))) (i2 : ∀ i, s i ≤ 1) (i3 : Q.length ≤ t_sum s 16) (i4 : ∀ q, q ∈ Q → q < 16) (i5 : t_BG (fun k => k < na ∧ k ≠ bt) fr to b a 0 (fun i => s i = 1) Q) : ∃ z : (Nat × (Nat → Option Nat) × (Nat → Nat) × List Nat) × Option Value, (dL z.1.2.1 H z.1.1 (z.1.2.2.2.map (· + 128)) ∧ (∀ i, z.1.2.2.1 i ≤ 1) ∧ z.1.2.2.2.length ≤ t_sum z.1.2.2.1 16 ∧ (∀ q, q ∈ z.1.2.2.2 → q < 16) ∧ (2 * (16 - t_sum z.1.2.2.1 16) + z.1.2.2.2.length ≤ 2 * (16 - t_sum s 16) + Q.length) ∧ t_BG (fun k => k < na ∧ k ≠ bt) fr to b a na (fun i => z.1.2.2.1 i = 1) z.1.2.2.2) ∧ a_run (d+3) MX2_listens 48 [some (.ref m), some (.int (nI b)), some (.int (nI o)), some (.int (nI bt)), some (.ref (h.1)), some (.ref (h.1 + 2)), some (.int (nI a)), some (.int (nI 0)), x8] [] (wE (hS h H T f s) m G N) = a_run (d+3) MX2_listens 48 [some (.ref m), some (.int (nI b)), some (.int (nI o)), some (.int (nI bt)), some (.ref (h.1)), some (.ref (h.1 + 2)), some (.int (nI a)), some (.int (nI na)), z.2] [] (wE (hS h H z.1.1 z.1.2.1 z.1.2.2.1) m G N) := by
  have bx := cS_BX c
  have ⟨s1, s2, s3, s4, s5, s6⟩ := c
  have hq1 : 1024 ≤ h.1 := by omega
  have hq2 : 1024 ≤ h.1 + 1 := by omega
  refine l_for (fun k (z : (Nat × (Nat → Option Nat) × (Nat → Nat) × List Nat) × Option Value) => a_run (d+3) MX2_listens 48 [some (.ref m), some (.int (nI b)), some (.int (nI o)), some (.int (nI bt)), some (.ref (h.1)), some (.ref (h.1 + 2)), some (.int (nI a)), some (.int (nI k)), z.2] [] (wE (hS h H z.1.1 z.1.2.1 z.1.2.2.1) m G N)) (fun k z => dL z.1.2.1 H z.1.1 (z.1.2.2.2.map (· + 128)) ∧ (∀ i, z.1.2.2.1 i ≤ 1) ∧ z.1.2.2.2.length ≤ t_sum z.1.2.2.1 16 ∧ (∀ q, q ∈ z.1.2.2.2 → q < 16) ∧ (2 * (16 - t_sum z.1.2.2.1 16) + z.1.2.2.2.length ≤ 2 * (16 - t_sum s 16) + Q.length) ∧ t_BG (fun k => k < na ∧ k ≠ bt) fr to b a k (fun i => z.1.2.2.1 i = 1) z.1.2.2.2) na (fun k z hk ⟨j1, j2, j3, j4, j5, j6⟩ => ?_) na 0 ((T, f, s, Q), x8) (Nat.zero_add _) ⟨i1, i2, i3, i4, Nat.le_refl _, i5⟩
  obtain ⟨⟨T1, f1, s', Q1⟩, y8⟩ := z
  dsimp only at j1 j2 j3 j4 j5 j6 ⊢
  have ⟨e1, e2, e3, e4⟩ := s5 k hk
  have ⟨f1b, f2b⟩ := bx k hk
  have sr := hS_rd (h := h) (H := H) (T := T1) (f := f1) (s := s') (G := G) (N := N) hm hq f1b
  have ek : (nI k = nI bt) = (k = bt) := by
    rcases ht with ht | ht
    · exact q_eq (by omega) ht
    · subst ht
      rw [q_eqm (by omega)]
      exact (eq_false (by omega)).symm
  by_cases w : k ≠ bt ∧ to k = a ∧ s' (fr k) = 0
  · have ⟨w1, w2, w3⟩ := w
    have lt := t_sum_b01 w3 j2 16 f1b
    have ⟨n1, n2⟩ := dL_add (x := fr k + 128) j1 (by rw [List.length_map]; omega)
    have ad := q_add (d := d+1) (g := wE (hS h H T1 f1 (upN s' (fr k) 1)) m G N) (q := h.1) (e := h.1 + 1) (f := f1) (H := H) (T := T1) (x := fr k + 128) hq1 hq2 (by omega) j1.1 (dL_T j1) (by omega) (b_kob (by omega)) n1
    rw [hS_Q hq, hS_Q hq] at ad
    have kl : a_kls (wE (hS h H T1 f1 (upN s' (fr k) 1)) m G N) h.1 = some 7 := a_kls_o hq1 ((wE_out (Or.inr (by omega))).trans hS_q)
    have bv := b_val (d := d+2) (b := fr k) (g := wE (hS h H T1 f1 (upN s' (fr k) 1)) m G N) (by omega)
    have sw := hS_wr (h := h) (H := H) (T := T1) (f := f1) (s := s') (G := G) (N := N) hm hq f1b
    have up := t_sum_up w3 16
    rw [if_pos f1b] at up
    refine ⟨((if T1 = 16 then 0 else T1 + 1, va_up f1 T1 (some (fr k + 128)), upN s' (fr k) 1, Q1 ++ [fr k]), some (.int (nI 1))), ⟨?_, fun i => ?_, ?_, fun q hq => ?_, ?_, ?_⟩, ?_⟩
    · rw [List.map_append]; exact n2
    · dsimp only; rw [upN_app]; split
      · exact Nat.le_refl _
      · exact j2 i
    · dsimp only; rw [up, List.length_append, List.length_singleton]; omega
    · rcases List.mem_append.mp hq with hq | hq
      · exact j4 q hq
      · rw [List.mem_singleton.mp hq]; exact f1b
    · dsimp only; rw [up, List.length_append, List.length_singleton]; omega
    · refine t_BG_up ⟨hk, w1⟩ w2 (fun i => ?_) j6
      dsimp only
      rw [upN_app]
      by_cases e : i = fr k
      · rw [if_pos e]; exact ⟨fun _ => Or.inl e, fun _ => rfl⟩
      · rw [if_neg e]; exact ⟨Or.inr, fun z => z.elim (fun z => absurd z e) id⟩
    · try dsimp only
      rw [w_X2_listens_48]
      have w1' := eq_false w1
      simp (disch := first | omega | assumption | exact Or.inl rfl | exact Or.inr rfl | exact wN_kls (by omega) | exact wE_kls (by omega) | (simp only [a_cat_nil, a_cat_int, a_cat_ref, a_cat_null, a_cat_long]; done) | (simp only [a_cat_nil, a_cat_int, a_cat_ref, a_cat_null, a_cat_long]; omega) | decide | rfl | (apply Or.inr; omega) | (apply Or.inl; omega)) only [w_X2_listens_50, w_X2_listens_51, w_X2_listens_54, w_X2_listens_57, w_X2_listens_59, w_X2_listens_60, w_X2_listens_63, w_X2_listens_64, w_X2_listens_67, w_X2_listens_69, w_X2_listens_70, w_X2_listens_72, w_X2_listens_75, w_X2_listens_75N, w_X2_listens_77, w_X2_listens_78, w_X2_listens_81, w_X2_listens_83, w_X2_listens_84, w_X2_listens_85, w_X2_listens_88, w_X2_listens_89, w_X2_listens_92, w_X2_listens_93, w_X2_listens_95, w_X2_listens_97, w_X2_listens_100, w_X2_listens_100N, w_X2_listens_102, w_X2_listens_103, w_X2_listens_106, w_X2_listens_108, w_X2_listens_109, w_X2_listens_110, w_X2_listens_111, w_X2_listens_111N, w_X2_listens_113, w_X2_listens_114, w_X2_listens_117, w_X2_listens_119, w_X2_listens_120, w_X2_listens_123, w_X2_listens_126, w_X2_listens_129, w_ret, w_exc, Nat.reduceAdd, Option.toList_some, Option.toList_none, List.cons_append, List.nil_append, Option.bind_some, nI_add, q_mul, q_sub, q_eq, q_eqz, q_lt, q_ltz, q_gtz, q_le, q_lez, q_div, q_or, q_and, q_shl, q_shr, q_m1, q_eqm, q_meq, q_mm, q_mlt, q_mgt, q_mlt2, q_dec, Nat.add_sub_cancel, q_ltT, q_ltF, q_leT, q_leF, q_eqT, q_eqF, ↓reduceIte, uN_s, uN_n, upN_app, uG_s, uG_n, uG_uG, if_true, if_false, Nat.reduceMul, Nat.reduceSub, Nat.reduceEqDiff, Nat.reduceLT, and_true, true_and, and_false, false_and, or_true, true_or, or_false, false_or, not_true_eq_false, not_false_eq_true, Option.some.injEq, wEg_froms, wEg_tos, wEg_least, wEg_layers, wEg_rows, wEg_lengths, wEg_uppers, wEg_lowers, wEg_near, wEg_medians, wEg_points, wEg_boxes, wEp_boxes, wEg_arrows, wEp_arrows, wEg_depth, wEp_depth, wEg_made, wEp_made, wEg_come, wEp_come, wEr_uppers, wEw_uppers, wEr_lowers, wEw_lowers, wEr_near, wEw_near, wEr_medians, wEw_medians, wEr_points, wEw_points, wEr_froms, wEw_froms, wEr_tos, wEw_tos, wEr_least, wEw_least, wEr_layers, wEw_layers, wEr_rows, wEw_rows, wEr_lengths, wEw_lengths, wE_kls, s4, e1, e2, ek, w1', w2, w3, sr, sw, bv, ad]
  · refine ⟨((T1, f1, s', Q1), some (.int (nI 0))), ⟨j1, j2, j3, j4, j5, t_BG_no (fun ⟨_, w1⟩ w2 => ?_) j6⟩, ?_⟩
    · have := j2 (fr k)
      by_cases w3 : s' (fr k) = 0
      · exact absurd ⟨w1, w2, w3⟩ w
      · show s' (fr k) = 1
        omega
    · try dsimp only
      rw [w_X2_listens_48]
      by_cases w1 : k = bt
      · have w1' := eq_true w1
        simp (disch := first | omega | assumption | exact Or.inl rfl | exact Or.inr rfl | exact wN_kls (by omega) | exact wE_kls (by omega) | (simp only [a_cat_nil, a_cat_int, a_cat_ref, a_cat_null, a_cat_long]; done) | (simp only [a_cat_nil, a_cat_int, a_cat_ref, a_cat_null, a_cat_long]; omega) | decide | rfl | (apply Or.inr; omega) | (apply Or.inl; omega)) only [w_X2_listens_50, w_X2_listens_51, w_X2_listens_54, w_X2_listens_57, w_X2_listens_59, w_X2_listens_60, w_X2_listens_92, w_X2_listens_93, w_X2_listens_95, w_X2_listens_97, w_X2_listens_100, w_X2_listens_100N, w_X2_listens_102, w_X2_listens_103, w_X2_listens_106, w_X2_listens_108, w_X2_listens_109, w_X2_listens_110, w_X2_listens_111, w_X2_listens_111N, w_X2_listens_113, w_X2_listens_114, w_X2_listens_117, w_X2_listens_119, w_X2_listens_120, w_X2_listens_123, w_X2_listens_126, w_X2_listens_129, w_ret, w_exc, Nat.reduceAdd, Option.toList_some, Option.toList_none, List.cons_append, List.nil_append, Option.bind_some, nI_add, q_mul, q_sub, q_eq, q_eqz, q_lt, q_ltz, q_gtz, q_le, q_lez, q_div, q_or, q_and, q_shl, q_shr, q_m1, q_eqm, q_meq, q_mm, q_mlt, q_mgt, q_mlt2, q_dec, Nat.add_sub_cancel, q_ltT, q_ltF, q_leT, q_leF, q_eqT, q_eqF, ↓reduceIte, uN_s, uN_n, upN_app, uG_s, uG_n, uG_uG, if_true, if_false, Nat.reduceMul, Nat.reduceSub, Nat.reduceEqDiff, Nat.reduceLT, and_true, true_and, and_false, false_and, or_true, true_or, or_false, false_or, not_true_eq_false, not_false_eq_true, Option.some.injEq, wEg_froms, wEg_tos, wEg_least, wEg_layers, wEg_rows, wEg_lengths, wEg_uppers, wEg_lowers, wEg_near, wEg_medians, wEg_points, wEg_boxes, wEp_boxes, wEg_arrows, wEp_arrows, wEg_depth, wEp_depth, wEg_made, wEp_made, wEg_come, wEp_come, wEr_uppers, wEw_uppers, wEr_lowers, wEw_lowers, wEr_near, wEw_near, wEr_medians, wEw_medians, wEr_points, wEw_points, wEr_froms, wEw_froms, wEr_tos, wEw_tos, wEr_least, wEw_least, wEr_layers, wEw_layers, wEr_rows, wEw_rows, wEr_lengths, wEw_lengths, wE_kls, s4, ek, w1']
      · have w1' := eq_false w1
        by_cases w2 : to k = a
        · have w3 : s' (fr k) = 1 := by
            have := j2 (fr k)
            by_cases w3 : s' (fr k) = 0
            · exact absurd ⟨w1, w2, w3⟩ w
            · omega
          simp (disch := first | omega | assumption | exact Or.inl rfl | exact Or.inr rfl | exact wN_kls (by omega) | exact wE_kls (by omega) | (simp only [a_cat_nil, a_cat_int, a_cat_ref, a_cat_null, a_cat_long]; done) | (simp only [a_cat_nil, a_cat_int, a_cat_ref, a_cat_null, a_cat_long]; omega) | decide | rfl | (apply Or.inr; omega) | (apply Or.inl; omega)) only [w_X2_listens_50, w_X2_listens_51, w_X2_listens_54, w_X2_listens_57, w_X2_listens_59, w_X2_listens_60, w_X2_listens_63, w_X2_listens_64, w_X2_listens_67, w_X2_listens_69, w_X2_listens_70, w_X2_listens_72, w_X2_listens_75, w_X2_listens_75N, w_X2_listens_77, w_X2_listens_78, w_X2_listens_81, w_X2_listens_83, w_X2_listens_84, w_X2_listens_85, w_X2_listens_88, w_X2_listens_89, w_X2_listens_92, w_X2_listens_93, w_X2_listens_95, w_X2_listens_97, w_X2_listens_100, w_X2_listens_100N, w_X2_listens_102, w_X2_listens_103, w_X2_listens_106, w_X2_listens_108, w_X2_listens_109, w_X2_listens_110, w_X2_listens_111, w_X2_listens_111N, w_X2_listens_113, w_X2_listens_114, w_X2_listens_117, w_X2_listens_119, w_X2_listens_120, w_X2_listens_123, w_X2_listens_126, w_X2_listens_129, w_ret, w_exc, Nat.reduceAdd, Option.toList_some, Option.toList_none, List.cons_append, List.nil_append, Option.bind_some, nI_add, q_mul, q_sub, q_eq, q_eqz, q_lt, q_ltz, q_gtz, q_le, q_lez, q_div, q_or, q_and, q_shl, q_shr, q_m1, q_eqm, q_meq, q_mm, q_mlt, q_mgt, q_mlt2, q_dec, Nat.add_sub_cancel, q_ltT, q_ltF, q_leT, q_leF, q_eqT, q_eqF, ↓reduceIte, uN_s, uN_n, upN_app, uG_s, uG_n, uG_uG, if_true, if_false, Nat.reduceMul, Nat.reduceSub, Nat.reduceEqDiff, Nat.reduceLT, and_true, true_and, and_false, false_and, or_true, true_or, or_false, false_or, not_true_eq_false, not_false_eq_true, Option.some.injEq, wEg_froms, wEg_tos, wEg_least, wEg_layers, wEg_rows, wEg_lengths, wEg_uppers, wEg_lowers, wEg_near, wEg_medians, wEg_points, wEg_boxes, wEp_boxes, wEg_arrows, wEp_arrows, wEg_depth, wEp_depth, wEg_made, wEp_made, wEg_come, wEp_come, wEr_uppers, wEw_uppers, wEr_lowers, wEw_lowers, wEr_near, wEw_near, wEr_medians, wEw_medians, wEr_points, wEw_points, wEr_froms, wEw_froms, wEr_tos, wEw_tos, wEr_least, wEw_least, wEr_layers, wEw_layers, wEr_rows, wEw_rows, wEr_lengths, wEw_lengths, wE_kls, s4, e1, e2, ek, w1', w2, w3, sr]
        · have w2' := eq_false w2
          simp (disch := first | omega | assumption | exact Or.inl rfl | exact Or.inr rfl | exact wN_kls (by omega) | exact wE_kls (by omega) | (simp only [a_cat_nil, a_cat_int, a_cat_ref, a_cat_null, a_cat_long]; done) | (simp only [a_cat_nil, a_cat_int, a_cat_ref, a_cat_null, a_cat_long]; omega) | decide | rfl | (apply Or.inr; omega) | (apply Or.inl; omega)) only [w_X2_listens_50, w_X2_listens_51, w_X2_listens_54, w_X2_listens_57, w_X2_listens_59, w_X2_listens_60, w_X2_listens_63, w_X2_listens_64, w_X2_listens_67, w_X2_listens_69, w_X2_listens_70, w_X2_listens_72, w_X2_listens_75, w_X2_listens_75N, w_X2_listens_77, w_X2_listens_78, w_X2_listens_81, w_X2_listens_83, w_X2_listens_84, w_X2_listens_85, w_X2_listens_88, w_X2_listens_89, w_X2_listens_92, w_X2_listens_93, w_X2_listens_95, w_X2_listens_97, w_X2_listens_100, w_X2_listens_100N, w_X2_listens_102, w_X2_listens_103, w_X2_listens_106, w_X2_listens_108, w_X2_listens_109, w_X2_listens_110, w_X2_listens_111, w_X2_listens_111N, w_X2_listens_113, w_X2_listens_114, w_X2_listens_117, w_X2_listens_119, w_X2_listens_120, w_X2_listens_123, w_X2_listens_126, w_X2_listens_129, w_ret, w_exc, Nat.reduceAdd, Option.toList_some, Option.toList_none, List.cons_append, List.nil_append, Option.bind_some, nI_add, q_mul, q_sub, q_eq, q_eqz, q_lt, q_ltz, q_gtz, q_le, q_lez, q_div, q_or, q_and, q_shl, q_shr, q_m1, q_eqm, q_meq, q_mm, q_mlt, q_mgt, q_mlt2, q_dec, Nat.add_sub_cancel, q_ltT, q_ltF, q_leT, q_leF, q_eqT, q_eqF, ↓reduceIte, uN_s, uN_n, upN_app, uG_s, uG_n, uG_uG, if_true, if_false, Nat.reduceMul, Nat.reduceSub, Nat.reduceEqDiff, Nat.reduceLT, and_true, true_and, and_false, false_and, or_true, true_or, or_false, false_or, not_true_eq_false, not_false_eq_true, Option.some.injEq, wEg_froms, wEg_tos, wEg_least, wEg_layers, wEg_rows, wEg_lengths, wEg_uppers, wEg_lowers, wEg_near, wEg_medians, wEg_points, wEg_boxes, wEp_boxes, wEg_arrows, wEp_arrows, wEg_depth, wEp_depth, wEg_made, wEp_made, wEg_come, wEp_come, wEr_uppers, wEw_uppers, wEr_lowers, wEw_lowers, wEr_near, wEw_near, wEr_medians, wEw_medians, wEr_points, wEw_points, wEr_froms, wEw_froms, wEr_tos, wEw_tos, wEr_least, wEw_least, wEr_layers, wEw_layers, wEr_rows, wEw_rows, wEr_lengths, wEw_lengths, wE_kls, s4, e1, e2, ek, w1', w2']
theorem t_hb_true {E : Nat → Prop} {a b : Nat} : t_hb E fr to b a = true ↔ t_R E fr to b a := by
  unfold t_hb
  exact @decide_eq_true_iff _ (Classical.propDecidable _)
theorem t_BF_0 {E : Nat → Prop} {b : Nat} : t_BF E fr to b (fun _ => (0 : Nat) = 1) [b] := by
  refine And.intro (fun i z => absurd (show (0 : Nat) = 1 from z) (by decide)) (And.intro (fun q hq => Or.inl (List.mem_singleton.mp hq)) (fun i z => ?_))
  rcases z with z | z
  · exact Or.inl (by rw [z]; exact List.mem_singleton.mpr rfl)
  · exact absurd (show (0 : Nat) = 1 from z) (by decide)
theorem c_listens {b o bt : Nat} (hm : 1024 ≤ m) (hq : m + 11 < h.1) (c : cS N G nb na fr to le) (hb : b < nb) (ho : o < nb) (ht : bt < 2147483648 ∨ bt = 4294967295) : ∃ h', hX h h' 3 36 ∧ a_call (d+4) MX2_listens [.ref m, .int (nI b), .int (nI o), .int (nI bt)] (wE h m G N) = some (.inl (some (.int (nI (t_hb (fun k => k < na ∧ k ≠ bt) fr to b o).toNat))), wE h' m G N) := by
  have bx := cS_BX c
  have ⟨s1, s2, s3, s4, s5, s6⟩ := c
  have hq1 : 1024 ≤ h.1 := by omega
  have hq2 : 1024 ≤ h.1 + 1 := by omega
  have kl : ∀ H T f s, a_kls (wE (hS h H T f s) m G N) h.1 = some 7 := fun H T f s => a_kls_o hq1 ((wE_out (Or.inr (by omega))).trans hS_q)
  have ini : a_call (d+3) MJ1_init [.ref h.1] (hO (wE h m G N) 7 [.null, .int 0, .int 0]) = some (.inl none, a_add (a_add (wE h m G N) (cDq (h.1 + 1) 0 0) 3) (cArr fun _ => none) 17) := q_init (d := d+1) (g := wE h m G N) hq1
  have na17 : a_newa (a_add (a_add (wE h m G N) (cDq (h.1 + 1) 0 0) 3) (cArr fun _ => none) 17) (newarray.typeOf .boolean) (nI 16) = some (h.1 + 2, a_add (a_add (a_add (wE h m G N) (cDq (h.1 + 1) 0 0) 3) (cArr fun _ => none) 17) (.inl (.boolean, 16, .inl fun _ => nI 0)) 16) := rfl
  have hs0 : a_add (a_add (a_add (wE h m G N) (cDq (h.1 + 1) 0 0) 3) (cArr fun _ => none) 17) (.inl (.boolean, 16, .inl fun _ => nI 0)) 16 = wE (hS h 0 0 (fun _ => none) fun _ => 0) m G N := by
    rw [wE_add hq, wE_add (Nat.lt_succ_of_lt hq), wE_add (Nat.lt_succ_of_lt (Nat.lt_succ_of_lt hq))]
    rfl
  have ad := q_add (d := d+1) (g := wE (hS h 0 0 (fun _ => none) fun _ => 0) m G N) (q := h.1) (e := h.1 + 1) (f := fun _ => none) (H := 0) (T := 0) (x := b + 128) hq1 hq2 (by omega) (by decide) (by decide) (by omega) (b_kob (by omega)) (by decide)
  rw [hS_Q hq, hS_Q hq] at ad
  have bv := b_val (d := d+2) (b := b) (g := wE (hS h 0 0 (fun _ => none) fun _ => 0) m G N) (by omega)
  have ⟨z, ⟨z0, z1, z2, z4⟩, z6⟩ := l_whl (fun (x : (Nat × Nat × (Nat → Option Nat) × (Nat → Nat)) × List Nat × Option Value × Option Value × Option Value) => a_run (d+3) MX2_listens 24 [some (.ref m), some (.int (nI b)), some (.int (nI o)), some (.int (nI bt)), some (.ref (h.1)), some (.ref (h.1 + 2)), x.2.2.1, x.2.2.2.1, x.2.2.2.2] [] (wE (hS h x.1.1 x.1.2.1 x.1.2.2.1 x.1.2.2.2) m G N)) (fun x => a_run (d+3) MX2_listens 135 [some (.ref m), some (.int (nI b)), some (.int (nI o)), some (.int (nI bt)), some (.ref (h.1)), some (.ref (h.1 + 2)), x.2.2.1, x.2.2.2.1, x.2.2.2.2] [] (wE (hS h x.1.1 x.1.2.1 x.1.2.2.1 x.1.2.2.2) m G N))
    (fun x => dL x.1.2.2.1 x.1.1 x.1.2.1 (x.2.1.map (· + 128)) ∧ (∀ i, x.1.2.2.2 i ≤ 1) ∧ x.2.1.length ≤ t_sum x.1.2.2.2 16 + 1 ∧ (∀ q, q ∈ x.2.1 → q < 16) ∧ t_BF (fun k => k < na ∧ k ≠ bt) fr to b (fun i => x.1.2.2.2 i = 1) x.2.1) (fun x => x.2.1 = [] ∧ dL x.1.2.2.1 x.1.1 x.1.2.1 (x.2.1.map (· + 128)) ∧ (∀ i, x.1.2.2.2 i ≤ 1) ∧ t_BF (fun k => k < na ∧ k ≠ bt) fr to b (fun i => x.1.2.2.2 i = 1) x.2.1)
    (fun x => 2 * (16 - t_sum x.1.2.2.2 16) + x.2.1.length) (fun x ⟨i1, i2, i3, i4, i5⟩ => by
      obtain ⟨⟨H, T, f, s⟩, Q, x6, x7, x8⟩ := x
      dsimp only at i1 i2 i3 i4 i5 ⊢
      have em := q_empty (d := d+2) (g := wE (hS h H T f s) m G N) (q := h.1) (e := h.1 + 1) (H := H) (T := T) (f := f) hq1 i1.1 (dL_T i1)
      rw [hS_Q hq] at em
      have klc := kl H T f s
      cases Q with
      | nil =>
        refine Or.inl ⟨⟨rfl, i1, i2, i5⟩, ?_⟩
        have e := (dL_emp i1).mpr rfl
        rw [if_pos e] at em
        rw [w_X2_listens_24]
        simp (disch := first | omega | assumption | exact Or.inl rfl | exact Or.inr rfl | exact wN_kls (by omega) | exact wE_kls (by omega) | (simp only [a_cat_nil, a_cat_int, a_cat_ref, a_cat_null, a_cat_long]; done) | (simp only [a_cat_nil, a_cat_int, a_cat_ref, a_cat_null, a_cat_long]; omega) | decide | rfl | (apply Or.inr; omega) | (apply Or.inl; omega)) only [w_X2_listens_26, w_X2_listens_29, w_ret, w_exc, Nat.reduceAdd, Option.toList_some, Option.toList_none, List.cons_append, List.nil_append, Option.bind_some, nI_add, q_mul, q_sub, q_eq, q_eqz, q_lt, q_ltz, q_gtz, q_le, q_lez, q_div, q_or, q_and, q_shl, q_shr, q_m1, q_eqm, q_meq, q_mm, q_mlt, q_mgt, q_mlt2, q_dec, Nat.add_sub_cancel, q_ltT, q_ltF, q_leT, q_leF, q_eqT, q_eqF, ↓reduceIte, uN_s, uN_n, upN_app, uG_s, uG_n, uG_uG, if_true, if_false, Nat.reduceMul, Nat.reduceSub, Nat.reduceEqDiff, Nat.reduceLT, and_true, true_and, and_false, false_and, or_true, true_or, or_false, false_or, not_true_eq_false, not_false_eq_true, Option.some.injEq, wEg_froms, wEg_tos, wEg_least, wEg_layers, wEg_rows, wEg_lengths, wEg_uppers, wEg_lowers, wEg_near, wEg_medians, wEg_points, wEg_boxes, wEp_boxes, wEg_arrows, wEp_arrows, wEg_depth, wEp_depth, wEg_made, wEp_made, wEg_come, wEp_come, wEr_uppers, wEw_uppers, wEr_lowers, wEw_lowers, wEr_near, wEw_near, wEr_medians, wEw_medians, wEr_points, wEw_points, wEr_froms, wEw_froms, wEr_tos, wEw_tos, wEr_least, wEw_least, wEr_layers, wEw_layers, wEr_rows, wEw_rows, wEr_lengths, wEw_lengths, wE_kls, em]
      | cons a Q =>
        have e : ¬ H = T := fun z => absurd ((dL_emp i1).mp z) (List.cons_ne_nil _ _)
        rw [if_neg e] at em
        have ⟨p1, p2⟩ := dL_hd i1
        have a16 := i4 a (List.mem_cons_self)
        have fi := q_first (d := d) (g := wE (hS h H T f s) m G N) (q := h.1) (e := h.1 + 1) (H := H) (T := T) (f := f) (x := a + 128) hq1 hq2 (by omega) i1.1 (by omega) p1
        rw [hS_Q hq, hS_Q hq] at fi
        rw [List.length_cons] at i3
        have ⟨w, ⟨w1, w2, w3, w4, w5, w6⟩, w7⟩ := c_li1 (d := d) (h := h) (o := o) (x7 := none) (x8 := x8) hm hq c a16 ht p2 i2 (by omega) (fun q hq => i4 q (List.mem_cons_of_mem _ hq)) (t_BG_0 i5)
        refine Or.inr ⟨(((if H = 16 then 0 else H + 1), w.1.1, w.1.2.1, w.1.2.2.1), w.1.2.2.2, some (.int (nI a)), some (.int (nI na)), w.2), ⟨w1, w2, Nat.le_succ_of_le w3, w4, t_BG_e (fun k hk => hk.1) w6⟩, ?_, ?_⟩
        · dsimp only
          rw [List.length_cons]
          omega
        · have bi := b_int (d := d+2) (b := a) (g := wE (hS h (if H = 16 then 0 else H + 1) T (va_up f H none) s) m G N) (by omega)
          have bk := b_kls (b := a) (g := wE (hS h (if H = 16 then 0 else H + 1) T (va_up f H none) s) m G N) (by omega)
          have r37 := fun L st => w_X2_listens_37 (d+3) L (a + 128) 21 st _ bk rfl
          rw [w_X2_listens_24]
          simp (disch := first | omega | assumption | exact Or.inl rfl | exact Or.inr rfl | exact wN_kls (by omega) | exact wE_kls (by omega) | (simp only [a_cat_nil, a_cat_int, a_cat_ref, a_cat_null, a_cat_long]; done) | (simp only [a_cat_nil, a_cat_int, a_cat_ref, a_cat_null, a_cat_long]; omega) | decide | rfl | (apply Or.inr; omega) | (apply Or.inl; omega)) only [w_X2_listens_26, w_X2_listens_29, w_X2_listens_32, w_X2_listens_32N, w_X2_listens_34, w_X2_listens_40, w_X2_listens_43, w_X2_listens_45, w_X2_listens_46, w_ret, w_exc, Nat.reduceAdd, Option.toList_some, Option.toList_none, List.cons_append, List.nil_append, Option.bind_some, nI_add, q_mul, q_sub, q_eq, q_eqz, q_lt, q_ltz, q_gtz, q_le, q_lez, q_div, q_or, q_and, q_shl, q_shr, q_m1, q_eqm, q_meq, q_mm, q_mlt, q_mgt, q_mlt2, q_dec, Nat.add_sub_cancel, q_ltT, q_ltF, q_leT, q_leF, q_eqT, q_eqF, ↓reduceIte, uN_s, uN_n, upN_app, uG_s, uG_n, uG_uG, if_true, if_false, Nat.reduceMul, Nat.reduceSub, Nat.reduceEqDiff, Nat.reduceLT, and_true, true_and, and_false, false_and, or_true, true_or, or_false, false_or, not_true_eq_false, not_false_eq_true, Option.some.injEq, wEg_froms, wEg_tos, wEg_least, wEg_layers, wEg_rows, wEg_lengths, wEg_uppers, wEg_lowers, wEg_near, wEg_medians, wEg_points, wEg_boxes, wEp_boxes, wEg_arrows, wEp_arrows, wEg_depth, wEp_depth, wEg_made, wEp_made, wEg_come, wEp_come, wEr_uppers, wEw_uppers, wEr_lowers, wEw_lowers, wEr_near, wEw_near, wEr_medians, wEw_medians, wEr_points, wEw_points, wEr_froms, wEw_froms, wEr_tos, wEw_tos, wEr_least, wEw_least, wEr_layers, wEw_layers, wEr_rows, wEw_rows, wEr_lengths, wEw_lengths, wE_kls, em, fi, r37, bi]
          rw [w7, w_X2_listens_48]
          simp (disch := first | omega | assumption | exact Or.inl rfl | exact Or.inr rfl | exact wN_kls (by omega) | exact wE_kls (by omega) | (simp only [a_cat_nil, a_cat_int, a_cat_ref, a_cat_null, a_cat_long]; done) | (simp only [a_cat_nil, a_cat_int, a_cat_ref, a_cat_null, a_cat_long]; omega) | decide | rfl | (apply Or.inr; omega) | (apply Or.inl; omega)) only [w_X2_listens_50, w_X2_listens_51, w_X2_listens_54, w_X2_listens_132, w_ret, w_exc, Nat.reduceAdd, Option.toList_some, Option.toList_none, List.cons_append, List.nil_append, Option.bind_some, nI_add, q_mul, q_sub, q_eq, q_eqz, q_lt, q_ltz, q_gtz, q_le, q_lez, q_div, q_or, q_and, q_shl, q_shr, q_m1, q_eqm, q_meq, q_mm, q_mlt, q_mgt, q_mlt2, q_dec, Nat.add_sub_cancel, q_ltT, q_ltF, q_leT, q_leF, q_eqT, q_eqF, ↓reduceIte, uN_s, uN_n, upN_app, uG_s, uG_n, uG_uG, if_true, if_false, Nat.reduceMul, Nat.reduceSub, Nat.reduceEqDiff, Nat.reduceLT, and_true, true_and, and_false, false_and, or_true, true_or, or_false, false_or, not_true_eq_false, not_false_eq_true, Option.some.injEq, wEg_froms, wEg_tos, wEg_least, wEg_layers, wEg_rows, wEg_lengths, wEg_uppers, wEg_lowers, wEg_near, wEg_medians, wEg_points, wEg_boxes, wEp_boxes, wEg_arrows, wEp_arrows, wEg_depth, wEp_depth, wEg_made, wEp_made, wEg_come, wEp_come, wEr_uppers, wEw_uppers, wEr_lowers, wEw_lowers, wEr_near, wEw_near, wEr_medians, wEw_medians, wEr_points, wEw_points, wEr_froms, wEw_froms, wEr_tos, wEw_tos, wEr_least, wEw_least, wEr_layers, wEw_layers, wEr_rows, wEw_rows, wEr_lengths, wEw_lengths, wE_kls, s4]) 100 ((0, 1, va_up (fun _ => none) 0 (some (b + 128)), fun _ => 0), [b], none, none, none) (by
      show 2 * (16 - t_sum (fun _ => 0) 16) + 1 ≤ 100
      rw [t_sum_0]; decide) ⟨⟨Nat.zero_lt_succ _, show 1 ≤ 16 by decide, rfl, fun k hk => by
        have : k = 0 := by
          have : k < 1 := hk
          omega
        subst this
        rfl⟩, fun _ => Nat.zero_le _, show 1 ≤ _ + 1 by omega, fun q hq => by rw [List.mem_singleton.mp hq]; omega, t_BF_0⟩
  obtain ⟨⟨H, T, f, s⟩, Q, x6, x7, x8⟩ := z
  dsimp only at z0 z1 z2 z4 z6
  subst z0
  have fin := t_BF_end z4 o
  have sr := hS_rd (h := h) (H := H) (T := T) (f := f) (s := s) (i := o) (G := G) (N := N) hm hq (by omega)
  have so : s o = (t_hb (fun k => k < na ∧ k ≠ bt) fr to b o).toNat := by
    have := z2 o
    by_cases e : s o = 1
    · rw [t_hb_true.mpr (fin.mp e), e]; rfl
    · rw [Bool.eq_false_iff.mpr (fun w => e (fin.mpr (t_hb_true.mp w)))]
      show s o = 0
      omega
  refine ⟨hS h H T f s, hX_S, ?_⟩
  rw [← so]
  have so1 := z2 o
  have kl0 := kl 0 0 (fun _ => none) fun _ => 0
  have z01 : nI (s o) = 0 ∨ nI (s o) = 1 := by
    have : s o = 0 ∨ s o = 1 := by omega
    rcases this with w | w
    · rw [w]; exact Or.inl rfl
    · rw [w]; exact Or.inr rfl
  have vz : ∀ g : a_H, ∀ L, a_run (d+3) MX2_listens 139 L [.int (nI (s o))] g = some (.inl (some (.int (nI (s o)))), g) := fun g L => w_X2_listens_139 (d+3) L (nI (s o)) g z01
  rw [e_X2_listens]
  simp (disch := first | omega | assumption | exact Or.inl rfl | exact Or.inr rfl | exact wN_kls (by omega) | exact wE_kls (by omega) | (simp only [a_cat_nil, a_cat_int, a_cat_ref, a_cat_null, a_cat_long]; done) | (simp only [a_cat_nil, a_cat_int, a_cat_ref, a_cat_null, a_cat_long]; omega) | decide | rfl | (apply Or.inr; omega) | (apply Or.inl; omega)) only [w_X2_listens_0, w_X2_listens_3, w_X2_listens_3I, w_X2_listens_4, w_X2_listens_7, w_X2_listens_7N, w_X2_listens_9, w_X2_listens_11, w_X2_listens_13, w_X2_listens_13N, w_X2_listens_15, w_X2_listens_15N, w_X2_listens_17, w_X2_listens_18, w_X2_listens_21, w_ret, w_exc, Nat.reduceAdd, Option.toList_some, Option.toList_none, List.cons_append, List.nil_append, Option.bind_some, nI_add, q_mul, q_sub, q_eq, q_eqz, q_lt, q_ltz, q_gtz, q_le, q_lez, q_div, q_or, q_and, q_shl, q_shr, q_m1, q_eqm, q_meq, q_mm, q_mlt, q_mgt, q_mlt2, q_dec, Nat.add_sub_cancel, q_ltT, q_ltF, q_leT, q_leF, q_eqT, q_eqF, ↓reduceIte, uN_s, uN_n, upN_app, uG_s, uG_n, uG_uG, if_true, if_false, Nat.reduceMul, Nat.reduceSub, Nat.reduceEqDiff, Nat.reduceLT, and_true, true_and, and_false, false_and, or_true, true_or, or_false, false_or, not_true_eq_false, not_false_eq_true, Option.some.injEq, wEg_froms, wEg_tos, wEg_least, wEg_layers, wEg_rows, wEg_lengths, wEg_uppers, wEg_lowers, wEg_near, wEg_medians, wEg_points, wEg_boxes, wEp_boxes, wEg_arrows, wEp_arrows, wEg_depth, wEp_depth, wEg_made, wEp_made, wEg_come, wEp_come, wEr_uppers, wEw_uppers, wEr_lowers, wEw_lowers, wEr_near, wEw_near, wEr_medians, wEw_medians, wEr_points, wEw_points, wEr_froms, wEw_froms, wEr_tos, wEw_tos, wEr_least, wEw_least, wEr_layers, wEw_layers, wEr_rows, wEw_rows, wEr_lengths, wEw_lengths, wE_kls, wE_1, hO_i, ini, na17, hs0, bv, ad]
  rw [z6]
  simp (disch := first | omega | assumption | exact Or.inl rfl | exact Or.inr rfl | exact wN_kls (by omega) | exact wE_kls (by omega) | (simp only [a_cat_nil, a_cat_int, a_cat_ref, a_cat_null, a_cat_long]; done) | (simp only [a_cat_nil, a_cat_int, a_cat_ref, a_cat_null, a_cat_long]; omega) | decide | rfl | (apply Or.inr; omega) | (apply Or.inl; omega)) only [w_X2_listens_135, w_X2_listens_135N, w_X2_listens_137, w_X2_listens_138, w_ret, w_exc, Nat.reduceAdd, Option.toList_some, Option.toList_none, List.cons_append, List.nil_append, Option.bind_some, nI_add, q_mul, q_sub, q_eq, q_eqz, q_lt, q_ltz, q_gtz, q_le, q_lez, q_div, q_or, q_and, q_shl, q_shr, q_m1, q_eqm, q_meq, q_mm, q_mlt, q_mgt, q_mlt2, q_dec, Nat.add_sub_cancel, q_ltT, q_ltF, q_leT, q_leF, q_eqT, q_eqF, ↓reduceIte, uN_s, uN_n, upN_app, uG_s, uG_n, uG_uG, if_true, if_false, Nat.reduceMul, Nat.reduceSub, Nat.reduceEqDiff, Nat.reduceLT, and_true, true_and, and_false, false_and, or_true, true_or, or_false, false_or, not_true_eq_false, not_false_eq_true, Option.some.injEq, wEg_froms, wEg_tos, wEg_least, wEg_layers, wEg_rows, wEg_lengths, wEg_uppers, wEg_lowers, wEg_near, wEg_medians, wEg_points, wEg_boxes, wEp_boxes, wEg_arrows, wEp_arrows, wEg_depth, wEp_depth, wEg_made, wEp_made, wEg_come, wEp_come, wEr_uppers, wEw_uppers, wEr_lowers, wEw_lowers, wEr_near, wEw_near, wEr_medians, wEw_medians, wEr_points, wEw_points, wEr_froms, wEw_froms, wEr_tos, wEw_tos, wEr_least, wEw_least, wEr_layers, wEw_layers, wEr_rows, wEw_rows, wEr_lengths, wEw_lengths, wE_kls, sr, vz]
theorem c_needlessOnes (hm : 1024 ≤ m) (hq : m + 11 < h.1) (c : cS N G nb na fr to le) : ∃ h', hX h h' 90 1080 ∧ a_call (d+5) MX2_needlessOnes [.ref m] (wE h m G N) = some (.inl (some (.int (nI (t_nd na fr to na)))), wE h' m G N) := by
  have s4 := c.2.2.2.1
  have ⟨z, z1, z2⟩ := l_for (fun k (x : a_H) => a_run (d+4) MX2_needlessOnes 4 [some (.ref m), some (.int (nI (t_nd na fr to k))), some (.int (nI k))] [] (wE x m G N)) (fun k x => hX h x (3 * k) (36 * k)) na (fun k x hk i1 => by
    have ⟨e1, e2, e3, e4⟩ := c.2.2.2.2.1 k hk
    have a30 := c.2.1
    have ⟨h', x1, x2⟩ := c_listens (d := d) (h := x) (b := to k) (o := fr k) (bt := k) hm (Nat.lt_of_lt_of_le hq i1.1) c e4 e3 (Or.inl (by omega))
    refine ⟨h', hX_le (hX_tr i1 x1) (by omega) (by omega), ?_⟩
    show _ = a_run (d+4) MX2_needlessOnes 4 [some (.ref m), some (.int (nI (t_nd na fr to k + (t_hb (fun j => j < na ∧ j ≠ k) fr to (to k) (fr k)).toNat))), some (.int (nI (k+1)))] [] (wE h' m G N)
    rw [w_X2_needlessOnes_4]
    cases q : t_hb (fun j => j < na ∧ j ≠ k) fr to (to k) (fr k) with
    | true =>
      rw [q, Bool.toNat_true] at x2
      rw [Bool.toNat_true]
      simp (disch := first | omega | assumption | exact Or.inl rfl | exact Or.inr rfl | exact wN_kls (by omega) | exact wE_kls (by omega) | (simp only [a_cat_nil, a_cat_int, a_cat_ref, a_cat_null, a_cat_long]; done) | (simp only [a_cat_nil, a_cat_int, a_cat_ref, a_cat_null, a_cat_long]; omega) | decide | rfl | (apply Or.inr; omega) | (apply Or.inl; omega)) only [w_X2_needlessOnes_5, w_X2_needlessOnes_6, w_X2_needlessOnes_9, w_X2_needlessOnes_12, w_X2_needlessOnes_13, w_X2_needlessOnes_14, w_X2_needlessOnes_15, w_X2_needlessOnes_18, w_X2_needlessOnes_19, w_X2_needlessOnes_20, w_X2_needlessOnes_21, w_X2_needlessOnes_24, w_X2_needlessOnes_25, w_X2_needlessOnes_26, w_X2_needlessOnes_27, w_X2_needlessOnes_30, w_X2_needlessOnes_33, w_X2_needlessOnes_34, w_X2_needlessOnes_37, w_X2_needlessOnes_38, w_X2_needlessOnes_39, w_X2_needlessOnes_40, w_X2_needlessOnes_43, w_ret, w_exc, Nat.reduceAdd, Option.toList_some, Option.toList_none, List.cons_append, List.nil_append, Option.bind_some, nI_add, q_mul, q_sub, q_eq, q_eqz, q_lt, q_ltz, q_gtz, q_le, q_lez, q_div, q_or, q_and, q_shl, q_shr, q_m1, q_eqm, q_meq, q_mm, q_mlt, q_mgt, q_mlt2, q_dec, Nat.add_sub_cancel, q_ltT, q_ltF, q_leT, q_leF, q_eqT, q_eqF, ↓reduceIte, uN_s, uN_n, upN_app, uG_s, uG_n, uG_uG, if_true, if_false, Nat.reduceMul, Nat.reduceSub, Nat.reduceEqDiff, Nat.reduceLT, and_true, true_and, and_false, false_and, or_true, true_or, or_false, false_or, not_true_eq_false, not_false_eq_true, Option.some.injEq, wEg_froms, wEg_tos, wEg_least, wEg_layers, wEg_rows, wEg_lengths, wEg_uppers, wEg_lowers, wEg_near, wEg_medians, wEg_points, wEg_boxes, wEp_boxes, wEg_arrows, wEp_arrows, wEg_depth, wEp_depth, wEg_made, wEp_made, wEg_come, wEp_come, wEr_uppers, wEw_uppers, wEr_lowers, wEw_lowers, wEr_near, wEw_near, wEr_medians, wEw_medians, wEr_points, wEw_points, wEr_froms, wEw_froms, wEr_tos, wEw_tos, wEr_least, wEw_least, wEr_layers, wEw_layers, wEr_rows, wEw_rows, wEr_lengths, wEw_lengths, wE_kls, s4, e1, e2, x2]
    | false =>
      rw [q, Bool.toNat_false] at x2
      rw [Bool.toNat_false]
      simp (disch := first | omega | assumption | exact Or.inl rfl | exact Or.inr rfl | exact wN_kls (by omega) | exact wE_kls (by omega) | (simp only [a_cat_nil, a_cat_int, a_cat_ref, a_cat_null, a_cat_long]; done) | (simp only [a_cat_nil, a_cat_int, a_cat_ref, a_cat_null, a_cat_long]; omega) | decide | rfl | (apply Or.inr; omega) | (apply Or.inl; omega)) only [w_X2_needlessOnes_5, w_X2_needlessOnes_6, w_X2_needlessOnes_9, w_X2_needlessOnes_12, w_X2_needlessOnes_13, w_X2_needlessOnes_14, w_X2_needlessOnes_15, w_X2_needlessOnes_18, w_X2_needlessOnes_19, w_X2_needlessOnes_20, w_X2_needlessOnes_21, w_X2_needlessOnes_24, w_X2_needlessOnes_25, w_X2_needlessOnes_26, w_X2_needlessOnes_27, w_X2_needlessOnes_30, w_X2_needlessOnes_33, w_X2_needlessOnes_34, w_X2_needlessOnes_37, w_X2_needlessOnes_38, w_X2_needlessOnes_39, w_X2_needlessOnes_40, w_X2_needlessOnes_43, w_ret, w_exc, Nat.reduceAdd, Option.toList_some, Option.toList_none, List.cons_append, List.nil_append, Option.bind_some, nI_add, q_mul, q_sub, q_eq, q_eqz, q_lt, q_ltz, q_gtz, q_le, q_lez, q_div, q_or, q_and, q_shl, q_shr, q_m1, q_eqm, q_meq, q_mm, q_mlt, q_mgt, q_mlt2, q_dec, Nat.add_sub_cancel, q_ltT, q_ltF, q_leT, q_leF, q_eqT, q_eqF, ↓reduceIte, uN_s, uN_n, upN_app, uG_s, uG_n, uG_uG, if_true, if_false, Nat.reduceMul, Nat.reduceSub, Nat.reduceEqDiff, Nat.reduceLT, and_true, true_and, and_false, false_and, or_true, true_or, or_false, false_or, not_true_eq_false, not_false_eq_true, Option.some.injEq, wEg_froms, wEg_tos, wEg_least, wEg_layers, wEg_rows, wEg_lengths, wEg_uppers, wEg_lowers, wEg_near, wEg_medians, wEg_points, wEg_boxes, wEp_boxes, wEg_arrows, wEp_arrows, wEg_depth, wEp_depth, wEg_made, wEp_made, wEg_come, wEp_come, wEr_uppers, wEw_uppers, wEr_lowers, wEw_lowers, wEr_near, wEw_near, wEr_medians, wEw_medians, wEr_points, wEw_points, wEr_froms, wEw_froms, wEr_tos, wEw_tos, wEr_least, wEw_least, wEr_layers, wEw_layers, wEr_rows, wEw_rows, wEr_lengths, wEw_lengths, wE_kls, s4, e1, e2, x2, Nat.add_zero]) na 0 h (Nat.zero_add _) (hX_id h)
  refine ⟨z, hX_le z1 (by have := c.2.1; omega) (by have := c.2.1; omega), ?_⟩
  have z0 : t_nd na fr to 0 = 0 := rfl
  have a30 := c.2.1
  rw [z0] at z2
  rw [e_X2_needlessOnes]
  simp (disch := first | omega | assumption | exact Or.inl rfl | exact Or.inr rfl | exact wN_kls (by omega) | exact wE_kls (by omega) | (simp only [a_cat_nil, a_cat_int, a_cat_ref, a_cat_null, a_cat_long]; done) | (simp only [a_cat_nil, a_cat_int, a_cat_ref, a_cat_null, a_cat_long]; omega) | decide | rfl | (apply Or.inr; omega) | (apply Or.inl; omega)) only [w_X2_needlessOnes_0, w_X2_needlessOnes_1, w_X2_needlessOnes_2, w_X2_needlessOnes_3, w_ret, w_exc, Nat.reduceAdd, Option.toList_some, Option.toList_none, List.cons_append, List.nil_append, Option.bind_some, nI_add, q_mul, q_sub, q_eq, q_eqz, q_lt, q_ltz, q_gtz, q_le, q_lez, q_div, q_or, q_and, q_shl, q_shr, q_m1, q_eqm, q_meq, q_mm, q_mlt, q_mgt, q_mlt2, q_dec, Nat.add_sub_cancel, q_ltT, q_ltF, q_leT, q_leF, q_eqT, q_eqF, ↓reduceIte, uN_s, uN_n, upN_app, uG_s, uG_n, uG_uG, if_true, if_false, Nat.reduceMul, Nat.reduceSub, Nat.reduceEqDiff, Nat.reduceLT, and_true, true_and, and_false, false_and, or_true, true_or, or_false, false_or, not_true_eq_false, not_false_eq_true, Option.some.injEq, wEg_froms, wEg_tos, wEg_least, wEg_layers, wEg_rows, wEg_lengths, wEg_uppers, wEg_lowers, wEg_near, wEg_medians, wEg_points, wEg_boxes, wEp_boxes, wEg_arrows, wEp_arrows, wEg_depth, wEp_depth, wEg_made, wEp_made, wEg_come, wEp_come, wEr_uppers, wEw_uppers, wEr_lowers, wEw_lowers, wEr_near, wEw_near, wEr_medians, wEw_medians, wEr_points, wEw_points, wEr_froms, wEw_froms, wEr_tos, wEw_tos, wEr_least, wEw_least, wEr_layers, wEw_layers, wEr_rows, wEw_rows, wEr_lengths, wEw_lengths, wE_kls]
  rw [z2, w_X2_needlessOnes_4]
  simp (disch := first | omega | assumption | exact Or.inl rfl | exact Or.inr rfl | exact wN_kls (by omega) | exact wE_kls (by omega) | (simp only [a_cat_nil, a_cat_int, a_cat_ref, a_cat_null, a_cat_long]; done) | (simp only [a_cat_nil, a_cat_int, a_cat_ref, a_cat_null, a_cat_long]; omega) | decide | rfl | (apply Or.inr; omega) | (apply Or.inl; omega)) only [w_X2_needlessOnes_5, w_X2_needlessOnes_6, w_X2_needlessOnes_9, w_X2_needlessOnes_46, w_X2_needlessOnes_47, w_ret, w_exc, Nat.reduceAdd, Option.toList_some, Option.toList_none, List.cons_append, List.nil_append, Option.bind_some, nI_add, q_mul, q_sub, q_eq, q_eqz, q_lt, q_ltz, q_gtz, q_le, q_lez, q_div, q_or, q_and, q_shl, q_shr, q_m1, q_eqm, q_meq, q_mm, q_mlt, q_mgt, q_mlt2, q_dec, Nat.add_sub_cancel, q_ltT, q_ltF, q_leT, q_leF, q_eqT, q_eqF, ↓reduceIte, uN_s, uN_n, upN_app, uG_s, uG_n, uG_uG, if_true, if_false, Nat.reduceMul, Nat.reduceSub, Nat.reduceEqDiff, Nat.reduceLT, and_true, true_and, and_false, false_and, or_true, true_or, or_false, false_or, not_true_eq_false, not_false_eq_true, Option.some.injEq, wEg_froms, wEg_tos, wEg_least, wEg_layers, wEg_rows, wEg_lengths, wEg_uppers, wEg_lowers, wEg_near, wEg_medians, wEg_points, wEg_boxes, wEp_boxes, wEg_arrows, wEp_arrows, wEg_depth, wEp_depth, wEg_made, wEp_made, wEg_come, wEp_come, wEr_uppers, wEw_uppers, wEr_lowers, wEw_lowers, wEr_near, wEw_near, wEr_medians, wEw_medians, wEr_points, wEw_points, wEr_froms, wEw_froms, wEr_tos, wEw_tos, wEr_least, wEw_least, wEr_layers, wEw_layers, wEr_rows, wEw_rows, wEr_lengths, wEw_lengths, wE_kls, s4]
end C9
