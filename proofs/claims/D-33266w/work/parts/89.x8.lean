section X8
variable {d : Nat} {h H Z X' : a_H} {g m r nu t : Nat} {D : t_D} {hs : List t_D} {kp : Option t_D} {tx : List Nat} {G : Nat → Nat} {N : Nat → Nat → Nat}
theorem hO_pf {c k : Nat} {cs : List Nat} {v : Value} {vs ws : List Value} (hc : cs.contains c = true) (hh : 1024 ≤ h.1) (hk : k < vs.length) (e : vs.set k v = ws) : a_pf (hO h c vs) h.1 k cs v = some (hO h c ws) := by
  subst e
  unfold a_pf
  rw [hO_at]
  refine (if_pos ⟨hc, hk, hh⟩).trans (congrArg some (a_Hx rfl ?_ fun q => ?_))
  · show h.2.1 + vs.length = h.2.1 + (vs.set k v).length
    rw [List.length_set]
  · show (if q = h.1 then _ else if q = h.1 then _ else _) = (if q = h.1 then _ else _)
    split <;> rfl
theorem zT_cI (i : cI H g m D hs kp tx) : zT H g tx := by
  obtain ⟨kv, q, s, g1, g2, g3, cm, ck, ci, hl, x⟩ := i
  exact ⟨_, _, _, s, g1, g2, g3, x⟩
theorem hX_zG {a b a' b' : Nat} (x : hX H Z a b) (y : zG Z X' r nu t a' b') (hr : H.1 ≤ r) (hn : H.1 ≤ nu) (ht : H.1 ≤ t) : hX H X' (a + a') (b + b') := by
  obtain ⟨x1, x2, x3, x4⟩ := x
  obtain ⟨y1, y2, y3, y4⟩ := y
  exact ⟨by omega, by omega, by omega, fun q h1 => (y4 q (by omega) (by omega) (by omega) (by omega)).trans (x4 q h1)⟩
/-- a new reader -/
theorem r_init (hm : 1024 ≤ m) (hq : m + 11 < h.1) (c : cD N G D) (i : cI (wE h m G N) g m D hs kp tx) : ∃ Z : a_H, hX (wE h m G N) Z 14 1475 ∧ zS Z h.1 (h.1 + 13) (h.1 + 1) g 0 0 0 0 0 (fun _ => 0) D tx ∧ a_call (d+2) MX7_init [.ref h.1, .ref g] (hO (wE h m G N) 6 [.null, .null, .int 0, .int 0, .int 0, .int 0, .int 0, .null]) = some (.inl none, Z) := by
  have ⟨g1, g2, kg, g0⟩ := cI_g i
  have g2 : g < h.1 := g2
  have hq1 : 1024 ≤ h.1 := by omega
  have p7 : a_pf (hO (wE h m G N) 6 [.null, .null, .int 0, .int 0, .int 0, .int 0, .int 0, .null]) h.1 7 [6] (.ref g) = some (hO (wE h m G N) 6 [.null, .null, .int 0, .int 0, .int 0, .int 0, .int 0, .ref g]) := hO_pf (h := wE h m G N) rfl hq1 (by decide) rfl
  have e1 : a_gf (hO (hO (wE h m G N) 6 [.null, .null, .int 0, .int 0, .int 0, .int 0, .int 0, .ref g]) 1 [.null, .null, .null, .null, .null, .null, .null, .null, .null, .null, .null, .int 0, .int 0, .int 0, .int 0, .int 0]) h.1 7 [6] = some (.ref g) := a_gf_o hq1 rfl ((hO_ne (show h.1 ≠ h.1 + 1 by omega)).trans (hO_at (h := wE h m G N)))
  have e2 : a_gf (hO (hO (wE h m G N) 6 [.null, .null, .int 0, .int 0, .int 0, .int 0, .int 0, .ref g]) 1 [.null, .null, .null, .null, .null, .null, .null, .null, .null, .null, .null, .int 0, .int 0, .int 0, .int 0, .int 0]) g 0 [0] = some (.ref m) := (gf_hO (h := hO (wE h m G N) 6 [.null, .null, .int 0, .int 0, .int 0, .int 0, .int 0, .ref g]) (show g < h.1 + 1 by omega)).trans ((gf_hO (h := wE h m G N) g2).trans g0)
  have cp := c_copy (d := d) (h := hO h 6 [.null, .null, .int 0, .int 0, .int 0, .int 0, .int 0, .ref g]) (G := G) (N := N) hm (show m + 11 < h.1 + 1 by omega)
  rw [← wE_hO hq, hO_1] at cp
  have hc1 : (wE (wE (hK (hO h 6 [.null, .null, .int 0, .int 0, .int 0, .int 0, .int 0, .ref g])) (h.1 + 1) G (nK N)) m G N).1 = h.1 + 13 := rfl
  have hc2 : (wE (wE (hK (hO h 6 [.null, .null, .int 0, .int 0, .int 0, .int 0, .int 0, .ref g])) (h.1 + 1) G (nK N)) m G N).2.1 = h.2.1 + 1473 := rfl
  have hcr : (wE (wE (hK (hO h 6 [.null, .null, .int 0, .int 0, .int 0, .int 0, .int 0, .ref g])) (h.1 + 1) G (nK N)) m G N).2.2 h.1 = .inr (6, [.null, .null, .int 0, .int 0, .int 0, .int 0, .int 0, .ref g]) := (wE_out (Or.inr hq)).trans ((wE_out (Or.inl (Nat.lt_succ_self _))).trans (hO_at (h := h)))
  have hco : ∀ q, q < h.1 → (wE (wE (hK (hO h 6 [.null, .null, .int 0, .int 0, .int 0, .int 0, .int 0, .ref g])) (h.1 + 1) G (nK N)) m G N).2.2 q = (wE h m G N).2.2 q := fun q hq2 => by
    rw [wE_comm (Or.inr (show m + 11 < h.1 + 1 by omega)), wE_out (Or.inl (by omega))]
    by_cases o : q < m ∨ m + 11 < q
    · rw [wE_out o, wE_out o]
      exact hO_ne (Nat.ne_of_lt hq2)
    · by_cases z2 : q = m
      · rw [z2, wE_obj, wE_obj]
      · have z3 : q = m + ((q - m - 1) + 1) := by omega
        rw [z3, wE_arr (by omega), wE_arr (by omega)]
  have hcm : cM (wE (wE (hK (hO h 6 [.null, .null, .int 0, .int 0, .int 0, .int 0, .int 0, .ref g])) (h.1 + 1) G (nK N)) m G N) (h.1 + 1) D := by
    rw [wE_comm (Or.inr (show m + 11 < h.1 + 1 by omega))]
    exact cM_of (by omega) (show h.1 + 1 + 11 < h.1 + 1 + 12 by omega) (cD_N (fun j h1 _ => if_neg (by omega)) c)
  revert cp hc1 hc2 hcr hco hcm
  generalize wE (wE (hK (hO h 6 [.null, .null, .int 0, .int 0, .int 0, .int 0, .int 0, .ref g])) (h.1 + 1) G (nK N)) m G N = Hc
  intro cp hc1 hc2 hcr hco hcm
  have p0 : a_pf Hc h.1 0 [6] (.ref (h.1 + 1)) = some (a_set Hc h.1 (.inr (6, [.ref (h.1 + 1), .null, .int 0, .int 0, .int 0, .int 0, .int 0, .ref g]))) := by
    unfold a_pf
    rw [hcr]
    exact if_pos ⟨rfl, Nat.le_of_ble_eq_true rfl, hq1⟩
  have nw : a_newa (a_set Hc h.1 (.inr (6, [.ref (h.1 + 1), .null, .int 0, .int 0, .int 0, .int 0, .int 0, .ref g]))) (newarray.typeOf .int) (nI 2) = some (Hc.1, a_add (a_set Hc h.1 (.inr (6, [.ref (h.1 + 1), .null, .int 0, .int 0, .int 0, .int 0, .int 0, .ref g]))) (.inl (.int, 2, .inl fun _ => 0)) 2) := rfl
  rw [hc1] at nw
  have ar : (a_add (a_set Hc h.1 (.inr (6, [.ref (h.1 + 1), .null, .int 0, .int 0, .int 0, .int 0, .int 0, .ref g]))) (.inl (.int, 2, .inl fun _ => 0)) 2).2.2 h.1 = .inr (6, [.ref (h.1 + 1), .null, .int 0, .int 0, .int 0, .int 0, .int 0, .ref g]) := (if_neg (show h.1 ≠ Hc.1 by omega)).trans (if_pos rfl)
  have p1 : a_pf (a_add (a_set Hc h.1 (.inr (6, [.ref (h.1 + 1), .null, .int 0, .int 0, .int 0, .int 0, .int 0, .ref g]))) (.inl (.int, 2, .inl fun _ => 0)) 2) h.1 1 [6] (.ref (h.1 + 13)) = some (a_set (a_add (a_set Hc h.1 (.inr (6, [.ref (h.1 + 1), .null, .int 0, .int 0, .int 0, .int 0, .int 0, .ref g]))) (.inl (.int, 2, .inl fun _ => 0)) 2) h.1 (.inr (6, [.ref (h.1 + 1), .ref (h.1 + 13), .int 0, .int 0, .int 0, .int 0, .int 0, .ref g]))) := by
    unfold a_pf
    rw [ar]
    exact if_pos ⟨rfl, Nat.le_of_ble_eq_true rfl, hq1⟩
  have zo : ∀ x, x ≠ h.1 → x ≠ h.1 + 13 → (a_set (a_add (a_set Hc h.1 (.inr (6, [.ref (h.1 + 1), .null, .int 0, .int 0, .int 0, .int 0, .int 0, .ref g]))) (.inl (.int, 2, .inl fun _ => 0)) 2) h.1 (.inr (6, [.ref (h.1 + 1), .ref (h.1 + 13), .int 0, .int 0, .int 0, .int 0, .int 0, .ref g]))).2.2 x = Hc.2.2 x := fun x h1 h2 => (if_neg h1).trans ((if_neg (by show x ≠ Hc.1; omega)).trans (if_neg h1))
  have X : hX (wE h m G N) (a_set (a_add (a_set Hc h.1 (.inr (6, [.ref (h.1 + 1), .null, .int 0, .int 0, .int 0, .int 0, .int 0, .ref g]))) (.inl (.int, 2, .inl fun _ => 0)) 2) h.1 (.inr (6, [.ref (h.1 + 1), .ref (h.1 + 13), .int 0, .int 0, .int 0, .int 0, .int 0, .ref g]))) 14 1475 := ⟨show h.1 ≤ Hc.1 + 1 by omega, show Hc.1 + 1 ≤ h.1 + 14 by omega, show Hc.2.1 + 2 ≤ h.2.1 + 1475 by omega, fun q hq2 => by
    have hq2 : q < h.1 := hq2
    exact (zo q (by omega) (by omega)).trans (hco q hq2)⟩
  refine ⟨_, X, ⟨if_pos rfl, (if_neg (by omega)).trans (if_pos hc1.symm), ?_, zT_o (zT_cI i) X.1 fun q h1 _ => X.2.2.2 q h1, hq1, show h.1 < Hc.1 + 1 by omega, by omega, show h.1 + 13 < Hc.1 + 1 by omega, Or.inl (Nat.lt_succ_self _), Or.inr (by omega)⟩, ?_⟩
  · obtain ⟨b1, b2, G', N', k1, k2, k3⟩ := hcm
    exact ⟨b1, show h.1 + 1 + 11 < Hc.1 + 1 by omega, G', N', (zo _ (by omega) (by omega)).trans k1, fun j hj => (zo _ (by omega) (by omega)).trans (k2 j hj), k3⟩
  · have o1 : (hO (wE h m G N) 6 [.null, .null, .int 0, .int 0, .int 0, .int 0, .int 0, .ref g]).1 = h.1 + 1 := rfl
    rw [e_X7_init]
    simp (disch := first | omega | assumption | exact Or.inl rfl | exact Or.inr rfl | exact wN_kls (by omega) | exact wE_kls (by omega) | exact wR_kls (by omega) | (simp only [a_cat_nil, a_cat_int, a_cat_ref, a_cat_null, a_cat_long]; done) | (simp only [a_cat_nil, a_cat_int, a_cat_ref, a_cat_null, a_cat_long]; omega) | decide | rfl | (apply Or.inr; omega) | (apply Or.inl; omega)) only [w_X7_init_0, w_X7_init_1, w_X7_init_1N, w_X7_init_2, w_X7_init_2N, w_X7_init_5, w_X7_init_6, w_X7_init_9, w_X7_init_10, w_X7_init_13, w_X7_init_13I, w_X7_init_14, w_X7_init_15, w_X7_init_18, w_X7_init_21, w_X7_init_24, w_X7_init_24N, w_X7_init_27, w_X7_init_28, w_X7_init_29, w_X7_init_31, w_X7_init_31N, w_X7_init_34, w_ret, w_exc, Nat.reduceAdd, Option.toList_some, Option.toList_none, List.cons_append, List.nil_append, Option.bind_some, nI_add, q_mul, q_sub, q_eq, q_eqz, q_lt, q_ltz, q_gtz, q_le, q_lez, q_div, q_or, q_and, q_shl, q_shr, q_m1, q_eqm, q_meq, q_mm, q_mlt, q_mgt, q_mlt2, q_dec, Nat.add_sub_cancel, q_ltT, q_ltF, q_leT, q_leF, q_eqT, q_eqF, ↓reduceIte, uN_s, uN_n, upN_app, uG_s, uG_n, uG_uG, if_true, if_false, Nat.reduceMul, Nat.reduceSub, Nat.reduceEqDiff, Nat.reduceLT, and_true, true_and, and_false, false_and, or_true, true_or, or_false, false_or, not_true_eq_false, not_false_eq_true, Option.some.injEq, p7, hO_i, o1, e1, e2, cp, p0, nw, p1]
/-- a reader that has read -/
theorem x_reads (hm : 1024 ≤ m) (hq : m + 11 < h.1) (c : cD N G D) (i : cI (wE h m G N) g m D hs kp tx) : ∃ (Z X' : a_H) (A' B' R' C' M' : Nat), a_call (d+18) MX7_init [.ref h.1, .ref g] (hO (wE h m G N) 6 [.null, .null, .int 0, .int 0, .int 0, .int 0, .int 0, .null]) = some (.inl none, Z) ∧ a_kls Z h.1 = some 6 ∧ hX (wE h m G N) X' 3614 61475 ∧ X'.2.2 h.1 = cRd (h.1 + 1) (h.1 + 13) A' B' R' C' M' g ∧ ((t_go tx 61 0 D 0).1 = true → M' = (t_go tx 61 0 D 0).2.2.2.2.2 ∧ cM X' (h.1 + 1) (t_go tx 61 0 D 0).2.2.2.2.1) ∧ ((t_go tx 61 0 D 0).1 = false → B' = (t_go tx 61 0 D 0).2.1 ∧ R' = (t_go tx 61 0 D 0).2.2.1 ∧ C' = (t_go tx 61 0 D 0).2.2.2.1) ∧ a_call (d+18) MX7_isWell [.ref h.1] Z = some (.inl (some (.int (nI (t_go tx 61 0 D 0).1.toNat))), X') := by
  have ⟨Z, z1, z2, z3⟩ := r_init (d := d+16) hm hq c i
  have ⟨X', A', B', R', C', M', b1, b2, b3, b4, b5⟩ := z_well (d := d) z2
  exact ⟨Z, X', A', B', R', C', M', z3, a_kls_o z2.2.2.2.2.1 z2.1, hX_zG z1 b2 (Nat.le_refl _) (show h.1 ≤ h.1 + 13 by omega) (show h.1 ≤ h.1 + 1 by omega), b1, b3, b4, b5⟩
theorem x_faulty1 (hm : 1024 ≤ m) (hq : m + 11 < h.1) (c : cD N G D) (i : cI (wE h m G N) g m D hs kp tx) (q : (t_go tx 61 0 D 0).1 = true) : ∃ (H' : a_H) (x : Nat) (t : List Value), hX (wE h m G N) H' 3615 61481 ∧ 1024 ≤ x ∧ H'.2.2 x = .inr (10, t) ∧ a_call (d+19) MX1_faulty [.ref g] (wE h m G N) = some (.inr x, H') := by
  have hq1 : 1024 ≤ h.1 := by omega
  have ⟨Z, X', A', B', R', C', M', z1, z2, z3, z4, z5, z6, z7⟩ := x_reads (d := d) hm hq c i
  have hX1 : 1024 ≤ X'.1 := Nat.le_trans hq1 z3.1
  rw [q, Bool.toNat_true] at z7
  have ⟨H', y1, y2, ⟨t, y3⟩, y4⟩ := k_such0 (d := d+13) hX1
  have tt := fun pc L => w_thr0 (d := d+18) (M := MX1_faulty) (pc := pc) (L := L) (a_cls_o y3) hX1 rfl
  refine ⟨H', X'.1, t, hX_tr z3 y1, hX1, y3, ?_⟩
  rw [e_X1_faulty]
  simp (disch := first | omega | assumption | exact Or.inl rfl | exact Or.inr rfl | exact wN_kls (by omega) | exact wE_kls (by omega) | (simp only [a_cat_nil, a_cat_int, a_cat_ref, a_cat_null, a_cat_long]; done) | (simp only [a_cat_nil, a_cat_int, a_cat_ref, a_cat_null, a_cat_long]; omega) | decide | rfl | (apply Or.inr; omega) | (apply Or.inl; omega)) only [w_X1_faulty_0, w_X1_faulty_3, w_X1_faulty_3I, w_X1_faulty_4, w_X1_faulty_5, w_X1_faulty_8, w_X1_faulty_8N, w_X1_faulty_9, w_X1_faulty_9N, w_X1_faulty_10, w_X1_faulty_13, w_X1_faulty_16, w_X1_faulty_17, w_X1_faulty_20, w_X1_faulty_21, w_ret, w_exc, Nat.reduceAdd, Option.toList_some, Option.toList_none, List.cons_append, List.nil_append, Option.bind_some, nI_add, q_mul, q_sub, q_eq, q_eqz, q_lt, q_ltz, q_gtz, q_le, q_lez, q_div, q_or, q_and, q_shl, q_shr, q_m1, q_eqm, q_meq, q_mm, q_mlt, q_mgt, q_mlt2, q_dec, Nat.add_sub_cancel, q_ltT, q_ltF, q_leT, q_leF, q_eqT, q_eqF, ↓reduceIte, uN_s, uN_n, upN_app, uG_s, uG_n, uG_uG, if_true, if_false, Nat.reduceMul, Nat.reduceSub, Nat.reduceEqDiff, Nat.reduceLT, and_true, true_and, and_false, false_and, or_true, true_or, or_false, false_or, not_true_eq_false, not_false_eq_true, Option.some.injEq, wEg_froms, wEg_tos, wEg_least, wEg_layers, wEg_rows, wEg_lengths, wEg_uppers, wEg_lowers, wEg_near, wEg_medians, wEg_points, wEg_boxes, wEp_boxes, wEg_arrows, wEp_arrows, wEg_depth, wEp_depth, wEg_made, wEp_made, wEg_come, wEp_come, wEr_uppers, wEw_uppers, wEr_lowers, wEw_lowers, wEr_near, wEw_near, wEr_medians, wEw_medians, wEr_points, wEw_points, wEr_froms, wEw_froms, wEr_tos, wEw_tos, wEr_least, wEw_least, wEr_layers, wEw_layers, wEr_rows, wEw_rows, wEr_lengths, wEw_lengths, wE_kls, wE_1, hO_i, z1, z7, y4, tt]
theorem x_faulty (hm : 1024 ≤ m) (hq : m + 11 < h.1) (c : cD N G D) (i : cI (wE h m G N) g m D hs kp tx) (q : (t_go tx 61 0 D 0).1 = false) : ∃ (H' : a_H) (A' M' : Nat), hX (wE h m G N) H' 3614 61475 ∧ H'.2.2 h.1 = cRd (h.1 + 1) (h.1 + 13) A' (t_go tx 61 0 D 0).2.1 (t_go tx 61 0 D 0).2.2.1 (t_go tx 61 0 D 0).2.2.2.1 M' g ∧ a_call (d+19) MX1_faulty [.ref g] (wE h m G N) = some (.inl (some (.ref h.1)), H') := by
  have hq1 : 1024 ≤ h.1 := by omega
  have ⟨Z, X', A', B', R', C', M', z1, z2, z3, z4, z5, z6, z7⟩ := x_reads (d := d) hm hq c i
  rw [q, Bool.toNat_false] at z7
  have nd := k_such1 (d := d+13) (h := X')
  have ⟨e1, e2, e3⟩ := z6 q
  rw [e1, e2, e3] at z4
  refine ⟨X', A', M', z3, z4, ?_⟩
  rw [e_X1_faulty]
  simp (disch := first | omega | assumption | exact Or.inl rfl | exact Or.inr rfl | exact wN_kls (by omega) | exact wE_kls (by omega) | (simp only [a_cat_nil, a_cat_int, a_cat_ref, a_cat_null, a_cat_long]; done) | (simp only [a_cat_nil, a_cat_int, a_cat_ref, a_cat_null, a_cat_long]; omega) | decide | rfl | (apply Or.inr; omega) | (apply Or.inl; omega)) only [w_X1_faulty_0, w_X1_faulty_3, w_X1_faulty_3I, w_X1_faulty_4, w_X1_faulty_5, w_X1_faulty_8, w_X1_faulty_8N, w_X1_faulty_9, w_X1_faulty_9N, w_X1_faulty_10, w_X1_faulty_13, w_X1_faulty_16, w_X1_faulty_17, w_X1_faulty_20, w_X1_faulty_21, w_X1_faulty_24, w_X1_faulty_24N, w_X1_faulty_25, w_X1_faulty_25N, w_ret, w_exc, Nat.reduceAdd, Option.toList_some, Option.toList_none, List.cons_append, List.nil_append, Option.bind_some, nI_add, q_mul, q_sub, q_eq, q_eqz, q_lt, q_ltz, q_gtz, q_le, q_lez, q_div, q_or, q_and, q_shl, q_shr, q_m1, q_eqm, q_meq, q_mm, q_mlt, q_mgt, q_mlt2, q_dec, Nat.add_sub_cancel, q_ltT, q_ltF, q_leT, q_leF, q_eqT, q_eqF, ↓reduceIte, uN_s, uN_n, upN_app, uG_s, uG_n, uG_uG, if_true, if_false, Nat.reduceMul, Nat.reduceSub, Nat.reduceEqDiff, Nat.reduceLT, and_true, true_and, and_false, false_and, or_true, true_or, or_false, false_or, not_true_eq_false, not_false_eq_true, Option.some.injEq, wEg_froms, wEg_tos, wEg_least, wEg_layers, wEg_rows, wEg_lengths, wEg_uppers, wEg_lowers, wEg_near, wEg_medians, wEg_points, wEg_boxes, wEp_boxes, wEg_arrows, wEp_arrows, wEg_depth, wEp_depth, wEg_made, wEp_made, wEg_come, wEp_come, wEr_uppers, wEw_uppers, wEr_lowers, wEw_lowers, wEr_near, wEw_near, wEr_medians, wEw_medians, wEr_points, wEw_points, wEr_froms, wEw_froms, wEr_tos, wEw_tos, wEr_least, wEw_least, wEr_layers, wEw_layers, wEr_rows, wEw_rows, wEr_lengths, wEw_lengths, wE_kls, wE_1, hO_i, z1, z7, nd]
theorem x_faultPosition1 (i : cI H g m D hs kp tx) (q : (t_go tx 61 0 D 0).1 = true) : cZ (d+40) MX1_faultPosition [] H g m (.inr 10) D hs kp tx := by
  obtain ⟨h, G, N, rfl, hm, hq, c⟩ := cI_E i
  have ⟨g1, g2, kg, g0⟩ := cI_g i
  have hq1 : 1024 ≤ h.1 := by omega
  have ⟨H', x, t, z1, z2, z3, z4⟩ := x_faulty1 (d := d+20) hm hq c i q
  have tt := fun pc L => w_thr0 (d := d+39) (M := MX1_faultPosition) (pc := pc) (L := L) (a_cls_o z3) z2 rfl
  refine ⟨H', m, cI_X z1 i, gR_hX (hX_le z1 (by omega) (by omega)), x, t, z2, z3, ?_⟩
  rw [e_X1_faultPosition]
  simp (disch := first | omega | assumption | exact Or.inl rfl | exact Or.inr rfl | exact wN_kls (by omega) | exact wE_kls (by omega) | (simp only [a_cat_nil, a_cat_int, a_cat_ref, a_cat_null, a_cat_long]; done) | (simp only [a_cat_nil, a_cat_int, a_cat_ref, a_cat_null, a_cat_long]; omega) | decide | rfl | (apply Or.inr; omega) | (apply Or.inl; omega)) only [w_X1_faultPosition_0, w_X1_faultPosition_1, w_X1_faultPosition_4, w_X1_faultPosition_7, w_ret, w_exc, Nat.reduceAdd, Option.toList_some, Option.toList_none, List.cons_append, List.nil_append, Option.bind_some, nI_add, q_mul, q_sub, q_eq, q_eqz, q_lt, q_ltz, q_gtz, q_le, q_lez, q_div, q_or, q_and, q_shl, q_shr, q_m1, q_eqm, q_meq, q_mm, q_mlt, q_mgt, q_mlt2, q_dec, Nat.add_sub_cancel, q_ltT, q_ltF, q_leT, q_leF, q_eqT, q_eqF, ↓reduceIte, uN_s, uN_n, upN_app, uG_s, uG_n, uG_uG, if_true, if_false, Nat.reduceMul, Nat.reduceSub, Nat.reduceEqDiff, Nat.reduceLT, and_true, true_and, and_false, false_and, or_true, true_or, or_false, false_or, not_true_eq_false, not_false_eq_true, Option.some.injEq, wEg_froms, wEg_tos, wEg_least, wEg_layers, wEg_rows, wEg_lengths, wEg_uppers, wEg_lowers, wEg_near, wEg_medians, wEg_points, wEg_boxes, wEp_boxes, wEg_arrows, wEp_arrows, wEg_depth, wEp_depth, wEg_made, wEp_made, wEg_come, wEp_come, wEr_uppers, wEw_uppers, wEr_lowers, wEw_lowers, wEr_near, wEw_near, wEr_medians, wEw_medians, wEr_points, wEw_points, wEr_froms, wEw_froms, wEr_tos, wEw_tos, wEr_least, wEw_least, wEr_layers, wEw_layers, wEr_rows, wEw_rows, wEr_lengths, wEw_lengths, wE_kls, z4, tt]
theorem x_faultPosition (i : cI H g m D hs kp tx) (q : (t_go tx 61 0 D 0).1 = false) : cZ (d+40) MX1_faultPosition [] H g m (.inl (.int (nI (t_go tx 61 0 D 0).2.1))) D hs kp tx := by
  obtain ⟨h, G, N, rfl, hm, hq, c⟩ := cI_E i
  have ⟨g1, g2, kg, g0⟩ := cI_g i
  have hq1 : 1024 ≤ h.1 := by omega
  have ⟨H', A', M', z1, z2, z3⟩ := x_faulty (d := d+20) hm hq c i q
  have e : a_gf H' h.1 3 [6] = some (.int (nI (t_go tx 61 0 D 0).2.1)) := a_gf_o hq1 rfl z2
  refine ⟨H', m, cI_X z1 i, gR_hX (hX_le z1 (by omega) (by omega)), ?_⟩
  show a_call (d+40) MX1_faultPosition [.ref g] (wE h m G N) = _
  rw [e_X1_faultPosition]
  simp (disch := first | omega | assumption | exact Or.inl rfl | exact Or.inr rfl | exact wN_kls (by omega) | exact wE_kls (by omega) | (simp only [a_cat_nil, a_cat_int, a_cat_ref, a_cat_null, a_cat_long]; done) | (simp only [a_cat_nil, a_cat_int, a_cat_ref, a_cat_null, a_cat_long]; omega) | decide | rfl | (apply Or.inr; omega) | (apply Or.inl; omega)) only [w_X1_faultPosition_0, w_X1_faultPosition_1, w_X1_faultPosition_4, w_X1_faultPosition_7, w_ret, w_exc, Nat.reduceAdd, Option.toList_some, Option.toList_none, List.cons_append, List.nil_append, Option.bind_some, nI_add, q_mul, q_sub, q_eq, q_eqz, q_lt, q_ltz, q_gtz, q_le, q_lez, q_div, q_or, q_and, q_shl, q_shr, q_m1, q_eqm, q_meq, q_mm, q_mlt, q_mgt, q_mlt2, q_dec, Nat.add_sub_cancel, q_ltT, q_ltF, q_leT, q_leF, q_eqT, q_eqF, ↓reduceIte, uN_s, uN_n, upN_app, uG_s, uG_n, uG_uG, if_true, if_false, Nat.reduceMul, Nat.reduceSub, Nat.reduceEqDiff, Nat.reduceLT, and_true, true_and, and_false, false_and, or_true, true_or, or_false, false_or, not_true_eq_false, not_false_eq_true, Option.some.injEq, wEg_froms, wEg_tos, wEg_least, wEg_layers, wEg_rows, wEg_lengths, wEg_uppers, wEg_lowers, wEg_near, wEg_medians, wEg_points, wEg_boxes, wEp_boxes, wEg_arrows, wEp_arrows, wEg_depth, wEp_depth, wEg_made, wEp_made, wEg_come, wEp_come, wEr_uppers, wEw_uppers, wEr_lowers, wEw_lowers, wEr_near, wEw_near, wEr_medians, wEw_medians, wEr_points, wEw_points, wEr_froms, wEw_froms, wEr_tos, wEw_tos, wEr_least, wEw_least, wEr_layers, wEw_layers, wEr_rows, wEw_rows, wEr_lengths, wEw_lengths, wE_kls, z3, e]
theorem x_faultReason1 (i : cI H g m D hs kp tx) (q : (t_go tx 61 0 D 0).1 = true) : cZ (d+40) MX1_faultReason [] H g m (.inr 10) D hs kp tx := by
  obtain ⟨h, G, N, rfl, hm, hq, c⟩ := cI_E i
  have ⟨g1, g2, kg, g0⟩ := cI_g i
  have hq1 : 1024 ≤ h.1 := by omega
  have ⟨H', x, t, z1, z2, z3, z4⟩ := x_faulty1 (d := d+20) hm hq c i q
  have tt := fun pc L => w_thr0 (d := d+39) (M := MX1_faultReason) (pc := pc) (L := L) (a_cls_o z3) z2 rfl
  refine ⟨H', m, cI_X z1 i, gR_hX (hX_le z1 (by omega) (by omega)), x, t, z2, z3, ?_⟩
  rw [e_X1_faultReason]
  simp (disch := first | omega | assumption | exact Or.inl rfl | exact Or.inr rfl | exact wN_kls (by omega) | exact wE_kls (by omega) | (simp only [a_cat_nil, a_cat_int, a_cat_ref, a_cat_null, a_cat_long]; done) | (simp only [a_cat_nil, a_cat_int, a_cat_ref, a_cat_null, a_cat_long]; omega) | decide | rfl | (apply Or.inr; omega) | (apply Or.inl; omega)) only [w_X1_faultReason_0, w_X1_faultReason_1, w_X1_faultReason_4, w_X1_faultReason_7, w_ret, w_exc, Nat.reduceAdd, Option.toList_some, Option.toList_none, List.cons_append, List.nil_append, Option.bind_some, nI_add, q_mul, q_sub, q_eq, q_eqz, q_lt, q_ltz, q_gtz, q_le, q_lez, q_div, q_or, q_and, q_shl, q_shr, q_m1, q_eqm, q_meq, q_mm, q_mlt, q_mgt, q_mlt2, q_dec, Nat.add_sub_cancel, q_ltT, q_ltF, q_leT, q_leF, q_eqT, q_eqF, ↓reduceIte, uN_s, uN_n, upN_app, uG_s, uG_n, uG_uG, if_true, if_false, Nat.reduceMul, Nat.reduceSub, Nat.reduceEqDiff, Nat.reduceLT, and_true, true_and, and_false, false_and, or_true, true_or, or_false, false_or, not_true_eq_false, not_false_eq_true, Option.some.injEq, wEg_froms, wEg_tos, wEg_least, wEg_layers, wEg_rows, wEg_lengths, wEg_uppers, wEg_lowers, wEg_near, wEg_medians, wEg_points, wEg_boxes, wEp_boxes, wEg_arrows, wEp_arrows, wEg_depth, wEp_depth, wEg_made, wEp_made, wEg_come, wEp_come, wEr_uppers, wEw_uppers, wEr_lowers, wEw_lowers, wEr_near, wEw_near, wEr_medians, wEw_medians, wEr_points, wEw_points, wEr_froms, wEw_froms, wEr_tos, wEw_tos, wEr_least, wEw_least, wEr_layers, wEw_layers, wEr_rows, wEw_rows, wEr_lengths, wEw_lengths, wE_kls, z4, tt]
theorem x_faultReason (i : cI H g m D hs kp tx) (q : (t_go tx 61 0 D 0).1 = false) : cZ (d+40) MX1_faultReason [] H g m (.inl (.int (nI (t_go tx 61 0 D 0).2.2.1))) D hs kp tx := by
  obtain ⟨h, G, N, rfl, hm, hq, c⟩ := cI_E i
  have ⟨g1, g2, kg, g0⟩ := cI_g i
  have hq1 : 1024 ≤ h.1 := by omega
  have ⟨H', A', M', z1, z2, z3⟩ := x_faulty (d := d+20) hm hq c i q
  have e : a_gf H' h.1 4 [6] = some (.int (nI (t_go tx 61 0 D 0).2.2.1)) := a_gf_o hq1 rfl z2
  refine ⟨H', m, cI_X z1 i, gR_hX (hX_le z1 (by omega) (by omega)), ?_⟩
  show a_call (d+40) MX1_faultReason [.ref g] (wE h m G N) = _
  rw [e_X1_faultReason]
  simp (disch := first | omega | assumption | exact Or.inl rfl | exact Or.inr rfl | exact wN_kls (by omega) | exact wE_kls (by omega) | (simp only [a_cat_nil, a_cat_int, a_cat_ref, a_cat_null, a_cat_long]; done) | (simp only [a_cat_nil, a_cat_int, a_cat_ref, a_cat_null, a_cat_long]; omega) | decide | rfl | (apply Or.inr; omega) | (apply Or.inl; omega)) only [w_X1_faultReason_0, w_X1_faultReason_1, w_X1_faultReason_4, w_X1_faultReason_7, w_ret, w_exc, Nat.reduceAdd, Option.toList_some, Option.toList_none, List.cons_append, List.nil_append, Option.bind_some, nI_add, q_mul, q_sub, q_eq, q_eqz, q_lt, q_ltz, q_gtz, q_le, q_lez, q_div, q_or, q_and, q_shl, q_shr, q_m1, q_eqm, q_meq, q_mm, q_mlt, q_mgt, q_mlt2, q_dec, Nat.add_sub_cancel, q_ltT, q_ltF, q_leT, q_leF, q_eqT, q_eqF, ↓reduceIte, uN_s, uN_n, upN_app, uG_s, uG_n, uG_uG, if_true, if_false, Nat.reduceMul, Nat.reduceSub, Nat.reduceEqDiff, Nat.reduceLT, and_true, true_and, and_false, false_and, or_true, true_or, or_false, false_or, not_true_eq_false, not_false_eq_true, Option.some.injEq, wEg_froms, wEg_tos, wEg_least, wEg_layers, wEg_rows, wEg_lengths, wEg_uppers, wEg_lowers, wEg_near, wEg_medians, wEg_points, wEg_boxes, wEp_boxes, wEg_arrows, wEp_arrows, wEg_depth, wEp_depth, wEg_made, wEp_made, wEg_come, wEp_come, wEr_uppers, wEw_uppers, wEr_lowers, wEw_lowers, wEr_near, wEw_near, wEr_medians, wEw_medians, wEr_points, wEw_points, wEr_froms, wEw_froms, wEr_tos, wEw_tos, wEr_least, wEw_least, wEr_layers, wEw_layers, wEr_rows, wEw_rows, wEr_lengths, wEw_lengths, wE_kls, z3, e]
theorem x_faultCause1 (i : cI H g m D hs kp tx) (q : (t_go tx 61 0 D 0).1 = true) : cZ (d+40) MX1_faultCause [] H g m (.inr 10) D hs kp tx := by
  obtain ⟨h, G, N, rfl, hm, hq, c⟩ := cI_E i
  have ⟨g1, g2, kg, g0⟩ := cI_g i
  have hq1 : 1024 ≤ h.1 := by omega
  have ⟨H', x, t, z1, z2, z3, z4⟩ := x_faulty1 (d := d+20) hm hq c i q
  have tt := fun pc L => w_thr0 (d := d+39) (M := MX1_faultCause) (pc := pc) (L := L) (a_cls_o z3) z2 rfl
  refine ⟨H', m, cI_X z1 i, gR_hX (hX_le z1 (by omega) (by omega)), x, t, z2, z3, ?_⟩
  rw [e_X1_faultCause]
  simp (disch := first | omega | assumption | exact Or.inl rfl | exact Or.inr rfl | exact wN_kls (by omega) | exact wE_kls (by omega) | (simp only [a_cat_nil, a_cat_int, a_cat_ref, a_cat_null, a_cat_long]; done) | (simp only [a_cat_nil, a_cat_int, a_cat_ref, a_cat_null, a_cat_long]; omega) | decide | rfl | (apply Or.inr; omega) | (apply Or.inl; omega)) only [w_X1_faultCause_0, w_X1_faultCause_1, w_X1_faultCause_4, w_X1_faultCause_7, w_ret, w_exc, Nat.reduceAdd, Option.toList_some, Option.toList_none, List.cons_append, List.nil_append, Option.bind_some, nI_add, q_mul, q_sub, q_eq, q_eqz, q_lt, q_ltz, q_gtz, q_le, q_lez, q_div, q_or, q_and, q_shl, q_shr, q_m1, q_eqm, q_meq, q_mm, q_mlt, q_mgt, q_mlt2, q_dec, Nat.add_sub_cancel, q_ltT, q_ltF, q_leT, q_leF, q_eqT, q_eqF, ↓reduceIte, uN_s, uN_n, upN_app, uG_s, uG_n, uG_uG, if_true, if_false, Nat.reduceMul, Nat.reduceSub, Nat.reduceEqDiff, Nat.reduceLT, and_true, true_and, and_false, false_and, or_true, true_or, or_false, false_or, not_true_eq_false, not_false_eq_true, Option.some.injEq, wEg_froms, wEg_tos, wEg_least, wEg_layers, wEg_rows, wEg_lengths, wEg_uppers, wEg_lowers, wEg_near, wEg_medians, wEg_points, wEg_boxes, wEp_boxes, wEg_arrows, wEp_arrows, wEg_depth, wEp_depth, wEg_made, wEp_made, wEg_come, wEp_come, wEr_uppers, wEw_uppers, wEr_lowers, wEw_lowers, wEr_near, wEw_near, wEr_medians, wEw_medians, wEr_points, wEw_points, wEr_froms, wEw_froms, wEr_tos, wEw_tos, wEr_least, wEw_least, wEr_layers, wEw_layers, wEr_rows, wEw_rows, wEr_lengths, wEw_lengths, wE_kls, z4, tt]
theorem x_faultCause (i : cI H g m D hs kp tx) (q : (t_go tx 61 0 D 0).1 = false) : cZ (d+40) MX1_faultCause [] H g m (.inl (.int (nI (t_go tx 61 0 D 0).2.2.2.1))) D hs kp tx := by
  obtain ⟨h, G, N, rfl, hm, hq, c⟩ := cI_E i
  have ⟨g1, g2, kg, g0⟩ := cI_g i
  have hq1 : 1024 ≤ h.1 := by omega
  have ⟨H', A', M', z1, z2, z3⟩ := x_faulty (d := d+20) hm hq c i q
  have e : a_gf H' h.1 5 [6] = some (.int (nI (t_go tx 61 0 D 0).2.2.2.1)) := a_gf_o hq1 rfl z2
  refine ⟨H', m, cI_X z1 i, gR_hX (hX_le z1 (by omega) (by omega)), ?_⟩
  show a_call (d+40) MX1_faultCause [.ref g] (wE h m G N) = _
  rw [e_X1_faultCause]
  simp (disch := first | omega | assumption | exact Or.inl rfl | exact Or.inr rfl | exact wN_kls (by omega) | exact wE_kls (by omega) | (simp only [a_cat_nil, a_cat_int, a_cat_ref, a_cat_null, a_cat_long]; done) | (simp only [a_cat_nil, a_cat_int, a_cat_ref, a_cat_null, a_cat_long]; omega) | decide | rfl | (apply Or.inr; omega) | (apply Or.inl; omega)) only [w_X1_faultCause_0, w_X1_faultCause_1, w_X1_faultCause_4, w_X1_faultCause_7, w_ret, w_exc, Nat.reduceAdd, Option.toList_some, Option.toList_none, List.cons_append, List.nil_append, Option.bind_some, nI_add, q_mul, q_sub, q_eq, q_eqz, q_lt, q_ltz, q_gtz, q_le, q_lez, q_div, q_or, q_and, q_shl, q_shr, q_m1, q_eqm, q_meq, q_mm, q_mlt, q_mgt, q_mlt2, q_dec, Nat.add_sub_cancel, q_ltT, q_ltF, q_leT, q_leF, q_eqT, q_eqF, ↓reduceIte, uN_s, uN_n, upN_app, uG_s, uG_n, uG_uG, if_true, if_false, Nat.reduceMul, Nat.reduceSub, Nat.reduceEqDiff, Nat.reduceLT, and_true, true_and, and_false, false_and, or_true, true_or, or_false, false_or, not_true_eq_false, not_false_eq_true, Option.some.injEq, wEg_froms, wEg_tos, wEg_least, wEg_layers, wEg_rows, wEg_lengths, wEg_uppers, wEg_lowers, wEg_near, wEg_medians, wEg_points, wEg_boxes, wEp_boxes, wEg_arrows, wEp_arrows, wEg_depth, wEp_depth, wEg_made, wEp_made, wEg_come, wEp_come, wEr_uppers, wEw_uppers, wEr_lowers, wEw_lowers, wEr_near, wEw_near, wEr_medians, wEw_medians, wEr_points, wEw_points, wEr_froms, wEw_froms, wEr_tos, wEw_tos, wEr_least, wEw_least, wEr_layers, wEw_layers, wEr_rows, wEw_rows, wEr_lengths, wEw_lengths, wE_kls, z3, e]
theorem x_play1 (i : cI H g m D hs kp tx) (q : (t_go tx 61 0 D 0).1 = false) : cZ (d+40) MX1_play [] H g m (.inr 9) D hs kp tx := by
  obtain ⟨h, G, N, rfl, hm, hq, c⟩ := cI_E i
  have ⟨g1, g2, kg, g0⟩ := cI_g i
  have hq1 : 1024 ≤ h.1 := by omega
  have ⟨Z, X', A', B', R', C', M', z1, z2, z3, z4, z5, z6, z7⟩ := x_reads (d := d+21) hm hq c i
  have hX1 : 1024 ≤ X'.1 := Nat.le_trans hq1 z3.1
  rw [q, Bool.toNat_false] at z7
  have ⟨H', y1, y2, ⟨t, y3⟩, y4⟩ := k_state0 (d := d+34) hX1
  have tt := fun pc L => w_thr0 (d := d+39) (M := MX1_play) (pc := pc) (L := L) (a_cls_o y3) hX1 rfl
  have zz := hX_tr z3 y1
  refine ⟨H', m, cI_X zz i, gR_hX (hX_le zz (by omega) (by omega)), X'.1, t, hX1, y3, ?_⟩
  rw [e_X1_play]
  simp (disch := first | omega | assumption | exact Or.inl rfl | exact Or.inr rfl | exact wN_kls (by omega) | exact wE_kls (by omega) | (simp only [a_cat_nil, a_cat_int, a_cat_ref, a_cat_null, a_cat_long]; done) | (simp only [a_cat_nil, a_cat_int, a_cat_ref, a_cat_null, a_cat_long]; omega) | decide | rfl | (apply Or.inr; omega) | (apply Or.inl; omega)) only [w_X1_play_0, w_X1_play_3, w_X1_play_3I, w_X1_play_4, w_X1_play_5, w_X1_play_8, w_X1_play_8N, w_X1_play_9, w_X1_play_9N, w_X1_play_10, w_X1_play_13, w_ret, w_exc, Nat.reduceAdd, Option.toList_some, Option.toList_none, List.cons_append, List.nil_append, Option.bind_some, nI_add, q_mul, q_sub, q_eq, q_eqz, q_lt, q_ltz, q_gtz, q_le, q_lez, q_div, q_or, q_and, q_shl, q_shr, q_m1, q_eqm, q_meq, q_mm, q_mlt, q_mgt, q_mlt2, q_dec, Nat.add_sub_cancel, q_ltT, q_ltF, q_leT, q_leF, q_eqT, q_eqF, ↓reduceIte, uN_s, uN_n, upN_app, uG_s, uG_n, uG_uG, if_true, if_false, Nat.reduceMul, Nat.reduceSub, Nat.reduceEqDiff, Nat.reduceLT, and_true, true_and, and_false, false_and, or_true, true_or, or_false, false_or, not_true_eq_false, not_false_eq_true, Option.some.injEq, wEg_froms, wEg_tos, wEg_least, wEg_layers, wEg_rows, wEg_lengths, wEg_uppers, wEg_lowers, wEg_near, wEg_medians, wEg_points, wEg_boxes, wEp_boxes, wEg_arrows, wEp_arrows, wEg_depth, wEp_depth, wEg_made, wEp_made, wEg_come, wEp_come, wEr_uppers, wEw_uppers, wEr_lowers, wEw_lowers, wEr_near, wEw_near, wEr_medians, wEw_medians, wEr_points, wEw_points, wEr_froms, wEw_froms, wEr_tos, wEw_tos, wEr_least, wEw_least, wEr_layers, wEw_layers, wEr_rows, wEw_rows, wEr_lengths, wEw_lengths, wE_kls, wE_1, hO_i, z1, z7, y4, tt]
theorem x_play (i : cI H g m D hs kp tx) (q : (t_go tx 61 0 D 0).1 = true) : cZ (d+40) MX1_play [] H g m (.inl (.int (nI (t_go tx 61 0 D 0).2.2.2.2.2))) (t_go tx 61 0 D 0).2.2.2.2.1 (t_pu hs D) kp tx := by
  obtain ⟨h, G, N, rfl, hm, hq, c⟩ := cI_E i
  have ⟨g1, g2, kg, g0⟩ := cI_g i
  have hq1 : 1024 ≤ h.1 := by omega
  have ⟨Z, X', A', B', R', C', M', z1, z2, z3, z4, z5, z6, z7⟩ := x_reads (d := d+21) hm hq c i
  rw [q, Bool.toNat_true] at z7
  have nd := k_state1 (d := d+34) (h := X')
  have ⟨e1, e2⟩ := z5 q
  have i2 := cI_X z3 i
  have kg2 := (cI_g i2).2.2.1
  have ⟨H', y1, y2, y3, y4, y5⟩ := x_changed (d := d+35) (r := nI M') i2 e2
  have f0 : a_gf X' h.1 0 [6] = some (.ref (h.1 + 1)) := a_gf_o hq1 rfl z4
  have f6 : a_gf X' h.1 6 [6] = some (.int (nI M')) := a_gf_o hq1 rfl z4
  rw [← e1]
  refine ⟨H', h.1 + 1, y1, ⟨by rw [y2]; exact z3.1, by rw [y2]; exact Nat.le_trans z3.2.1 (by omega), by rw [y3]; exact Nat.le_trans z3.2.2.1 (by omega), fun x h1 h2 _ => ?_⟩, ?_⟩
  · have e := z3.2.2.2 x h1
    rw [y4 x (by rw [e]; exact h2), e]
  · show a_call (d+40) MX1_play [.ref g] (wE h m G N) = _
    rw [e_X1_play]
    simp (disch := first | omega | assumption | exact Or.inl rfl | exact Or.inr rfl | exact wN_kls (by omega) | exact wE_kls (by omega) | (simp only [a_cat_nil, a_cat_int, a_cat_ref, a_cat_null, a_cat_long]; done) | (simp only [a_cat_nil, a_cat_int, a_cat_ref, a_cat_null, a_cat_long]; omega) | decide | rfl | (apply Or.inr; omega) | (apply Or.inl; omega)) only [w_X1_play_0, w_X1_play_3, w_X1_play_3I, w_X1_play_4, w_X1_play_5, w_X1_play_8, w_X1_play_8N, w_X1_play_9, w_X1_play_9N, w_X1_play_10, w_X1_play_13, w_X1_play_16, w_X1_play_17, w_X1_play_17N, w_X1_play_18, w_X1_play_21, w_X1_play_21N, w_X1_play_22, w_X1_play_25, w_X1_play_28, w_ret, w_exc, Nat.reduceAdd, Option.toList_some, Option.toList_none, List.cons_append, List.nil_append, Option.bind_some, nI_add, q_mul, q_sub, q_eq, q_eqz, q_lt, q_ltz, q_gtz, q_le, q_lez, q_div, q_or, q_and, q_shl, q_shr, q_m1, q_eqm, q_meq, q_mm, q_mlt, q_mgt, q_mlt2, q_dec, Nat.add_sub_cancel, q_ltT, q_ltF, q_leT, q_leF, q_eqT, q_eqF, ↓reduceIte, uN_s, uN_n, upN_app, uG_s, uG_n, uG_uG, if_true, if_false, Nat.reduceMul, Nat.reduceSub, Nat.reduceEqDiff, Nat.reduceLT, and_true, true_and, and_false, false_and, or_true, true_or, or_false, false_or, not_true_eq_false, not_false_eq_true, Option.some.injEq, wEg_froms, wEg_tos, wEg_least, wEg_layers, wEg_rows, wEg_lengths, wEg_uppers, wEg_lowers, wEg_near, wEg_medians, wEg_points, wEg_boxes, wEp_boxes, wEg_arrows, wEp_arrows, wEg_depth, wEp_depth, wEg_made, wEp_made, wEg_come, wEp_come, wEr_uppers, wEw_uppers, wEr_lowers, wEw_lowers, wEr_near, wEw_near, wEr_medians, wEw_medians, wEr_points, wEw_points, wEr_froms, wEw_froms, wEr_tos, wEw_tos, wEr_least, wEw_least, wEr_layers, wEw_layers, wEr_rows, wEw_rows, wEr_lengths, wEw_lengths, wE_kls, wE_1, hO_i, z1, z7, nd, f0, f6, y5]
end X8
