/-- a reader of a text at r, its numbers at nu, its diagram at t -/
abbrev cRd (t nu A B R C M g : Nat) : a_C := .inr (6, [.ref t, .ref nu, .int (nI A), .int (nI B), .int (nI R), .int (nI C), .int (nI M), .ref g])
abbrev cNu (v : Nat → Nat) : a_C := .inl (.int, 2, .inl fun i => nI (v i))
def wR (K : a_H) (r nu t g A B R C M : Nat) (v : Nat → Nat) : a_H := a_set (a_set K nu (cNu v)) r (cRd t nu A B R C M g)
/-- at g lies the class's object with its text -/
def zT (Z : a_H) (g : Nat) (tx : List Nat) : Prop := ∃ (x0 x1 x2 : Value) (s : Nat), 1024 ≤ g ∧ g < Z.1 ∧ Z.2.2 g = .inr (0, [x0, x1, x2, .ref s]) ∧ cTx Z s tx
theorem t_ia_iff {tx : List Nat} {s lo hi : Nat} : t_ia tx s lo hi = true ↔ s < tx.length ∧ lo ≤ tx.getD s 0 ∧ tx.getD s 0 ≤ hi := by
  refine ⟨t_ia_lt, fun ⟨h1, h2, h3⟩ => ?_⟩
  unfold t_ia
  rw [List.getElem?_eq_getElem h1]
  rw [List.getD_eq_getElem?_getD, List.getElem?_eq_getElem h1] at h2 h3
  show (decide (lo ≤ tx[s]) && decide (tx[s] ≤ hi)) = true
  rw [decide_eq_true (show lo ≤ tx[s] from h2), decide_eq_true (show tx[s] ≤ hi from h3)]
  rfl
theorem q_dg {c : Nat} (hc : c < 128) : (if (48 : Int64) ≤ (nI c).toInt64 ∧ (nI c).toInt64 ≤ (57 : Int64) then (1 : Int32) else 0) = if 48 ≤ c ∧ c ≤ 57 then 1 else 0 := by
  rw [show (48 : Int64) = (nI 48).toInt64 from rfl, show (57 : Int64) = (nI 57).toInt64 from rfl, q_64]
  have e1 : (nI 48 ≤ nI c) = (48 ≤ c) := q_le (by omega) (by omega)
  have e2 : (nI c ≤ nI 57) = (c ≤ 57) := q_le (by omega) (by omega)
  simp only [e1, e2]
section X6
variable {d : Nat} {K : a_H} {r nu t g A B R C M : Nat} {v : Nat → Nat} {tx : List Nat}
theorem wR_r : (wR K r nu t g A B R C M v).2.2 r = cRd t nu A B R C M g := if_pos rfl
theorem wR_nu (ne : nu ≠ r) : (wR K r nu t g A B R C M v).2.2 nu = cNu v := (if_neg ne).trans (if_pos rfl)
theorem wR_o {x : Nat} (n1 : x ≠ r) (n2 : x ≠ nu) : (wR K r nu t g A B R C M v).2.2 x = K.2.2 x := (if_neg n1).trans (if_neg n2)
theorem wR_id (h1 : K.2.2 r = cRd t nu A B R C M g) (h2 : K.2.2 nu = cNu v) : wR K r nu t g A B R C M v = K := a_Hx rfl rfl fun x => by
  show (if x = r then _ else if x = nu then _ else _) = _
  by_cases z : x = r
  · rw [if_pos z, z, h1]
  · rw [if_neg z]
    by_cases z2 : x = nu
    · rw [if_pos z2, z2, h2]
    · rw [if_neg z2]
theorem wR_kls (hr : 1024 ≤ r) : a_kls (wR K r nu t g A B R C M v) r = some 6 := a_kls_o hr wR_r
theorem wR_g0 (hr : 1024 ≤ r) : a_gf (wR K r nu t g A B R C M v) r 0 [6] = some (.ref t) := a_gf_o hr rfl wR_r
theorem wR_g1 (hr : 1024 ≤ r) : a_gf (wR K r nu t g A B R C M v) r 1 [6] = some (.ref nu) := a_gf_o hr rfl wR_r
theorem wR_g2 (hr : 1024 ≤ r) : a_gf (wR K r nu t g A B R C M v) r 2 [6] = some (.int (nI A)) := a_gf_o hr rfl wR_r
theorem wR_g3 (hr : 1024 ≤ r) : a_gf (wR K r nu t g A B R C M v) r 3 [6] = some (.int (nI B)) := a_gf_o hr rfl wR_r
theorem wR_g4 (hr : 1024 ≤ r) : a_gf (wR K r nu t g A B R C M v) r 4 [6] = some (.int (nI R)) := a_gf_o hr rfl wR_r
theorem wR_g5 (hr : 1024 ≤ r) : a_gf (wR K r nu t g A B R C M v) r 5 [6] = some (.int (nI C)) := a_gf_o hr rfl wR_r
theorem wR_g6 (hr : 1024 ≤ r) : a_gf (wR K r nu t g A B R C M v) r 6 [6] = some (.int (nI M)) := a_gf_o hr rfl wR_r
theorem wR_g7 (hr : 1024 ≤ r) : a_gf (wR K r nu t g A B R C M v) r 7 [6] = some (.ref g) := a_gf_o hr rfl wR_r
theorem wR_p {k : Nat} {x : Value} {A' B' R' C' M' : Nat} (hr : 1024 ≤ r) (hk : k < 8) (e : ([.ref t, .ref nu, .int (nI A), .int (nI B), .int (nI R), .int (nI C), .int (nI M), .ref g] : List Value).set k x = [.ref t, .ref nu, .int (nI A'), .int (nI B'), .int (nI R'), .int (nI C'), .int (nI M'), .ref g]) : a_pf (wR K r nu t g A B R C M v) r k [6] x = some (wR K r nu t g A' B' R' C' M' v) := by
  unfold a_pf
  rw [wR_r]
  refine (if_pos ⟨rfl, hk, hr⟩).trans (congrArg some (a_Hx rfl rfl fun y => ?_))
  show (if y = r then (Sum.inr (6, _) : a_C) else if y = r then _ else _) = (if y = r then _ else _)
  rw [e]
  split <;> rfl
theorem wR_p2 {x : Nat} (hr : 1024 ≤ r) : a_pf (wR K r nu t g A B R C M v) r 2 [6] (.int (nI x)) = some (wR K r nu t g x B R C M v) := wR_p hr (by decide) rfl
theorem wR_p3 {x : Nat} (hr : 1024 ≤ r) : a_pf (wR K r nu t g A B R C M v) r 3 [6] (.int (nI x)) = some (wR K r nu t g A x R C M v) := wR_p hr (by decide) rfl
theorem wR_p4 {x : Nat} (hr : 1024 ≤ r) : a_pf (wR K r nu t g A B R C M v) r 4 [6] (.int (nI x)) = some (wR K r nu t g A B x C M v) := wR_p hr (by decide) rfl
theorem wR_p5 {x : Nat} (hr : 1024 ≤ r) : a_pf (wR K r nu t g A B R C M v) r 5 [6] (.int (nI x)) = some (wR K r nu t g A B R x M v) := wR_p hr (by decide) rfl
theorem wR_p6 {x : Nat} (hr : 1024 ≤ r) : a_pf (wR K r nu t g A B R C M v) r 6 [6] (.int (nI x)) = some (wR K r nu t g A B R C x v) := wR_p hr (by decide) rfl
theorem wR_rd {i : Nat} (hn : 1024 ≤ nu) (ne : nu ≠ r) (hi : i < 2) : a_rdi (wR K r nu t g A B R C M v) nu a_int (nI i) = some (.int (nI (v i))) := by
  unfold a_rdi
  rw [wR_nu ne]
  refine (if_pos ⟨rfl, a_out_nI hi (by omega), Or.inl hn⟩).trans ?_
  rw [nI_clamp (by omega)]
theorem wR_wr {i x : Nat} (hn : 1024 ≤ nu) (ne : nu ≠ r) (hi : i < 2) : a_wri (wR K r nu t g A B R C M v) nu a_int (nI i) (nI x) = some (wR K r nu t g A B R C M (upN v i x)) := by
  unfold a_wri
  rw [wR_nu ne]
  refine (if_pos ⟨rfl, a_out_nI hi (by omega), hn⟩).trans ?_
  rw [nI_clamp (by omega)]
  refine (congrArg some (a_Hx rfl rfl fun y => ?_))
  show (if y = nu then _ else if y = r then _ else if y = nu then _ else _) = (if y = r then _ else if y = nu then _ else _)
  by_cases h1 : y = nu
  · rw [if_pos h1, if_neg (by omega), if_pos h1]
    refine congrArg (fun z => (Sum.inl (FieldType.int, 2, Sum.inl z) : a_C)) (funext fun j => ?_)
    unfold upd
    rw [upN_app]
    split <;> rfl
  · rw [if_neg h1, if_neg h1, if_neg h1]
theorem zT_use (z : zT K g tx) : ∃ s, a_gf K g 3 [0] = some (.ref s) ∧ a_kls K s = some 8 ∧ tx.length ≤ 60 ∧ (∀ i, i < tx.length → tx.getD i 0 < 128) ∧ (∀ d, a_call (d+2) MJ3_length [.ref s] K = some (.inl (some (.int (nI tx.length))), K)) ∧ ∀ d i, i < tx.length → a_call (d+3) MJ3_charAt [.ref s, .int (nI i)] K = some (.inl (some (.int (nI (tx.getD i 0)))), K) := by
  obtain ⟨x0, x1, x2, s, g1, g2, g3, b, ml, n, tf, s1, s2, b1, b2, s3, b3, t1, t2, t3, t4, t5⟩ := z
  have ne : b ≠ s := fun z => by rw [z, s3] at b3; cases b3
  have id := wT_id s3 b3
  refine ⟨s, a_gf_o g1 rfl g3, a_kls_o s1 s3, t1, fun i hi => ?_, fun d => ?_, fun d i hi => ?_⟩
  · rw [← t4 i hi]; exact t5 i (by omega)
  · have := j_length (d := d) (g := K) (b := b) (ml := ml) (l := tx.length) (n := n) (f := tf) s1
    rw [id] at this
    exact this
  · have := j_charAt (d := d) (g := K) (ml := ml) (f := tf) s1 b1 ne (show n < 400 by omega) t2 hi (t5 i (by omega))
    rw [id, t4 i hi] at this
    exact this
/-- kinds of the reader's own cells -/
def zK (K : a_H) (r nu : Nat) : Prop := (∃ vs, K.2.2 r = .inr (6, vs)) ∧ ∃ w, K.2.2 nu = .inl (.int, w)
theorem zT_o {Z : a_H} (z : zT K g tx) (h1 : K.1 ≤ Z.1) (f : ∀ x, x < K.1 → kX (K.2.2 x) = true → Z.2.2 x = K.2.2 x) : zT Z g tx := by
  obtain ⟨x0, x1, x2, s, g1, g2, g3, b, ml, n, tf, s1, s2, b1, b2, s3, b3, t⟩ := z
  exact ⟨x0, x1, x2, s, g1, by omega, (f g g2 (by rw [g3]; rfl)).trans g3, b, ml, n, tf, s1, by omega, b1, by omega, (f s s2 (by rw [s3]; rfl)).trans s3, (f b b2 (by rw [b3]; rfl)).trans b3, t⟩
theorem zT_R (k : zK K r nu) (z : zT K g tx) : zT (wR K r nu t g A B R C M v) g tx := by
  obtain ⟨⟨vs, k1⟩, w, k2⟩ := k
  refine zT_o z (Nat.le_refl _) fun x _ hx => wR_o (fun e => ?_) fun e => ?_
  · rw [e, k1] at hx; exact k_tf hx.symm
  · rw [e, k2] at hx; exact k_tf hx.symm
theorem z_accepts {c : Nat} (hr : 1024 ≤ r) (k : zK K r nu) (z : zT K g tx) (hA : A < 1000) (hc : c < 1000) : a_call (d+4) MX7_accepts [.ref r, .int (nI c)] (wR K r nu t g A B R C M v) = some (.inl (some (.int (nI (t_ia tx A c c).toNat))), wR K r nu t g (A + (t_ia tx A c c).toNat) B R C M v) := by
  have ⟨s, gs, ks, l60, c128, ln, ch⟩ := zT_use (zT_R (t := t) (A := A) (B := B) (R := R) (C := C) (M := M) (v := v) k z)
  have ln := ln (d+1)
  rw [e_X7_accepts]
  by_cases q : t_ia tx A c c = true
  · have ⟨q1, q2, q3⟩ := t_ia_lt q
    have ch := ch d A q1
    rw [show tx.getD A 0 = c by omega] at ch
    rw [q, Bool.toNat_true]
    simp (disch := first | omega | assumption | exact Or.inl rfl | exact Or.inr rfl | exact wN_kls (by omega) | exact wE_kls (by omega) | exact wR_kls (by omega) | (simp only [a_cat_nil, a_cat_int, a_cat_ref, a_cat_null, a_cat_long]; done) | (simp only [a_cat_nil, a_cat_int, a_cat_ref, a_cat_null, a_cat_long]; omega) | decide | rfl | (apply Or.inr; omega) | (apply Or.inl; omega)) only [w_X7_accepts_0, w_X7_accepts_1, w_X7_accepts_4, w_X7_accepts_5, w_X7_accepts_8, w_X7_accepts_11, w_X7_accepts_14, w_X7_accepts_17, w_X7_accepts_18, w_X7_accepts_21, w_X7_accepts_24, w_X7_accepts_25, w_X7_accepts_28, w_X7_accepts_31, w_X7_accepts_32, w_X7_accepts_35, w_X7_accepts_36, w_X7_accepts_39, w_X7_accepts_40, w_X7_accepts_41, w_X7_accepts_42, w_X7_accepts_42I, w_X7_accepts_43, w_X7_accepts_46, w_X7_accepts_47, w_X7_accepts_50, w_X7_accepts_51, w_X7_accepts_54, w_X7_accepts_55, w_X7_accepts_56, w_X7_accepts_59, w_X7_accepts_60, w_ret, w_exc, Nat.reduceAdd, Option.toList_some, Option.toList_none, List.cons_append, List.nil_append, Option.bind_some, nI_add, q_mul, q_sub, q_eq, q_eqz, q_lt, q_ltz, q_gtz, q_le, q_lez, q_div, q_or, q_and, q_shl, q_shr, q_m1, q_eqm, q_meq, q_mm, q_mlt, q_mgt, q_mlt2, q_dec, Nat.add_sub_cancel, q_ltT, q_ltF, q_leT, q_leF, q_eqT, q_eqF, ↓reduceIte, uN_s, uN_n, upN_app, uG_s, uG_n, uG_uG, if_true, if_false, Nat.reduceMul, Nat.reduceSub, Nat.reduceEqDiff, Nat.reduceLT, and_true, true_and, and_false, false_and, or_true, true_or, or_false, false_or, not_true_eq_false, not_false_eq_true, Option.some.injEq, wR_g2, wR_g7, gs, ln, ch, wR_p2]
  · rw [Bool.eq_false_iff.mpr q, Bool.toNat_false]
    by_cases q1 : A < tx.length
    · have ch := ch d A q1
      have cb := c128 A q1
      have ne : ¬ tx.getD A 0 = c := fun e => q (t_ia_iff.mpr ⟨q1, by omega, by omega⟩)
      revert ch cb ne
      generalize tx.getD A 0 = c'
      intro ch cb ne
      simp (disch := first | omega | assumption | exact Or.inl rfl | exact Or.inr rfl | exact wN_kls (by omega) | exact wE_kls (by omega) | exact wR_kls (by omega) | (simp only [a_cat_nil, a_cat_int, a_cat_ref, a_cat_null, a_cat_long]; done) | (simp only [a_cat_nil, a_cat_int, a_cat_ref, a_cat_null, a_cat_long]; omega) | decide | rfl | (apply Or.inr; omega) | (apply Or.inl; omega)) only [w_X7_accepts_0, w_X7_accepts_1, w_X7_accepts_4, w_X7_accepts_5, w_X7_accepts_8, w_X7_accepts_11, w_X7_accepts_14, w_X7_accepts_17, w_X7_accepts_18, w_X7_accepts_21, w_X7_accepts_24, w_X7_accepts_25, w_X7_accepts_28, w_X7_accepts_31, w_X7_accepts_32, w_X7_accepts_35, w_X7_accepts_36, w_X7_accepts_39, w_X7_accepts_40, w_X7_accepts_41, w_X7_accepts_42, w_X7_accepts_42I, w_X7_accepts_43, w_X7_accepts_46, w_X7_accepts_47, w_X7_accepts_50, w_X7_accepts_51, w_X7_accepts_54, w_X7_accepts_55, w_X7_accepts_56, w_X7_accepts_59, w_X7_accepts_60, w_ret, w_exc, Nat.reduceAdd, Option.toList_some, Option.toList_none, List.cons_append, List.nil_append, Option.bind_some, nI_add, q_mul, q_sub, q_eq, q_eqz, q_lt, q_ltz, q_gtz, q_le, q_lez, q_div, q_or, q_and, q_shl, q_shr, q_m1, q_eqm, q_meq, q_mm, q_mlt, q_mgt, q_mlt2, q_dec, Nat.add_sub_cancel, q_ltT, q_ltF, q_leT, q_leF, q_eqT, q_eqF, ↓reduceIte, uN_s, uN_n, upN_app, uG_s, uG_n, uG_uG, if_true, if_false, Nat.reduceMul, Nat.reduceSub, Nat.reduceEqDiff, Nat.reduceLT, and_true, true_and, and_false, false_and, or_true, true_or, or_false, false_or, not_true_eq_false, not_false_eq_true, Option.some.injEq, wR_g2, wR_g7, gs, ln, ch, wR_p2, Nat.add_zero]
    · simp (disch := first | omega | assumption | exact Or.inl rfl | exact Or.inr rfl | exact wN_kls (by omega) | exact wE_kls (by omega) | exact wR_kls (by omega) | (simp only [a_cat_nil, a_cat_int, a_cat_ref, a_cat_null, a_cat_long]; done) | (simp only [a_cat_nil, a_cat_int, a_cat_ref, a_cat_null, a_cat_long]; omega) | decide | rfl | (apply Or.inr; omega) | (apply Or.inl; omega)) only [w_X7_accepts_0, w_X7_accepts_1, w_X7_accepts_4, w_X7_accepts_5, w_X7_accepts_8, w_X7_accepts_11, w_X7_accepts_14, w_X7_accepts_17, w_X7_accepts_18, w_X7_accepts_21, w_X7_accepts_24, w_X7_accepts_25, w_X7_accepts_28, w_X7_accepts_31, w_X7_accepts_32, w_X7_accepts_35, w_X7_accepts_36, w_X7_accepts_39, w_X7_accepts_40, w_X7_accepts_41, w_X7_accepts_42, w_X7_accepts_42I, w_X7_accepts_43, w_X7_accepts_46, w_X7_accepts_47, w_X7_accepts_50, w_X7_accepts_51, w_X7_accepts_54, w_X7_accepts_55, w_X7_accepts_56, w_X7_accepts_59, w_X7_accepts_60, w_ret, w_exc, Nat.reduceAdd, Option.toList_some, Option.toList_none, List.cons_append, List.nil_append, Option.bind_some, nI_add, q_mul, q_sub, q_eq, q_eqz, q_lt, q_ltz, q_gtz, q_le, q_lez, q_div, q_or, q_and, q_shl, q_shr, q_m1, q_eqm, q_meq, q_mm, q_mlt, q_mgt, q_mlt2, q_dec, Nat.add_sub_cancel, q_ltT, q_ltF, q_leT, q_leF, q_eqT, q_eqF, ↓reduceIte, uN_s, uN_n, upN_app, uG_s, uG_n, uG_uG, if_true, if_false, Nat.reduceMul, Nat.reduceSub, Nat.reduceEqDiff, Nat.reduceLT, and_true, true_and, and_false, false_and, or_true, true_or, or_false, false_or, not_true_eq_false, not_false_eq_true, Option.some.injEq, wR_g2, wR_g7, gs, ln, wR_p2, Nat.add_zero]
theorem z_re1 {w : Nat} (hr : 1024 ≤ r) (hn : 1024 ≤ nu) (ne : nu ≠ r) (k0 : zK K r nu) (z : zT K g tx) (hw : w < 2) : ∀ (k A : Nat) (v : Nat → Nat), k ≤ 2 → A < 100 → ∃ v' : Nat → Nat, (∀ i, i ≠ w → v' i = v i) ∧ v' w = (t_di tx k (v w) A).1 ∧ a_run (d+3) MX7_reads 9 [some (.ref r), some (.int (nI w)), some (.int (nI (2 - k)))] [] (wR K r nu t g A B R C M v) = a_run (d+3) MX7_reads 107 [some (.ref r), some (.int (nI w)), some (.int (nI (2 - k + ((t_di tx k (v w) A).2 - A))))] [] (wR K r nu t g (t_di tx k (v w) A).2 B R C M v')
  | 0, A, v, _, _ => ⟨v, fun _ _ => rfl, rfl, by
    show a_run (d+3) MX7_reads 9 [some (.ref r), some (.int (nI w)), some (.int (nI 2))] [] (wR K r nu t g A B R C M v) = a_run (d+3) MX7_reads 107 [some (.ref r), some (.int (nI w)), some (.int (nI (2 + (A - A))))] [] (wR K r nu t g A B R C M v)
    rw [Nat.sub_self]
    simp (disch := first | omega | assumption | exact Or.inl rfl | exact Or.inr rfl | exact wN_kls (by omega) | exact wE_kls (by omega) | exact wR_kls (by omega) | (simp only [a_cat_nil, a_cat_int, a_cat_ref, a_cat_null, a_cat_long]; done) | (simp only [a_cat_nil, a_cat_int, a_cat_ref, a_cat_null, a_cat_long]; omega) | decide | rfl | (apply Or.inr; omega) | (apply Or.inl; omega)) only [w_X7_reads_9, w_X7_reads_10, w_X7_reads_11, w_ret, w_exc, Nat.reduceAdd, Option.toList_some, Option.toList_none, List.cons_append, List.nil_append, Option.bind_some, nI_add, q_mul, q_sub, q_eq, q_eqz, q_lt, q_ltz, q_gtz, q_le, q_lez, q_div, q_or, q_and, q_shl, q_shr, q_m1, q_eqm, q_meq, q_mm, q_mlt, q_mgt, q_mlt2, q_dec, Nat.add_sub_cancel, q_ltT, q_ltF, q_leT, q_leF, q_eqT, q_eqF, ↓reduceIte, uN_s, uN_n, upN_app, uG_s, uG_n, uG_uG, if_true, if_false, Nat.reduceMul, Nat.reduceSub, Nat.reduceEqDiff, Nat.reduceLT, and_true, true_and, and_false, false_and, or_true, true_or, or_false, false_or, not_true_eq_false, not_false_eq_true, Option.some.injEq]⟩
  | k+1, A, v, hk, hA => by
    have ⟨s, gs, ks, l60, c128, ln, ch⟩ := zT_use (zT_R (t := t) (A := A) (B := B) (R := R) (C := C) (M := M) (v := v) k0 z)
    have ln := ln (d+1)
    have e2 : 2 - (k + 1) + 1 = 2 - k := by omega
    have lt2 : 2 - (k + 1) < 2 := by omega
    unfold t_di
    by_cases q : t_ia tx A 48 57 = true
    · rw [if_pos q]
      have ⟨q1, q2, q3⟩ := t_ia_lt q
      have ch1 := ch d A q1
      have ⟨s', gs', ks', _, _, _, ch2⟩ := zT_use (zT_R (t := t) (A := A) (B := B) (R := R) (C := C) (M := M) (v := v) k0 z)
      have ⟨v', w1, w2, w3⟩ := z_re1 hr hn ne k0 z hw k (A + 1) (upN v w (10 * v w + tx.getD A 0 - 48)) (by omega) (by omega)
      rw [upN_app, if_pos rfl] at w2 w3
      have bd := t_di_bd (tx := tx) k (10 * v w + tx.getD A 0 - 48) (A + 1)
      have e3 : 2 - k + ((t_di tx k (10 * v w + tx.getD A 0 - 48) (A + 1)).2 - (A + 1)) = 2 - (k + 1) + ((t_di tx k (10 * v w + tx.getD A 0 - 48) (A + 1)).2 - A) := by omega
      rw [e3] at w3
      refine ⟨v', fun i hi => (w1 i hi).trans (by rw [upN_app, if_neg hi]), w2, ?_⟩
      rw [← w3]
      have bt := c_btw (d := d+2) (h := wR K r nu t g A B R C M v) (v := (nI (tx.getD A 0)).toInt64) (a := 48) (b := 57)
      rw [q_dg (c128 A q1), if_pos ⟨q2, q3⟩] at bt
      have cb := c128 A q1
      revert q2 ch1 bt cb
      generalize tx.getD A 0 = c
      intro q2 ch1 bt cb
      have z1 : ((1 : Int32) = 0) = False := eq_false (by decide)
      rw [w_X7_reads_9]
      simp (disch := first | omega | assumption | exact Or.inl rfl | exact Or.inr rfl | exact wN_kls (by omega) | exact wE_kls (by omega) | exact wR_kls (by omega) | (simp only [a_cat_nil, a_cat_int, a_cat_ref, a_cat_null, a_cat_long]; done) | (simp only [a_cat_nil, a_cat_int, a_cat_ref, a_cat_null, a_cat_long]; omega) | decide | rfl | (apply Or.inr; omega) | (apply Or.inl; omega)) only [w_X7_reads_10, w_X7_reads_11, w_X7_reads_14, w_X7_reads_15, w_X7_reads_18, w_X7_reads_19, w_X7_reads_22, w_X7_reads_25, w_X7_reads_28, w_X7_reads_31, w_X7_reads_32, w_X7_reads_35, w_X7_reads_38, w_X7_reads_39, w_X7_reads_42, w_X7_reads_45, w_X7_reads_46, w_X7_reads_49, w_X7_reads_52, w_X7_reads_55, w_X7_reads_58, w_X7_reads_59, w_X7_reads_62, w_X7_reads_63, w_X7_reads_65, w_X7_reads_66, w_X7_reads_69, w_X7_reads_70, w_X7_reads_71, w_X7_reads_72, w_X7_reads_73, w_X7_reads_76, w_X7_reads_79, w_X7_reads_80, w_X7_reads_83, w_X7_reads_86, w_X7_reads_87, w_X7_reads_89, w_X7_reads_90, w_X7_reads_91, w_X7_reads_94, w_X7_reads_95, w_X7_reads_95I, w_X7_reads_96, w_X7_reads_99, w_X7_reads_100, w_X7_reads_101, w_X7_reads_104, w_ret, w_exc, Nat.reduceAdd, Option.toList_some, Option.toList_none, List.cons_append, List.nil_append, Option.bind_some, nI_add, q_mul, q_sub, q_eq, q_eqz, q_lt, q_ltz, q_gtz, q_le, q_lez, q_div, q_or, q_and, q_shl, q_shr, q_m1, q_eqm, q_meq, q_mm, q_mlt, q_mgt, q_mlt2, q_dec, Nat.add_sub_cancel, q_ltT, q_ltF, q_leT, q_leF, q_eqT, q_eqF, ↓reduceIte, uN_s, uN_n, upN_app, uG_s, uG_n, uG_uG, if_true, if_false, Nat.reduceMul, Nat.reduceSub, Nat.reduceEqDiff, Nat.reduceLT, and_true, true_and, and_false, false_and, or_true, true_or, or_false, false_or, not_true_eq_false, not_false_eq_true, Option.some.injEq, e2, wR_g1, wR_g2, wR_g7, gs, ln, ch1, bt, z1, wR_rd, wR_wr, wR_p2]
    · rw [if_neg q]
      refine ⟨v, fun _ _ => rfl, rfl, ?_⟩
      rw [Nat.sub_self, Nat.add_zero]
      by_cases q1 : A < tx.length
      · have ch1 := ch d A q1
        have bt := c_btw (d := d+2) (h := wR K r nu t g A B R C M v) (v := (nI (tx.getD A 0)).toInt64) (a := 48) (b := 57)
        rw [q_dg (c128 A q1), if_neg (fun ⟨z1, z2⟩ => q (t_ia_iff.mpr ⟨q1, z1, z2⟩))] at bt
        revert ch1 bt
        generalize tx.getD A 0 = c
        intro ch1 bt
        rw [w_X7_reads_9]
        simp (disch := first | omega | assumption | exact Or.inl rfl | exact Or.inr rfl | exact wN_kls (by omega) | exact wE_kls (by omega) | exact wR_kls (by omega) | (simp only [a_cat_nil, a_cat_int, a_cat_ref, a_cat_null, a_cat_long]; done) | (simp only [a_cat_nil, a_cat_int, a_cat_ref, a_cat_null, a_cat_long]; omega) | decide | rfl | (apply Or.inr; omega) | (apply Or.inl; omega)) only [w_X7_reads_10, w_X7_reads_11, w_X7_reads_14, w_X7_reads_15, w_X7_reads_18, w_X7_reads_19, w_X7_reads_22, w_X7_reads_25, w_X7_reads_28, w_X7_reads_31, w_X7_reads_32, w_X7_reads_35, w_X7_reads_38, w_X7_reads_39, w_X7_reads_42, w_X7_reads_45, w_X7_reads_46, w_X7_reads_49, w_X7_reads_52, w_X7_reads_55, w_ret, w_exc, Nat.reduceAdd, Option.toList_some, Option.toList_none, List.cons_append, List.nil_append, Option.bind_some, nI_add, q_mul, q_sub, q_eq, q_eqz, q_lt, q_ltz, q_gtz, q_le, q_lez, q_div, q_or, q_and, q_shl, q_shr, q_m1, q_eqm, q_meq, q_mm, q_mlt, q_mgt, q_mlt2, q_dec, Nat.add_sub_cancel, q_ltT, q_ltF, q_leT, q_leF, q_eqT, q_eqF, ↓reduceIte, uN_s, uN_n, upN_app, uG_s, uG_n, uG_uG, if_true, if_false, Nat.reduceMul, Nat.reduceSub, Nat.reduceEqDiff, Nat.reduceLT, and_true, true_and, and_false, false_and, or_true, true_or, or_false, false_or, not_true_eq_false, not_false_eq_true, Option.some.injEq, wR_g2, wR_g7, gs, ln, ch1, bt, Nat.add_zero]
      · rw [w_X7_reads_9]
        simp (disch := first | omega | assumption | exact Or.inl rfl | exact Or.inr rfl | exact wN_kls (by omega) | exact wE_kls (by omega) | exact wR_kls (by omega) | (simp only [a_cat_nil, a_cat_int, a_cat_ref, a_cat_null, a_cat_long]; done) | (simp only [a_cat_nil, a_cat_int, a_cat_ref, a_cat_null, a_cat_long]; omega) | decide | rfl | (apply Or.inr; omega) | (apply Or.inl; omega)) only [w_X7_reads_10, w_X7_reads_11, w_X7_reads_14, w_X7_reads_15, w_X7_reads_18, w_X7_reads_19, w_X7_reads_22, w_X7_reads_25, w_X7_reads_28, w_ret, w_exc, Nat.reduceAdd, Option.toList_some, Option.toList_none, List.cons_append, List.nil_append, Option.bind_some, nI_add, q_mul, q_sub, q_eq, q_eqz, q_lt, q_ltz, q_gtz, q_le, q_lez, q_div, q_or, q_and, q_shl, q_shr, q_m1, q_eqm, q_meq, q_mm, q_mlt, q_mgt, q_mlt2, q_dec, Nat.add_sub_cancel, q_ltT, q_ltF, q_leT, q_leF, q_eqT, q_eqF, ↓reduceIte, uN_s, uN_n, upN_app, uG_s, uG_n, uG_uG, if_true, if_false, Nat.reduceMul, Nat.reduceSub, Nat.reduceEqDiff, Nat.reduceLT, and_true, true_and, and_false, false_and, or_true, true_or, or_false, false_or, not_true_eq_false, not_false_eq_true, Option.some.injEq, wR_g2, wR_g7, gs, ln, Nat.add_zero]
theorem z_reads {w : Nat} (hr : 1024 ≤ r) (hn : 1024 ≤ nu) (ne : nu ≠ r) (k0 : zK K r nu) (z : zT K g tx) (hw : w < 2) (hA : A < 100) : ∃ v' : Nat → Nat, (∀ i, i ≠ w → v' i = v i) ∧ v' w = (t_di tx 2 0 A).1 ∧ a_call (d+4) MX7_reads [.ref r, .int (nI w)] (wR K r nu t g A B R C M v) = some (.inl (some (.int (nI (if A < (t_di tx 2 0 A).2 then 1 else 0)))), wR K r nu t g (t_di tx 2 0 A).2 B R C M v') := by
  have ⟨v', w1, w2, w3⟩ := z_re1 (d := d) (t := t) (B := B) (R := R) (C := C) (M := M) hr hn ne k0 z hw 2 A (upN v w 0) (Nat.le_refl _) hA
  rw [upN_app, if_pos rfl] at w2 w3
  rw [Nat.sub_self, Nat.zero_add] at w3
  have bd := t_di_bd (tx := tx) 2 0 A
  refine ⟨v', fun i hi => (w1 i hi).trans (by rw [upN_app, if_neg hi]), w2, ?_⟩
  rw [e_X7_reads]
  simp (disch := first | omega | assumption | exact Or.inl rfl | exact Or.inr rfl | exact wN_kls (by omega) | exact wE_kls (by omega) | exact wR_kls (by omega) | (simp only [a_cat_nil, a_cat_int, a_cat_ref, a_cat_null, a_cat_long]; done) | (simp only [a_cat_nil, a_cat_int, a_cat_ref, a_cat_null, a_cat_long]; omega) | decide | rfl | (apply Or.inr; omega) | (apply Or.inl; omega)) only [w_X7_reads_0, w_X7_reads_1, w_X7_reads_2, w_X7_reads_3, w_X7_reads_6, w_X7_reads_7, w_X7_reads_8, w_ret, w_exc, Nat.reduceAdd, Option.toList_some, Option.toList_none, List.cons_append, List.nil_append, Option.bind_some, nI_add, q_mul, q_sub, q_eq, q_eqz, q_lt, q_ltz, q_gtz, q_le, q_lez, q_div, q_or, q_and, q_shl, q_shr, q_m1, q_eqm, q_meq, q_mm, q_mlt, q_mgt, q_mlt2, q_dec, Nat.add_sub_cancel, q_ltT, q_ltF, q_leT, q_leF, q_eqT, q_eqF, ↓reduceIte, uN_s, uN_n, upN_app, uG_s, uG_n, uG_uG, if_true, if_false, Nat.reduceMul, Nat.reduceSub, Nat.reduceEqDiff, Nat.reduceLT, and_true, true_and, and_false, false_and, or_true, true_or, or_false, false_or, not_true_eq_false, not_false_eq_true, Option.some.injEq, wR_g1, wR_wr]
  rw [w3]
  by_cases c : A < (t_di tx 2 0 A).2
  · rw [if_pos c]
    simp (disch := first | omega | assumption | exact Or.inl rfl | exact Or.inr rfl | exact wN_kls (by omega) | exact wE_kls (by omega) | exact wR_kls (by omega) | (simp only [a_cat_nil, a_cat_int, a_cat_ref, a_cat_null, a_cat_long]; done) | (simp only [a_cat_nil, a_cat_int, a_cat_ref, a_cat_null, a_cat_long]; omega) | decide | rfl | (apply Or.inr; omega) | (apply Or.inl; omega)) only [w_X7_reads_107, w_X7_reads_108, w_X7_reads_111, w_X7_reads_112, w_X7_reads_115, w_X7_reads_116, w_ret, w_exc, Nat.reduceAdd, Option.toList_some, Option.toList_none, List.cons_append, List.nil_append, Option.bind_some, nI_add, q_mul, q_sub, q_eq, q_eqz, q_lt, q_ltz, q_gtz, q_le, q_lez, q_div, q_or, q_and, q_shl, q_shr, q_m1, q_eqm, q_meq, q_mm, q_mlt, q_mgt, q_mlt2, q_dec, Nat.add_sub_cancel, q_ltT, q_ltF, q_leT, q_leF, q_eqT, q_eqF, ↓reduceIte, uN_s, uN_n, upN_app, uG_s, uG_n, uG_uG, if_true, if_false, Nat.reduceMul, Nat.reduceSub, Nat.reduceEqDiff, Nat.reduceLT, and_true, true_and, and_false, false_and, or_true, true_or, or_false, false_or, not_true_eq_false, not_false_eq_true, Option.some.injEq]
  · rw [if_neg c, show (t_di tx 2 0 A).2 - A = 0 by omega]
    simp (disch := first | omega | assumption | exact Or.inl rfl | exact Or.inr rfl | exact wN_kls (by omega) | exact wE_kls (by omega) | exact wR_kls (by omega) | (simp only [a_cat_nil, a_cat_int, a_cat_ref, a_cat_null, a_cat_long]; done) | (simp only [a_cat_nil, a_cat_int, a_cat_ref, a_cat_null, a_cat_long]; omega) | decide | rfl | (apply Or.inr; omega) | (apply Or.inl; omega)) only [w_X7_reads_107, w_X7_reads_108, w_X7_reads_111, w_X7_reads_112, w_X7_reads_115, w_X7_reads_116, w_ret, w_exc, Nat.reduceAdd, Option.toList_some, Option.toList_none, List.cons_append, List.nil_append, Option.bind_some, nI_add, q_mul, q_sub, q_eq, q_eqz, q_lt, q_ltz, q_gtz, q_le, q_lez, q_div, q_or, q_and, q_shl, q_shr, q_m1, q_eqm, q_meq, q_mm, q_mlt, q_mgt, q_mlt2, q_dec, Nat.add_sub_cancel, q_ltT, q_ltF, q_leT, q_leF, q_eqT, q_eqF, ↓reduceIte, uN_s, uN_n, upN_app, uG_s, uG_n, uG_uG, if_true, if_false, Nat.reduceMul, Nat.reduceSub, Nat.reduceEqDiff, Nat.reduceLT, and_true, true_and, and_false, false_and, or_true, true_or, or_false, false_or, not_true_eq_false, not_false_eq_true, Option.some.injEq]
theorem z_form3 (hr : 1024 ≤ r) : a_call (d+5) MX7_isOfForm [.ref r, .int (nI 4294967295)] (wR K r nu t g A B R C M v) = some (.inl (some (.int (nI 0))), wR K r nu t g A B R C M v) := by
  have z : (nI 0 < nI 4294967295) = False := eq_false (by decide)
  rw [e_X7_isOfForm]
  simp (disch := first | omega | assumption | exact Or.inl rfl | exact Or.inr rfl | exact wN_kls (by omega) | exact wE_kls (by omega) | exact wR_kls (by omega) | (simp only [a_cat_nil, a_cat_int, a_cat_ref, a_cat_null, a_cat_long]; done) | (simp only [a_cat_nil, a_cat_int, a_cat_ref, a_cat_null, a_cat_long]; omega) | decide | rfl | (apply Or.inr; omega) | (apply Or.inl; omega)) only [w_X7_isOfForm_0, w_X7_isOfForm_1, w_X7_isOfForm_4, w_X7_isOfForm_5, w_X7_isOfForm_8, w_X7_isOfForm_9, w_X7_isOfForm_10, w_X7_isOfForm_11, w_X7_isOfForm_12, w_X7_isOfForm_13, w_X7_isOfForm_14, w_X7_isOfForm_17, w_X7_isOfForm_18, w_X7_isOfForm_21, w_X7_isOfForm_22, w_X7_isOfForm_25, w_X7_isOfForm_26, w_X7_isOfForm_28, w_X7_isOfForm_31, w_X7_isOfForm_34, w_X7_isOfForm_35, w_X7_isOfForm_36, w_X7_isOfForm_39, w_X7_isOfForm_42, w_X7_isOfForm_43, w_X7_isOfForm_46, w_X7_isOfForm_47, w_X7_isOfForm_48, w_X7_isOfForm_51, w_X7_isOfForm_54, w_X7_isOfForm_55, w_X7_isOfForm_58, w_X7_isOfForm_59, w_X7_isOfForm_61, w_X7_isOfForm_64, w_X7_isOfForm_67, w_X7_isOfForm_68, w_X7_isOfForm_71, w_X7_isOfForm_72, w_ret, w_exc, Nat.reduceAdd, Option.toList_some, Option.toList_none, List.cons_append, List.nil_append, Option.bind_some, nI_add, q_mul, q_sub, q_eq, q_eqz, q_lt, q_ltz, q_gtz, q_le, q_lez, q_div, q_or, q_and, q_shl, q_shr, q_m1, q_eqm, q_meq, q_mm, q_mlt, q_mgt, q_mlt2, q_dec, Nat.add_sub_cancel, q_ltT, q_ltF, q_leT, q_leF, q_eqT, q_eqF, ↓reduceIte, uN_s, uN_n, upN_app, uG_s, uG_n, uG_uG, if_true, if_false, Nat.reduceMul, Nat.reduceSub, Nat.reduceEqDiff, Nat.reduceLT, and_true, true_and, and_false, false_and, or_true, true_or, or_false, false_or, not_true_eq_false, not_false_eq_true, Option.some.injEq, z]
theorem z_form {w : Nat} (hr : 1024 ≤ r) (hn : 1024 ≤ nu) (ne : nu ≠ r) (k0 : zK K r nu) (z : zT K g tx) (hw : w < 3) (hA : A < 70) : ∃ (b : Bool) (E : Nat) (v' : Nat → Nat), ((t_ns tx w A).1 = true → b = t_ia tx (t_ns tx w A).2.2.2 59 59 ∧ E = (t_ns tx w A).2.2.2 + b.toNat ∧ (1 ≤ w → v' 0 = (t_ns tx w A).2.1) ∧ (w = 2 → v' 1 = (t_ns tx w A).2.2.1)) ∧ ((t_ns tx w A).1 = false → b = false ∧ E = (t_ns tx w A).2.2.2) ∧ a_call (d+5) MX7_isOfForm [.ref r, .int (nI w)] (wR K r nu t g A B R C M v) = some (.inl (some (.int (nI b.toNat))), wR K r nu t g E B R C M v') := by
  have ib : ∀ b : Bool, b.toNat = 0 ∨ b.toNat = 1 := fun b => by cases b; exact Or.inl rfl; exact Or.inr rfl
  have k3 : w = 0 ∨ w = 1 ∨ w = 2 := by omega
  rcases k3 with rfl | rfl | rfl
  · have ac := z_accepts (d := d) (t := t) (B := B) (R := R) (C := C) (M := M) (v := v) (c := 59) hr k0 z (show A < 1000 by omega) (by omega)
    refine ⟨t_ia tx A 59 59, A + (t_ia tx A 59 59).toNat, v, fun _ => ⟨rfl, rfl, fun z => absurd z (by decide), fun z => absurd z (by decide)⟩, fun z => Bool.noConfusion (show true = false from z), ?_⟩
    rw [e_X7_isOfForm]
    cases hb : t_ia tx A 59 59
    · rw [hb, Bool.toNat_false] at ac
      rw [Bool.toNat_false]
      simp (disch := first | omega | assumption | exact Or.inl rfl | exact Or.inr rfl | exact wN_kls (by omega) | exact wE_kls (by omega) | exact wR_kls (by omega) | (simp only [a_cat_nil, a_cat_int, a_cat_ref, a_cat_null, a_cat_long]; done) | (simp only [a_cat_nil, a_cat_int, a_cat_ref, a_cat_null, a_cat_long]; omega) | decide | rfl | (apply Or.inr; omega) | (apply Or.inl; omega)) only [w_X7_isOfForm_0, w_X7_isOfForm_1, w_X7_isOfForm_4, w_X7_isOfForm_5, w_X7_isOfForm_8, w_X7_isOfForm_9, w_X7_isOfForm_10, w_X7_isOfForm_11, w_X7_isOfForm_12, w_X7_isOfForm_13, w_X7_isOfForm_14, w_X7_isOfForm_17, w_X7_isOfForm_18, w_X7_isOfForm_21, w_X7_isOfForm_22, w_X7_isOfForm_25, w_X7_isOfForm_26, w_X7_isOfForm_28, w_X7_isOfForm_31, w_X7_isOfForm_34, w_X7_isOfForm_35, w_X7_isOfForm_36, w_X7_isOfForm_39, w_X7_isOfForm_42, w_X7_isOfForm_43, w_X7_isOfForm_46, w_X7_isOfForm_47, w_X7_isOfForm_48, w_X7_isOfForm_51, w_X7_isOfForm_54, w_X7_isOfForm_55, w_X7_isOfForm_58, w_X7_isOfForm_59, w_X7_isOfForm_61, w_X7_isOfForm_64, w_X7_isOfForm_67, w_X7_isOfForm_68, w_X7_isOfForm_71, w_X7_isOfForm_72, w_ret, w_exc, Nat.reduceAdd, Option.toList_some, Option.toList_none, List.cons_append, List.nil_append, Option.bind_some, nI_add, q_mul, q_sub, q_eq, q_eqz, q_lt, q_ltz, q_gtz, q_le, q_lez, q_div, q_or, q_and, q_shl, q_shr, q_m1, q_eqm, q_meq, q_mm, q_mlt, q_mgt, q_mlt2, q_dec, Nat.add_sub_cancel, q_ltT, q_ltF, q_leT, q_leF, q_eqT, q_eqF, ↓reduceIte, uN_s, uN_n, upN_app, uG_s, uG_n, uG_uG, if_true, if_false, Nat.reduceMul, Nat.reduceSub, Nat.reduceEqDiff, Nat.reduceLT, and_true, true_and, and_false, false_and, or_true, true_or, or_false, false_or, not_true_eq_false, not_false_eq_true, Option.some.injEq, ac]
    · rw [hb, Bool.toNat_true] at ac
      rw [Bool.toNat_true]
      simp (disch := first | omega | assumption | exact Or.inl rfl | exact Or.inr rfl | exact wN_kls (by omega) | exact wE_kls (by omega) | exact wR_kls (by omega) | (simp only [a_cat_nil, a_cat_int, a_cat_ref, a_cat_null, a_cat_long]; done) | (simp only [a_cat_nil, a_cat_int, a_cat_ref, a_cat_null, a_cat_long]; omega) | decide | rfl | (apply Or.inr; omega) | (apply Or.inl; omega)) only [w_X7_isOfForm_0, w_X7_isOfForm_1, w_X7_isOfForm_4, w_X7_isOfForm_5, w_X7_isOfForm_8, w_X7_isOfForm_9, w_X7_isOfForm_10, w_X7_isOfForm_11, w_X7_isOfForm_12, w_X7_isOfForm_13, w_X7_isOfForm_14, w_X7_isOfForm_17, w_X7_isOfForm_18, w_X7_isOfForm_21, w_X7_isOfForm_22, w_X7_isOfForm_25, w_X7_isOfForm_26, w_X7_isOfForm_28, w_X7_isOfForm_31, w_X7_isOfForm_34, w_X7_isOfForm_35, w_X7_isOfForm_36, w_X7_isOfForm_39, w_X7_isOfForm_42, w_X7_isOfForm_43, w_X7_isOfForm_46, w_X7_isOfForm_47, w_X7_isOfForm_48, w_X7_isOfForm_51, w_X7_isOfForm_54, w_X7_isOfForm_55, w_X7_isOfForm_58, w_X7_isOfForm_59, w_X7_isOfForm_61, w_X7_isOfForm_64, w_X7_isOfForm_67, w_X7_isOfForm_68, w_X7_isOfForm_71, w_X7_isOfForm_72, w_ret, w_exc, Nat.reduceAdd, Option.toList_some, Option.toList_none, List.cons_append, List.nil_append, Option.bind_some, nI_add, q_mul, q_sub, q_eq, q_eqz, q_lt, q_ltz, q_gtz, q_le, q_lez, q_div, q_or, q_and, q_shl, q_shr, q_m1, q_eqm, q_meq, q_mm, q_mlt, q_mgt, q_mlt2, q_dec, Nat.add_sub_cancel, q_ltT, q_ltF, q_leT, q_leF, q_eqT, q_eqF, ↓reduceIte, uN_s, uN_n, upN_app, uG_s, uG_n, uG_uG, if_true, if_false, Nat.reduceMul, Nat.reduceSub, Nat.reduceEqDiff, Nat.reduceLT, and_true, true_and, and_false, false_and, or_true, true_or, or_false, false_or, not_true_eq_false, not_false_eq_true, Option.some.injEq, ac]
  · have e : t_ns tx 1 A = (decide (A < (t_di tx 2 0 A).2), (t_di tx 2 0 A).1, 0, (t_di tx 2 0 A).2) := rfl
    have ⟨v1, a1, a2, a3⟩ := z_reads (d := d) (t := t) (B := B) (R := R) (C := C) (M := M) (v := v) (w := 0) hr hn ne k0 z (by omega) (show A < 100 by omega)
    have bd := t_di_bd (tx := tx) 2 0 A
    have ac := z_accepts (d := d) (t := t) (A := (t_di tx 2 0 A).2) (B := B) (R := R) (C := C) (M := M) (v := v1) (c := 59) hr k0 z (by omega) (by omega)
    rw [e]
    by_cases c1 : A < (t_di tx 2 0 A).2
    · rw [if_pos c1] at a3
      refine ⟨t_ia tx (t_di tx 2 0 A).2 59 59, _, v1, fun _ => ⟨rfl, rfl, fun _ => a2, fun z => absurd z (by decide)⟩, fun z => absurd c1 (of_decide_eq_false z), ?_⟩
      rw [e_X7_isOfForm]
      cases hb : t_ia tx (t_di tx 2 0 A).2 59 59
      · rw [hb, Bool.toNat_false] at ac
        rw [Bool.toNat_false]
        simp (disch := first | omega | assumption | exact Or.inl rfl | exact Or.inr rfl | exact wN_kls (by omega) | exact wE_kls (by omega) | exact wR_kls (by omega) | (simp only [a_cat_nil, a_cat_int, a_cat_ref, a_cat_null, a_cat_long]; done) | (simp only [a_cat_nil, a_cat_int, a_cat_ref, a_cat_null, a_cat_long]; omega) | decide | rfl | (apply Or.inr; omega) | (apply Or.inl; omega)) only [w_X7_isOfForm_0, w_X7_isOfForm_1, w_X7_isOfForm_4, w_X7_isOfForm_5, w_X7_isOfForm_8, w_X7_isOfForm_9, w_X7_isOfForm_10, w_X7_isOfForm_11, w_X7_isOfForm_12, w_X7_isOfForm_13, w_X7_isOfForm_14, w_X7_isOfForm_17, w_X7_isOfForm_18, w_X7_isOfForm_21, w_X7_isOfForm_22, w_X7_isOfForm_25, w_X7_isOfForm_26, w_X7_isOfForm_28, w_X7_isOfForm_31, w_X7_isOfForm_34, w_X7_isOfForm_35, w_X7_isOfForm_36, w_X7_isOfForm_39, w_X7_isOfForm_42, w_X7_isOfForm_43, w_X7_isOfForm_46, w_X7_isOfForm_47, w_X7_isOfForm_48, w_X7_isOfForm_51, w_X7_isOfForm_54, w_X7_isOfForm_55, w_X7_isOfForm_58, w_X7_isOfForm_59, w_X7_isOfForm_61, w_X7_isOfForm_64, w_X7_isOfForm_67, w_X7_isOfForm_68, w_X7_isOfForm_71, w_X7_isOfForm_72, w_ret, w_exc, Nat.reduceAdd, Option.toList_some, Option.toList_none, List.cons_append, List.nil_append, Option.bind_some, nI_add, q_mul, q_sub, q_eq, q_eqz, q_lt, q_ltz, q_gtz, q_le, q_lez, q_div, q_or, q_and, q_shl, q_shr, q_m1, q_eqm, q_meq, q_mm, q_mlt, q_mgt, q_mlt2, q_dec, Nat.add_sub_cancel, q_ltT, q_ltF, q_leT, q_leF, q_eqT, q_eqF, ↓reduceIte, uN_s, uN_n, upN_app, uG_s, uG_n, uG_uG, if_true, if_false, Nat.reduceMul, Nat.reduceSub, Nat.reduceEqDiff, Nat.reduceLT, and_true, true_and, and_false, false_and, or_true, true_or, or_false, false_or, not_true_eq_false, not_false_eq_true, Option.some.injEq, a3, ac]
      · rw [hb, Bool.toNat_true] at ac
        rw [Bool.toNat_true]
        simp (disch := first | omega | assumption | exact Or.inl rfl | exact Or.inr rfl | exact wN_kls (by omega) | exact wE_kls (by omega) | exact wR_kls (by omega) | (simp only [a_cat_nil, a_cat_int, a_cat_ref, a_cat_null, a_cat_long]; done) | (simp only [a_cat_nil, a_cat_int, a_cat_ref, a_cat_null, a_cat_long]; omega) | decide | rfl | (apply Or.inr; omega) | (apply Or.inl; omega)) only [w_X7_isOfForm_0, w_X7_isOfForm_1, w_X7_isOfForm_4, w_X7_isOfForm_5, w_X7_isOfForm_8, w_X7_isOfForm_9, w_X7_isOfForm_10, w_X7_isOfForm_11, w_X7_isOfForm_12, w_X7_isOfForm_13, w_X7_isOfForm_14, w_X7_isOfForm_17, w_X7_isOfForm_18, w_X7_isOfForm_21, w_X7_isOfForm_22, w_X7_isOfForm_25, w_X7_isOfForm_26, w_X7_isOfForm_28, w_X7_isOfForm_31, w_X7_isOfForm_34, w_X7_isOfForm_35, w_X7_isOfForm_36, w_X7_isOfForm_39, w_X7_isOfForm_42, w_X7_isOfForm_43, w_X7_isOfForm_46, w_X7_isOfForm_47, w_X7_isOfForm_48, w_X7_isOfForm_51, w_X7_isOfForm_54, w_X7_isOfForm_55, w_X7_isOfForm_58, w_X7_isOfForm_59, w_X7_isOfForm_61, w_X7_isOfForm_64, w_X7_isOfForm_67, w_X7_isOfForm_68, w_X7_isOfForm_71, w_X7_isOfForm_72, w_ret, w_exc, Nat.reduceAdd, Option.toList_some, Option.toList_none, List.cons_append, List.nil_append, Option.bind_some, nI_add, q_mul, q_sub, q_eq, q_eqz, q_lt, q_ltz, q_gtz, q_le, q_lez, q_div, q_or, q_and, q_shl, q_shr, q_m1, q_eqm, q_meq, q_mm, q_mlt, q_mgt, q_mlt2, q_dec, Nat.add_sub_cancel, q_ltT, q_ltF, q_leT, q_leF, q_eqT, q_eqF, ↓reduceIte, uN_s, uN_n, upN_app, uG_s, uG_n, uG_uG, if_true, if_false, Nat.reduceMul, Nat.reduceSub, Nat.reduceEqDiff, Nat.reduceLT, and_true, true_and, and_false, false_and, or_true, true_or, or_false, false_or, not_true_eq_false, not_false_eq_true, Option.some.injEq, a3, ac]
    · rw [if_neg c1] at a3
      refine ⟨false, _, v1, fun z => absurd (of_decide_eq_true z) c1, fun _ => ⟨rfl, rfl⟩, ?_⟩
      rw [e_X7_isOfForm, Bool.toNat_false]
      simp (disch := first | omega | assumption | exact Or.inl rfl | exact Or.inr rfl | exact wN_kls (by omega) | exact wE_kls (by omega) | exact wR_kls (by omega) | (simp only [a_cat_nil, a_cat_int, a_cat_ref, a_cat_null, a_cat_long]; done) | (simp only [a_cat_nil, a_cat_int, a_cat_ref, a_cat_null, a_cat_long]; omega) | decide | rfl | (apply Or.inr; omega) | (apply Or.inl; omega)) only [w_X7_isOfForm_0, w_X7_isOfForm_1, w_X7_isOfForm_4, w_X7_isOfForm_5, w_X7_isOfForm_8, w_X7_isOfForm_9, w_X7_isOfForm_10, w_X7_isOfForm_11, w_X7_isOfForm_12, w_X7_isOfForm_13, w_X7_isOfForm_14, w_X7_isOfForm_17, w_X7_isOfForm_18, w_X7_isOfForm_21, w_X7_isOfForm_22, w_X7_isOfForm_25, w_X7_isOfForm_26, w_X7_isOfForm_28, w_X7_isOfForm_31, w_X7_isOfForm_34, w_X7_isOfForm_35, w_X7_isOfForm_36, w_X7_isOfForm_39, w_X7_isOfForm_42, w_X7_isOfForm_43, w_X7_isOfForm_46, w_X7_isOfForm_47, w_X7_isOfForm_48, w_X7_isOfForm_51, w_X7_isOfForm_54, w_X7_isOfForm_55, w_X7_isOfForm_58, w_X7_isOfForm_59, w_X7_isOfForm_61, w_X7_isOfForm_64, w_X7_isOfForm_67, w_X7_isOfForm_68, w_X7_isOfForm_71, w_X7_isOfForm_72, w_ret, w_exc, Nat.reduceAdd, Option.toList_some, Option.toList_none, List.cons_append, List.nil_append, Option.bind_some, nI_add, q_mul, q_sub, q_eq, q_eqz, q_lt, q_ltz, q_gtz, q_le, q_lez, q_div, q_or, q_and, q_shl, q_shr, q_m1, q_eqm, q_meq, q_mm, q_mlt, q_mgt, q_mlt2, q_dec, Nat.add_sub_cancel, q_ltT, q_ltF, q_leT, q_leF, q_eqT, q_eqF, ↓reduceIte, uN_s, uN_n, upN_app, uG_s, uG_n, uG_uG, if_true, if_false, Nat.reduceMul, Nat.reduceSub, Nat.reduceEqDiff, Nat.reduceLT, and_true, true_and, and_false, false_and, or_true, true_or, or_false, false_or, not_true_eq_false, not_false_eq_true, Option.some.injEq, a3]
  · have ⟨v1, a1, a2, a3⟩ := z_reads (d := d) (t := t) (B := B) (R := R) (C := C) (M := M) (v := v) (w := 0) hr hn ne k0 z (by omega) (show A < 100 by omega)
    have bd := t_di_bd (tx := tx) 2 0 A
    have ac := z_accepts (d := d) (t := t) (A := (t_di tx 2 0 A).2) (B := B) (R := R) (C := C) (M := M) (v := v1) (c := 44) hr k0 z (by omega) (by omega)
    by_cases c1 : A < (t_di tx 2 0 A).2
    · rw [if_pos c1] at a3
      by_cases c2 : t_ia tx (t_di tx 2 0 A).2 44 44 = true
      · rw [c2, Bool.toNat_true] at ac
        have ⟨v2, b1, b2, b3⟩ := z_reads (d := d) (t := t) (A := (t_di tx 2 0 A).2 + 1) (B := B) (R := R) (C := C) (M := M) (v := v1) (w := 1) hr hn ne k0 z (by omega) (by omega)
        have bd2 := t_di_bd (tx := tx) 2 0 ((t_di tx 2 0 A).2 + 1)
        have ac2 := z_accepts (d := d) (t := t) (A := (t_di tx 2 0 ((t_di tx 2 0 A).2 + 1)).2) (B := B) (R := R) (C := C) (M := M) (v := v2) (c := 59) hr k0 z (by omega) (by omega)
        have e : t_ns tx 2 A = (decide ((t_di tx 2 0 A).2 + 1 < (t_di tx 2 0 ((t_di tx 2 0 A).2 + 1)).2), (t_di tx 2 0 A).1, (t_di tx 2 0 ((t_di tx 2 0 A).2 + 1)).1, (t_di tx 2 0 ((t_di tx 2 0 A).2 + 1)).2) := by
          unfold t_ns
          rw [if_neg (by decide), if_neg (by decide), if_pos c1, if_pos c2]
        rw [e]
        by_cases c3 : (t_di tx 2 0 A).2 + 1 < (t_di tx 2 0 ((t_di tx 2 0 A).2 + 1)).2
        · rw [if_pos c3] at b3
          refine ⟨t_ia tx (t_di tx 2 0 ((t_di tx 2 0 A).2 + 1)).2 59 59, _, v2, fun _ => ⟨rfl, rfl, fun _ => (b1 0 (by decide)).trans a2, fun _ => b2⟩, fun z => absurd c3 (of_decide_eq_false z), ?_⟩
          rw [e_X7_isOfForm]
          cases hb : t_ia tx (t_di tx 2 0 ((t_di tx 2 0 A).2 + 1)).2 59 59
          · rw [hb, Bool.toNat_false] at ac2
            rw [Bool.toNat_false]
            simp (disch := first | omega | assumption | exact Or.inl rfl | exact Or.inr rfl | exact wN_kls (by omega) | exact wE_kls (by omega) | exact wR_kls (by omega) | (simp only [a_cat_nil, a_cat_int, a_cat_ref, a_cat_null, a_cat_long]; done) | (simp only [a_cat_nil, a_cat_int, a_cat_ref, a_cat_null, a_cat_long]; omega) | decide | rfl | (apply Or.inr; omega) | (apply Or.inl; omega)) only [w_X7_isOfForm_0, w_X7_isOfForm_1, w_X7_isOfForm_4, w_X7_isOfForm_5, w_X7_isOfForm_8, w_X7_isOfForm_9, w_X7_isOfForm_10, w_X7_isOfForm_11, w_X7_isOfForm_12, w_X7_isOfForm_13, w_X7_isOfForm_14, w_X7_isOfForm_17, w_X7_isOfForm_18, w_X7_isOfForm_21, w_X7_isOfForm_22, w_X7_isOfForm_25, w_X7_isOfForm_26, w_X7_isOfForm_28, w_X7_isOfForm_31, w_X7_isOfForm_34, w_X7_isOfForm_35, w_X7_isOfForm_36, w_X7_isOfForm_39, w_X7_isOfForm_42, w_X7_isOfForm_43, w_X7_isOfForm_46, w_X7_isOfForm_47, w_X7_isOfForm_48, w_X7_isOfForm_51, w_X7_isOfForm_54, w_X7_isOfForm_55, w_X7_isOfForm_58, w_X7_isOfForm_59, w_X7_isOfForm_61, w_X7_isOfForm_64, w_X7_isOfForm_67, w_X7_isOfForm_68, w_X7_isOfForm_71, w_X7_isOfForm_72, w_ret, w_exc, Nat.reduceAdd, Option.toList_some, Option.toList_none, List.cons_append, List.nil_append, Option.bind_some, nI_add, q_mul, q_sub, q_eq, q_eqz, q_lt, q_ltz, q_gtz, q_le, q_lez, q_div, q_or, q_and, q_shl, q_shr, q_m1, q_eqm, q_meq, q_mm, q_mlt, q_mgt, q_mlt2, q_dec, Nat.add_sub_cancel, q_ltT, q_ltF, q_leT, q_leF, q_eqT, q_eqF, ↓reduceIte, uN_s, uN_n, upN_app, uG_s, uG_n, uG_uG, if_true, if_false, Nat.reduceMul, Nat.reduceSub, Nat.reduceEqDiff, Nat.reduceLT, and_true, true_and, and_false, false_and, or_true, true_or, or_false, false_or, not_true_eq_false, not_false_eq_true, Option.some.injEq, a3, ac, b3, ac2]
          · rw [hb, Bool.toNat_true] at ac2
            rw [Bool.toNat_true]
            simp (disch := first | omega | assumption | exact Or.inl rfl | exact Or.inr rfl | exact wN_kls (by omega) | exact wE_kls (by omega) | exact wR_kls (by omega) | (simp only [a_cat_nil, a_cat_int, a_cat_ref, a_cat_null, a_cat_long]; done) | (simp only [a_cat_nil, a_cat_int, a_cat_ref, a_cat_null, a_cat_long]; omega) | decide | rfl | (apply Or.inr; omega) | (apply Or.inl; omega)) only [w_X7_isOfForm_0, w_X7_isOfForm_1, w_X7_isOfForm_4, w_X7_isOfForm_5, w_X7_isOfForm_8, w_X7_isOfForm_9, w_X7_isOfForm_10, w_X7_isOfForm_11, w_X7_isOfForm_12, w_X7_isOfForm_13, w_X7_isOfForm_14, w_X7_isOfForm_17, w_X7_isOfForm_18, w_X7_isOfForm_21, w_X7_isOfForm_22, w_X7_isOfForm_25, w_X7_isOfForm_26, w_X7_isOfForm_28, w_X7_isOfForm_31, w_X7_isOfForm_34, w_X7_isOfForm_35, w_X7_isOfForm_36, w_X7_isOfForm_39, w_X7_isOfForm_42, w_X7_isOfForm_43, w_X7_isOfForm_46, w_X7_isOfForm_47, w_X7_isOfForm_48, w_X7_isOfForm_51, w_X7_isOfForm_54, w_X7_isOfForm_55, w_X7_isOfForm_58, w_X7_isOfForm_59, w_X7_isOfForm_61, w_X7_isOfForm_64, w_X7_isOfForm_67, w_X7_isOfForm_68, w_X7_isOfForm_71, w_X7_isOfForm_72, w_ret, w_exc, Nat.reduceAdd, Option.toList_some, Option.toList_none, List.cons_append, List.nil_append, Option.bind_some, nI_add, q_mul, q_sub, q_eq, q_eqz, q_lt, q_ltz, q_gtz, q_le, q_lez, q_div, q_or, q_and, q_shl, q_shr, q_m1, q_eqm, q_meq, q_mm, q_mlt, q_mgt, q_mlt2, q_dec, Nat.add_sub_cancel, q_ltT, q_ltF, q_leT, q_leF, q_eqT, q_eqF, ↓reduceIte, uN_s, uN_n, upN_app, uG_s, uG_n, uG_uG, if_true, if_false, Nat.reduceMul, Nat.reduceSub, Nat.reduceEqDiff, Nat.reduceLT, and_true, true_and, and_false, false_and, or_true, true_or, or_false, false_or, not_true_eq_false, not_false_eq_true, Option.some.injEq, a3, ac, b3, ac2]
        · rw [if_neg c3] at b3
          refine ⟨false, _, v2, fun z => absurd (of_decide_eq_true z) c3, fun _ => ⟨rfl, rfl⟩, ?_⟩
          rw [e_X7_isOfForm, Bool.toNat_false]
          simp (disch := first | omega | assumption | exact Or.inl rfl | exact Or.inr rfl | exact wN_kls (by omega) | exact wE_kls (by omega) | exact wR_kls (by omega) | (simp only [a_cat_nil, a_cat_int, a_cat_ref, a_cat_null, a_cat_long]; done) | (simp only [a_cat_nil, a_cat_int, a_cat_ref, a_cat_null, a_cat_long]; omega) | decide | rfl | (apply Or.inr; omega) | (apply Or.inl; omega)) only [w_X7_isOfForm_0, w_X7_isOfForm_1, w_X7_isOfForm_4, w_X7_isOfForm_5, w_X7_isOfForm_8, w_X7_isOfForm_9, w_X7_isOfForm_10, w_X7_isOfForm_11, w_X7_isOfForm_12, w_X7_isOfForm_13, w_X7_isOfForm_14, w_X7_isOfForm_17, w_X7_isOfForm_18, w_X7_isOfForm_21, w_X7_isOfForm_22, w_X7_isOfForm_25, w_X7_isOfForm_26, w_X7_isOfForm_28, w_X7_isOfForm_31, w_X7_isOfForm_34, w_X7_isOfForm_35, w_X7_isOfForm_36, w_X7_isOfForm_39, w_X7_isOfForm_42, w_X7_isOfForm_43, w_X7_isOfForm_46, w_X7_isOfForm_47, w_X7_isOfForm_48, w_X7_isOfForm_51, w_X7_isOfForm_54, w_X7_isOfForm_55, w_X7_isOfForm_58, w_X7_isOfForm_59, w_X7_isOfForm_61, w_X7_isOfForm_64, w_X7_isOfForm_67, w_X7_isOfForm_68, w_X7_isOfForm_71, w_X7_isOfForm_72, w_ret, w_exc, Nat.reduceAdd, Option.toList_some, Option.toList_none, List.cons_append, List.nil_append, Option.bind_some, nI_add, q_mul, q_sub, q_eq, q_eqz, q_lt, q_ltz, q_gtz, q_le, q_lez, q_div, q_or, q_and, q_shl, q_shr, q_m1, q_eqm, q_meq, q_mm, q_mlt, q_mgt, q_mlt2, q_dec, Nat.add_sub_cancel, q_ltT, q_ltF, q_leT, q_leF, q_eqT, q_eqF, ↓reduceIte, uN_s, uN_n, upN_app, uG_s, uG_n, uG_uG, if_true, if_false, Nat.reduceMul, Nat.reduceSub, Nat.reduceEqDiff, Nat.reduceLT, and_true, true_and, and_false, false_and, or_true, true_or, or_false, false_or, not_true_eq_false, not_false_eq_true, Option.some.injEq, a3, ac, b3]
      · have e : t_ns tx 2 A = (false, 0, 0, (t_di tx 2 0 A).2) := by
          unfold t_ns
          rw [if_neg (by decide), if_neg (by decide), if_pos c1, if_neg c2]
        rw [Bool.eq_false_iff.mpr c2, Bool.toNat_false] at ac
        rw [e]
        refine ⟨false, _, v1, fun z => Bool.noConfusion z, fun _ => ⟨rfl, rfl⟩, ?_⟩
        rw [e_X7_isOfForm, Bool.toNat_false]
        simp (disch := first | omega | assumption | exact Or.inl rfl | exact Or.inr rfl | exact wN_kls (by omega) | exact wE_kls (by omega) | exact wR_kls (by omega) | (simp only [a_cat_nil, a_cat_int, a_cat_ref, a_cat_null, a_cat_long]; done) | (simp only [a_cat_nil, a_cat_int, a_cat_ref, a_cat_null, a_cat_long]; omega) | decide | rfl | (apply Or.inr; omega) | (apply Or.inl; omega)) only [w_X7_isOfForm_0, w_X7_isOfForm_1, w_X7_isOfForm_4, w_X7_isOfForm_5, w_X7_isOfForm_8, w_X7_isOfForm_9, w_X7_isOfForm_10, w_X7_isOfForm_11, w_X7_isOfForm_12, w_X7_isOfForm_13, w_X7_isOfForm_14, w_X7_isOfForm_17, w_X7_isOfForm_18, w_X7_isOfForm_21, w_X7_isOfForm_22, w_X7_isOfForm_25, w_X7_isOfForm_26, w_X7_isOfForm_28, w_X7_isOfForm_31, w_X7_isOfForm_34, w_X7_isOfForm_35, w_X7_isOfForm_36, w_X7_isOfForm_39, w_X7_isOfForm_42, w_X7_isOfForm_43, w_X7_isOfForm_46, w_X7_isOfForm_47, w_X7_isOfForm_48, w_X7_isOfForm_51, w_X7_isOfForm_54, w_X7_isOfForm_55, w_X7_isOfForm_58, w_X7_isOfForm_59, w_X7_isOfForm_61, w_X7_isOfForm_64, w_X7_isOfForm_67, w_X7_isOfForm_68, w_X7_isOfForm_71, w_X7_isOfForm_72, w_ret, w_exc, Nat.reduceAdd, Option.toList_some, Option.toList_none, List.cons_append, List.nil_append, Option.bind_some, nI_add, q_mul, q_sub, q_eq, q_eqz, q_lt, q_ltz, q_gtz, q_le, q_lez, q_div, q_or, q_and, q_shl, q_shr, q_m1, q_eqm, q_meq, q_mm, q_mlt, q_mgt, q_mlt2, q_dec, Nat.add_sub_cancel, q_ltT, q_ltF, q_leT, q_leF, q_eqT, q_eqF, ↓reduceIte, uN_s, uN_n, upN_app, uG_s, uG_n, uG_uG, if_true, if_false, Nat.reduceMul, Nat.reduceSub, Nat.reduceEqDiff, Nat.reduceLT, and_true, true_and, and_false, false_and, or_true, true_or, or_false, false_or, not_true_eq_false, not_false_eq_true, Option.some.injEq, a3, ac, Nat.add_zero]
    · rw [if_neg c1] at a3
      have e : t_ns tx 2 A = (false, 0, 0, (t_di tx 2 0 A).2) := by
        unfold t_ns
        rw [if_neg (by decide), if_neg (by decide), if_neg c1]
      rw [e]
      refine ⟨false, _, v1, fun z => Bool.noConfusion z, fun _ => ⟨rfl, rfl⟩, ?_⟩
      rw [e_X7_isOfForm, Bool.toNat_false]
      simp (disch := first | omega | assumption | exact Or.inl rfl | exact Or.inr rfl | exact wN_kls (by omega) | exact wE_kls (by omega) | exact wR_kls (by omega) | (simp only [a_cat_nil, a_cat_int, a_cat_ref, a_cat_null, a_cat_long]; done) | (simp only [a_cat_nil, a_cat_int, a_cat_ref, a_cat_null, a_cat_long]; omega) | decide | rfl | (apply Or.inr; omega) | (apply Or.inl; omega)) only [w_X7_isOfForm_0, w_X7_isOfForm_1, w_X7_isOfForm_4, w_X7_isOfForm_5, w_X7_isOfForm_8, w_X7_isOfForm_9, w_X7_isOfForm_10, w_X7_isOfForm_11, w_X7_isOfForm_12, w_X7_isOfForm_13, w_X7_isOfForm_14, w_X7_isOfForm_17, w_X7_isOfForm_18, w_X7_isOfForm_21, w_X7_isOfForm_22, w_X7_isOfForm_25, w_X7_isOfForm_26, w_X7_isOfForm_28, w_X7_isOfForm_31, w_X7_isOfForm_34, w_X7_isOfForm_35, w_X7_isOfForm_36, w_X7_isOfForm_39, w_X7_isOfForm_42, w_X7_isOfForm_43, w_X7_isOfForm_46, w_X7_isOfForm_47, w_X7_isOfForm_48, w_X7_isOfForm_51, w_X7_isOfForm_54, w_X7_isOfForm_55, w_X7_isOfForm_58, w_X7_isOfForm_59, w_X7_isOfForm_61, w_X7_isOfForm_64, w_X7_isOfForm_67, w_X7_isOfForm_68, w_X7_isOfForm_71, w_X7_isOfForm_72, w_ret, w_exc, Nat.reduceAdd, Option.toList_some, Option.toList_none, List.cons_append, List.nil_append, Option.bind_some, nI_add, q_mul, q_sub, q_eq, q_eqz, q_lt, q_ltz, q_gtz, q_le, q_lez, q_div, q_or, q_and, q_shl, q_shr, q_m1, q_eqm, q_meq, q_mm, q_mlt, q_mgt, q_mlt2, q_dec, Nat.add_sub_cancel, q_ltT, q_ltF, q_leT, q_leF, q_eqT, q_eqF, ↓reduceIte, uN_s, uN_n, upN_app, uG_s, uG_n, uG_uG, if_true, if_false, Nat.reduceMul, Nat.reduceSub, Nat.reduceEqDiff, Nat.reduceLT, and_true, true_and, and_false, false_and, or_true, true_or, or_false, false_or, not_true_eq_false, not_false_eq_true, Option.some.injEq, a3]
end X6
