/-- a text at s with its bytes at b -/
abbrev cBy (n : Nat) (f : Nat → Nat) : a_C := .inl (.byte, n, .inl fun i => nI (f i))
abbrev cSB (b : Nat) (ml : Int32) (l : Nat) : a_C := .inr (8, [.ref b, .int (nI 0), .int ml, .int (nI l)])
def wT (g : a_H) (s b : Nat) (ml : Int32) (l n : Nat) (f : Nat → Nat) : a_H := a_set (a_set g b (cBy n f)) s (cSB b ml l)
theorem q_by {c : Nat} (hc : c < 128) : (nI c).toInt8.toInt32 = nI c ∧ vp_nar .byte (nI c) = nI c ∧ fits .byte (.int (nI c)) = true ∧ ((nI c &&& nI 255).toUInt32 % 65536).toInt32 = nI c ∧ ((nI c).toUInt32 % 65536).toInt32 = nI c := by
  have h : ∀ c, c < 128 → (nI c).toInt8.toInt32 = nI c ∧ vp_nar .byte (nI c) = nI c ∧ fits .byte (.int (nI c)) = true ∧ ((nI c &&& nI 255).toUInt32 % 65536).toInt32 = nI c ∧ ((nI c).toUInt32 % 65536).toInt32 = nI c := by decide
  exact h c hc
theorem q_shl0 {a : Int32} : a <<< (nI 0 &&& 31) = a := by
  show a <<< (0 : Int32) = a
  exact Int32.shiftLeft_zero
theorem q_shr0 {a : Int32} : a >>> (nI 0 &&& 31) = a := by
  show a >>> (0 : Int32) = a
  exact Int32.shiftRight_zero
section G1
variable {d : Nat} {g : a_H} {s b l n : Nat} {ml : Int32} {f : Nat → Nat}
theorem wT_s : (wT g s b ml l n f).2.2 s = cSB b ml l := if_pos rfl
theorem wT_b (ne : b ≠ s) : (wT g s b ml l n f).2.2 b = cBy n f := (if_neg ne).trans (if_pos rfl)
theorem wT_o {x : Nat} (n1 : x ≠ s) (n2 : x ≠ b) : (wT g s b ml l n f).2.2 x = g.2.2 x := (if_neg n1).trans (if_neg n2)
theorem wT_id (h1 : g.2.2 s = cSB b ml l) (h2 : g.2.2 b = cBy n f) : wT g s b ml l n f = g := a_Hx rfl rfl fun x => by
  show (if x = s then _ else if x = b then _ else _) = _
  by_cases z : x = s
  · rw [if_pos z, z, h1]
  · rw [if_neg z]
    by_cases z2 : x = b
    · rw [if_pos z2, z2, h2]
    · rw [if_neg z2]
theorem wT_kls (hs : 1024 ≤ s) : a_kls (wT g s b ml l n f) s = some 8 := a_kls_o hs wT_s
theorem wT_g0 (hs : 1024 ≤ s) : a_gf (wT g s b ml l n f) s 0 [8] = some (.ref b) := a_gf_o hs rfl wT_s
theorem wT_g1 (hs : 1024 ≤ s) : a_gf (wT g s b ml l n f) s 1 [8] = some (.int (nI 0)) := a_gf_o hs rfl wT_s
theorem wT_g2 (hs : 1024 ≤ s) : a_gf (wT g s b ml l n f) s 2 [8] = some (.int ml) := a_gf_o hs rfl wT_s
theorem wT_g3 (hs : 1024 ≤ s) : a_gf (wT g s b ml l n f) s 3 [8] = some (.int (nI l)) := a_gf_o hs rfl wT_s
theorem wT_p3 {x : Nat} (hs : 1024 ≤ s) : a_pf (wT g s b ml l n f) s 3 [8] (.int (nI x)) = some (wT g s b ml x n f) := by
  unfold a_pf
  rw [wT_s]
  refine (if_pos ⟨rfl, Nat.le_of_ble_eq_true rfl, hs⟩).trans (congrArg some (a_Hx rfl rfl fun y => ?_))
  show (if y = s then _ else if y = s then _ else _) = (if y = s then _ else _)
  split <;> rfl
theorem wT_len (hb : 1024 ≤ b) (ne : b ≠ s) : a_len (wT g s b ml l n f) b = some (.int (nI n)) := by
  unfold a_len
  rw [wT_b ne]
  exact if_pos (Or.inl hb)
theorem wT_rd {i : Nat} (hb : 1024 ≤ b) (ne : b ≠ s) (hi : i < n) (hn : n < 1000) : a_rdi (wT g s b ml l n f) b a_bz (nI i) = some (.int (nI (f i))) := by
  unfold a_rdi
  rw [wT_b ne]
  refine (if_pos ⟨rfl, a_out_nI hi (by omega), Or.inl hb⟩).trans ?_
  rw [nI_clamp (by omega)]
theorem wT_wr {i c : Nat} (hb : 1024 ≤ b) (ne : b ≠ s) (hi : i < n) (hn : n < 1000) (hc : c < 128) : a_wri (wT g s b ml l n f) b a_bz (nI i) (nI c) = some (wT g s b ml l n (upN f i c)) := by
  unfold a_wri
  rw [wT_b ne]
  refine (if_pos ⟨rfl, a_out_nI hi (by omega), hb⟩).trans ?_
  rw [nI_clamp (by omega), (q_by hc).2.1]
  refine (congrArg some (a_Hx rfl rfl fun y => ?_))
  show (if y = b then _ else if y = s then _ else if y = b then _ else _) = (if y = s then _ else if y = b then _ else _)
  by_cases h1 : y = b
  · rw [if_pos h1, if_neg (by omega), if_pos h1]
    refine congrArg (fun z => (Sum.inl (FieldType.byte, n, Sum.inl z) : a_C)) (funext fun j => ?_)
    unfold upd
    rw [upN_app]
    split <;> rfl
  · rw [if_neg h1, if_neg h1, if_neg h1]
/-- the bytes taken over into more room -/
def nCp (n : Nat) (f : Nat → Nat) : Nat → Nat := fun i => if i < n then f i else 0
theorem j_copyOf {n' : Nat} (hs : 1024 ≤ s) (hb : 1024 ≤ b) (ne : b ≠ s) (hg : s < g.1 ∧ b < g.1) (hn : n < n') (hn2 : n' < 1000) (hf : ∀ i, i < n → f i < 128) : a_call (d+1) MJ13_copyOf_3 [.ref b, .int (nI n')] (wT g s b ml l n f) = some (.inl (some (.ref g.1)), a_add (wT g s b ml l n f) (cBy n' (nCp n f)) n') := by
  have nw : a_newa (wT g s b ml l n f) (newarray.typeOf .byte) (nI n') = some (g.1, a_add (wT g s b ml l n f) (.inl (.byte, n', .inl fun _ => 0)) n') := by
    unfold a_newa
    have c : (nI n').toNatClampNeg = n' := nI_clamp (by omega)
    have z : ¬ (nI n' < 0 ∨ 100000 < (nI n').toNatClampNeg) := by
      rintro (z | z)
      · rw [q_ltz (by omega)] at z; exact z
      · rw [c] at z; omega
    rw [if_neg z, c]
    rfl
  have le : ∀ g' : a_H, g'.2.2 b = cBy n f → a_len g' b = some (.int (nI n)) := fun g' e => by
    unfold a_len
    rw [e]
    exact if_pos (Or.inl hb)
  have l1 := le (wT g s b ml l n f) (wT_b ne)
  have e2 : (a_add (wT g s b ml l n f) (.inl (.byte, n', .inl fun _ => 0)) n').2.2 b = cBy n f := (if_neg (show b ≠ g.1 by omega)).trans (wT_b ne)
  have l2 := le _ e2
  have cp : ∀ st, a_cat st ≤ 8 → a_cpy 28 [some (.ref b), some (.int (nI n')), some (.ref g.1)] (.int (nI n) :: .int (nI 0) :: .ref g.1 :: .int (nI 0) :: .ref b :: st) (a_add (wT g s b ml l n f) (.inl (.byte, n', .inl fun _ => 0)) n') = a_nx 31 [some (.ref b), some (.int (nI n')), some (.ref g.1)] st (a_add (wT g s b ml l n f) (cBy n' (nCp n f)) n') := fun st hst => by
    unfold a_cpy
    dsimp only
    rw [e2, show (a_add (wT g s b ml l n f) (.inl (.byte, n', .inl fun _ => 0)) n').2.2 g.1 = .inl (.byte, n', .inl fun _ => 0) from if_pos rfl]
    have z0 : (nI 0).toNatClampNeg = 0 := nI_clamp (by omega)
    have zn : (nI n).toNatClampNeg = n := nI_clamp (by omega)
    have hc1 : 1024 ≤ g.1 := by omega
    have hc2 : b ≠ g.1 := by omega
    refine (if_pos ⟨⟨hb, hc1, hc2⟩, ⟨by rw [q_ltz (by omega)]; exact id, by rw [q_ltz (by omega)]; exact id, by rw [q_ltz (by omega)]; exact id⟩, by rw [z0, zn]; omega, by rw [z0, zn]; omega, ?_, hst⟩).trans ?_
    · refine congrArg (a_nx 31 _ st) (a_Hx rfl rfl fun y => ?_)
      show (if y = g.1 then _ else if y = g.1 then _ else _) = (if y = g.1 then _ else _)
      by_cases e : y = g.1
      · rw [if_pos e, if_pos e, z0, zn]
        refine congrArg (fun z => (Sum.inl (FieldType.byte, n', Sum.inl z) : a_C)) (funext fun j => ?_)
        show (if 0 ≤ j ∧ j < 0 + n then nI (f (0 + (j - 0))) else 0) = nI (if j < n then f j else 0)
        by_cases c : j < n
        · rw [if_pos (by omega), if_pos c, Nat.sub_zero, Nat.zero_add]
        · rw [if_neg (by omega), if_neg c]; rfl
      · rw [if_neg e, if_neg e, if_neg e]
    · rw [List.all_eq_true]
      intro i hi
      rw [zn, List.mem_range] at hi
      rw [z0, Nat.zero_add]
      exact (q_by (hf i hi)).2.2.1
  have cp0 := cp [] (by decide)
  have nx : ∀ h' : a_H, a_cont d MJ13_copyOf_3 (a_nx 31 [some (.ref b), some (.int (nI n')), some (.ref g.1)] [] h') = a_run d MJ13_copyOf_3 31 [some (.ref b), some (.int (nI n')), some (.ref g.1)] [] h' := fun _ => rfl
  have ne2 : (nI n' = nI n) = False := (q_eq (by omega) (by omega)).trans (eq_false (by omega))
  rw [e_J13_copyOf_3]
  simp (disch := first | omega | assumption | exact Or.inl rfl | exact Or.inr rfl | exact wN_kls (by omega) | exact wE_kls (by omega) | (simp only [a_cat_nil, a_cat_int, a_cat_ref, a_cat_null, a_cat_long]; done) | (simp only [a_cat_nil, a_cat_int, a_cat_ref, a_cat_null, a_cat_long]; omega) | decide | rfl | (apply Or.inr; omega) | (apply Or.inl; omega)) only [w_J13_copyOf_3_0, w_J13_copyOf_3_1, w_J13_copyOf_3_2, w_J13_copyOf_3_3, w_J13_copyOf_3_6, w_J13_copyOf_3_13, w_J13_copyOf_3_13N, w_J13_copyOf_3_14, w_J13_copyOf_3_15, w_J13_copyOf_3_17, w_J13_copyOf_3_17N, w_J13_copyOf_3_18, w_J13_copyOf_3_19, w_J13_copyOf_3_20, w_J13_copyOf_3_20N, w_J13_copyOf_3_21, w_J13_copyOf_3_22, w_J13_copyOf_3_23, w_J13_copyOf_3_24, w_J13_copyOf_3_25, w_J13_copyOf_3_28, w_J13_copyOf_3_31, w_J13_copyOf_3_31N, w_J13_copyOf_3_32, w_J13_copyOf_3_32N, w_ret, w_exc, Nat.reduceAdd, Option.toList_some, Option.toList_none, List.cons_append, List.nil_append, Option.bind_some, nI_add, q_mul, q_sub, q_eq, q_eqz, q_lt, q_ltz, q_gtz, q_le, q_lez, q_div, q_or, q_and, q_shl, q_shr, q_m1, q_eqm, q_meq, q_mm, q_mlt, q_mgt, q_mlt2, q_dec, Nat.add_sub_cancel, q_ltT, q_ltF, q_leT, q_leF, q_eqT, q_eqF, ↓reduceIte, uN_s, uN_n, upN_app, uG_s, uG_n, uG_uG, if_true, if_false, Nat.reduceMul, Nat.reduceSub, Nat.reduceEqDiff, Nat.reduceLT, and_true, true_and, and_false, false_and, or_true, true_or, or_false, false_or, not_true_eq_false, not_false_eq_true, Option.some.injEq, l1, l2, nw, cp0, nx, ne2]
theorem q_gsub {a b : Nat} (ha : a < 1000) (hb : b < 1000) : (0 < nI a - nI b) = (b < a) := by
  apply propext
  rw [Int32.lt_iff_toInt_lt, Int32.toInt_sub, nI_toInt (by omega), nI_toInt (by omega), Int.bmod_eq_of_le (by omega) (by omega)]
  show (0 : Int) < _ ↔ _
  omega
theorem j_isLatin1 (hs : 1024 ≤ s) : a_call (d+1) MJ2_isLatin1 [.ref s] (wT g s b ml l n f) = some (.inl (some (.int (nI 1))), wT g s b ml l n f) := by
  have z : ((1 : Int32) = 0) = False := eq_false (by decide)
  rw [e_J2_isLatin1]
  simp (disch := first | omega | assumption | exact Or.inl rfl | exact Or.inr rfl | exact wN_kls (by omega) | exact wE_kls (by omega) | (simp only [a_cat_nil, a_cat_int, a_cat_ref, a_cat_null, a_cat_long]; done) | (simp only [a_cat_nil, a_cat_int, a_cat_ref, a_cat_null, a_cat_long]; omega) | decide | rfl | (apply Or.inr; omega) | (apply Or.inl; omega)) only [w_J2_isLatin1_0, w_J2_isLatin1_3, w_J2_isLatin1_6, w_J2_isLatin1_7, w_J2_isLatin1_10, w_J2_isLatin1_13, w_J2_isLatin1_14, w_J2_isLatin1_17, w_J2_isLatin1_18, w_ret, w_exc, Nat.reduceAdd, Option.toList_some, Option.toList_none, List.cons_append, List.nil_append, Option.bind_some, nI_add, q_mul, q_sub, q_eq, q_eqz, q_lt, q_ltz, q_gtz, q_le, q_lez, q_div, q_or, q_and, q_shl, q_shr, q_m1, q_eqm, q_meq, q_mm, q_mlt, q_mgt, q_mlt2, q_dec, Nat.add_sub_cancel, q_ltT, q_ltF, q_leT, q_leF, q_eqT, q_eqF, ↓reduceIte, uN_s, uN_n, upN_app, uG_s, uG_n, uG_uG, if_true, if_false, Nat.reduceMul, Nat.reduceSub, Nat.reduceEqDiff, Nat.reduceLT, and_true, true_and, and_false, false_and, or_true, true_or, or_false, false_or, not_true_eq_false, not_false_eq_true, Option.some.injEq, wT_g1, z]
theorem j_canEncode {c : Nat} (hc : c < 128) : a_call (d+1) MJ17_canEncode [.int (nI c)] g = some (.inl (some (.int (nI 1))), g) := by
  rw [e_J17_canEncode]
  simp (disch := first | omega | assumption | exact Or.inl rfl | exact Or.inr rfl | exact wN_kls (by omega) | exact wE_kls (by omega) | (simp only [a_cat_nil, a_cat_int, a_cat_ref, a_cat_null, a_cat_long]; done) | (simp only [a_cat_nil, a_cat_int, a_cat_ref, a_cat_null, a_cat_long]; omega) | decide | rfl | (apply Or.inr; omega) | (apply Or.inl; omega)) only [w_J17_canEncode_0, w_J17_canEncode_1, w_J17_canEncode_4, w_J17_canEncode_7, w_J17_canEncode_8, w_J17_canEncode_11, w_J17_canEncode_12, w_ret, w_exc, Nat.reduceAdd, Option.toList_some, Option.toList_none, List.cons_append, List.nil_append, Option.bind_some, nI_add, q_mul, q_sub, q_eq, q_eqz, q_lt, q_ltz, q_gtz, q_le, q_lez, q_div, q_or, q_and, q_shl, q_shr, q_m1, q_eqm, q_meq, q_mm, q_mlt, q_mgt, q_mlt2, q_dec, Nat.add_sub_cancel, q_ltT, q_ltF, q_leT, q_leF, q_eqT, q_eqF, ↓reduceIte, uN_s, uN_n, upN_app, uG_s, uG_n, uG_uG, if_true, if_false, Nat.reduceMul, Nat.reduceSub, Nat.reduceEqDiff, Nat.reduceLT, and_true, true_and, and_false, false_and, or_true, true_or, or_false, false_or, not_true_eq_false, not_false_eq_true, Option.some.injEq]
theorem j_newLength (hn : n < 400) : a_call (d+1) MJ16_newLength [.int (nI n), .int (nI 1), .int (nI (n + 2))] g = some (.inl (some (.int (nI (n + n + 2)))), g) := by
  have z : (2147483639 : Int32) = nI 2147483639 := rfl
  have e : n + (n + 2) = n + n + 2 := by omega
  rw [e_J16_newLength]
  simp (disch := first | omega | assumption | exact Or.inl rfl | exact Or.inr rfl | exact wN_kls (by omega) | exact wE_kls (by omega) | (simp only [a_cat_nil, a_cat_int, a_cat_ref, a_cat_null, a_cat_long]; done) | (simp only [a_cat_nil, a_cat_int, a_cat_ref, a_cat_null, a_cat_long]; omega) | decide | rfl | (apply Or.inr; omega) | (apply Or.inl; omega)) only [w_J16_newLength_0, w_J16_newLength_1, w_J16_newLength_2, w_J16_newLength_3, w_J16_newLength_6, w_J16_newLength_7, w_J16_newLength_8, w_J16_newLength_9, w_J16_newLength_10, w_J16_newLength_13, w_J16_newLength_14, w_J16_newLength_16, w_J16_newLength_19, w_J16_newLength_20, w_J16_newLength_21, w_J16_newLength_22, w_J16_newLength_23, w_J16_newLength_26, w_ret, w_exc, Nat.reduceAdd, Option.toList_some, Option.toList_none, List.cons_append, List.nil_append, Option.bind_some, nI_add, q_mul, q_sub, q_eq, q_eqz, q_lt, q_ltz, q_gtz, q_le, q_lez, q_div, q_or, q_and, q_shl, q_shr, q_m1, q_eqm, q_meq, q_mm, q_mlt, q_mgt, q_mlt2, q_dec, Nat.add_sub_cancel, q_ltT, q_ltF, q_leT, q_leF, q_eqT, q_eqF, ↓reduceIte, uN_s, uN_n, upN_app, uG_s, uG_n, uG_uG, if_true, if_false, Nat.reduceMul, Nat.reduceSub, Nat.reduceEqDiff, Nat.reduceLT, and_true, true_and, and_false, false_and, or_true, true_or, or_false, false_or, not_true_eq_false, not_false_eq_true, Option.some.injEq, z, e]
theorem j_newCapacity (hs : 1024 ≤ s) (hb : 1024 ≤ b) (ne : b ≠ s) (hn : n < 400) : a_call (d+2) MJ2_newCapacity [.ref s, .int (nI (n + 1))] (wT g s b ml l n f) = some (.inl (some (.int (nI (n + n + 2)))), wT g s b ml l n f) := by
  have nl := j_newLength (d := d) (g := wT g s b ml l n f) hn
  have l1 := wT_len (g := g) (ml := ml) (l := l) (n := n) (f := f) hb ne
  have z : (nI (n + n + 2) = 2147483647) = False := (q_eq (b := 2147483647) (by omega) (by omega)).trans (eq_false (by omega))
  have e1 : n + 1 - n = 1 := by omega
  rw [e_J2_newCapacity]
  simp (disch := first | omega | assumption | exact Or.inl rfl | exact Or.inr rfl | exact wN_kls (by omega) | exact wE_kls (by omega) | (simp only [a_cat_nil, a_cat_int, a_cat_ref, a_cat_null, a_cat_long]; done) | (simp only [a_cat_nil, a_cat_int, a_cat_ref, a_cat_null, a_cat_long]; omega) | decide | rfl | (apply Or.inr; omega) | (apply Or.inl; omega)) only [w_J2_newCapacity_0, w_J2_newCapacity_1, w_J2_newCapacity_4, w_J2_newCapacity_5, w_J2_newCapacity_6, w_J2_newCapacity_7, w_J2_newCapacity_8, w_J2_newCapacity_11, w_J2_newCapacity_12, w_J2_newCapacity_13, w_J2_newCapacity_14, w_J2_newCapacity_15, w_J2_newCapacity_16, w_J2_newCapacity_18, w_J2_newCapacity_19, w_J2_newCapacity_21, w_J2_newCapacity_22, w_J2_newCapacity_23, w_J2_newCapacity_24, w_J2_newCapacity_27, w_J2_newCapacity_28, w_J2_newCapacity_29, w_J2_newCapacity_32, w_J2_newCapacity_34, w_J2_newCapacity_36, w_J2_newCapacity_38, w_J2_newCapacity_44, w_J2_newCapacity_44I, w_J2_newCapacity_50, w_J2_newCapacity_51, w_J2_newCapacity_53, w_J2_newCapacity_54, w_J2_newCapacity_57, w_J2_newCapacity_58, w_ret, w_exc, Nat.reduceAdd, Option.toList_some, Option.toList_none, List.cons_append, List.nil_append, Option.bind_some, nI_add, q_mul, q_sub, q_eq, q_eqz, q_lt, q_ltz, q_gtz, q_le, q_lez, q_div, q_or, q_and, q_shl, q_shr, q_m1, q_eqm, q_meq, q_mm, q_mlt, q_mgt, q_mlt2, q_dec, Nat.add_sub_cancel, q_ltT, q_ltF, q_leT, q_leF, q_eqT, q_eqF, ↓reduceIte, uN_s, uN_n, upN_app, uG_s, uG_n, uG_uG, if_true, if_false, Nat.reduceMul, Nat.reduceSub, Nat.reduceEqDiff, Nat.reduceLT, and_true, true_and, and_false, false_and, or_true, true_or, or_false, false_or, not_true_eq_false, not_false_eq_true, Option.some.injEq, wT_g0, wT_g1, l1, nl, q_shl0, q_shr0, e1, z]
theorem j_ensure0 {k : Nat} (hs : 1024 ≤ s) (hb : 1024 ≤ b) (ne : b ≠ s) (hn : n < 400) (hk : k ≤ n) : a_call (d+1) MJ2_ensureCapacityInternal [.ref s, .int (nI k)] (wT g s b ml l n f) = some (.inl none, wT g s b ml l n f) := by
  have l1 := wT_len (g := g) (ml := ml) (l := l) (n := n) (f := f) hb ne
  have z : (0 < nI k - nI n) = False := (q_gsub (by omega) (by omega)).trans (eq_false (by omega))
  rw [e_J2_ensureCapacityInternal]
  simp (disch := first | omega | assumption | exact Or.inl rfl | exact Or.inr rfl | exact wN_kls (by omega) | exact wE_kls (by omega) | (simp only [a_cat_nil, a_cat_int, a_cat_ref, a_cat_null, a_cat_long]; done) | (simp only [a_cat_nil, a_cat_int, a_cat_ref, a_cat_null, a_cat_long]; omega) | decide | rfl | (apply Or.inr; omega) | (apply Or.inl; omega)) only [w_J2_ensureCapacityInternal_0, w_J2_ensureCapacityInternal_1, w_J2_ensureCapacityInternal_4, w_J2_ensureCapacityInternal_5, w_J2_ensureCapacityInternal_6, w_J2_ensureCapacityInternal_9, w_J2_ensureCapacityInternal_10, w_J2_ensureCapacityInternal_11, w_J2_ensureCapacityInternal_12, w_J2_ensureCapacityInternal_13, w_J2_ensureCapacityInternal_14, w_J2_ensureCapacityInternal_17, w_J2_ensureCapacityInternal_18, w_J2_ensureCapacityInternal_19, w_J2_ensureCapacityInternal_22, w_J2_ensureCapacityInternal_23, w_J2_ensureCapacityInternal_24, w_J2_ensureCapacityInternal_27, w_J2_ensureCapacityInternal_28, w_J2_ensureCapacityInternal_31, w_J2_ensureCapacityInternal_32, w_J2_ensureCapacityInternal_35, w_J2_ensureCapacityInternal_35N, w_J2_ensureCapacityInternal_38, w_ret, w_exc, Nat.reduceAdd, Option.toList_some, Option.toList_none, List.cons_append, List.nil_append, Option.bind_some, nI_add, q_mul, q_eq, q_eqz, q_lt, q_ltz, q_gtz, q_le, q_lez, q_div, q_or, q_and, q_shl, q_shr, q_m1, q_eqm, q_meq, q_mm, q_mlt, q_mgt, q_mlt2, q_dec, Nat.add_sub_cancel, q_ltT, q_ltF, q_leT, q_leF, q_eqT, q_eqF, ↓reduceIte, uN_s, uN_n, upN_app, uG_s, uG_n, uG_uG, if_true, if_false, Nat.reduceMul, Nat.reduceSub, Nat.reduceEqDiff, Nat.reduceLT, and_true, true_and, and_false, false_and, or_true, true_or, or_false, false_or, not_true_eq_false, not_false_eq_true, Option.some.injEq, wT_g0, wT_g1, l1, q_shr0, z]
theorem j_ensure1 (hs : 1024 ≤ s) (hb : 1024 ≤ b) (ne : b ≠ s) (hg : s < g.1 ∧ b < g.1) (hn : n < 400) (hf : ∀ i, i < n → f i < 128) : a_call (d+3) MJ2_ensureCapacityInternal [.ref s, .int (nI (n + 1))] (wT g s b ml l n f) = some (.inl none, wT (a_add (wT g s b ml l n f) (cBy (n + n + 2) (nCp n f)) (n + n + 2)) s g.1 ml l (n + n + 2) (nCp n f)) := by
  have l1 := wT_len (g := g) (ml := ml) (l := l) (n := n) (f := f) hb ne
  have e1 : n + 1 - n = 1 := by omega
  have nc := j_newCapacity (d := d) (g := g) (ml := ml) (l := l) (f := f) hs hb ne hn
  have co := j_copyOf (d := d+1) (g := g) (ml := ml) (l := l) hs hb ne hg (show n < n + n + 2 by omega) (by omega) hf
  have kk := wT_kls (g := g) (b := b) (ml := ml) (l := l) (n := n) (f := f) hs
  have e3 : (a_add (wT g s b ml l n f) (cBy (n + n + 2) (nCp n f)) (n + n + 2)).2.2 s = cSB b ml l := (if_neg (show s ≠ g.1 by omega)).trans wT_s
  have pf : a_pf (a_add (wT g s b ml l n f) (cBy (n + n + 2) (nCp n f)) (n + n + 2)) s 0 [8] (.ref g.1) = some (wT (a_add (wT g s b ml l n f) (cBy (n + n + 2) (nCp n f)) (n + n + 2)) s g.1 ml l (n + n + 2) (nCp n f)) := by
    unfold a_pf
    rw [e3]
    refine (if_pos ⟨rfl, Nat.le_of_ble_eq_true rfl, hs⟩).trans (congrArg some (a_Hx rfl rfl fun y => ?_))
    show (if y = s then _ else if y = g.1 then _ else _) = (if y = s then _ else if y = g.1 then _ else if y = g.1 then _ else _)
    by_cases h1 : y = s
    · rw [if_pos h1, if_pos h1]; rfl
    · rw [if_neg h1, if_neg h1]
      by_cases h2 : y = g.1
      · rw [if_pos h2, if_pos h2]
      · rw [if_neg h2, if_neg h2]
  rw [e_J2_ensureCapacityInternal]
  simp (disch := first | omega | assumption | exact Or.inl rfl | exact Or.inr rfl | exact wN_kls (by omega) | exact wE_kls (by omega) | (simp only [a_cat_nil, a_cat_int, a_cat_ref, a_cat_null, a_cat_long]; done) | (simp only [a_cat_nil, a_cat_int, a_cat_ref, a_cat_null, a_cat_long]; omega) | decide | rfl | (apply Or.inr; omega) | (apply Or.inl; omega)) only [w_J2_ensureCapacityInternal_0, w_J2_ensureCapacityInternal_1, w_J2_ensureCapacityInternal_4, w_J2_ensureCapacityInternal_5, w_J2_ensureCapacityInternal_6, w_J2_ensureCapacityInternal_9, w_J2_ensureCapacityInternal_10, w_J2_ensureCapacityInternal_11, w_J2_ensureCapacityInternal_12, w_J2_ensureCapacityInternal_13, w_J2_ensureCapacityInternal_14, w_J2_ensureCapacityInternal_17, w_J2_ensureCapacityInternal_18, w_J2_ensureCapacityInternal_19, w_J2_ensureCapacityInternal_22, w_J2_ensureCapacityInternal_23, w_J2_ensureCapacityInternal_24, w_J2_ensureCapacityInternal_27, w_J2_ensureCapacityInternal_28, w_J2_ensureCapacityInternal_31, w_J2_ensureCapacityInternal_32, w_J2_ensureCapacityInternal_35, w_J2_ensureCapacityInternal_35N, w_J2_ensureCapacityInternal_38, w_ret, w_exc, Nat.reduceAdd, Option.toList_some, Option.toList_none, List.cons_append, List.nil_append, Option.bind_some, nI_add, q_mul, q_sub, q_eq, q_eqz, q_lt, q_ltz, q_gtz, q_le, q_lez, q_div, q_or, q_and, q_shl, q_shr, q_m1, q_eqm, q_meq, q_mm, q_mlt, q_mgt, q_mlt2, q_dec, Nat.add_sub_cancel, q_ltT, q_ltF, q_leT, q_leF, q_eqT, q_eqF, ↓reduceIte, uN_s, uN_n, upN_app, uG_s, uG_n, uG_uG, if_true, if_false, Nat.reduceMul, Nat.reduceSub, Nat.reduceEqDiff, Nat.reduceLT, and_true, true_and, and_false, false_and, or_true, true_or, or_false, false_or, not_true_eq_false, not_false_eq_true, Option.some.injEq, wT_g0, wT_g1, l1, q_shr0, q_shl0, e1, nc, co, pf]
/-- one more sign -/
theorem j_append {c : Nat} (hs : 1024 ≤ s) (hb : 1024 ≤ b) (ne : b ≠ s) (hg : s < g.1 ∧ b < g.1) (hn : n < 400) (hl : l ≤ n) (hf : ∀ i, i < n → f i < 128) (hc : c < 128) : ∃ (g' : a_H) (b' n' : Nat) (f' : Nat → Nat), a_call (d+5) MJ3_append_3 [.ref s, .int (nI c)] (wT g s b ml l n f) = some (.inl (some (.ref s)), wT g' s b' ml (l + 1) n' f') ∧ hX (wT g s b ml l n f) g' 1 900 ∧ (b' = b ∨ b' = g.1) ∧ b' < g'.1 ∧ (n' = n ∨ n' = n + n + 2) ∧ (n' = n ∨ n = l) ∧ l + 1 ≤ n' ∧ (∀ i, i < l → f' i = f i) ∧ f' l = c ∧ ∀ i, i < n' → f' i < 128 := by
  have core : ∀ (G : a_H) (b' n' : Nat) (f' : Nat → Nat), 1024 ≤ b' → b' ≠ s → l < n' → n' < 1000 → a_call (d+3) MJ2_ensureCapacityInternal [.ref s, .int (nI (l + 1))] (wT g s b ml l n f) = some (.inl none, wT G s b' ml l n' f') → a_call (d+5) MJ3_append_3 [.ref s, .int (nI c)] (wT g s b ml l n f) = some (.inl (some (.ref s)), wT G s b' ml (l + 1) n' (upN f' l c)) := by
    intro G b' n' f' hb' ne' hl' hn' e
    have k0 := wT_kls (g := g) (b := b) (ml := ml) (l := l) (n := n) (f := f) hs
    have k1 := wT_kls (g := G) (b := b') (ml := ml) (l := l) (n := n') (f := f') hs
    have wr := wT_wr (g := G) (ml := ml) (l := l + 1) (f := f') hb' ne' hl' hn' hc
    have il := j_isLatin1 (d := d+2) (g := G) (b := b') (ml := ml) (l := l) (n := n') (f := f') hs
    have ce := j_canEncode (d := d+2) (g := wT G s b' ml l n' f') hc
    have qb := (q_by hc).1
    have a2 : a_call (d+4) MJ2_append_3 [.ref s, .int (nI c)] (wT g s b ml l n f) = some (.inl (some (.ref s)), wT G s b' ml (l + 1) n' (upN f' l c)) := by
      rw [e_J2_append_3]
      simp (disch := first | omega | assumption | exact Or.inl rfl | exact Or.inr rfl | exact wN_kls (by omega) | exact wE_kls (by omega) | (simp only [a_cat_nil, a_cat_int, a_cat_ref, a_cat_null, a_cat_long]; done) | (simp only [a_cat_nil, a_cat_int, a_cat_ref, a_cat_null, a_cat_long]; omega) | decide | rfl | (apply Or.inr; omega) | (apply Or.inl; omega)) only [w_J2_append_3_0, w_J2_append_3_1, w_J2_append_3_2, w_J2_append_3_5, w_J2_append_3_6, w_J2_append_3_7, w_J2_append_3_10, w_J2_append_3_11, w_J2_append_3_14, w_J2_append_3_17, w_J2_append_3_18, w_J2_append_3_21, w_J2_append_3_24, w_J2_append_3_25, w_J2_append_3_28, w_J2_append_3_29, w_J2_append_3_29I, w_J2_append_3_30, w_J2_append_3_33, w_J2_append_3_33R, w_J2_append_3_34, w_J2_append_3_35, w_J2_append_3_36, w_J2_append_3_39, w_J2_append_3_40, w_J2_append_3_41, w_J2_append_3_42, w_J2_append_3_45, w_J2_append_3_46, w_J2_append_3_49, w_J2_append_3_52, w_J2_append_3_56, w_J2_append_3_57, w_J2_append_3_60, w_J2_append_3_61, w_J2_append_3_61I, w_J2_append_3_62, w_J2_append_3_65, w_J2_append_3_65R, w_J2_append_3_66, w_J2_append_3_67, w_J2_append_3_68, w_J2_append_3_71, w_J2_append_3_72, w_J2_append_3_75, w_J2_append_3_76, w_J2_append_3_76N, w_ret, w_exc, Nat.reduceAdd, Option.toList_some, Option.toList_none, List.cons_append, List.nil_append, Option.bind_some, nI_add, q_mul, q_sub, q_eq, q_eqz, q_lt, q_ltz, q_gtz, q_le, q_lez, q_div, q_or, q_and, q_shl, q_shr, q_m1, q_eqm, q_meq, q_mm, q_mlt, q_mgt, q_mlt2, q_dec, Nat.add_sub_cancel, q_ltT, q_ltF, q_leT, q_leF, q_eqT, q_eqF, ↓reduceIte, uN_s, uN_n, upN_app, uG_s, uG_n, uG_uG, if_true, if_false, Nat.reduceMul, Nat.reduceSub, Nat.reduceEqDiff, Nat.reduceLT, and_true, true_and, and_false, false_and, or_true, true_or, or_false, false_or, not_true_eq_false, not_false_eq_true, Option.some.injEq, wT_g3, wT_g0, e, il, ce, wT_p3, qb, wr]
    rw [e_J3_append_3]
    simp (disch := first | omega | assumption | exact Or.inl rfl | exact Or.inr rfl | exact wN_kls (by omega) | exact wE_kls (by omega) | (simp only [a_cat_nil, a_cat_int, a_cat_ref, a_cat_null, a_cat_long]; done) | (simp only [a_cat_nil, a_cat_int, a_cat_ref, a_cat_null, a_cat_long]; omega) | decide | rfl | (apply Or.inr; omega) | (apply Or.inl; omega)) only [w_J3_append_3_0, w_J3_append_3_1, w_J3_append_3_2, w_J3_append_3_5, w_J3_append_3_5I, w_J3_append_3_6, w_J3_append_3_7, w_J3_append_3_7N, w_ret, w_exc, Nat.reduceAdd, Option.toList_some, Option.toList_none, List.cons_append, List.nil_append, Option.bind_some, nI_add, q_mul, q_sub, q_eq, q_eqz, q_lt, q_ltz, q_gtz, q_le, q_lez, q_div, q_or, q_and, q_shl, q_shr, q_m1, q_eqm, q_meq, q_mm, q_mlt, q_mgt, q_mlt2, q_dec, Nat.add_sub_cancel, q_ltT, q_ltF, q_leT, q_leF, q_eqT, q_eqF, ↓reduceIte, uN_s, uN_n, upN_app, uG_s, uG_n, uG_uG, if_true, if_false, Nat.reduceMul, Nat.reduceSub, Nat.reduceEqDiff, Nat.reduceLT, and_true, true_and, and_false, false_and, or_true, true_or, or_false, false_or, not_true_eq_false, not_false_eq_true, Option.some.injEq, a2]
  by_cases z : l < n
  · have e := j_ensure0 (d := d+2) (g := g) (ml := ml) (l := l) (f := f) (k := l + 1) hs hb ne hn (by omega)
    refine ⟨wT g s b ml l n f, b, n, upN f l c, ?_, hX_le (hX_id _) (by omega) (by omega), Or.inl rfl, hg.2, Or.inl rfl, Or.inl rfl, z, fun i hi => by rw [upN_app, if_neg (by omega)], by rw [upN_app, if_pos rfl], fun i hi => ?_⟩
    · have id' : ∀ l' f', wT (wT g s b ml l n f) s b ml l' n f' = wT g s b ml l' n f' := fun l' f' => a_Hx rfl rfl fun x => by
        show (if x = s then _ else if x = b then _ else if x = s then _ else if x = b then _ else _) = (if x = s then _ else if x = b then _ else _)
        by_cases h1 : x = s
        · rw [if_pos h1, if_pos h1]
        · rw [if_neg h1, if_neg h1, if_neg h1]
          by_cases h2 : x = b
          · rw [if_pos h2, if_pos h2]
          · rw [if_neg h2, if_neg h2, if_neg h2]
      rw [id']
      exact core g b n f hb ne z (by omega) e
    · rw [upN_app]
      split
      · exact hc
      · exact hf i hi
  · have el : l = n := by omega
    subst el
    have e := j_ensure1 (d := d) (g := g) (ml := ml) (l := l) (f := f) hs hb ne hg hn hf
    refine ⟨_, g.1, l + l + 2, upN (nCp l f) l c, core _ g.1 (l + l + 2) (nCp l f) (by omega) (by omega) (by omega) (by omega) e, ⟨Nat.le_succ _, Nat.le_refl _, show g.2.1 + (l + l + 2) ≤ g.2.1 + 900 by omega, fun q hq => if_neg (show q ≠ g.1 from Nat.ne_of_lt hq)⟩, Or.inr rfl, Nat.lt_succ_self _, Or.inr rfl, Or.inr rfl, by omega, fun i hi => ?_, by rw [upN_app, if_pos rfl], fun i hi => ?_⟩
    · rw [upN_app, if_neg (by omega)]
      exact if_pos hi
    · rw [upN_app]
      split
      · exact hc
      · unfold nCp
        split
        · next w => exact hf i w
        · decide
theorem j_length (hs : 1024 ≤ s) : a_call (d+2) MJ3_length [.ref s] (wT g s b ml l n f) = some (.inl (some (.int (nI l))), wT g s b ml l n f) := by
  have k0 := wT_kls (g := g) (b := b) (ml := ml) (l := l) (n := n) (f := f) hs
  have a2 : a_call (d+1) MJ2_length [.ref s] (wT g s b ml l n f) = some (.inl (some (.int (nI l))), wT g s b ml l n f) := by
    rw [e_J2_length]
    simp (disch := first | omega | assumption | exact Or.inl rfl | exact Or.inr rfl | exact wN_kls (by omega) | exact wE_kls (by omega) | (simp only [a_cat_nil, a_cat_int, a_cat_ref, a_cat_null, a_cat_long]; done) | (simp only [a_cat_nil, a_cat_int, a_cat_ref, a_cat_null, a_cat_long]; omega) | decide | rfl | (apply Or.inr; omega) | (apply Or.inl; omega)) only [w_J2_length_0, w_J2_length_1, w_J2_length_4, w_ret, w_exc, Nat.reduceAdd, Option.toList_some, Option.toList_none, List.cons_append, List.nil_append, Option.bind_some, nI_add, q_mul, q_sub, q_eq, q_eqz, q_lt, q_ltz, q_gtz, q_le, q_lez, q_div, q_or, q_and, q_shl, q_shr, q_m1, q_eqm, q_meq, q_mm, q_mlt, q_mgt, q_mlt2, q_dec, Nat.add_sub_cancel, q_ltT, q_ltF, q_leT, q_leF, q_eqT, q_eqF, ↓reduceIte, uN_s, uN_n, upN_app, uG_s, uG_n, uG_uG, if_true, if_false, Nat.reduceMul, Nat.reduceSub, Nat.reduceEqDiff, Nat.reduceLT, and_true, true_and, and_false, false_and, or_true, true_or, or_false, false_or, not_true_eq_false, not_false_eq_true, Option.some.injEq, wT_g3]
  rw [e_J3_length]
  simp (disch := first | omega | assumption | exact Or.inl rfl | exact Or.inr rfl | exact wN_kls (by omega) | exact wE_kls (by omega) | (simp only [a_cat_nil, a_cat_int, a_cat_ref, a_cat_null, a_cat_long]; done) | (simp only [a_cat_nil, a_cat_int, a_cat_ref, a_cat_null, a_cat_long]; omega) | decide | rfl | (apply Or.inr; omega) | (apply Or.inl; omega)) only [w_J3_length_0, w_J3_length_1, w_J3_length_4, w_ret, w_exc, Nat.reduceAdd, Option.toList_some, Option.toList_none, List.cons_append, List.nil_append, Option.bind_some, nI_add, q_mul, q_sub, q_eq, q_eqz, q_lt, q_ltz, q_gtz, q_le, q_lez, q_div, q_or, q_and, q_shl, q_shr, q_m1, q_eqm, q_meq, q_mm, q_mlt, q_mgt, q_mlt2, q_dec, Nat.add_sub_cancel, q_ltT, q_ltF, q_leT, q_leF, q_eqT, q_eqF, ↓reduceIte, uN_s, uN_n, upN_app, uG_s, uG_n, uG_uG, if_true, if_false, Nat.reduceMul, Nat.reduceSub, Nat.reduceEqDiff, Nat.reduceLT, and_true, true_and, and_false, false_and, or_true, true_or, or_false, false_or, not_true_eq_false, not_false_eq_true, Option.some.injEq, a2]
end G1
