/-- a diagram being made behind all else: its fields, and the first of its arrays -/
def hI (h : a_H) (n : Nat) (vs : List Value) (A : Nat → Nat → Int32) : a_H := (h.1 + (n + 1), h.2.1 + 16 + t_sum wDN n, fun q => if q = h.1 then .inr (1, vs) else if h.1 < q ∧ q ≤ h.1 + n then .inl (.int, wDN (q - h.1 - 1), .inl (A (q - h.1 - 1))) else h.2.2 q)
/-- room for a diagram -/
def hK (h : a_H) : a_H := (h.1 + 12, h.2.1 + 1465, h.2.2)
section CE
variable {d : Nat} {h : a_H} {m : Nat} {G : Nat → Nat} {N : Nat → Nat → Nat} {nb na ma co : Nat} {fr to le y : Nat → Nat} {row : Nat → Nat → Nat} {A : Nat → Nat → Int32} {vs : List Value}
theorem hI_1 {n : Nat} : (hI h n vs A).1 = h.1 + (n + 1) := rfl
theorem hI_0 (hl : vs.length = 16) : hO h 1 vs = hI h 0 vs A := a_Hx rfl (by rw [hO_2, hl]; rfl) fun q => by
  show (if q = h.1 then _ else _) = (if q = h.1 then _ else if h.1 < q ∧ q ≤ h.1 + 0 then _ else _)
  by_cases e : q = h.1
  · rw [if_pos e, if_pos e]
  · rw [if_neg e, if_neg e, if_neg (by omega)]
theorem hI_add {n s : Nat} {f : Nat → Int32} (hs : wDN n = s) (hA : A n = f) : a_add (hI h n vs A) (.inl (.int, s, .inl f)) s = hI h (n + 1) vs A := a_Hx rfl (by
    show h.2.1 + 16 + t_sum wDN n + s = h.2.1 + 16 + (t_sum wDN n + wDN n)
    rw [hs, Nat.add_assoc]) fun q => by
  show (if q = h.1 + (n + 1) then _ else if q = h.1 then _ else if h.1 < q ∧ q ≤ h.1 + n then _ else _) = (if q = h.1 then _ else if h.1 < q ∧ q ≤ h.1 + (n + 1) then _ else _)
  by_cases e : q = h.1 + (n + 1)
  · have e2 : q - h.1 - 1 = n := by omega
    rw [if_pos e, if_neg (by omega), if_pos (by omega), e2, hs, hA]
  · rw [if_neg e]
    by_cases e1 : q = h.1
    · rw [if_pos e1, if_pos e1]
    · rw [if_neg e1, if_neg e1]
      by_cases e2 : h.1 < q ∧ q ≤ h.1 + n
      · rw [if_pos e2, if_pos (by omega)]
      · rw [if_neg e2, if_neg (by omega)]
theorem hI_new {n s : Nat} (hs : wDN n = s) (hA : A n = fun _ => 0) (h1 : s ≤ 100000) : a_newa (hI h n vs A) (newarray.typeOf .int) (nI s) = some (h.1 + (n + 1), hI h (n + 1) vs A) := by
  rw [← hI_add (h := h) (vs := vs) hs hA]
  unfold a_newa
  have c : (nI s).toNatClampNeg = s := nI_clamp (by omega)
  have z : ¬ (nI s < 0 ∨ 100000 < (nI s).toNatClampNeg) := by
    rintro (z | z)
    · rw [q_ltz (by omega)] at z; exact z
    · rw [c] at z; omega
  rw [if_neg z, c]
  rfl
theorem hI_pf {n k : Nat} {v : Value} (hh : 1024 ≤ h.1) (hl : vs.length = 16) (hk : k < 16) : a_pf (hI h n vs A) h.1 k [1] v = some (hI h n (vs.set k v) A) := by
  unfold a_pf
  rw [show (hI h n vs A).2.2 h.1 = .inr (1, vs) from if_pos rfl]
  refine (if_pos ⟨rfl, by omega, hh⟩).trans (congrArg some (a_Hx rfl rfl fun q => ?_))
  show (if q = h.1 then _ else if q = h.1 then _ else _) = (if q = h.1 then _ else _)
  split <;> rfl
theorem hI_p0 {n : Nat} {v0 v1 v2 v3 v4 v5 v6 v7 v8 v9 v10 v11 v12 v13 v14 v15 v : Value} {H : Nat} (hH : H = h.1) (hh : 1024 ≤ H) : a_pf (hI h n [v0, v1, v2, v3, v4, v5, v6, v7, v8, v9, v10, v11, v12, v13, v14, v15] A) H 0 [1] v = some (hI h n [v, v1, v2, v3, v4, v5, v6, v7, v8, v9, v10, v11, v12, v13, v14, v15] A) := by
  subst hH
  exact hI_pf hh rfl (by decide)
theorem hI_p1 {n : Nat} {v0 v1 v2 v3 v4 v5 v6 v7 v8 v9 v10 v11 v12 v13 v14 v15 v : Value} {H : Nat} (hH : H = h.1) (hh : 1024 ≤ H) : a_pf (hI h n [v0, v1, v2, v3, v4, v5, v6, v7, v8, v9, v10, v11, v12, v13, v14, v15] A) H 1 [1] v = some (hI h n [v0, v, v2, v3, v4, v5, v6, v7, v8, v9, v10, v11, v12, v13, v14, v15] A) := by
  subst hH
  exact hI_pf hh rfl (by decide)
theorem hI_p2 {n : Nat} {v0 v1 v2 v3 v4 v5 v6 v7 v8 v9 v10 v11 v12 v13 v14 v15 v : Value} {H : Nat} (hH : H = h.1) (hh : 1024 ≤ H) : a_pf (hI h n [v0, v1, v2, v3, v4, v5, v6, v7, v8, v9, v10, v11, v12, v13, v14, v15] A) H 2 [1] v = some (hI h n [v0, v1, v, v3, v4, v5, v6, v7, v8, v9, v10, v11, v12, v13, v14, v15] A) := by
  subst hH
  exact hI_pf hh rfl (by decide)
theorem hI_p3 {n : Nat} {v0 v1 v2 v3 v4 v5 v6 v7 v8 v9 v10 v11 v12 v13 v14 v15 v : Value} {H : Nat} (hH : H = h.1) (hh : 1024 ≤ H) : a_pf (hI h n [v0, v1, v2, v3, v4, v5, v6, v7, v8, v9, v10, v11, v12, v13, v14, v15] A) H 3 [1] v = some (hI h n [v0, v1, v2, v, v4, v5, v6, v7, v8, v9, v10, v11, v12, v13, v14, v15] A) := by
  subst hH
  exact hI_pf hh rfl (by decide)
theorem hI_p4 {n : Nat} {v0 v1 v2 v3 v4 v5 v6 v7 v8 v9 v10 v11 v12 v13 v14 v15 v : Value} {H : Nat} (hH : H = h.1) (hh : 1024 ≤ H) : a_pf (hI h n [v0, v1, v2, v3, v4, v5, v6, v7, v8, v9, v10, v11, v12, v13, v14, v15] A) H 4 [1] v = some (hI h n [v0, v1, v2, v3, v, v5, v6, v7, v8, v9, v10, v11, v12, v13, v14, v15] A) := by
  subst hH
  exact hI_pf hh rfl (by decide)
theorem hI_p5 {n : Nat} {v0 v1 v2 v3 v4 v5 v6 v7 v8 v9 v10 v11 v12 v13 v14 v15 v : Value} {H : Nat} (hH : H = h.1) (hh : 1024 ≤ H) : a_pf (hI h n [v0, v1, v2, v3, v4, v5, v6, v7, v8, v9, v10, v11, v12, v13, v14, v15] A) H 5 [1] v = some (hI h n [v0, v1, v2, v3, v4, v, v6, v7, v8, v9, v10, v11, v12, v13, v14, v15] A) := by
  subst hH
  exact hI_pf hh rfl (by decide)
theorem hI_p6 {n : Nat} {v0 v1 v2 v3 v4 v5 v6 v7 v8 v9 v10 v11 v12 v13 v14 v15 v : Value} {H : Nat} (hH : H = h.1) (hh : 1024 ≤ H) : a_pf (hI h n [v0, v1, v2, v3, v4, v5, v6, v7, v8, v9, v10, v11, v12, v13, v14, v15] A) H 6 [1] v = some (hI h n [v0, v1, v2, v3, v4, v5, v, v7, v8, v9, v10, v11, v12, v13, v14, v15] A) := by
  subst hH
  exact hI_pf hh rfl (by decide)
theorem hI_p7 {n : Nat} {v0 v1 v2 v3 v4 v5 v6 v7 v8 v9 v10 v11 v12 v13 v14 v15 v : Value} {H : Nat} (hH : H = h.1) (hh : 1024 ≤ H) : a_pf (hI h n [v0, v1, v2, v3, v4, v5, v6, v7, v8, v9, v10, v11, v12, v13, v14, v15] A) H 7 [1] v = some (hI h n [v0, v1, v2, v3, v4, v5, v6, v, v8, v9, v10, v11, v12, v13, v14, v15] A) := by
  subst hH
  exact hI_pf hh rfl (by decide)
theorem hI_p8 {n : Nat} {v0 v1 v2 v3 v4 v5 v6 v7 v8 v9 v10 v11 v12 v13 v14 v15 v : Value} {H : Nat} (hH : H = h.1) (hh : 1024 ≤ H) : a_pf (hI h n [v0, v1, v2, v3, v4, v5, v6, v7, v8, v9, v10, v11, v12, v13, v14, v15] A) H 8 [1] v = some (hI h n [v0, v1, v2, v3, v4, v5, v6, v7, v, v9, v10, v11, v12, v13, v14, v15] A) := by
  subst hH
  exact hI_pf hh rfl (by decide)
theorem hI_p9 {n : Nat} {v0 v1 v2 v3 v4 v5 v6 v7 v8 v9 v10 v11 v12 v13 v14 v15 v : Value} {H : Nat} (hH : H = h.1) (hh : 1024 ≤ H) : a_pf (hI h n [v0, v1, v2, v3, v4, v5, v6, v7, v8, v9, v10, v11, v12, v13, v14, v15] A) H 9 [1] v = some (hI h n [v0, v1, v2, v3, v4, v5, v6, v7, v8, v, v10, v11, v12, v13, v14, v15] A) := by
  subst hH
  exact hI_pf hh rfl (by decide)
theorem hI_p10 {n : Nat} {v0 v1 v2 v3 v4 v5 v6 v7 v8 v9 v10 v11 v12 v13 v14 v15 v : Value} {H : Nat} (hH : H = h.1) (hh : 1024 ≤ H) : a_pf (hI h n [v0, v1, v2, v3, v4, v5, v6, v7, v8, v9, v10, v11, v12, v13, v14, v15] A) H 10 [1] v = some (hI h n [v0, v1, v2, v3, v4, v5, v6, v7, v8, v9, v, v11, v12, v13, v14, v15] A) := by
  subst hH
  exact hI_pf hh rfl (by decide)
theorem hI_p11 {n : Nat} {v0 v1 v2 v3 v4 v5 v6 v7 v8 v9 v10 v11 v12 v13 v14 v15 v : Value} {H : Nat} (hH : H = h.1) (hh : 1024 ≤ H) : a_pf (hI h n [v0, v1, v2, v3, v4, v5, v6, v7, v8, v9, v10, v11, v12, v13, v14, v15] A) H 11 [1] v = some (hI h n [v0, v1, v2, v3, v4, v5, v6, v7, v8, v9, v10, v, v12, v13, v14, v15] A) := by
  subst hH
  exact hI_pf hh rfl (by decide)
theorem hI_p12 {n : Nat} {v0 v1 v2 v3 v4 v5 v6 v7 v8 v9 v10 v11 v12 v13 v14 v15 v : Value} {H : Nat} (hH : H = h.1) (hh : 1024 ≤ H) : a_pf (hI h n [v0, v1, v2, v3, v4, v5, v6, v7, v8, v9, v10, v11, v12, v13, v14, v15] A) H 12 [1] v = some (hI h n [v0, v1, v2, v3, v4, v5, v6, v7, v8, v9, v10, v11, v, v13, v14, v15] A) := by
  subst hH
  exact hI_pf hh rfl (by decide)
theorem hI_p13 {n : Nat} {v0 v1 v2 v3 v4 v5 v6 v7 v8 v9 v10 v11 v12 v13 v14 v15 v : Value} {H : Nat} (hH : H = h.1) (hh : 1024 ≤ H) : a_pf (hI h n [v0, v1, v2, v3, v4, v5, v6, v7, v8, v9, v10, v11, v12, v13, v14, v15] A) H 13 [1] v = some (hI h n [v0, v1, v2, v3, v4, v5, v6, v7, v8, v9, v10, v11, v12, v, v14, v15] A) := by
  subst hH
  exact hI_pf hh rfl (by decide)
theorem hI_p14 {n : Nat} {v0 v1 v2 v3 v4 v5 v6 v7 v8 v9 v10 v11 v12 v13 v14 v15 v : Value} {H : Nat} (hH : H = h.1) (hh : 1024 ≤ H) : a_pf (hI h n [v0, v1, v2, v3, v4, v5, v6, v7, v8, v9, v10, v11, v12, v13, v14, v15] A) H 14 [1] v = some (hI h n [v0, v1, v2, v3, v4, v5, v6, v7, v8, v9, v10, v11, v12, v13, v, v15] A) := by
  subst hH
  exact hI_pf hh rfl (by decide)
theorem hI_p15 {n : Nat} {v0 v1 v2 v3 v4 v5 v6 v7 v8 v9 v10 v11 v12 v13 v14 v15 v : Value} {H : Nat} (hH : H = h.1) (hh : 1024 ≤ H) : a_pf (hI h n [v0, v1, v2, v3, v4, v5, v6, v7, v8, v9, v10, v11, v12, v13, v14, v15] A) H 15 [1] v = some (hI h n [v0, v1, v2, v3, v4, v5, v6, v7, v8, v9, v10, v11, v12, v13, v14, v] A) := by
  subst hH
  exact hI_pf hh rfl (by decide)
theorem hI_o {n q : Nat} (hq : q < h.1) : (hI h n vs A).2.2 q = h.2.2 q := (if_neg (by omega)).trans (if_neg (by omega))
theorem hI_gf {n q k : Nat} (hq : q < h.1) : a_gf (hI h n vs A) q k [1] = a_gf h q k [1] := by
  unfold a_gf
  rw [hI_o hq]
theorem hI_isArr {n k : Nat} (hh : 1024 ≤ h.1) (h1 : 1 ≤ k) (hk : k ≤ n) : a_isArr (hI h n vs A) (h.1 + k) = true := by
  unfold a_isArr
  rw [show (hI h n vs A).2.2 (h.1 + k) = .inl (.int, wDN (h.1 + k - h.1 - 1), .inl (A (h.1 + k - h.1 - 1))) from (if_neg (by omega)).trans (if_pos ⟨by omega, by omega⟩)]
  exact decide_eq_true (by omega)
theorem hI_wE {G' : Nat → Nat} {N' : Nat → Nat → Nat} (hv : vs = wDF h.1 fun k => nI (G' k)) (hA : ∀ k, k < 11 → A k = fun i => nI (N' k i)) : hI h 11 vs A = wE (hK h) h.1 G' N' := by
  refine wD_ext rfl (show h.2.1 + 16 + 1449 = h.2.1 + 1465 by omega) ?_ (fun k hk => ?_) (fun q hq => ?_)
  · rw [← hv]; exact if_pos rfl
  · rw [← hA k hk]
    refine (if_neg (by omega)).trans ((if_pos ⟨by omega, by omega⟩).trans ?_)
    rw [show h.1 + (k + 1) - h.1 - 1 = k by omega]
  · exact (if_neg (by omega)).trans (if_neg (by omega))
theorem wE_gfo {q k : Nat} {cs : List Nat} (hq : q < m ∨ m + 11 < q) : a_gf (wE h m G N) q k cs = a_gf h q k cs := by
  unfold a_gf
  rw [wE_out hq]
theorem wE_rdo {q : Nat} {ok : FieldType → Bool} {j : Int32} (hq : q < m ∨ m + 11 < q) : a_rdi (wE h m G N) q ok j = a_rdi h q ok j := by
  unfold a_rdi
  rw [wE_out hq]
theorem wE_klo {q : Nat} (hq : q < m ∨ m + 11 < q) : a_kls (wE h m G N) q = a_kls h q := by
  unfold a_kls a_cls
  rw [wE_out hq]
theorem wE_comm {m' : Nat} {G' : Nat → Nat} {N' : Nat → Nat → Nat} (hq : m + 11 < m' ∨ m' + 11 < m) : wE (wE h m G N) m' G' N' = wE (wE h m' G' N') m G N := by
  refine wD_ext rfl rfl ?_ (fun k hk => ?_) (fun q hq2 => ?_)
  · rw [wE_out (by omega)]; exact wE_obj
  · rw [wE_out (by omega)]; exact wE_arr hk
  · by_cases e : q < m' ∨ m' + 11 < q
    · rw [wE_out e, wE_out e, wE_out hq2]
    · by_cases e2 : q = m'
      · rw [e2, wE_obj, wE_obj]
      · have e3 : q = m' + ((q - m' - 1) + 1) := by omega
        rw [e3, wE_arr (by omega), wE_arr (by omega)]
theorem hK_wE : hK (wE h m G N) = wE (hK h) m G N := rfl
theorem cD_N {N' : Nat → Nat → Nat} {D : t_D} (e : ∀ j, 5 ≤ j → j ≤ 10 → N' j = N j) (c : cD N G D) : cD N' G D := by
  obtain ⟨nb, na, fr, to, le, row, ma, co⟩ := D
  have a := cA_N e (cD_cA c)
  exact cA_cD c.1 a c.2.2.2.2.1 c.2.2.2.2.2
/-- the copy's arrays -/
def nK (N : Nat → Nat → Nat) : Nat → Nat → Nat := fun k => if k < 5 then fun _ => 0 else N k
theorem c_new (hh : 1024 ≤ h.1) : a_call (d+1) MX2_init [.ref h.1] (hO h 1 [.null, .null, .null, .null, .null, .null, .null, .null, .null, .null, .null, .int 0, .int 0, .int 0, .int 0, .int 0]) = some (.inl none, wE (hK h) h.1 (fun _ => 0) fun _ _ => 0) := by
  rw [← hI_wE (h := h) (A := fun _ _ => 0) (vs := wDF h.1 fun _ => 0) rfl (fun _ _ => rfl), hI_0 (A := fun _ _ => 0) rfl]
  have z : ∀ n, (fun (_ : Nat) (_ : Nat) => (0 : Int32)) n = fun _ => 0 := fun _ => rfl
  unfold wDF
  rw [e_X2_init]
  have e0 : h.1 = h.1 := rfl
  simp (disch := first | omega | assumption | exact Or.inl rfl | exact Or.inr rfl | exact wN_kls (by omega) | exact wE_kls (by omega) | (simp only [a_cat_nil, a_cat_int, a_cat_ref, a_cat_null, a_cat_long]; done) | (simp only [a_cat_nil, a_cat_int, a_cat_ref, a_cat_null, a_cat_long]; omega) | decide | rfl | (apply Or.inr; omega) | (apply Or.inl; omega)) only [w_X2_init_0, w_X2_init_1, w_X2_init_4, w_X2_init_5, w_X2_init_7, w_X2_init_9, w_X2_init_9N, w_X2_init_12, w_X2_init_13, w_X2_init_15, w_X2_init_17, w_X2_init_17N, w_X2_init_20, w_X2_init_21, w_X2_init_23, w_X2_init_25, w_X2_init_25N, w_X2_init_28, w_X2_init_29, w_X2_init_31, w_X2_init_33, w_X2_init_33N, w_X2_init_36, w_X2_init_37, w_X2_init_39, w_X2_init_41, w_X2_init_41N, w_X2_init_44, w_X2_init_45, w_X2_init_47, w_X2_init_49, w_X2_init_49N, w_X2_init_52, w_X2_init_53, w_X2_init_55, w_X2_init_57, w_X2_init_57N, w_X2_init_60, w_X2_init_61, w_X2_init_63, w_X2_init_65, w_X2_init_65N, w_X2_init_68, w_X2_init_69, w_X2_init_71, w_X2_init_73, w_X2_init_73N, w_X2_init_76, w_X2_init_77, w_X2_init_80, w_X2_init_82, w_X2_init_82N, w_X2_init_85, w_X2_init_86, w_X2_init_88, w_X2_init_90, w_X2_init_90N, w_X2_init_93, w_ret, w_exc, Nat.reduceAdd, Option.toList_some, Option.toList_none, List.cons_append, List.nil_append, Option.bind_some, nI_add, q_mul, q_sub, q_eq, q_eqz, q_lt, q_ltz, q_gtz, q_le, q_lez, q_div, q_or, q_and, q_shl, q_shr, q_m1, q_eqm, q_meq, q_mm, q_mlt, q_mgt, q_mlt2, q_dec, Nat.add_sub_cancel, q_ltT, q_ltF, q_leT, q_leF, q_eqT, q_eqF, ↓reduceIte, uN_s, uN_n, upN_app, uG_s, uG_n, uG_uG, if_true, if_false, Nat.reduceMul, Nat.reduceSub, Nat.reduceEqDiff, Nat.reduceLT, and_true, true_and, and_false, false_and, or_true, true_or, or_false, false_or, not_true_eq_false, not_false_eq_true, Option.some.injEq, wEg_froms, wEg_tos, wEg_least, wEg_layers, wEg_rows, wEg_lengths, wEg_uppers, wEg_lowers, wEg_near, wEg_medians, wEg_points, wEg_boxes, wEp_boxes, wEg_arrows, wEp_arrows, wEg_depth, wEp_depth, wEg_made, wEp_made, wEg_come, wEp_come, wEr_uppers, wEw_uppers, wEr_lowers, wEw_lowers, wEr_near, wEw_near, wEr_medians, wEw_medians, wEr_points, wEw_points, wEr_froms, wEw_froms, wEr_tos, wEw_tos, wEr_least, wEw_least, wEr_layers, wEw_layers, wEr_rows, wEw_rows, wEr_lengths, wEw_lengths, wE_kls, hI_1, hI_new, hI_p0, hI_p1, hI_p2, hI_p3, hI_p4, hI_p5, hI_p6, hI_p7, hI_p8, hI_p9, hI_p10, hI_p11, hI_p12, hI_p13, hI_p14, hI_p15, z]
theorem c_copy (hm : 1024 ≤ m) (hq : m + 11 < h.1) : a_call (d+1) MX2_init_2 [.ref h.1, .ref m] (hO (wE h m G N) 1 [.null, .null, .null, .null, .null, .null, .null, .null, .null, .null, .null, .int 0, .int 0, .int 0, .int 0, .int 0]) = some (.inl none, wE (wE (hK h) h.1 G (nK N)) m G N) := by
  have hh : 1024 ≤ h.1 := by omega
  have mh : m < h.1 := by omega
  have z : ∀ k, k < 11 → (fun k i => nI (nK N k i)) k = fun i => nI (nK N k i) := fun _ _ => rfl
  rw [wE_comm (Or.inr hq), ← hK_wE, show wE (hK (wE h m G N)) h.1 G (nK N) = hI (wE h m G N) 11 (wDF h.1 fun k => nI (G k)) (fun k i => nI (nK N k i)) from (hI_wE (h := wE h m G N) rfl z).symm, hI_0 (A := fun k i => nI (nK N k i)) rfl]
  have a0 : ∀ k, k < 5 → (fun k i => nI (nK N k i)) k = fun _ => 0 := fun k hk => by
    show (fun i => nI ((if k < 5 then fun _ => 0 else N k) i)) = _
    rw [if_pos hk]
    rfl
  have b0 := a0 0 (by decide)
  have b1 := a0 1 (by decide)
  have b2 := a0 2 (by decide)
  have b3 := a0 3 (by decide)
  have b4 := a0 4 (by decide)
  have cl : ∀ k, 5 ≤ k → k < 11 → ∀ vs, (hI (wE h m G N) k vs (fun k i => nI (nK N k i))).2.2 (m + (k + 1)) = .inl (.int, wDN k, .inl fun i => nI (N k i)) ∧ a_add (hI (wE h m G N) k vs (fun k i => nI (nK N k i))) (.inl (.int, wDN k, .inl fun i => nI (N k i))) (wDN k) = hI (wE h m G N) (k + 1) vs (fun k i => nI (nK N k i)) := fun k h5 h11 vs => ⟨(hI_o (h := wE h m G N) (show m + (k + 1) < h.1 by omega)).trans (wE_arr h11), hI_add rfl (by
    unfold nK
    rw [if_neg (by omega)])⟩
  have r5 : ∀ L vs, a_run d MX2_init_2 49 L [.ref (m + 6), .ref h.1] (hI (wE h m G N) 5 vs (fun k i => nI (nK N k i))) = a_run d MX2_init_2 52 L [.ref (h.1 + 6), .ref h.1] (hI (wE h m G N) 6 vs (fun k i => nI (nK N k i))) := fun L vs => (w_X2_init_2_49 d L (m + 6) (wDN 5) (fun i => nI (N 5 i)) [.ref h.1] (hI (wE h m G N) 5 vs (fun k i => nI (nK N k i))) (by omega) (show a_cat [.ref h.1] ≤ 8 from Nat.le_of_ble_eq_true rfl) (cl 5 (by decide) (by decide) vs).1).trans (congrArg (fun z => a_run d MX2_init_2 52 L [.ref (h.1 + 6), .ref h.1] z) (cl 5 (by decide) (by decide) vs).2)
  have r6 : ∀ L vs, a_run d MX2_init_2 63 L [.ref (m + 7), .ref h.1] (hI (wE h m G N) 6 vs (fun k i => nI (nK N k i))) = a_run d MX2_init_2 66 L [.ref (h.1 + 7), .ref h.1] (hI (wE h m G N) 7 vs (fun k i => nI (nK N k i))) := fun L vs => (w_X2_init_2_63 d L (m + 7) (wDN 6) (fun i => nI (N 6 i)) [.ref h.1] (hI (wE h m G N) 6 vs (fun k i => nI (nK N k i))) (by omega) (show a_cat [.ref h.1] ≤ 8 from Nat.le_of_ble_eq_true rfl) (cl 6 (by decide) (by decide) vs).1).trans (congrArg (fun z => a_run d MX2_init_2 66 L [.ref (h.1 + 7), .ref h.1] z) (cl 6 (by decide) (by decide) vs).2)
  have r7 : ∀ L vs, a_run d MX2_init_2 77 L [.ref (m + 8), .ref h.1] (hI (wE h m G N) 7 vs (fun k i => nI (nK N k i))) = a_run d MX2_init_2 80 L [.ref (h.1 + 8), .ref h.1] (hI (wE h m G N) 8 vs (fun k i => nI (nK N k i))) := fun L vs => (w_X2_init_2_77 d L (m + 8) (wDN 7) (fun i => nI (N 7 i)) [.ref h.1] (hI (wE h m G N) 7 vs (fun k i => nI (nK N k i))) (by omega) (show a_cat [.ref h.1] ≤ 8 from Nat.le_of_ble_eq_true rfl) (cl 7 (by decide) (by decide) vs).1).trans (congrArg (fun z => a_run d MX2_init_2 80 L [.ref (h.1 + 8), .ref h.1] z) (cl 7 (by decide) (by decide) vs).2)
  have r8 : ∀ L vs, a_run d MX2_init_2 91 L [.ref (m + 9), .ref h.1] (hI (wE h m G N) 8 vs (fun k i => nI (nK N k i))) = a_run d MX2_init_2 94 L [.ref (h.1 + 9), .ref h.1] (hI (wE h m G N) 9 vs (fun k i => nI (nK N k i))) := fun L vs => (w_X2_init_2_91 d L (m + 9) (wDN 8) (fun i => nI (N 8 i)) [.ref h.1] (hI (wE h m G N) 8 vs (fun k i => nI (nK N k i))) (by omega) (show a_cat [.ref h.1] ≤ 8 from Nat.le_of_ble_eq_true rfl) (cl 8 (by decide) (by decide) vs).1).trans (congrArg (fun z => a_run d MX2_init_2 94 L [.ref (h.1 + 9), .ref h.1] z) (cl 8 (by decide) (by decide) vs).2)
  have r9 : ∀ L vs, a_run d MX2_init_2 105 L [.ref (m + 10), .ref h.1] (hI (wE h m G N) 9 vs (fun k i => nI (nK N k i))) = a_run d MX2_init_2 108 L [.ref (h.1 + 10), .ref h.1] (hI (wE h m G N) 10 vs (fun k i => nI (nK N k i))) := fun L vs => (w_X2_init_2_105 d L (m + 10) (wDN 9) (fun i => nI (N 9 i)) [.ref h.1] (hI (wE h m G N) 9 vs (fun k i => nI (nK N k i))) (by omega) (show a_cat [.ref h.1] ≤ 8 from Nat.le_of_ble_eq_true rfl) (cl 9 (by decide) (by decide) vs).1).trans (congrArg (fun z => a_run d MX2_init_2 108 L [.ref (h.1 + 10), .ref h.1] z) (cl 9 (by decide) (by decide) vs).2)
  have r10 : ∀ L vs, a_run d MX2_init_2 119 L [.ref (m + 11), .ref h.1] (hI (wE h m G N) 10 vs (fun k i => nI (nK N k i))) = a_run d MX2_init_2 122 L [.ref (h.1 + 11), .ref h.1] (hI (wE h m G N) 11 vs (fun k i => nI (nK N k i))) := fun L vs => (w_X2_init_2_119 d L (m + 11) (wDN 10) (fun i => nI (N 10 i)) [.ref h.1] (hI (wE h m G N) 10 vs (fun k i => nI (nK N k i))) (by omega) (show a_cat [.ref h.1] ≤ 8 from Nat.le_of_ble_eq_true rfl) (cl 10 (by decide) (by decide) vs).1).trans (congrArg (fun z => a_run d MX2_init_2 122 L [.ref (h.1 + 11), .ref h.1] z) (cl 10 (by decide) (by decide) vs).2)
  have ia : ∀ n k vs, 1 ≤ k → k ≤ n → a_isArr (hI (wE h m G N) n vs (fun k i => nI (nK N k i))) (h.1 + k) = true := fun n k vs h1 h2 => hI_isArr (h := wE h m G N) hh h1 h2
  have s5 : ∀ L vs, a_run d MX2_init_2 52 L [.ref (h.1 + 6), .ref h.1] (hI (wE h m G N) 6 vs (fun k i => nI (nK N k i))) = a_run d MX2_init_2 55 L [.ref (h.1 + 6), .ref h.1] (hI (wE h m G N) 6 vs (fun k i => nI (nK N k i))) := fun L vs => w_X2_init_2_52 d L (h.1 + 6) [.ref h.1] _ (ia 6 6 vs (by decide) (by decide))
  have s6 : ∀ L vs, a_run d MX2_init_2 66 L [.ref (h.1 + 7), .ref h.1] (hI (wE h m G N) 7 vs (fun k i => nI (nK N k i))) = a_run d MX2_init_2 69 L [.ref (h.1 + 7), .ref h.1] (hI (wE h m G N) 7 vs (fun k i => nI (nK N k i))) := fun L vs => w_X2_init_2_66 d L (h.1 + 7) [.ref h.1] _ (ia 7 7 vs (by decide) (by decide))
  have s7 : ∀ L vs, a_run d MX2_init_2 80 L [.ref (h.1 + 8), .ref h.1] (hI (wE h m G N) 8 vs (fun k i => nI (nK N k i))) = a_run d MX2_init_2 83 L [.ref (h.1 + 8), .ref h.1] (hI (wE h m G N) 8 vs (fun k i => nI (nK N k i))) := fun L vs => w_X2_init_2_80 d L (h.1 + 8) [.ref h.1] _ (ia 8 8 vs (by decide) (by decide))
  have s8 : ∀ L vs, a_run d MX2_init_2 94 L [.ref (h.1 + 9), .ref h.1] (hI (wE h m G N) 9 vs (fun k i => nI (nK N k i))) = a_run d MX2_init_2 97 L [.ref (h.1 + 9), .ref h.1] (hI (wE h m G N) 9 vs (fun k i => nI (nK N k i))) := fun L vs => w_X2_init_2_94 d L (h.1 + 9) [.ref h.1] _ (ia 9 9 vs (by decide) (by decide))
  have s9 : ∀ L vs, a_run d MX2_init_2 108 L [.ref (h.1 + 10), .ref h.1] (hI (wE h m G N) 10 vs (fun k i => nI (nK N k i))) = a_run d MX2_init_2 111 L [.ref (h.1 + 10), .ref h.1] (hI (wE h m G N) 10 vs (fun k i => nI (nK N k i))) := fun L vs => w_X2_init_2_108 d L (h.1 + 10) [.ref h.1] _ (ia 10 10 vs (by decide) (by decide))
  have s10 : ∀ L vs, a_run d MX2_init_2 122 L [.ref (h.1 + 11), .ref h.1] (hI (wE h m G N) 11 vs (fun k i => nI (nK N k i))) = a_run d MX2_init_2 125 L [.ref (h.1 + 11), .ref h.1] (hI (wE h m G N) 11 vs (fun k i => nI (nK N k i))) := fun L vs => w_X2_init_2_122 d L (h.1 + 11) [.ref h.1] _ (ia 11 11 vs (by decide) (by decide))
  have nw : ∀ n s vs, wDN n = s → (fun k i => nI (nK N k i)) n = (fun _ => 0) → s ≤ 100000 → a_newa (hI (wE h m G N) n vs (fun k i => nI (nK N k i))) (newarray.typeOf .int) (nI s) = some (h.1 + (n + 1), hI (wE h m G N) (n + 1) vs (fun k i => nI (nK N k i))) := fun n s vs h1 h2 h3 => hI_new (h := wE h m G N) h1 h2 h3
  have e0 : h.1 = (wE h m G N).1 := rfl
  have gf : ∀ n k vs, a_gf (hI (wE h m G N) n vs (fun k i => nI (nK N k i))) m k [1] = a_gf (wE h m G N) m k [1] := fun n k vs => hI_gf (h := wE h m G N) mh
  unfold wDF
  rw [e_X2_init_2]
  simp (disch := first | omega | assumption | exact Or.inl rfl | exact Or.inr rfl | exact wN_kls (by omega) | exact wE_kls (by omega) | (simp only [a_cat_nil, a_cat_int, a_cat_ref, a_cat_null, a_cat_long]; done) | (simp only [a_cat_nil, a_cat_int, a_cat_ref, a_cat_null, a_cat_long]; omega) | decide | rfl | (apply Or.inr; omega) | (apply Or.inl; omega)) only [w_X2_init_2_0, w_X2_init_2_1, w_X2_init_2_4, w_X2_init_2_5, w_X2_init_2_7, w_X2_init_2_9, w_X2_init_2_9N, w_X2_init_2_12, w_X2_init_2_13, w_X2_init_2_15, w_X2_init_2_17, w_X2_init_2_17N, w_X2_init_2_20, w_X2_init_2_21, w_X2_init_2_23, w_X2_init_2_25, w_X2_init_2_25N, w_X2_init_2_28, w_X2_init_2_29, w_X2_init_2_31, w_X2_init_2_33, w_X2_init_2_33N, w_X2_init_2_36, w_X2_init_2_37, w_X2_init_2_39, w_X2_init_2_41, w_X2_init_2_41N, w_X2_init_2_44, w_X2_init_2_45, w_X2_init_2_45N, w_X2_init_2_46, w_X2_init_2_55, w_X2_init_2_55N, w_X2_init_2_58, w_X2_init_2_59, w_X2_init_2_59N, w_X2_init_2_60, w_X2_init_2_69, w_X2_init_2_69N, w_X2_init_2_72, w_X2_init_2_73, w_X2_init_2_73N, w_X2_init_2_74, w_X2_init_2_83, w_X2_init_2_83N, w_X2_init_2_86, w_X2_init_2_87, w_X2_init_2_87N, w_X2_init_2_88, w_X2_init_2_97, w_X2_init_2_97N, w_X2_init_2_100, w_X2_init_2_101, w_X2_init_2_101N, w_X2_init_2_102, w_X2_init_2_111, w_X2_init_2_111N, w_X2_init_2_114, w_X2_init_2_115, w_X2_init_2_115N, w_X2_init_2_116, w_X2_init_2_125, w_X2_init_2_125N, w_X2_init_2_128, w_X2_init_2_129, w_X2_init_2_129N, w_X2_init_2_130, w_X2_init_2_133, w_X2_init_2_136, w_X2_init_2_137, w_X2_init_2_137N, w_X2_init_2_138, w_X2_init_2_141, w_X2_init_2_144, w_X2_init_2_145, w_X2_init_2_145N, w_X2_init_2_146, w_X2_init_2_149, w_X2_init_2_152, w_X2_init_2_153, w_X2_init_2_153N, w_X2_init_2_154, w_X2_init_2_157, w_X2_init_2_160, w_X2_init_2_161, w_X2_init_2_161N, w_X2_init_2_162, w_X2_init_2_165, w_X2_init_2_168, w_ret, w_exc, Nat.reduceAdd, Option.toList_some, Option.toList_none, List.cons_append, List.nil_append, Option.bind_some, nI_add, q_mul, q_sub, q_eq, q_eqz, q_lt, q_ltz, q_gtz, q_le, q_lez, q_div, q_or, q_and, q_shl, q_shr, q_m1, q_eqm, q_meq, q_mm, q_mlt, q_mgt, q_mlt2, q_dec, Nat.add_sub_cancel, q_ltT, q_ltF, q_leT, q_leF, q_eqT, q_eqF, ↓reduceIte, uN_s, uN_n, upN_app, uG_s, uG_n, uG_uG, if_true, if_false, Nat.reduceMul, Nat.reduceSub, Nat.reduceEqDiff, Nat.reduceLT, and_true, true_and, and_false, false_and, or_true, true_or, or_false, false_or, not_true_eq_false, not_false_eq_true, Option.some.injEq, wEg_froms, wEg_tos, wEg_least, wEg_layers, wEg_rows, wEg_lengths, wEg_uppers, wEg_lowers, wEg_near, wEg_medians, wEg_points, wEg_boxes, wEp_boxes, wEg_arrows, wEp_arrows, wEg_depth, wEp_depth, wEg_made, wEp_made, wEg_come, wEp_come, wEr_uppers, wEw_uppers, wEr_lowers, wEw_lowers, wEr_near, wEw_near, wEr_medians, wEw_medians, wEr_points, wEw_points, wEr_froms, wEw_froms, wEr_tos, wEw_tos, wEr_least, wEw_least, wEr_layers, wEw_layers, wEr_rows, wEw_rows, wEr_lengths, wEw_lengths, wE_kls, nw, hI_p0, hI_p1, hI_p2, hI_p3, hI_p4, hI_p5, hI_p6, hI_p7, hI_p8, hI_p9, hI_p10, hI_p11, hI_p12, hI_p13, hI_p14, hI_p15, gf, r5, r6, r7, r8, r9, r10, s5, s6, s7, s8, s9, s10]
end CE
