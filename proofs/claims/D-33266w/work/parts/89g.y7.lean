/-- the first diagram: no box, no arrow -/
def t_D0 : t_D := (0, 0, (fun _ => 0), (fun _ => 0), (fun _ => 0), (fun _ _ => 0), 0, 0)
theorem t_ly0 {fr to : Nat → Nat} : t_LY 0 fr to (fun _ => 0) (t_ly 0 fr to fun _ => 0) := t_ly_sp (y := fun _ => 0) ⟨fun _ _ => Nat.le_refl _, fun k hk => absurd hk (Nat.not_lt_zero _), fun _ _ => Or.inl rfl⟩
theorem t_ly0z {fr to : Nat → Nat} {b : Nat} (hb : b < 16) : t_ly 0 fr to (fun _ => 0) b = 0 := by
  rcases (t_ly0 (fr := fr) (to := to)).2.2 b hb with e | ⟨k, hk, _⟩
  · exact e
  · exact absurd hk (Nat.not_lt_zero _)
theorem t_OK0 {fr to y : Nat → Nat} {row : Nat → Nat → Nat} (l : t_LY 0 fr to (fun _ => 0) y) : t_OK 0 0 fr to (fun _ => 0) y row := by
  refine ⟨by decide, by decide, fun k hk => absurd hk (Nat.not_lt_zero _), fun _ _ => Nat.zero_le _, fun _ _ _ => rfl, ⟨fun _ => 0, fun k hk => absurd hk (Nat.not_lt_zero _), fun _ _ => (by show (0 : Nat) < 16; decide)⟩, l, fun l => ⟨fun p hp => absurd (show p < 0 from hp) (Nat.not_lt_zero _), fun x hx => ?_, fun p q hp => absurd (show p < 0 from hp) (Nat.not_lt_zero _)⟩⟩
  rcases hx with ⟨h1, _⟩ | ⟨h1, h2, _⟩ <;> omega
theorem cD0 : cD (fun _ _ => 0) (fun _ => 0) t_D0 := by
  refine ⟨t_OK0 t_ly0, ⟨by decide, by decide, rfl, rfl, fun k hk => absurd hk (Nat.not_lt_zero _), fun _ _ => ⟨rfl, Nat.zero_le _⟩⟩, ⟨fun b hb => ?_, fun _ _ => rfl, rfl, fun k hk => absurd hk (Nat.not_lt_zero _)⟩, fun l p _ hp => absurd (show p < 0 from hp) (Nat.not_lt_zero _), rfl, rfl⟩
  rw [t_ly0z hb]
  exact ⟨rfl, by decide⟩
theorem mD0 : mD (fun _ => 0) t_D0 := ⟨t_OK0 t_ly0, ⟨by decide, by decide, rfl, rfl, fun k hk => absurd hk (Nat.not_lt_zero _), fun _ _ => ⟨rfl, Nat.zero_le _⟩⟩, fun l p _ hp => absurd (show p < 0 from hp) (Nat.not_lt_zero _), rfl, rfl⟩
/-- a model being made behind all else -/
def hJ (h : a_H) (n : Nat) (vs : List Value) (A : Nat → Nat → Int32) : a_H := (h.1 + (n + 1), h.2.1 + 31 + t_sum wMN n, fun q => if q = h.1 then .inr (2, vs) else if h.1 < q ∧ q ≤ h.1 + n then .inl (.int, wMN (q - h.1 - 1), .inl (A (q - h.1 - 1))) else h.2.2 q)
def hJK (h : a_H) : a_H := (h.1 + 20, h.2.1 + 8163, h.2.2)
section Y7
variable {d : Nat} {h : a_H} {A : Nat → Nat → Int32} {vs : List Value}
theorem hJ_1 {n : Nat} : (hJ h n vs A).1 = h.1 + (n + 1) := rfl
theorem hJ_0 (hl : vs.length = 31) : hO h 2 vs = hJ h 0 vs A := a_Hx rfl (by rw [hO_2, hl]; rfl) fun q => by
  show (if q = h.1 then _ else _) = (if q = h.1 then _ else if h.1 < q ∧ q ≤ h.1 + 0 then _ else _)
  by_cases e : q = h.1
  · rw [if_pos e, if_pos e]
  · rw [if_neg e, if_neg e, if_neg (by omega)]
theorem hJ_add {n s : Nat} {f : Nat → Int32} (hs : wMN n = s) (hA : A n = f) : a_add (hJ h n vs A) (.inl (.int, s, .inl f)) s = hJ h (n + 1) vs A := a_Hx rfl (by
    show h.2.1 + 31 + t_sum wMN n + s = h.2.1 + 31 + (t_sum wMN n + wMN n)
    rw [hs, Nat.add_assoc]) fun q => by
  show (if q = h.1 + (n + 1) then _ else if q = h.1 then _ else if h.1 < q ∧ q ≤ h.1 + n then _ else _) = (if q = h.1 then _ else if h.1 < q ∧ q ≤ h.1 + (n + 1) then _ else _)
  by_cases e : q = h.1 + (n + 1)
  · have e2 : q - h.1 - 1 = n := by omega
    rw [if_pos e, if_neg (by omega), if_pos (by omega), e2, hs, hA]
  · rw [if_neg e]
    by_cases e1 : q = h.1
    · rw [if_pos e1, if_pos e1]
    · rw [if_neg e1, if_neg e1]
      by_cases e2 : h.1 < q ∧ q ≤ h.1 + n
      · rw [if_pos e2, if_pos (by omega)]
      · rw [if_neg e2, if_neg (by omega)]
theorem hJ_new {n s : Nat} (hs : wMN n = s) (hA : A n = fun _ => 0) (h1 : s ≤ 100000) : a_newa (hJ h n vs A) (newarray.typeOf .int) (nI s) = some (h.1 + (n + 1), hJ h (n + 1) vs A) := by
  rw [← hJ_add (h := h) (vs := vs) hs hA]
  unfold a_newa
  have c : (nI s).toNatClampNeg = s := nI_clamp (by omega)
  have z : ¬ (nI s < 0 ∨ 100000 < (nI s).toNatClampNeg) := by
    rintro (z | z)
    · rw [q_ltz (by omega)] at z; exact z
    · rw [c] at z; omega
  rw [if_neg z, c]
  rfl
theorem hJ_pf {n k : Nat} {v : Value} (hh : 1024 ≤ h.1) (hl : vs.length = 31) (hk : k < 31) : a_pf (hJ h n vs A) h.1 k [2] v = some (hJ h n (vs.set k v) A) := by
  unfold a_pf
  rw [show (hJ h n vs A).2.2 h.1 = .inr (2, vs) from if_pos rfl]
  refine (if_pos ⟨rfl, by omega, hh⟩).trans (congrArg some (a_Hx rfl rfl fun q => ?_))
  show (if q = h.1 then _ else if q = h.1 then _ else _) = (if q = h.1 then _ else _)
  split <;> rfl
theorem hJ_p0 {n : Nat} {v0 v1 v2 v3 v4 v5 v6 v7 v8 v9 v10 v11 v12 v13 v14 v15 v16 v17 v18 v19 v20 v21 v22 v23 v24 v25 v26 v27 v28 v29 v30 v : Value} {H : Nat} (hH : H = h.1) (hh : 1024 ≤ H) : a_pf (hJ h n [v0, v1, v2, v3, v4, v5, v6, v7, v8, v9, v10, v11, v12, v13, v14, v15, v16, v17, v18, v19, v20, v21, v22, v23, v24, v25, v26, v27, v28, v29, v30] A) H 0 [2] v = some (hJ h n [v, v1, v2, v3, v4, v5, v6, v7, v8, v9, v10, v11, v12, v13, v14, v15, v16, v17, v18, v19, v20, v21, v22, v23, v24, v25, v26, v27, v28, v29, v30] A) := by
  subst hH
  exact hJ_pf hh rfl (by decide)
theorem hJ_p1 {n : Nat} {v0 v1 v2 v3 v4 v5 v6 v7 v8 v9 v10 v11 v12 v13 v14 v15 v16 v17 v18 v19 v20 v21 v22 v23 v24 v25 v26 v27 v28 v29 v30 v : Value} {H : Nat} (hH : H = h.1) (hh : 1024 ≤ H) : a_pf (hJ h n [v0, v1, v2, v3, v4, v5, v6, v7, v8, v9, v10, v11, v12, v13, v14, v15, v16, v17, v18, v19, v20, v21, v22, v23, v24, v25, v26, v27, v28, v29, v30] A) H 1 [2] v = some (hJ h n [v0, v, v2, v3, v4, v5, v6, v7, v8, v9, v10, v11, v12, v13, v14, v15, v16, v17, v18, v19, v20, v21, v22, v23, v24, v25, v26, v27, v28, v29, v30] A) := by
  subst hH
  exact hJ_pf hh rfl (by decide)
theorem hJ_p2 {n : Nat} {v0 v1 v2 v3 v4 v5 v6 v7 v8 v9 v10 v11 v12 v13 v14 v15 v16 v17 v18 v19 v20 v21 v22 v23 v24 v25 v26 v27 v28 v29 v30 v : Value} {H : Nat} (hH : H = h.1) (hh : 1024 ≤ H) : a_pf (hJ h n [v0, v1, v2, v3, v4, v5, v6, v7, v8, v9, v10, v11, v12, v13, v14, v15, v16, v17, v18, v19, v20, v21, v22, v23, v24, v25, v26, v27, v28, v29, v30] A) H 2 [2] v = some (hJ h n [v0, v1, v, v3, v4, v5, v6, v7, v8, v9, v10, v11, v12, v13, v14, v15, v16, v17, v18, v19, v20, v21, v22, v23, v24, v25, v26, v27, v28, v29, v30] A) := by
  subst hH
  exact hJ_pf hh rfl (by decide)
theorem hJ_p3 {n : Nat} {v0 v1 v2 v3 v4 v5 v6 v7 v8 v9 v10 v11 v12 v13 v14 v15 v16 v17 v18 v19 v20 v21 v22 v23 v24 v25 v26 v27 v28 v29 v30 v : Value} {H : Nat} (hH : H = h.1) (hh : 1024 ≤ H) : a_pf (hJ h n [v0, v1, v2, v3, v4, v5, v6, v7, v8, v9, v10, v11, v12, v13, v14, v15, v16, v17, v18, v19, v20, v21, v22, v23, v24, v25, v26, v27, v28, v29, v30] A) H 3 [2] v = some (hJ h n [v0, v1, v2, v, v4, v5, v6, v7, v8, v9, v10, v11, v12, v13, v14, v15, v16, v17, v18, v19, v20, v21, v22, v23, v24, v25, v26, v27, v28, v29, v30] A) := by
  subst hH
  exact hJ_pf hh rfl (by decide)
theorem hJ_p4 {n : Nat} {v0 v1 v2 v3 v4 v5 v6 v7 v8 v9 v10 v11 v12 v13 v14 v15 v16 v17 v18 v19 v20 v21 v22 v23 v24 v25 v26 v27 v28 v29 v30 v : Value} {H : Nat} (hH : H = h.1) (hh : 1024 ≤ H) : a_pf (hJ h n [v0, v1, v2, v3, v4, v5, v6, v7, v8, v9, v10, v11, v12, v13, v14, v15, v16, v17, v18, v19, v20, v21, v22, v23, v24, v25, v26, v27, v28, v29, v30] A) H 4 [2] v = some (hJ h n [v0, v1, v2, v3, v, v5, v6, v7, v8, v9, v10, v11, v12, v13, v14, v15, v16, v17, v18, v19, v20, v21, v22, v23, v24, v25, v26, v27, v28, v29, v30] A) := by
  subst hH
  exact hJ_pf hh rfl (by decide)
theorem hJ_p5 {n : Nat} {v0 v1 v2 v3 v4 v5 v6 v7 v8 v9 v10 v11 v12 v13 v14 v15 v16 v17 v18 v19 v20 v21 v22 v23 v24 v25 v26 v27 v28 v29 v30 v : Value} {H : Nat} (hH : H = h.1) (hh : 1024 ≤ H) : a_pf (hJ h n [v0, v1, v2, v3, v4, v5, v6, v7, v8, v9, v10, v11, v12, v13, v14, v15, v16, v17, v18, v19, v20, v21, v22, v23, v24, v25, v26, v27, v28, v29, v30] A) H 5 [2] v = some (hJ h n [v0, v1, v2, v3, v4, v, v6, v7, v8, v9, v10, v11, v12, v13, v14, v15, v16, v17, v18, v19, v20, v21, v22, v23, v24, v25, v26, v27, v28, v29, v30] A) := by
  subst hH
  exact hJ_pf hh rfl (by decide)
theorem hJ_p6 {n : Nat} {v0 v1 v2 v3 v4 v5 v6 v7 v8 v9 v10 v11 v12 v13 v14 v15 v16 v17 v18 v19 v20 v21 v22 v23 v24 v25 v26 v27 v28 v29 v30 v : Value} {H : Nat} (hH : H = h.1) (hh : 1024 ≤ H) : a_pf (hJ h n [v0, v1, v2, v3, v4, v5, v6, v7, v8, v9, v10, v11, v12, v13, v14, v15, v16, v17, v18, v19, v20, v21, v22, v23, v24, v25, v26, v27, v28, v29, v30] A) H 6 [2] v = some (hJ h n [v0, v1, v2, v3, v4, v5, v, v7, v8, v9, v10, v11, v12, v13, v14, v15, v16, v17, v18, v19, v20, v21, v22, v23, v24, v25, v26, v27, v28, v29, v30] A) := by
  subst hH
  exact hJ_pf hh rfl (by decide)
theorem hJ_p8 {n : Nat} {v0 v1 v2 v3 v4 v5 v6 v7 v8 v9 v10 v11 v12 v13 v14 v15 v16 v17 v18 v19 v20 v21 v22 v23 v24 v25 v26 v27 v28 v29 v30 v : Value} {H : Nat} (hH : H = h.1) (hh : 1024 ≤ H) : a_pf (hJ h n [v0, v1, v2, v3, v4, v5, v6, v7, v8, v9, v10, v11, v12, v13, v14, v15, v16, v17, v18, v19, v20, v21, v22, v23, v24, v25, v26, v27, v28, v29, v30] A) H 8 [2] v = some (hJ h n [v0, v1, v2, v3, v4, v5, v6, v7, v, v9, v10, v11, v12, v13, v14, v15, v16, v17, v18, v19, v20, v21, v22, v23, v24, v25, v26, v27, v28, v29, v30] A) := by
  subst hH
  exact hJ_pf hh rfl (by decide)
theorem hJ_p9 {n : Nat} {v0 v1 v2 v3 v4 v5 v6 v7 v8 v9 v10 v11 v12 v13 v14 v15 v16 v17 v18 v19 v20 v21 v22 v23 v24 v25 v26 v27 v28 v29 v30 v : Value} {H : Nat} (hH : H = h.1) (hh : 1024 ≤ H) : a_pf (hJ h n [v0, v1, v2, v3, v4, v5, v6, v7, v8, v9, v10, v11, v12, v13, v14, v15, v16, v17, v18, v19, v20, v21, v22, v23, v24, v25, v26, v27, v28, v29, v30] A) H 9 [2] v = some (hJ h n [v0, v1, v2, v3, v4, v5, v6, v7, v8, v, v10, v11, v12, v13, v14, v15, v16, v17, v18, v19, v20, v21, v22, v23, v24, v25, v26, v27, v28, v29, v30] A) := by
  subst hH
  exact hJ_pf hh rfl (by decide)
theorem hJ_p10 {n : Nat} {v0 v1 v2 v3 v4 v5 v6 v7 v8 v9 v10 v11 v12 v13 v14 v15 v16 v17 v18 v19 v20 v21 v22 v23 v24 v25 v26 v27 v28 v29 v30 v : Value} {H : Nat} (hH : H = h.1) (hh : 1024 ≤ H) : a_pf (hJ h n [v0, v1, v2, v3, v4, v5, v6, v7, v8, v9, v10, v11, v12, v13, v14, v15, v16, v17, v18, v19, v20, v21, v22, v23, v24, v25, v26, v27, v28, v29, v30] A) H 10 [2] v = some (hJ h n [v0, v1, v2, v3, v4, v5, v6, v7, v8, v9, v, v11, v12, v13, v14, v15, v16, v17, v18, v19, v20, v21, v22, v23, v24, v25, v26, v27, v28, v29, v30] A) := by
  subst hH
  exact hJ_pf hh rfl (by decide)
theorem hJ_p11 {n : Nat} {v0 v1 v2 v3 v4 v5 v6 v7 v8 v9 v10 v11 v12 v13 v14 v15 v16 v17 v18 v19 v20 v21 v22 v23 v24 v25 v26 v27 v28 v29 v30 v : Value} {H : Nat} (hH : H = h.1) (hh : 1024 ≤ H) : a_pf (hJ h n [v0, v1, v2, v3, v4, v5, v6, v7, v8, v9, v10, v11, v12, v13, v14, v15, v16, v17, v18, v19, v20, v21, v22, v23, v24, v25, v26, v27, v28, v29, v30] A) H 11 [2] v = some (hJ h n [v0, v1, v2, v3, v4, v5, v6, v7, v8, v9, v10, v, v12, v13, v14, v15, v16, v17, v18, v19, v20, v21, v22, v23, v24, v25, v26, v27, v28, v29, v30] A) := by
  subst hH
  exact hJ_pf hh rfl (by decide)
theorem hJ_p12 {n : Nat} {v0 v1 v2 v3 v4 v5 v6 v7 v8 v9 v10 v11 v12 v13 v14 v15 v16 v17 v18 v19 v20 v21 v22 v23 v24 v25 v26 v27 v28 v29 v30 v : Value} {H : Nat} (hH : H = h.1) (hh : 1024 ≤ H) : a_pf (hJ h n [v0, v1, v2, v3, v4, v5, v6, v7, v8, v9, v10, v11, v12, v13, v14, v15, v16, v17, v18, v19, v20, v21, v22, v23, v24, v25, v26, v27, v28, v29, v30] A) H 12 [2] v = some (hJ h n [v0, v1, v2, v3, v4, v5, v6, v7, v8, v9, v10, v11, v, v13, v14, v15, v16, v17, v18, v19, v20, v21, v22, v23, v24, v25, v26, v27, v28, v29, v30] A) := by
  subst hH
  exact hJ_pf hh rfl (by decide)
theorem hJ_p13 {n : Nat} {v0 v1 v2 v3 v4 v5 v6 v7 v8 v9 v10 v11 v12 v13 v14 v15 v16 v17 v18 v19 v20 v21 v22 v23 v24 v25 v26 v27 v28 v29 v30 v : Value} {H : Nat} (hH : H = h.1) (hh : 1024 ≤ H) : a_pf (hJ h n [v0, v1, v2, v3, v4, v5, v6, v7, v8, v9, v10, v11, v12, v13, v14, v15, v16, v17, v18, v19, v20, v21, v22, v23, v24, v25, v26, v27, v28, v29, v30] A) H 13 [2] v = some (hJ h n [v0, v1, v2, v3, v4, v5, v6, v7, v8, v9, v10, v11, v12, v, v14, v15, v16, v17, v18, v19, v20, v21, v22, v23, v24, v25, v26, v27, v28, v29, v30] A) := by
  subst hH
  exact hJ_pf hh rfl (by decide)
theorem hJ_p14 {n : Nat} {v0 v1 v2 v3 v4 v5 v6 v7 v8 v9 v10 v11 v12 v13 v14 v15 v16 v17 v18 v19 v20 v21 v22 v23 v24 v25 v26 v27 v28 v29 v30 v : Value} {H : Nat} (hH : H = h.1) (hh : 1024 ≤ H) : a_pf (hJ h n [v0, v1, v2, v3, v4, v5, v6, v7, v8, v9, v10, v11, v12, v13, v14, v15, v16, v17, v18, v19, v20, v21, v22, v23, v24, v25, v26, v27, v28, v29, v30] A) H 14 [2] v = some (hJ h n [v0, v1, v2, v3, v4, v5, v6, v7, v8, v9, v10, v11, v12, v13, v, v15, v16, v17, v18, v19, v20, v21, v22, v23, v24, v25, v26, v27, v28, v29, v30] A) := by
  subst hH
  exact hJ_pf hh rfl (by decide)
theorem hJ_p15 {n : Nat} {v0 v1 v2 v3 v4 v5 v6 v7 v8 v9 v10 v11 v12 v13 v14 v15 v16 v17 v18 v19 v20 v21 v22 v23 v24 v25 v26 v27 v28 v29 v30 v : Value} {H : Nat} (hH : H = h.1) (hh : 1024 ≤ H) : a_pf (hJ h n [v0, v1, v2, v3, v4, v5, v6, v7, v8, v9, v10, v11, v12, v13, v14, v15, v16, v17, v18, v19, v20, v21, v22, v23, v24, v25, v26, v27, v28, v29, v30] A) H 15 [2] v = some (hJ h n [v0, v1, v2, v3, v4, v5, v6, v7, v8, v9, v10, v11, v12, v13, v14, v, v16, v17, v18, v19, v20, v21, v22, v23, v24, v25, v26, v27, v28, v29, v30] A) := by
  subst hH
  exact hJ_pf hh rfl (by decide)
theorem hJ_p16 {n : Nat} {v0 v1 v2 v3 v4 v5 v6 v7 v8 v9 v10 v11 v12 v13 v14 v15 v16 v17 v18 v19 v20 v21 v22 v23 v24 v25 v26 v27 v28 v29 v30 v : Value} {H : Nat} (hH : H = h.1) (hh : 1024 ≤ H) : a_pf (hJ h n [v0, v1, v2, v3, v4, v5, v6, v7, v8, v9, v10, v11, v12, v13, v14, v15, v16, v17, v18, v19, v20, v21, v22, v23, v24, v25, v26, v27, v28, v29, v30] A) H 16 [2] v = some (hJ h n [v0, v1, v2, v3, v4, v5, v6, v7, v8, v9, v10, v11, v12, v13, v14, v15, v, v17, v18, v19, v20, v21, v22, v23, v24, v25, v26, v27, v28, v29, v30] A) := by
  subst hH
  exact hJ_pf hh rfl (by decide)
theorem hJ_p17 {n : Nat} {v0 v1 v2 v3 v4 v5 v6 v7 v8 v9 v10 v11 v12 v13 v14 v15 v16 v17 v18 v19 v20 v21 v22 v23 v24 v25 v26 v27 v28 v29 v30 v : Value} {H : Nat} (hH : H = h.1) (hh : 1024 ≤ H) : a_pf (hJ h n [v0, v1, v2, v3, v4, v5, v6, v7, v8, v9, v10, v11, v12, v13, v14, v15, v16, v17, v18, v19, v20, v21, v22, v23, v24, v25, v26, v27, v28, v29, v30] A) H 17 [2] v = some (hJ h n [v0, v1, v2, v3, v4, v5, v6, v7, v8, v9, v10, v11, v12, v13, v14, v15, v16, v, v18, v19, v20, v21, v22, v23, v24, v25, v26, v27, v28, v29, v30] A) := by
  subst hH
  exact hJ_pf hh rfl (by decide)
theorem hJ_p22 {n : Nat} {v0 v1 v2 v3 v4 v5 v6 v7 v8 v9 v10 v11 v12 v13 v14 v15 v16 v17 v18 v19 v20 v21 v22 v23 v24 v25 v26 v27 v28 v29 v30 v : Value} {H : Nat} (hH : H = h.1) (hh : 1024 ≤ H) : a_pf (hJ h n [v0, v1, v2, v3, v4, v5, v6, v7, v8, v9, v10, v11, v12, v13, v14, v15, v16, v17, v18, v19, v20, v21, v22, v23, v24, v25, v26, v27, v28, v29, v30] A) H 22 [2] v = some (hJ h n [v0, v1, v2, v3, v4, v5, v6, v7, v8, v9, v10, v11, v12, v13, v14, v15, v16, v17, v18, v19, v20, v21, v, v23, v24, v25, v26, v27, v28, v29, v30] A) := by
  subst hH
  exact hJ_pf hh rfl (by decide)
theorem hJ_p30 {n : Nat} {v0 v1 v2 v3 v4 v5 v6 v7 v8 v9 v10 v11 v12 v13 v14 v15 v16 v17 v18 v19 v20 v21 v22 v23 v24 v25 v26 v27 v28 v29 v30 v : Value} {H : Nat} (hH : H = h.1) (hh : 1024 ≤ H) : a_pf (hJ h n [v0, v1, v2, v3, v4, v5, v6, v7, v8, v9, v10, v11, v12, v13, v14, v15, v16, v17, v18, v19, v20, v21, v22, v23, v24, v25, v26, v27, v28, v29, v30] A) H 30 [2] v = some (hJ h n [v0, v1, v2, v3, v4, v5, v6, v7, v8, v9, v10, v11, v12, v13, v14, v15, v16, v17, v18, v19, v20, v21, v22, v23, v24, v25, v26, v27, v28, v29, v] A) := by
  subst hH
  exact hJ_pf hh rfl (by decide)
theorem hJ_wN {G' : Nat → Nat} {N' : Nat → Nat → Nat} (hv : vs = wMF h.1 fun k => nI (G' k)) (hA : ∀ k, k < 19 → A k = fun i => nI (N' k i)) : hJ h 19 vs A = wN (hJK h) h.1 G' N' := by
  refine wM_ext rfl (show h.2.1 + 31 + 8132 = h.2.1 + 8163 by omega) ?_ (fun k hk => ?_) (fun q hq => ?_)
  · rw [← hv]; exact if_pos rfl
  · rw [← hA k hk]
    refine (if_neg (by omega)).trans ((if_pos ⟨by omega, by omega⟩).trans ?_)
    rw [show h.1 + (k + 1) - h.1 - 1 = k by omega]
  · exact (if_neg (by omega)).trans (if_neg (by omega))
theorem m_new (hh : 1024 ≤ h.1) : ∃ (N' : Nat → Nat → Nat) (G' : Nat → Nat), mI N' G' t_D0 [] none ∧ mX N' G' [] ∧ G' 20 = 0 ∧ a_call (d+2) MX3_init [.ref h.1] (hO h 2 [.null, .null, .null, .null, .null, .null, .null, .int 0, .null, .null, .null, .null, .null, .null, .null, .null, .null, .null, .int 0, .int 0, .int 0, .int 0, .null, .int 0, .int 0, .int 0, .int 0, .int 0, .int 0, .int 0, .null]) = some (.inl none, wN (hJK h) h.1 G' N') := by
  have ⟨N', a1, a2, a3⟩ := n_looks (d := d) (h := hJK h) (m := h.1) (G := fun _ => 0) (N := fun _ _ => 0) hh mD0
  refine ⟨N', uG (fun _ => 0) 7 (t_dp (t_ly 0 (fun _ => 0) (fun _ => 0) fun _ => 0) 0), ⟨?_, ?_, by decide, fun q E e => ?_, ?_⟩, ⟨?_, by decide, fun i c e => ?_⟩, ?_, ?_⟩
  · rw [a1 0 (by decide) (by decide) (by decide)]; exact mD0
  · exact uG_n (by decide)
  · cases q <;> cases e
  · exact uG_n (by decide)
  · exact uG_n (by decide)
  · cases i <;> cases e
  · exact uG_n (by decide)
  · rw [← hJ_wN (h := h) (A := fun _ _ => 0) (vs := wMF h.1 fun _ => 0) rfl (fun _ _ => rfl)] at a3
    rw [hJ_0 (A := fun _ _ => 0) rfl]
    have z : ∀ n, (fun (_ : Nat) (_ : Nat) => (0 : Int32)) n = fun _ => 0 := fun _ => rfl
    unfold wMF at a3
    have kk : a_kls (hJ h 19 (wMF h.1 fun _ => 0) fun _ _ => 0) h.1 = some 2 := a_kls_o hh (if_pos rfl)
    unfold wMF at kk
    rw [e_X3_init]
    have e0 : h.1 = h.1 := rfl
    simp (disch := first | omega | assumption | exact Or.inl rfl | exact Or.inr rfl | exact wN_kls (by omega) | exact wE_kls (by omega) | (simp only [a_cat_nil, a_cat_int, a_cat_ref, a_cat_null, a_cat_long]; done) | (simp only [a_cat_nil, a_cat_int, a_cat_ref, a_cat_null, a_cat_long]; omega) | decide | rfl | (apply Or.inr; omega) | (apply Or.inl; omega)) only [w_X3_init_0, w_X3_init_1, w_X3_init_4, w_X3_init_5, w_X3_init_8, w_X3_init_10, w_X3_init_10N, w_X3_init_13, w_X3_init_14, w_X3_init_17, w_X3_init_19, w_X3_init_19N, w_X3_init_22, w_X3_init_23, w_X3_init_26, w_X3_init_28, w_X3_init_28N, w_X3_init_31, w_X3_init_32, w_X3_init_35, w_X3_init_37, w_X3_init_37N, w_X3_init_40, w_X3_init_41, w_X3_init_43, w_X3_init_45, w_X3_init_45N, w_X3_init_48, w_X3_init_49, w_X3_init_51, w_X3_init_53, w_X3_init_53N, w_X3_init_56, w_X3_init_57, w_X3_init_59, w_X3_init_61, w_X3_init_61N, w_X3_init_64, w_X3_init_65, w_X3_init_67, w_X3_init_69, w_X3_init_69N, w_X3_init_72, w_X3_init_73, w_X3_init_75, w_X3_init_77, w_X3_init_77N, w_X3_init_80, w_X3_init_81, w_X3_init_83, w_X3_init_85, w_X3_init_85N, w_X3_init_88, w_X3_init_89, w_X3_init_92, w_X3_init_94, w_X3_init_94N, w_X3_init_97, w_X3_init_98, w_X3_init_100, w_X3_init_102, w_X3_init_102N, w_X3_init_105, w_X3_init_106, w_X3_init_108, w_X3_init_110, w_X3_init_110N, w_X3_init_113, w_X3_init_114, w_X3_init_116, w_X3_init_118, w_X3_init_118N, w_X3_init_121, w_X3_init_122, w_X3_init_124, w_X3_init_126, w_X3_init_126N, w_X3_init_129, w_X3_init_130, w_X3_init_133, w_X3_init_135, w_X3_init_135N, w_X3_init_138, w_X3_init_139, w_X3_init_142, w_X3_init_144, w_X3_init_144N, w_X3_init_147, w_X3_init_148, w_X3_init_150, w_X3_init_152, w_X3_init_152N, w_X3_init_155, w_X3_init_156, w_X3_init_157, w_X3_init_159, w_X3_init_159N, w_X3_init_162, w_X3_init_163, w_X3_init_166, w_ret, w_exc, Nat.reduceAdd, Option.toList_some, Option.toList_none, List.cons_append, List.nil_append, Option.bind_some, nI_add, q_mul, q_sub, q_eq, q_eqz, q_lt, q_ltz, q_gtz, q_le, q_lez, q_div, q_or, q_and, q_shl, q_shr, q_m1, q_eqm, q_meq, q_mm, q_mlt, q_mgt, q_mlt2, q_dec, Nat.add_sub_cancel, q_ltT, q_ltF, q_leT, q_leF, q_eqT, q_eqF, ↓reduceIte, uN_s, uN_n, upN_app, uG_s, uG_n, uG_uG, if_true, if_false, Nat.reduceMul, Nat.reduceSub, Nat.reduceEqDiff, Nat.reduceLT, and_true, true_and, and_false, false_and, or_true, true_or, or_false, false_or, not_true_eq_false, not_false_eq_true, Option.some.injEq, wNg_s, wNg_past, wNg_kept, wNg_aside, wNg_lay, wNg_start, wNg_count, wNg_deep, wNp_deep, wNg_near, wNg_medians, wNg_points, wNg_columns, wNg_upper, wNg_lower, wNg_heard, wNg_walks, wNg_spare, wNg_best, wNg_isKept, wNp_isKept, wNg_pasts, wNp_pasts, wNg_runs, wNp_runs, wNg_last, wNp_last, wNg_text, wNg_typed, wNp_typed, wNg_spot, wNp_spot, wNg_from, wNp_from, wNg_reason, wNp_reason, wNg_cause, wNp_cause, wNg_orders, wNp_orders, wNg_letter, wNp_letter, wNg_numbers, wNr_s, wNw_s, wNr_past, wNw_past, wNr_kept, wNw_kept, wNr_aside, wNw_aside, wNr_lay, wNw_lay, wNr_start, wNw_start, wNr_count, wNw_count, wNr_near, wNw_near, wNr_medians, wNw_medians, wNr_points, wNw_points, wNr_columns, wNw_columns, wNr_upper, wNw_upper, wNr_lower, wNw_lower, wNr_heard, wNw_heard, wNr_walks, wNw_walks, wNr_spare, wNw_spare, wNr_best, wNw_best, wNr_text, wNw_text, wNr_numbers, wNw_numbers, wN_kls, hJ_1, hJ_new, hJ_p0, hJ_p1, hJ_p2, hJ_p3, hJ_p4, hJ_p5, hJ_p6, hJ_p8, hJ_p9, hJ_p10, hJ_p11, hJ_p12, hJ_p13, hJ_p14, hJ_p15, hJ_p16, hJ_p17, hJ_p22, hJ_p30, z, a3]
/-- a new object of the class -/
theorem x_new (hh : 1024 ≤ h.1) : ∃ E : a_H, a_call (d+4) MX1_init [.ref h.1] (hO h 0 [.null, .null, .null, .null]) = some (.inl none, E) ∧ cI E h.1 (h.1 + 1) t_D0 [] none [] ∧ E.1 = h.1 + 17 ∧ E.2.1 = h.2.1 + 1509 ∧ ∀ q, q < h.1 → E.2.2 q = h.2.2 q := by
  have cn := c_new (d := d+2) (h := hO h 0 [.null, .null, .null, .null]) (show 1024 ≤ h.1 + 1 by omega)
  have hc1 : (wE (hK (hO h 0 [.null, .null, .null, .null])) (h.1 + 1) (fun _ => 0) fun _ _ => 0).1 = h.1 + 13 := rfl
  have hc2 : (wE (hK (hO h 0 [.null, .null, .null, .null])) (h.1 + 1) (fun _ => 0) fun _ _ => 0).2.1 = h.2.1 + 1469 := rfl
  have hcr : (wE (hK (hO h 0 [.null, .null, .null, .null])) (h.1 + 1) (fun _ => 0) fun _ _ => 0).2.2 h.1 = .inr (0, [.null, .null, .null, .null]) := (wE_out (Or.inl (Nat.lt_succ_self _))).trans (hO_at (h := h))
  have hco : ∀ q, q < h.1 → (wE (hK (hO h 0 [.null, .null, .null, .null])) (h.1 + 1) (fun _ => 0) fun _ _ => 0).2.2 q = h.2.2 q := fun q hq2 => (wE_out (Or.inl (by omega))).trans (hO_ne (Nat.ne_of_lt hq2))
  have hcm : cM (wE (hK (hO h 0 [.null, .null, .null, .null])) (h.1 + 1) (fun _ => 0) fun _ _ => 0) (h.1 + 1) t_D0 := cM_of (by omega) (show h.1 + 1 + 11 < h.1 + 1 + 12 by omega) cD0
  rw [hO_1] at cn
  revert cn hc1 hc2 hcr hco hcm
  generalize wE (hK (hO h 0 [.null, .null, .null, .null])) (h.1 + 1) (fun _ => 0) (fun _ _ => 0) = E
  intro cn hc1 hc2 hcr hco hcm
  have p0 : a_pf E h.1 0 [0] (.ref (h.1 + 1)) = some (a_set E h.1 (.inr (0, [.ref (h.1 + 1), .null, .null, .null]))) := by
    unfold a_pf
    rw [hcr]
    exact if_pos ⟨rfl, Nat.le_of_ble_eq_true rfl, hh⟩
  have q1 := q_init (d := d+1) (g := a_set E h.1 (.inr (0, [.ref (h.1 + 1), .null, .null, .null]))) (show 1024 ≤ E.1 by omega)
  have s1 : (a_set E h.1 (.inr (0, [.ref (h.1 + 1), .null, .null, .null]))).1 = h.1 + 13 := hc1
  have c1 : (a_set E h.1 (.inr (0, [.ref (h.1 + 1), .null, .null, .null]))).2.2 h.1 = .inr (0, [.ref (h.1 + 1), .null, .null, .null]) := if_pos rfl
  have o1 : ∀ q, q ≠ h.1 → (a_set E h.1 (.inr (0, [.ref (h.1 + 1), .null, .null, .null]))).2.2 q = E.2.2 q := fun q hq => if_neg hq
  have t1 : (a_set E h.1 (.inr (0, [.ref (h.1 + 1), .null, .null, .null]))).2.1 = h.2.1 + 1469 := hc2
  rw [s1] at q1
  revert p0 q1 s1 c1 o1 t1
  generalize a_set E h.1 (.inr (0, [.ref (h.1 + 1), .null, .null, .null])) = E1
  intro p0 q1 s1 c1 o1 t1
  have c2 : (a_add (a_add E1 (cDq (h.1 + 13 + 1) 0 0) 3) (cArr fun _ => none) 17).2.2 h.1 = .inr (0, [.ref (h.1 + 1), .null, .null, .null]) := (if_neg (show h.1 ≠ E1.1 + 1 by omega)).trans ((if_neg (show h.1 ≠ E1.1 by omega)).trans c1)
  have p2 : a_pf (a_add (a_add E1 (cDq (h.1 + 13 + 1) 0 0) 3) (cArr fun _ => none) 17) h.1 2 [0] (.ref (h.1 + 13)) = some (a_set (a_add (a_add E1 (cDq (h.1 + 13 + 1) 0 0) 3) (cArr fun _ => none) 17) h.1 (.inr (0, [.ref (h.1 + 1), .null, .ref (h.1 + 13), .null]))) := by
    unfold a_pf
    rw [c2]
    exact if_pos ⟨rfl, Nat.le_of_ble_eq_true rfl, hh⟩
  have s3 : (a_set (a_add (a_add E1 (cDq (h.1 + 13 + 1) 0 0) 3) (cArr fun _ => none) 17) h.1 (.inr (0, [.ref (h.1 + 1), .null, .ref (h.1 + 13), .null]))).1 = h.1 + 15 := by
    show E1.1 + 1 + 1 = _
    omega
  have t3 : (a_set (a_add (a_add E1 (cDq (h.1 + 13 + 1) 0 0) 3) (cArr fun _ => none) 17) h.1 (.inr (0, [.ref (h.1 + 1), .null, .ref (h.1 + 13), .null]))).2.1 = h.2.1 + 1489 := by
    show E1.2.1 + 3 + 17 = _
    omega
  have c3 : (a_set (a_add (a_add E1 (cDq (h.1 + 13 + 1) 0 0) 3) (cArr fun _ => none) 17) h.1 (.inr (0, [.ref (h.1 + 1), .null, .ref (h.1 + 13), .null]))).2.2 h.1 = .inr (0, [.ref (h.1 + 1), .null, .ref (h.1 + 13), .null]) := if_pos rfl
  have d3 : (a_set (a_add (a_add E1 (cDq (h.1 + 13 + 1) 0 0) 3) (cArr fun _ => none) 17) h.1 (.inr (0, [.ref (h.1 + 1), .null, .ref (h.1 + 13), .null]))).2.2 (h.1 + 13) = cDq (h.1 + 14) 0 0 := (if_neg (by omega)).trans ((if_neg (show h.1 + 13 ≠ E1.1 + 1 by omega)).trans (if_pos s1.symm))
  have a3 : (a_set (a_add (a_add E1 (cDq (h.1 + 13 + 1) 0 0) 3) (cArr fun _ => none) 17) h.1 (.inr (0, [.ref (h.1 + 1), .null, .ref (h.1 + 13), .null]))).2.2 (h.1 + 14) = cArr fun _ => none := (if_neg (by omega)).trans (if_pos (show h.1 + 14 = E1.1 + 1 by omega))
  have o3 : ∀ q, q ≠ h.1 → q < h.1 + 13 → (a_set (a_add (a_add E1 (cDq (h.1 + 13 + 1) 0 0) 3) (cArr fun _ => none) 17) h.1 (.inr (0, [.ref (h.1 + 1), .null, .ref (h.1 + 13), .null]))).2.2 q = E.2.2 q := fun q h1 h2 => (if_neg h1).trans ((if_neg (show q ≠ E1.1 + 1 by omega)).trans ((if_neg (show q ≠ E1.1 by omega)).trans (o1 q h1)))
  have j1 := j_init (d := d+1) (g := a_set (a_add (a_add E1 (cDq (h.1 + 13 + 1) 0 0) 3) (cArr fun _ => none) 17) h.1 (.inr (0, [.ref (h.1 + 1), .null, .ref (h.1 + 13), .null]))) (by rw [s3]; omega)
  rw [s3] at j1
  revert p2 s3 t3 c3 d3 a3 o3 j1
  generalize a_set (a_add (a_add E1 (cDq (h.1 + 13 + 1) 0 0) 3) (cArr fun _ => none) 17) h.1 (.inr (0, [.ref (h.1 + 1), .null, .ref (h.1 + 13), .null])) = E3
  intro p2 s3 t3 c3 d3 a3 o3 j1
  have c4 : (a_add (a_add E3 (cSB (h.1 + 15 + 1) 0 0) 4) (cBy 16 fun _ => 0) 16).2.2 h.1 = .inr (0, [.ref (h.1 + 1), .null, .ref (h.1 + 13), .null]) := (if_neg (show h.1 ≠ E3.1 + 1 by omega)).trans ((if_neg (show h.1 ≠ E3.1 by omega)).trans c3)
  have p3 : a_pf (a_add (a_add E3 (cSB (h.1 + 15 + 1) 0 0) 4) (cBy 16 fun _ => 0) 16) h.1 3 [0] (.ref (h.1 + 15)) = some (a_set (a_add (a_add E3 (cSB (h.1 + 15 + 1) 0 0) 4) (cBy 16 fun _ => 0) 16) h.1 (.inr (0, [.ref (h.1 + 1), .null, .ref (h.1 + 13), .ref (h.1 + 15)]))) := by
    unfold a_pf
    rw [c4]
    exact if_pos ⟨rfl, Nat.le_of_ble_eq_true rfl, hh⟩
  have o5 : ∀ q, q ≠ h.1 → q < h.1 + 15 → (a_set (a_add (a_add E3 (cSB (h.1 + 15 + 1) 0 0) 4) (cBy 16 fun _ => 0) 16) h.1 (.inr (0, [.ref (h.1 + 1), .null, .ref (h.1 + 13), .ref (h.1 + 15)]))).2.2 q = E3.2.2 q := fun q h1 h2 => (if_neg h1).trans ((if_neg (show q ≠ E3.1 + 1 by omega)).trans (if_neg (show q ≠ E3.1 by omega)))
  have s5 : (a_set (a_add (a_add E3 (cSB (h.1 + 15 + 1) 0 0) 4) (cBy 16 fun _ => 0) 16) h.1 (.inr (0, [.ref (h.1 + 1), .null, .ref (h.1 + 13), .ref (h.1 + 15)]))).1 = h.1 + 17 := by
    show E3.1 + 1 + 1 = _
    omega
  refine ⟨_, ?_, ⟨.null, h.1 + 13, h.1 + 15, hh, by rw [s5]; omega, if_pos rfl, ?_, rfl, ⟨h.1 + 14, 0, 0, fun _ => none, [], by omega, by rw [s5]; omega, by omega, by rw [s5]; omega, (o5 _ (by omega) (by omega)).trans d3, (o5 _ (by omega) (by omega)).trans a3, dL_0, trivial⟩, by decide, ⟨h.1 + 16, 0, 16, fun _ => 0, by omega, by rw [s5]; omega, by omega, by rw [s5]; omega, (if_neg (by omega)).trans ((if_neg (show h.1 + 15 ≠ E3.1 + 1 by omega)).trans (if_pos s3.symm)), (if_neg (by omega)).trans (if_pos (show h.1 + 16 = E3.1 + 1 by omega)), by decide, by decide, by decide, fun i hi => absurd hi (Nat.not_lt_zero _), fun _ _ => (by show (0 : Nat) < 128; decide)⟩⟩, s5, ?_, fun q hq => ?_⟩
  · rw [e_X1_init]
    simp (disch := first | omega | assumption | exact Or.inl rfl | exact Or.inr rfl | exact wN_kls (by omega) | exact wE_kls (by omega) | (simp only [a_cat_nil, a_cat_int, a_cat_ref, a_cat_null, a_cat_long]; done) | (simp only [a_cat_nil, a_cat_int, a_cat_ref, a_cat_null, a_cat_long]; omega) | decide | rfl | (apply Or.inr; omega) | (apply Or.inl; omega)) only [w_X1_init_0, w_X1_init_1, w_X1_init_4, w_X1_init_5, w_X1_init_8, w_X1_init_8I, w_X1_init_9, w_X1_init_12, w_X1_init_12N, w_X1_init_15, w_X1_init_16, w_X1_init_19, w_X1_init_19I, w_X1_init_20, w_X1_init_23, w_X1_init_23N, w_X1_init_26, w_X1_init_27, w_X1_init_30, w_X1_init_30I, w_X1_init_31, w_X1_init_34, w_X1_init_34N, w_X1_init_37, w_ret, w_exc, Nat.reduceAdd, Option.toList_some, Option.toList_none, List.cons_append, List.nil_append, Option.bind_some, nI_add, q_mul, q_sub, q_eq, q_eqz, q_lt, q_ltz, q_gtz, q_le, q_lez, q_div, q_or, q_and, q_shl, q_shr, q_m1, q_eqm, q_meq, q_mm, q_mlt, q_mgt, q_mlt2, q_dec, Nat.add_sub_cancel, q_ltT, q_ltF, q_leT, q_leF, q_eqT, q_eqF, ↓reduceIte, uN_s, uN_n, upN_app, uG_s, uG_n, uG_uG, if_true, if_false, Nat.reduceMul, Nat.reduceSub, Nat.reduceEqDiff, Nat.reduceLT, and_true, true_and, and_false, false_and, or_true, true_or, or_false, false_or, not_true_eq_false, not_false_eq_true, Option.some.injEq, wEg_froms, wEg_tos, wEg_least, wEg_layers, wEg_rows, wEg_lengths, wEg_uppers, wEg_lowers, wEg_near, wEg_medians, wEg_points, wEg_boxes, wEp_boxes, wEg_arrows, wEp_arrows, wEg_depth, wEp_depth, wEg_made, wEp_made, wEg_come, wEp_come, wEr_uppers, wEw_uppers, wEr_lowers, wEw_lowers, wEr_near, wEw_near, wEr_medians, wEw_medians, wEr_points, wEw_points, wEr_froms, wEw_froms, wEr_tos, wEw_tos, wEr_least, wEw_least, wEr_layers, wEw_layers, wEr_rows, wEw_rows, wEr_lengths, wEw_lengths, wE_kls, hO_i, hO_1, cn, p0, s1, q1, p2, s3, j1, p3]
  · obtain ⟨b1, b2, G', N', k1, k2, k3⟩ := hcm
    exact ⟨b1, by rw [s5]; omega, G', N', (o5 _ (by omega) (by omega)).trans ((o3 _ (by omega) (by omega)).trans k1), fun j hj => (o5 _ (by omega) (by omega)).trans ((o3 _ (by omega) (by omega)).trans (k2 j hj)), k3⟩
  · show E3.2.1 + 4 + 16 = _
    omega
  · exact (o5 q (by omega) (by omega)).trans ((o3 q (by omega) (by omega)).trans (hco q hq))
/-- THE LAW: on every script of at most 96 ints it answers true -/
theorem l_law {n : Nat} {S : Nat → Int32} (hh : 1024 ≤ h.1) (sc : h.2.2 650 = .inl (.int, n, .inl S)) (hn : n ≤ 96) : ∃ H' : a_H, H'.1 ≤ h.1 + 97000 ∧ H'.2.1 ≤ h.2.1 + 1700000 ∧ a_call (d+42) ML_law [.ref 650] h = some (.inl (some (.int (nI 1))), H') := by
  have ⟨E, e1, e2, e3, e4, e5⟩ := x_new (d := d+37) hh
  have ⟨N', G', m1, m2, m3, m4⟩ := m_new (d := d+39) (h := E) (by omega)
  rw [e3] at m4
  have mq : h.1 + 17 + 19 < (wN (hJK E) (h.1 + 17) G' N').1 := show h.1 + 17 + 19 < E.1 + 20 by omega
  have w1 : (wN (hJK E) (h.1 + 17) G' N').1 = h.1 + 37 := show E.1 + 20 = _ by omega
  have w2 : (wN (hJK E) (h.1 + 17) G' N').2.1 = h.2.1 + 9672 := show E.2.1 + 8163 = _ by omega
  have wo : ∀ q, q < h.1 + 17 → (wN (hJK E) (h.1 + 17) G' N').2.2 q = E.2.2 q := fun q hq => wN_out (Or.inl hq)
  have ws : wN (wN (hJK E) (h.1 + 17) G' N') (h.1 + 17) G' N' = wN (hJK E) (h.1 + 17) G' N' := wN_wN
  have ci : cI (wN (hJK E) (h.1 + 17) G' N') h.1 (h.1 + 1) t_D0 [] none [] := cI_X (a := 20) (b := 8163) (show hX E _ 20 8163 from ⟨show E.1 ≤ E.1 + 20 by omega, Nat.le_refl _, Nat.le_refl _, fun q hq => wo q (by omega)⟩) e2
  revert m4 mq w1 w2 wo ws ci
  generalize wN (hJK E) (h.1 + 17) G' N' = W
  intro m4 mq w1 w2 wo ws ci
  have nl : a_newa W (newarray.typeOf .long) (nI 1) = some (W.1, a_add W (.inl (.long, 1, .inr (.inl fun _ => 0))) 1) := rfl
  have nf : a_newa (a_add W (.inl (.long, 1, .inr (.inl fun _ => 0))) 1) (newarray.typeOf .float) (nI 1) = some (W.1 + 1, a_add (a_add W (.inl (.long, 1, .inr (.inl fun _ => 0))) 1) (.inl (.float, 1, .inr (.inr (.inl fun _ => 0)))) 1) := rfl
  have X : hX W (a_add (a_add W (.inl (.long, 1, .inr (.inl fun _ => 0))) 1) (.inl (.float, 1, .inr (.inr (.inl fun _ => 0)))) 1) 2 2 := ⟨show W.1 ≤ W.1 + 1 + 1 by omega, Nat.le_refl _, Nat.le_refl _, fun q hq => (if_neg (show q ≠ W.1 + 1 by omega)).trans (if_neg (by omega))⟩
  have e650 : E.2.2 650 = .inl (.int, n, .inl S) := (e5 650 (by omega)).trans sc
  have L : lI (a_add (a_add W (.inl (.long, 1, .inr (.inl fun _ => 0))) 1) (.inl (.float, 1, .inr (.inr (.inl fun _ => 0)))) 1) h.1 (h.1 + 17) W.1 (W.1 + 1) n S t_D0 [] none [] := by
    refine ⟨h.1 + 1, G', N', fun _ => 0, fun _ => 0, cI_X X ci, by omega, show h.1 + 17 + 19 < W.1 + 1 + 1 by omega, ?_, m1, m2, m3, by omega, show W.1 < W.1 + 1 + 1 by omega, (if_neg (show W.1 ≠ W.1 + 1 by omega)).trans (if_pos rfl), by omega, show W.1 + 1 < W.1 + 1 + 1 by omega, if_pos rfl, ?_⟩
    · have h0 : W.2.2 (h.1 + 17) = .inr (2, wMF (h.1 + 17) fun k => nI (G' k)) := by rw [← ws]; exact wN_obj
      have h1 : ∀ j, j < 19 → W.2.2 (h.1 + 17 + (j + 1)) = .inl (.int, wMN j, .inl fun i => nI (N' j i)) := fun j hj => by rw [← ws]; exact wN_arr hj
      exact (wM_ext rfl rfl ((X.2.2.2 _ (by omega)).trans h0) (fun j hj => (X.2.2.2 _ (by omega)).trans (h1 j hj)) (fun _ _ => rfl) : a_add (a_add W (.inl (.long, 1, .inr (.inl fun _ => 0))) 1) (.inl (.float, 1, .inr (.inr (.inl fun _ => 0)))) 1 = wN _ _ _ _).symm
    · exact (X.2.2.2 650 (by omega)).trans ((wo 650 (by omega)).trans e650)
  have ⟨H', b1, b2, b3, b4⟩ := l_loop (d := d) 24 0 _ _ _ _ _ none none L (by omega) (Nat.zero_le _) (by omega)
  have b2 : H'.1 ≤ W.1 + 1 + 1 + 4000 * 24 := b2
  have b3 : H'.2.1 ≤ W.2.1 + 1 + 1 + 70000 * 24 := b3
  refine ⟨H', by omega, by omega, ?_⟩
  rw [a_call_run rfl (Nat.le_of_ble_eq_true rfl) rfl, show a_ent ML_law [.ref 650] = [some (.ref 650), none, none, none, none, none, none, none] from rfl]
  rw [w1] at nl nf b4
  simp (disch := first | omega | assumption | exact Or.inl rfl | exact Or.inr rfl | exact wN_kls (by omega) | exact wE_kls (by omega) | (simp only [a_cat_nil, a_cat_int, a_cat_ref, a_cat_null, a_cat_long]; done) | (simp only [a_cat_nil, a_cat_int, a_cat_ref, a_cat_null, a_cat_long]; omega) | decide | rfl | (apply Or.inr; omega) | (apply Or.inl; omega)) only [w_L_law_0, w_L_law_3, w_L_law_3I, w_L_law_4, w_L_law_7, w_L_law_7N, w_L_law_8, w_L_law_11, w_L_law_11I, w_L_law_12, w_L_law_15, w_L_law_15N, w_L_law_16, w_L_law_17, w_L_law_19, w_L_law_19N, w_L_law_20, w_L_law_21, w_L_law_23, w_L_law_23N, w_L_law_25, w_L_law_26, w_ret, w_exc, Nat.reduceAdd, Option.toList_some, Option.toList_none, List.cons_append, List.nil_append, Option.bind_some, nI_add, q_mul, q_sub, q_eq, q_eqz, q_lt, q_ltz, q_gtz, q_le, q_lez, q_div, q_or, q_and, q_shl, q_shr, q_m1, q_eqm, q_meq, q_mm, q_mlt, q_mgt, q_mlt2, q_dec, Nat.add_sub_cancel, q_ltT, q_ltF, q_leT, q_leF, q_eqT, q_eqF, ↓reduceIte, uN_s, uN_n, upN_app, uG_s, uG_n, uG_uG, if_true, if_false, Nat.reduceMul, Nat.reduceSub, Nat.reduceEqDiff, Nat.reduceLT, and_true, true_and, and_false, false_and, or_true, true_or, or_false, false_or, not_true_eq_false, not_false_eq_true, Option.some.injEq, hO_i, e1, e3, m4, nl, nf]
  exact b4
end Y7
