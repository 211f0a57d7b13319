theorem t_pz_end {tx : List Nat} {s : Nat} : s ≤ (t_pz tx s).2.2.2 ∧ (t_pz tx s).2.2.2 ≤ s + 7 ∧ ((t_pz tx s).1 = true → t_wa (tx.getD s 0) < 3 ∧ s + 2 ≤ (t_pz tx s).2.2.2 ∧ (t_pz tx s).2.2.2 ≤ tx.length) := by
  have nb : ∀ w s, s ≤ (t_ns tx w s).2.2.2 ∧ (t_ns tx w s).2.2.2 ≤ s + 5 := fun w s => by
    unfold t_ns
    have b1 := t_di_bd (tx := tx) 2 0 s
    have b2 := t_di_bd (tx := tx) 2 0 ((t_di tx 2 0 s).2 + 1)
    split
    · exact ⟨Nat.le_refl _, by show s ≤ s + 5; omega⟩
    · split
      · exact ⟨b1.1, by show (t_di tx 2 0 s).2 ≤ s + 5; omega⟩
      · split
        · split
          · exact ⟨by show s ≤ (t_di tx 2 0 ((t_di tx 2 0 s).2 + 1)).2; omega, by show (t_di tx 2 0 ((t_di tx 2 0 s).2 + 1)).2 ≤ s + 5; omega⟩
          · exact ⟨b1.1, by show (t_di tx 2 0 s).2 ≤ s + 5; omega⟩
        · exact ⟨b1.1, by show (t_di tx 2 0 s).2 ≤ s + 5; omega⟩
  have n := nb (t_wa (tx.getD s 0)) (s + 1)
  unfold t_pz
  by_cases c : t_wa (tx.getD s 0) = 3
  · rw [if_pos c]
    exact ⟨Nat.le_refl _, by show s ≤ s + 7; omega, fun z => Bool.noConfusion z⟩
  · rw [if_neg c]
    have w3 := t_wa_lt (c := tx.getD s 0)
    by_cases c2 : (t_ns tx (t_wa (tx.getD s 0)) (s + 1)).1 = true
    · rw [if_pos c2]
      by_cases c3 : t_ia tx (t_ns tx (t_wa (tx.getD s 0)) (s + 1)).2.2.2 59 59 = true
      · rw [if_pos c3]
        have l := (t_ia_lt c3).1
        dsimp only
        exact ⟨by omega, by omega, fun _ => ⟨by omega, by omega, by omega⟩⟩
      · rw [if_neg c3]
        dsimp only
        exact ⟨by omega, by omega, fun z => Bool.noConfusion z⟩
    · rw [if_neg c2]
      dsimp only
      exact ⟨by omega, by omega, fun z => Bool.noConfusion z⟩
theorem q_ah {c : Nat} (hc : c < 1000) : (if nI c = 97 then (0 : Int32) else if nI c = 104 then 1 else -1) = (if c = 97 then nI 0 else if c = 104 then nI 1 else nI 4294967295) := by
  have e1 : (nI c = 97) = (c = 97) := q_eq (b := 97) (by omega) (by omega)
  have e2 : (nI c = 104) = (c = 104) := q_eq (b := 104) (by omega) (by omega)
  simp only [e1, e2]
  rfl
theorem q_bd {c : Nat} (hc : c < 1000) : (if nI c = 98 then (0 : Int32) else if nI c = 100 then 1 else if nI c = 117 then 2 else if nI c = 116 then 3 else -1) = (if c = 98 then nI 0 else if c = 100 then nI 1 else if c = 117 then nI 2 else if c = 116 then nI 3 else nI 4294967295) := by
  have e1 : (nI c = 98) = (c = 98) := q_eq (b := 98) (by omega) (by omega)
  have e2 : (nI c = 100) = (c = 100) := q_eq (b := 100) (by omega) (by omega)
  have e3 : (nI c = 117) = (c = 117) := q_eq (b := 117) (by omega) (by omega)
  have e4 : (nI c = 116) = (c = 116) := q_eq (b := 116) (by omega) (by omega)
  simp only [e1, e2, e3, e4]
  rfl
section X7
variable {d : Nat} {h K X : a_H} {r nu t g A B R C M : Nat} {v : Nat → Nat} {tx : List Nat} {G : Nat → Nat} {N : Nat → Nat → Nat}
/-- a text's order on a diagram -/
theorem z_ex {D : t_D} {lt a b q : Nat} (hm : 1024 ≤ t) (hq : t + 11 < h.1) (c : cD N G D) (hw : t_wa lt < 3) (h0 : 1 ≤ t_wa lt → a_rdi (wE h t G N) q a_int (nI 0) = some (.int (nI a))) (h1 : t_wa lt = 2 → a_rdi (wE h t G N) q a_int (nI 1) = some (.int (nI b))) (ba : a < 1000) (bb : b < 1000) : ((t_ex D lt a b).1 = 0 ∧ ∃ rr, cY (d+16) MX1_done [.int (nI lt), .ref q] h t G N rr (t_ex D lt a b).2) ∨ (((t_ex D lt a b).1 = 1 ∨ (t_ex D lt a b).1 = 2) ∧ ∃ n, cN (d+16) MX1_done [.int (nI lt), .ref q] h t G N (t_ex D lt a b).1 n) := by
  obtain ⟨nb, na, fr, to, le, row, ma, co⟩ := D
  have s1 := c.2.1.1
  have s2 := c.2.1.2.1
  have k : lt = 97 ∨ lt = 104 ∨ lt = 120 ∨ lt = 98 ∨ lt = 100 ∨ lt = 117 ∨ lt = 116 := by
    unfold t_wa at hw
    by_cases z1 : lt = 97 ∨ lt = 104
    · omega
    · by_cases z2 : lt = 120
      · omega
      · by_cases z3 : lt = 98 ∨ lt = 100 ∨ lt = 117 ∨ lt = 116
        · omega
        · rw [if_neg z1, if_neg z2, if_neg z3] at hw; omega
  rcases k with rfl | rfl | rfl | rfl | rfl | rfl | rfl
  · have h0 := h0 (by decide)
    have h1 := h1 rfl
    have e : t_ex (nb, na, fr, to, le, row, ma, co) 97 a b = if a < nb ∧ b < nb then (if t_rf na fr to a b = 0 then (0, t_nw nb (na + 1) (upN fr na a) (upN to na b) le ma (co + 1)) else (2, (nb, na, fr, to, le, row, ma, co))) else (1, (nb, na, fr, to, le, row, ma, co)) := rfl
    rw [e]
    by_cases c1 : a < nb ∧ b < nb
    · rw [if_pos c1]
      by_cases c2 : t_rf na fr to a b = 0
      · rw [if_pos c2]
        have ⟨h', G', N', a1, a2, a3⟩ := c_getsArrow (d := d+3) hm hq c c1.1 c1.2 c2
        exact Or.inl ⟨rfl, _, d_97 hm h0 h1 ⟨h', G', N', hX_le a1 (by omega) (by omega), a2, a3⟩⟩
      · rw [if_neg c2]
        have ⟨h', x, G', N', a1, a2, a3⟩ := c_getsArrow2 (d := d+3) hm hq c c1.1 c1.2 (by omega)
        exact Or.inr ⟨Or.inr rfl, _, d_97N hm h0 h1 ⟨h', x, G', N', hX_le a1 (by omega) (by omega), a2, a3⟩⟩
    · rw [if_neg c1]
      exact Or.inr ⟨Or.inl rfl, _, d_97N hm h0 h1 (c_getsArrow1 (d := d+3) (x := nI a) (z := nI b) hm hq c (fun q => c1 ⟨(vB_n (by omega) (by omega)).mp q.1, (vB_n (by omega) (by omega)).mp q.2⟩))⟩
  · have h0 := h0 (by decide)
    have h1 := h1 rfl
    have e : t_ex (nb, na, fr, to, le, row, ma, co) 104 a b = if a < nb ∧ b < 10 then (0, t_nw nb na fr to (upN le a b) ma co) else (1, (nb, na, fr, to, le, row, ma, co)) := rfl
    rw [e]
    by_cases c1 : a < nb ∧ b < 10
    · rw [if_pos c1]
      exact Or.inl ⟨rfl, _, d_104 hm h0 h1 (c_holds (d := d+3) hm c c1.1 c1.2)⟩
    · rw [if_neg c1]
      exact Or.inr ⟨Or.inl rfl, _, d_104N hm h0 h1 (c_holds1 (d := d+3) (x := nI a) (z := nI b) hm hq c (fun q => c1 ⟨(vB_n (by omega) (by omega)).mp q.1, (vB_n (by omega) (by omega)).mp q.2⟩))⟩
  · have h0 := h0 (by decide)
    have e : t_ex (nb, na, fr, to, le, row, ma, co) 120 a b = if a < na then (0, t_nw nb (na - 1) (t_rm fr a) (t_rm to a) le ma co) else (1, (nb, na, fr, to, le, row, ma, co)) := rfl
    rw [e]
    by_cases c1 : a < na
    · rw [if_pos c1]
      have ⟨r, w1, w2⟩ := c.1.2.2.2.2.2.1
      have ⟨G', N', a2, a3⟩ := c_losesArrow (d := d+3) (h := h) hm c.2.1 w1 c.1.2.2.2.2.1 c.2.2.2.2.1 c.2.2.2.2.2 c1
      exact Or.inl ⟨rfl, _, d_120 hm h0 ⟨_, G', N', hX_le (hX_id _) (by omega) (by omega), a2, a3⟩⟩
    · rw [if_neg c1]
      exact Or.inr ⟨Or.inl rfl, _, d_120N hm h0 (c_losesArrow1 (d := d+3) (x := nI a) hm hq c (fun q => c1 ((vB_n (by omega) (by omega)).mp q)))⟩
  · have e : t_ex (nb, na, fr, to, le, row, ma, co) 98 a b = if nb = 16 then (2, (nb, na, fr, to, le, row, ma, co)) else (0, t_nw (nb + 1) na fr to le ma co) := rfl
    rw [e]
    by_cases c1 : nb = 16
    · rw [if_pos c1]
      exact Or.inr ⟨Or.inr rfl, _, d_98N hm (c_getsBox0 (d := d+3) hm hq c c1)⟩
    · rw [if_neg c1]
      exact Or.inl ⟨rfl, _, d_98 hm (c_getsBox (d := d+3) hm c (by omega))⟩
  · exact Or.inl ⟨rfl, _, d_100 hm (c_goesD (d := d+3) (up := true) hm c)⟩
  · exact Or.inl ⟨rfl, _, d_117 hm (c_goesD (d := d+3) (up := false) hm c)⟩
  · exact Or.inl ⟨rfl, _, d_116 hm (c_untanglesD (d := d+3) hm c)⟩
/-- what reading may change -/
def zG (X X' : a_H) (r nu t a b : Nat) : Prop := X.1 ≤ X'.1 ∧ X'.1 ≤ X.1 + a ∧ X'.2.1 ≤ X.2.1 + b ∧ ∀ q, q < X.1 → q ≠ r → q ≠ nu → (q < t ∨ t + 11 < q) → X'.2.2 q = X.2.2 q
theorem zG_tr {X1 X2 : a_H} {a b a' b' : Nat} (x : zG X X1 r nu t a b) (y : zG X1 X2 r nu t a' b') : zG X X2 r nu t (a + a') (b + b') := by
  obtain ⟨x1, x2, x3, x4⟩ := x
  obtain ⟨y1, y2, y3, y4⟩ := y
  exact ⟨by omega, by omega, by omega, fun q h1 h2 h3 h4 => (y4 q (by omega) h2 h3 h4).trans (x4 q h1 h2 h3 h4)⟩
theorem zG_le {X1 : a_H} {a b a' b' : Nat} (x : zG X X1 r nu t a b) (ha : a ≤ a') (hb : b ≤ b') : zG X X1 r nu t a' b' := ⟨x.1, Nat.le_trans x.2.1 (by omega), Nat.le_trans x.2.2.1 (by omega), x.2.2.2⟩
theorem zG_R : zG X (wR X r nu t g A B R C M v) r nu t 0 0 := ⟨Nat.le_refl _, Nat.le_refl _, Nat.le_refl _, fun q _ h2 h3 _ => wR_o h2 h3⟩
/-- the reader with its diagram and its text -/
def zS (X : a_H) (r nu t g A B R C M : Nat) (v : Nat → Nat) (D : t_D) (tx : List Nat) : Prop := X.2.2 r = cRd t nu A B R C M g ∧ X.2.2 nu = cNu v ∧ cM X t D ∧ zT X g tx ∧ 1024 ≤ r ∧ r < X.1 ∧ 1024 ≤ nu ∧ nu < X.1 ∧ (r < t ∨ t + 11 < r) ∧ (nu < t ∨ t + 11 < nu)
theorem zS_k {D : t_D} (z : zS X r nu t g A B R C M v D tx) : zK X r nu := ⟨⟨_, z.1⟩, _, z.2.1⟩
theorem zS_ne {D : t_D} (z : zS X r nu t g A B R C M v D tx) : nu ≠ r := fun e => by
  have a := z.2.1
  rw [e, z.1] at a
  cases a
theorem zS_id {D : t_D} (z : zS X r nu t g A B R C M v D tx) : wR X r nu t g A B R C M v = X := wR_id z.1 z.2.1
theorem zS_R {D : t_D} {A' B' R' C' M' : Nat} {v' : Nat → Nat} (z : zS X r nu t g A B R C M v D tx) : zS (wR X r nu t g A' B' R' C' M' v') r nu t g A' B' R' C' M' v' D tx := by
  have ne := zS_ne z
  have k := zS_k z
  obtain ⟨z1, z2, z3, z4, z5, z6, z7, z8, z9, z10⟩ := z
  refine ⟨wR_r, wR_nu ne, ?_, zT_R k z4, z5, z6, z7, z8, z9, z10⟩
  obtain ⟨b1, b2, G, N, k1, k2, k3⟩ := z3
  exact ⟨b1, b2, G, N, (wR_o (by omega) (by omega)).trans k1, fun j hj => (wR_o (by omega) (by omega)).trans (k2 j hj), k3⟩
/-- the head of an order: its sign, how many numbers it has -/
theorem z_hd {D : t_D} (z : zS X r nu t g A B R C M v D tx) (hA : A < tx.length) (hl : A < 1000) : a_run (d+16) MX7_one 0 [some (.ref r), none, none, none] [] (X) = if t_wa (tx.getD A 0) = 3 then a_run (d+16) MX7_one 71 [some (.ref r), some (.int (nI (tx.getD A 0))), some (.int (nI 4294967295)), none] [] (X) else a_run (d+16) MX7_one 71 [some (.ref r), some (.int (nI (tx.getD A 0))), some (.int (nI (t_wa (tx.getD A 0)))), none] [] (wR X r nu t g (A + 1) B R C M v) := by
  have id := zS_id z
  have hr := z.2.2.2.2.1
  have ⟨s, gs, ks, l60, c128, ln, ch⟩ := zT_use z.2.2.2.1
  have ch := ch (d+13) A hA
  have cb := c128 A hA
  have k711 : a_kls X 711 = some 15 := rfl
  have k712 : a_kls X 712 = some 15 := rfl
  have i1 : a_call (d+16) MJ4_indexOf [.ref 711, .int (nI (tx.getD A 0))] X = some (.inl (some (.int (if tx.getD A 0 = 97 then nI 0 else if tx.getD A 0 = 104 then nI 1 else nI 4294967295))), X) := by
    rw [← q_ah (by omega)]
    exact a_call_prim (by decide)
  have i2 : a_call (d+16) MJ4_indexOf [.ref 712, .int (nI (tx.getD A 0))] X = some (.inl (some (.int (if tx.getD A 0 = 98 then nI 0 else if tx.getD A 0 = 100 then nI 1 else if tx.getD A 0 = 117 then nI 2 else if tx.getD A 0 = 116 then nI 3 else nI 4294967295))), X) := by
    rw [← q_bd (by omega)]
    exact a_call_prim (by decide)
  have rr := wR_g2 (K := X) (r := r) (nu := nu) (t := t) (g := g) (A := A) (B := B) (R := R) (C := C) (M := M) (v := v) hr
  have r7 := wR_g7 (K := X) (r := r) (nu := nu) (t := t) (g := g) (A := A) (B := B) (R := R) (C := C) (M := M) (v := v) hr
  have pf := fun x => wR_p2 (K := X) (r := r) (nu := nu) (t := t) (g := g) (A := A) (B := B) (R := R) (C := C) (M := M) (v := v) (x := x) hr
  rw [id] at rr r7
  have pf : ∀ x, a_pf X r 2 [6] (.int (nI x)) = some (wR X r nu t g x B R C M v) := fun x => by
    have := pf x
    rw [id] at this
    exact this
  revert ch cb i1 i2
  generalize tx.getD A 0 = c
  intro ch cb i1 i2
  unfold t_wa
  by_cases z1 : c = 97 ∨ c = 104
  · rw [if_pos z1, if_neg (by decide)]
    rcases z1 with rfl | rfl
    · rw [if_pos rfl] at i1
      simp (disch := first | omega | assumption | exact Or.inl rfl | exact Or.inr rfl | exact wN_kls (by omega) | exact wE_kls (by omega) | exact wR_kls (by omega) | (simp only [a_cat_nil, a_cat_int, a_cat_ref, a_cat_null, a_cat_long]; done) | (simp only [a_cat_nil, a_cat_int, a_cat_ref, a_cat_null, a_cat_long]; omega) | decide | rfl | (apply Or.inr; omega) | (apply Or.inl; omega)) only [w_X7_one_0, w_X7_one_1, w_X7_one_4, w_X7_one_7, w_X7_one_8, w_X7_one_11, w_X7_one_14, w_X7_one_15, w_X7_one_17, w_X7_one_18, w_X7_one_21, w_X7_one_24, w_X7_one_25, w_X7_one_28, w_X7_one_29, w_X7_one_31, w_X7_one_34, w_X7_one_35, w_X7_one_38, w_X7_one_40, w_X7_one_41, w_X7_one_44, w_X7_one_47, w_X7_one_48, w_X7_one_51, w_X7_one_52, w_X7_one_53, w_X7_one_54, w_X7_one_54I, w_X7_one_55, w_X7_one_58, w_X7_one_59, w_X7_one_62, w_X7_one_63, w_X7_one_66, w_X7_one_67, w_X7_one_68, w_ret, w_exc, Nat.reduceAdd, Option.toList_some, Option.toList_none, List.cons_append, List.nil_append, Option.bind_some, nI_add, q_mul, q_sub, q_eq, q_eqz, q_lt, q_ltz, q_gtz, q_le, q_lez, q_div, q_or, q_and, q_shl, q_shr, q_m1, q_eqm, q_meq, q_mm, q_mlt, q_mgt, q_mlt2, q_dec, Nat.add_sub_cancel, q_ltT, q_ltF, q_leT, q_leF, q_eqT, q_eqF, ↓reduceIte, uN_s, uN_n, upN_app, uG_s, uG_n, uG_uG, if_true, if_false, Nat.reduceMul, Nat.reduceSub, Nat.reduceEqDiff, Nat.reduceLT, and_true, true_and, and_false, false_and, or_true, true_or, or_false, false_or, not_true_eq_false, not_false_eq_true, Option.some.injEq, rr, r7, gs, ch, i1, pf]
    · rw [if_neg (by decide), if_pos rfl] at i1
      simp (disch := first | omega | assumption | exact Or.inl rfl | exact Or.inr rfl | exact wN_kls (by omega) | exact wE_kls (by omega) | exact wR_kls (by omega) | (simp only [a_cat_nil, a_cat_int, a_cat_ref, a_cat_null, a_cat_long]; done) | (simp only [a_cat_nil, a_cat_int, a_cat_ref, a_cat_null, a_cat_long]; omega) | decide | rfl | (apply Or.inr; omega) | (apply Or.inl; omega)) only [w_X7_one_0, w_X7_one_1, w_X7_one_4, w_X7_one_7, w_X7_one_8, w_X7_one_11, w_X7_one_14, w_X7_one_15, w_X7_one_17, w_X7_one_18, w_X7_one_21, w_X7_one_24, w_X7_one_25, w_X7_one_28, w_X7_one_29, w_X7_one_31, w_X7_one_34, w_X7_one_35, w_X7_one_38, w_X7_one_40, w_X7_one_41, w_X7_one_44, w_X7_one_47, w_X7_one_48, w_X7_one_51, w_X7_one_52, w_X7_one_53, w_X7_one_54, w_X7_one_54I, w_X7_one_55, w_X7_one_58, w_X7_one_59, w_X7_one_62, w_X7_one_63, w_X7_one_66, w_X7_one_67, w_X7_one_68, w_ret, w_exc, Nat.reduceAdd, Option.toList_some, Option.toList_none, List.cons_append, List.nil_append, Option.bind_some, nI_add, q_mul, q_sub, q_eq, q_eqz, q_lt, q_ltz, q_gtz, q_le, q_lez, q_div, q_or, q_and, q_shl, q_shr, q_m1, q_eqm, q_meq, q_mm, q_mlt, q_mgt, q_mlt2, q_dec, Nat.add_sub_cancel, q_ltT, q_ltF, q_leT, q_leF, q_eqT, q_eqF, ↓reduceIte, uN_s, uN_n, upN_app, uG_s, uG_n, uG_uG, if_true, if_false, Nat.reduceMul, Nat.reduceSub, Nat.reduceEqDiff, Nat.reduceLT, and_true, true_and, and_false, false_and, or_true, true_or, or_false, false_or, not_true_eq_false, not_false_eq_true, Option.some.injEq, rr, r7, gs, ch, i1, pf]
  · rw [if_neg z1]
    rw [if_neg (by omega), if_neg (by omega)] at i1
    by_cases z2 : c = 120
    · rw [if_pos z2, if_neg (by decide)]
      subst z2
      simp (disch := first | omega | assumption | exact Or.inl rfl | exact Or.inr rfl | exact wN_kls (by omega) | exact wE_kls (by omega) | exact wR_kls (by omega) | (simp only [a_cat_nil, a_cat_int, a_cat_ref, a_cat_null, a_cat_long]; done) | (simp only [a_cat_nil, a_cat_int, a_cat_ref, a_cat_null, a_cat_long]; omega) | decide | rfl | (apply Or.inr; omega) | (apply Or.inl; omega)) only [w_X7_one_0, w_X7_one_1, w_X7_one_4, w_X7_one_7, w_X7_one_8, w_X7_one_11, w_X7_one_14, w_X7_one_15, w_X7_one_17, w_X7_one_18, w_X7_one_21, w_X7_one_24, w_X7_one_25, w_X7_one_28, w_X7_one_29, w_X7_one_31, w_X7_one_34, w_X7_one_35, w_X7_one_38, w_X7_one_40, w_X7_one_41, w_X7_one_44, w_X7_one_47, w_X7_one_48, w_X7_one_51, w_X7_one_52, w_X7_one_53, w_X7_one_54, w_X7_one_54I, w_X7_one_55, w_X7_one_58, w_X7_one_59, w_X7_one_62, w_X7_one_63, w_X7_one_66, w_X7_one_67, w_X7_one_68, w_ret, w_exc, Nat.reduceAdd, Option.toList_some, Option.toList_none, List.cons_append, List.nil_append, Option.bind_some, nI_add, q_mul, q_sub, q_eq, q_eqz, q_lt, q_ltz, q_gtz, q_le, q_lez, q_div, q_or, q_and, q_shl, q_shr, q_m1, q_eqm, q_meq, q_mm, q_mlt, q_mgt, q_mlt2, q_dec, Nat.add_sub_cancel, q_ltT, q_ltF, q_leT, q_leF, q_eqT, q_eqF, ↓reduceIte, uN_s, uN_n, upN_app, uG_s, uG_n, uG_uG, if_true, if_false, Nat.reduceMul, Nat.reduceSub, Nat.reduceEqDiff, Nat.reduceLT, and_true, true_and, and_false, false_and, or_true, true_or, or_false, false_or, not_true_eq_false, not_false_eq_true, Option.some.injEq, rr, r7, gs, ch, i1, pf]
    · rw [if_neg z2]
      by_cases z3 : c = 98 ∨ c = 100 ∨ c = 117 ∨ c = 116
      · rw [if_pos z3, if_neg (by decide)]
        have j2 : ∃ k, k < 4 ∧ a_call (d+16) MJ4_indexOf [.ref 712, .int (nI c)] X = some (.inl (some (.int (nI k))), X) := by
          rcases z3 with rfl | rfl | rfl | rfl
          · exact ⟨0, by decide, i2⟩
          · exact ⟨1, by decide, i2⟩
          · exact ⟨2, by decide, i2⟩
          · exact ⟨3, by decide, i2⟩
        have ⟨k, k4, j2⟩ := j2
        clear i2
        simp (disch := first | omega | assumption | exact Or.inl rfl | exact Or.inr rfl | exact wN_kls (by omega) | exact wE_kls (by omega) | exact wR_kls (by omega) | (simp only [a_cat_nil, a_cat_int, a_cat_ref, a_cat_null, a_cat_long]; done) | (simp only [a_cat_nil, a_cat_int, a_cat_ref, a_cat_null, a_cat_long]; omega) | decide | rfl | (apply Or.inr; omega) | (apply Or.inl; omega)) only [w_X7_one_0, w_X7_one_1, w_X7_one_4, w_X7_one_7, w_X7_one_8, w_X7_one_11, w_X7_one_14, w_X7_one_15, w_X7_one_17, w_X7_one_18, w_X7_one_21, w_X7_one_24, w_X7_one_25, w_X7_one_28, w_X7_one_29, w_X7_one_31, w_X7_one_34, w_X7_one_35, w_X7_one_38, w_X7_one_40, w_X7_one_41, w_X7_one_44, w_X7_one_47, w_X7_one_48, w_X7_one_51, w_X7_one_52, w_X7_one_53, w_X7_one_54, w_X7_one_54I, w_X7_one_55, w_X7_one_58, w_X7_one_59, w_X7_one_62, w_X7_one_63, w_X7_one_66, w_X7_one_67, w_X7_one_68, w_ret, w_exc, Nat.reduceAdd, Option.toList_some, Option.toList_none, List.cons_append, List.nil_append, Option.bind_some, nI_add, q_mul, q_sub, q_eq, q_eqz, q_lt, q_ltz, q_gtz, q_le, q_lez, q_div, q_or, q_and, q_shl, q_shr, q_m1, q_eqm, q_meq, q_mm, q_mlt, q_mgt, q_mlt2, q_dec, Nat.add_sub_cancel, q_ltT, q_ltF, q_leT, q_leF, q_eqT, q_eqF, ↓reduceIte, uN_s, uN_n, upN_app, uG_s, uG_n, uG_uG, if_true, if_false, Nat.reduceMul, Nat.reduceSub, Nat.reduceEqDiff, Nat.reduceLT, and_true, true_and, and_false, false_and, or_true, true_or, or_false, false_or, not_true_eq_false, not_false_eq_true, Option.some.injEq, rr, r7, gs, ch, i1, j2, pf]
      · rw [if_neg z3, if_pos rfl]
        rw [if_neg (by omega), if_neg (by omega), if_neg (by omega), if_neg (by omega)] at i2
        simp (disch := first | omega | assumption | exact Or.inl rfl | exact Or.inr rfl | exact wN_kls (by omega) | exact wE_kls (by omega) | exact wR_kls (by omega) | (simp only [a_cat_nil, a_cat_int, a_cat_ref, a_cat_null, a_cat_long]; done) | (simp only [a_cat_nil, a_cat_int, a_cat_ref, a_cat_null, a_cat_long]; omega) | decide | rfl | (apply Or.inr; omega) | (apply Or.inl; omega)) only [w_X7_one_0, w_X7_one_1, w_X7_one_4, w_X7_one_7, w_X7_one_8, w_X7_one_11, w_X7_one_14, w_X7_one_15, w_X7_one_17, w_X7_one_18, w_X7_one_21, w_X7_one_24, w_X7_one_25, w_X7_one_28, w_X7_one_29, w_X7_one_31, w_X7_one_34, w_X7_one_35, w_X7_one_38, w_X7_one_40, w_X7_one_41, w_X7_one_44, w_X7_one_47, w_X7_one_48, w_X7_one_51, w_X7_one_52, w_X7_one_53, w_X7_one_54, w_X7_one_54I, w_X7_one_55, w_X7_one_58, w_X7_one_59, w_X7_one_62, w_X7_one_63, w_X7_one_66, w_X7_one_67, w_X7_one_68, w_ret, w_exc, Nat.reduceAdd, Option.toList_some, Option.toList_none, List.cons_append, List.nil_append, Option.bind_some, nI_add, q_mul, q_sub, q_eq, q_eqz, q_lt, q_ltz, q_gtz, q_le, q_lez, q_div, q_or, q_and, q_shl, q_shr, q_m1, q_eqm, q_meq, q_mm, q_mlt, q_mgt, q_mlt2, q_dec, Nat.add_sub_cancel, q_ltT, q_ltF, q_leT, q_leF, q_eqT, q_eqF, ↓reduceIte, uN_s, uN_n, upN_app, uG_s, uG_n, uG_uG, if_true, if_false, Nat.reduceMul, Nat.reduceSub, Nat.reduceEqDiff, Nat.reduceLT, and_true, true_and, and_false, false_and, or_true, true_or, or_false, false_or, not_true_eq_false, not_false_eq_true, Option.some.injEq, rr, r7, gs, ch, i1, i2, pf, Nat.add_zero, id]
/-- an order not of its form -/
theorem z_bad {L1 L2 : Option Value} {E : Nat} (hr : 1024 ≤ r) (hE : E < 1000) (hB : B ≤ E) : a_run (d+16) MX7_one 79 [some (.ref r), L1, L2, none] [] (wR K r nu t g E B R C M v) = some (.inl none, wR K r nu t g E B 1 (E - B) M v) := by
  simp (disch := first | omega | assumption | exact Or.inl rfl | exact Or.inr rfl | exact wN_kls (by omega) | exact wE_kls (by omega) | exact wR_kls (by omega) | (simp only [a_cat_nil, a_cat_int, a_cat_ref, a_cat_null, a_cat_long]; done) | (simp only [a_cat_nil, a_cat_int, a_cat_ref, a_cat_null, a_cat_long]; omega) | decide | rfl | (apply Or.inr; omega) | (apply Or.inl; omega)) only [w_X7_one_79, w_X7_one_80, w_X7_one_81, w_X7_one_84, w_X7_one_85, w_X7_one_86, w_X7_one_89, w_X7_one_90, w_X7_one_93, w_X7_one_94, w_X7_one_97, w_ret, w_exc, Nat.reduceAdd, Option.toList_some, Option.toList_none, List.cons_append, List.nil_append, Option.bind_some, nI_add, q_mul, q_sub, q_eq, q_eqz, q_lt, q_ltz, q_gtz, q_le, q_lez, q_div, q_or, q_and, q_shl, q_shr, q_m1, q_eqm, q_meq, q_mm, q_mlt, q_mgt, q_mlt2, q_dec, Nat.add_sub_cancel, q_ltT, q_ltF, q_leT, q_leF, q_eqT, q_eqF, ↓reduceIte, uN_s, uN_n, upN_app, uG_s, uG_n, uG_uG, if_true, if_false, Nat.reduceMul, Nat.reduceSub, Nat.reduceEqDiff, Nat.reduceLT, and_true, true_and, and_false, false_and, or_true, true_or, or_false, false_or, not_true_eq_false, not_false_eq_true, Option.some.injEq, wR_p4, wR_p5, wR_g2, wR_g3]
/-- behind a refusal or an order done -/
theorem z_keep {D D' : t_D} {h' : a_H} {G' : Nat → Nat} {N' : Nat → Nat → Nat} {a b : Nat} (z : zS X r nu t g A B R C M v D tx) (y : hX X h' a b) (c : cM (wE h' t G' N') t D') : zS (wE h' t G' N') r nu t g A B R C M v D' tx := by
  obtain ⟨z1, z2, z3, z4, z5, z6, z7, z8, z9, z10⟩ := z
  refine ⟨(wE_out z9).trans ((y.2.2.2 r z6).trans z1), (wE_out z10).trans ((y.2.2.2 nu z8).trans z2), c, ?_, z5, Nat.lt_of_lt_of_le z6 y.1, z7, Nat.lt_of_lt_of_le z8 y.1, z9, z10⟩
  refine zT_o z4 y.1 fun x hx kx => ?_
  have out : x < t ∨ t + 11 < x := by
    by_cases o : x < t ∨ t + 11 < x
    · exact o
    · exfalso
      obtain ⟨b1, b2, G, N, k1, k2, k3⟩ := z3
      by_cases e : x = t
      · rw [e, k1] at kx; exact k_tf kx.symm
      · have e3 : x = t + ((x - t - 1) + 1) := by omega
        rw [e3, k2 _ (by omega)] at kx
        exact k_tf kx.symm
  exact (wE_out out).trans (y.2.2.2 x hx)
theorem zG_E {h' : a_H} {G' : Nat → Nat} {N' : Nat → Nat → Nat} {a b : Nat} (y : hX X h' a b) : zG X (wE h' t G' N') r nu t a b := ⟨y.1, y.2.1, y.2.2.1, fun q h1 _ _ h4 => (wE_out h4).trans (y.2.2.2 q h1)⟩
/-- one order is read and done -/
theorem z_one {D : t_D} (z : zS X r nu t g B B 0 C M v D tx) (hA : B < tx.length) (hM : M < 1000) : ∃ (X' : a_H) (A' C' : Nat) (v' : Nat → Nat), zG X X' r nu t (60 * (tx.length - B)) (1000 * (tx.length - B)) ∧ ((t_pz tx B).1 = true → (t_ex D (tx.getD B 0) (t_pz tx B).2.1 (t_pz tx B).2.2.1).1 = 0 → zG X X' r nu t (60 * ((t_pz tx B).2.2.2 - B)) (1000 * ((t_pz tx B).2.2.2 - B)) ∧ zS X' r nu t g (t_pz tx B).2.2.2 B 0 C' (M + 1) v' (t_ex D (tx.getD B 0) (t_pz tx B).2.1 (t_pz tx B).2.2.1).2 tx) ∧ ((t_pz tx B).1 = true → (t_ex D (tx.getD B 0) (t_pz tx B).2.1 (t_pz tx B).2.2.1).1 ≠ 0 → X'.2.2 r = cRd t nu A' B 2 (t_ex D (tx.getD B 0) (t_pz tx B).2.1 (t_pz tx B).2.2.1).1 M g) ∧ ((t_pz tx B).1 = false → X'.2.2 r = cRd t nu A' B 1 ((t_pz tx B).2.2.2 - B) M g) ∧ a_call (d+17) MX7_one [.ref r] X = some (.inl none, X') := by
  have ne := zS_ne z
  have k0 := zS_k z
  have id := zS_id z
  have hr := z.2.2.2.2.1
  have hn := z.2.2.2.2.2.2.1
  have ⟨_, _, _, l60, _⟩ := zT_use z.2.2.2.1
  have pe := t_pz_end (tx := tx) (s := B)
  have pv := t_pz_v (tx := tx) (s := B)
  have w4 := t_wa_lt (c := tx.getD B 0)
  have hd := z_hd (d := d) z hA (by omega)
  have kr : ∀ A v, a_kls (wR X r nu t g A B 0 C M v) r = some 6 := fun A v => wR_kls hr
  by_cases w3 : t_wa (tx.getD B 0) = 3
  · rw [if_pos w3] at hd
    have f3 := z_form3 (d := d+11) (K := X) (nu := nu) (t := t) (g := g) (A := B) (B := B) (R := 0) (C := C) (M := M) (v := v) hr
    have bd := z_bad (d := d) (K := X) (nu := nu) (t := t) (g := g) (R := 0) (C := C) (M := M) (v := v) (L1 := some (.int (nI (tx.getD B 0)))) (L2 := some (.int (nI 4294967295))) hr (show B < 1000 by omega) (Nat.le_refl B)
    have krX := kr B v
    rw [id] at f3 bd krX
    have e : t_pz tx B = (false, 0, 0, B) := by
      unfold t_pz
      rw [if_pos w3]
    rw [e]
    refine ⟨wR X r nu t g B B 1 (B - B) M v, B, B - B, v, zG_le zG_R (Nat.zero_le _) (Nat.zero_le _), fun z => Bool.noConfusion z, fun z => Bool.noConfusion z, fun _ => wR_r, ?_⟩
    rw [e_X7_one, hd]
    simp (disch := first | omega | assumption | exact Or.inl rfl | exact Or.inr rfl | exact wN_kls (by omega) | exact wE_kls (by omega) | exact wR_kls (by omega) | (simp only [a_cat_nil, a_cat_int, a_cat_ref, a_cat_null, a_cat_long]; done) | (simp only [a_cat_nil, a_cat_int, a_cat_ref, a_cat_null, a_cat_long]; omega) | decide | rfl | (apply Or.inr; omega) | (apply Or.inl; omega)) only [w_X7_one_71, w_X7_one_72, w_X7_one_73, w_X7_one_76, w_ret, w_exc, Nat.reduceAdd, Option.toList_some, Option.toList_none, List.cons_append, List.nil_append, Option.bind_some, nI_add, q_mul, q_sub, q_eq, q_eqz, q_lt, q_ltz, q_gtz, q_le, q_lez, q_div, q_or, q_and, q_shl, q_shr, q_m1, q_eqm, q_meq, q_mm, q_mlt, q_mgt, q_mlt2, q_dec, Nat.add_sub_cancel, q_ltT, q_ltF, q_leT, q_leF, q_eqT, q_eqF, ↓reduceIte, uN_s, uN_n, upN_app, uG_s, uG_n, uG_uG, if_true, if_false, Nat.reduceMul, Nat.reduceSub, Nat.reduceEqDiff, Nat.reduceLT, and_true, true_and, and_false, false_and, or_true, true_or, or_false, false_or, not_true_eq_false, not_false_eq_true, Option.some.injEq, f3]
    exact bd
  · rw [if_neg w3] at hd
    have ⟨b, E, v1, n1, n2, n3⟩ := z_form (d := d+11) (K := X) (t := t) (A := B + 1) (B := B) (R := 0) (C := C) (M := M) (v := v) (w := t_wa (tx.getD B 0)) hr hn ne k0 z.2.2.2.1 (by omega) (by omega)
    have kr1 := kr (B + 1) v
    have kr2 := kr E v1
    have e0 : t_pz tx B = if (t_ns tx (t_wa (tx.getD B 0)) (B + 1)).1 = true then (if t_ia tx (t_ns tx (t_wa (tx.getD B 0)) (B + 1)).2.2.2 59 59 = true then (true, (t_ns tx (t_wa (tx.getD B 0)) (B + 1)).2.1, (t_ns tx (t_wa (tx.getD B 0)) (B + 1)).2.2.1, (t_ns tx (t_wa (tx.getD B 0)) (B + 1)).2.2.2 + 1) else (false, 0, 0, (t_ns tx (t_wa (tx.getD B 0)) (B + 1)).2.2.2)) else (false, 0, 0, (t_ns tx (t_wa (tx.getD B 0)) (B + 1)).2.2.2) := by
      unfold t_pz
      rw [if_neg w3]
    have key : (b = false ∧ (t_pz tx B).1 = false ∧ (t_pz tx B).2.2.2 = E) ∨ (b = true ∧ (t_pz tx B).1 = true ∧ (t_pz tx B).2.2.2 = E ∧ (1 ≤ t_wa (tx.getD B 0) → v1 0 = (t_pz tx B).2.1) ∧ (t_wa (tx.getD B 0) = 2 → v1 1 = (t_pz tx B).2.2.1)) := by
      by_cases c1 : (t_ns tx (t_wa (tx.getD B 0)) (B + 1)).1 = true
      · have ⟨m1, m2, m3, m4⟩ := n1 c1
        rw [if_pos c1] at e0
        by_cases c2 : t_ia tx (t_ns tx (t_wa (tx.getD B 0)) (B + 1)).2.2.2 59 59 = true
        · rw [if_pos c2] at e0
          rw [c2] at m1
          rw [m1, Bool.toNat_true] at m2
          exact Or.inr ⟨m1, by rw [e0], by rw [e0]; exact m2.symm, fun h => by rw [e0]; exact m3 h, fun h => by rw [e0]; exact m4 h⟩
        · rw [if_neg c2] at e0
          rw [Bool.eq_false_iff.mpr c2] at m1
          rw [m1, Bool.toNat_false, Nat.add_zero] at m2
          exact Or.inl ⟨m1, by rw [e0], by rw [e0]; exact m2.symm⟩
      · have ⟨m1, m2⟩ := n2 (Bool.eq_false_iff.mpr c1)
        rw [if_neg c1] at e0
        exact Or.inl ⟨m1, by rw [e0], by rw [e0]; exact m2.symm⟩
    rcases key with ⟨k1, k2, k3⟩ | ⟨k1, k2, k3, k4, k5⟩
    · rw [k1, Bool.toNat_false] at n3
      rw [k3] at pe
      have bd := z_bad (d := d) (K := X) (nu := nu) (t := t) (g := g) (R := 0) (C := C) (M := M) (v := v1) (L1 := some (.int (nI (tx.getD B 0)))) (L2 := some (.int (nI (t_wa (tx.getD B 0))))) hr (show E < 1000 by omega) pe.1
      rw [k2, k3]
      refine ⟨wR X r nu t g E B 1 (E - B) M v1, E, E - B, v1, zG_le zG_R (Nat.zero_le _) (Nat.zero_le _), fun z => Bool.noConfusion z, fun z => Bool.noConfusion z, fun _ => wR_r, ?_⟩
      rw [e_X7_one, hd]
      simp (disch := first | omega | assumption | exact Or.inl rfl | exact Or.inr rfl | exact wN_kls (by omega) | exact wE_kls (by omega) | exact wR_kls (by omega) | (simp only [a_cat_nil, a_cat_int, a_cat_ref, a_cat_null, a_cat_long]; done) | (simp only [a_cat_nil, a_cat_int, a_cat_ref, a_cat_null, a_cat_long]; omega) | decide | rfl | (apply Or.inr; omega) | (apply Or.inl; omega)) only [w_X7_one_71, w_X7_one_72, w_X7_one_73, w_X7_one_76, w_ret, w_exc, Nat.reduceAdd, Option.toList_some, Option.toList_none, List.cons_append, List.nil_append, Option.bind_some, nI_add, q_mul, q_sub, q_eq, q_eqz, q_lt, q_ltz, q_gtz, q_le, q_lez, q_div, q_or, q_and, q_shl, q_shr, q_m1, q_eqm, q_meq, q_mm, q_mlt, q_mgt, q_mlt2, q_dec, Nat.add_sub_cancel, q_ltT, q_ltF, q_leT, q_leF, q_eqT, q_eqF, ↓reduceIte, uN_s, uN_n, upN_app, uG_s, uG_n, uG_uG, if_true, if_false, Nat.reduceMul, Nat.reduceSub, Nat.reduceEqDiff, Nat.reduceLT, and_true, true_and, and_false, false_and, or_true, true_or, or_false, false_or, not_true_eq_false, not_false_eq_true, Option.some.injEq, n3]
      exact bd
    · rw [k1, Bool.toNat_true] at n3
      have ⟨pe1, pe2, pe3⟩ := pe
      have ⟨pe4, pe5, pe6⟩ := pe3 k2
      rw [k3] at pe1 pe2 pe5 pe6
      have z2 := zS_R (A' := E) (B' := B) (R' := 0) (C' := C) (M' := M) (v' := v1) z
      have g0 := wR_g0 (K := X) (nu := nu) (t := t) (g := g) (A := E) (B := B) (R := 0) (C := C) (M := M) (v := v1) hr
      have g1 := wR_g1 (K := X) (nu := nu) (t := t) (g := g) (A := E) (B := B) (R := 0) (C := C) (M := M) (v := v1) hr
      have r0 := wR_rd (K := X) (t := t) (g := g) (A := E) (B := B) (R := 0) (C := C) (M := M) (v := v1) (i := 0) hn ne (by decide)
      have r1 := wR_rd (K := X) (t := t) (g := g) (A := E) (B := B) (R := 0) (C := C) (M := M) (v := v1) (i := 1) hn ne (by decide)
      have zg0 : zG X (wR X r nu t g E B 0 C M v1) r nu t 0 0 := zG_R
      revert n3 kr2 z2 g0 g1 r0 r1 zg0
      generalize wR X r nu t g E B 0 C M v1 = X2
      intro n3 kr2 z2 g0 g1 r0 r1 zg0
      have ⟨G, N, e1, cd⟩ := cM_wE z2.2.2.1
      have hm := z2.2.2.1.1
      have hq := z2.2.2.1.2.1
      have ex := z_ex (d := d) (h := X2) (q := nu) (lt := tx.getD B 0) (a := (t_pz tx B).2.1) (b := (t_pz tx B).2.2.1) hm hq cd pe4 (fun h => by rw [← e1, r0, k4 h]) (fun h => by rw [← e1, r1, k5 h]) pv.1 pv.2
      rw [k2, k3]
      rcases ex with ⟨x1, rr, h', G', N', y1, y2, y3⟩ | ⟨x1, n, h', x, G', N', y1, y2, y3⟩
      · rw [← e1] at y3
        have z3 := z_keep (D' := (t_ex D (tx.getD B 0) (t_pz tx B).2.1 (t_pz tx B).2.2.1).2) z2 y1 (cM_of hm (Nat.lt_of_lt_of_le hq y1.1) y2)
        have zg1 : zG X2 (wE h' t G' N') r nu t 120 2000 := zG_E y1
        have z4 := zS_R (A' := E) (B' := B) (R' := 0) (C' := C) (M' := M + 1) (v' := v1) z3
        have id3 := zS_id z3
        have m6 := wR_g6 (K := wE h' t G' N') (nu := nu) (t := t) (g := g) (A := E) (B := B) (R := 0) (C := C) (M := M) (v := v1) hr
        have p6 := wR_p6 (K := wE h' t G' N') (nu := nu) (t := t) (g := g) (A := E) (B := B) (R := 0) (C := C) (M := M) (v := v1) (x := M + 1) hr
        rw [id3] at m6 p6
        have zz := zG_tr (zG_tr zg0 zg1) (zG_R (g := g) (A := E) (B := B) (R := 0) (C := C) (M := M + 1) (v := v1))
        refine ⟨_, E, C, v1, zG_le zz (by omega) (by omega), fun _ _ => ⟨zG_le zz (by omega) (by omega), z4⟩, fun _ h => absurd x1 h, fun h => Bool.noConfusion h, ?_⟩
        rw [e_X7_one, hd]
        simp (disch := first | omega | assumption | exact Or.inl rfl | exact Or.inr rfl | exact wN_kls (by omega) | exact wE_kls (by omega) | exact wR_kls (by omega) | (simp only [a_cat_nil, a_cat_int, a_cat_ref, a_cat_null, a_cat_long]; done) | (simp only [a_cat_nil, a_cat_int, a_cat_ref, a_cat_null, a_cat_long]; omega) | decide | rfl | (apply Or.inr; omega) | (apply Or.inl; omega)) only [w_X7_one_71, w_X7_one_72, w_X7_one_73, w_X7_one_76, w_X7_one_79, w_X7_one_80, w_X7_one_81, w_X7_one_84, w_X7_one_85, w_X7_one_86, w_X7_one_89, w_X7_one_90, w_X7_one_93, w_X7_one_94, w_X7_one_97, w_X7_one_98, w_X7_one_99, w_X7_one_102, w_X7_one_103, w_X7_one_104, w_X7_one_107, w_X7_one_110, w_X7_one_111, w_X7_one_112, w_X7_one_112I, w_X7_one_113, w_X7_one_116, w_X7_one_117, w_X7_one_118, w_X7_one_121, w_X7_one_124, w_X7_one_124N, w_X7_one_125, w_X7_one_126, w_X7_one_127, w_X7_one_130, w_X7_one_131, w_X7_one_131N, w_X7_one_132, w_X7_one_135, w_X7_one_138, w_ret, w_exc, Nat.reduceAdd, Option.toList_some, Option.toList_none, List.cons_append, List.nil_append, Option.bind_some, nI_add, q_mul, q_sub, q_eq, q_eqz, q_lt, q_ltz, q_gtz, q_le, q_lez, q_div, q_or, q_and, q_shl, q_shr, q_m1, q_eqm, q_meq, q_mm, q_mlt, q_mgt, q_mlt2, q_dec, Nat.add_sub_cancel, q_ltT, q_ltF, q_leT, q_leF, q_eqT, q_eqF, ↓reduceIte, uN_s, uN_n, upN_app, uG_s, uG_n, uG_uG, if_true, if_false, Nat.reduceMul, Nat.reduceSub, Nat.reduceEqDiff, Nat.reduceLT, and_true, true_and, and_false, false_and, or_true, true_or, or_false, false_or, not_true_eq_false, not_false_eq_true, Option.some.injEq, n3, g0, g1, y3, m6, p6]
      · rw [← e1] at y3
        have zr : (wE h' t G' N').2.2 r = cRd t nu E B 0 C M g := (wE_out z2.2.2.2.2.2.2.2.2.1).trans ((y1.2.2.2 r z2.2.2.2.2.2.1).trans z2.1)
        have zn : (wE h' t G' N').2.2 nu = cNu v1 := (wE_out z2.2.2.2.2.2.2.2.2.2).trans ((y1.2.2.2 nu z2.2.2.2.2.2.2.2.1).trans z2.2.1)
        have id3 := wR_id zr zn
        have zg1 : zG X2 (wE h' t G' N') r nu t 120 2000 := zG_E y1
        have zz := zG_tr (zG_tr zg0 zg1) (zG_R (g := g) (A := E) (B := B) (R := 2) (C := (t_ex D (tx.getD B 0) (t_pz tx B).2.1 (t_pz tx B).2.2.1).1) (M := M) (v := v1))
        have ⟨q1, q2, j, q3⟩ := xC_id y2
        have tc : ∀ L, a_cont (d+16) MX7_one (a_thr MX7_one 107 L x (wE h' t G' N')) = a_run (d+16) MX7_one 124 L [.ref x] (wE h' t G' N') := fun L => w_thrC (xC_cls y2) q1 rfl
        have nxr : x ≠ r := fun e => by rw [e, zr] at q3; cases q3
        have nxn : x ≠ nu := fun e => by rw [e, zn] at q3; cases q3
        have p4 := wR_p4 (K := wE h' t G' N') (nu := nu) (t := t) (g := g) (A := E) (B := B) (R := 0) (C := C) (M := M) (v := v1) (x := 2) hr
        have p5 := wR_p5 (K := wE h' t G' N') (nu := nu) (t := t) (g := g) (A := E) (B := B) (R := 2) (C := C) (M := M) (v := v1) (x := (t_ex D (tx.getD B 0) (t_pz tx B).2.1 (t_pz tx B).2.2.1).1) hr
        rw [id3] at p4
        have fk : a_gf (wR (wE h' t G' N') r nu t g E B 2 C M v1) x 6 [3] = some (.int (nI (t_ex D (tx.getD B 0) (t_pz tx B).2.1 (t_pz tx B).2.2.1).1)) := a_gf_o q1 rfl ((wR_o nxr nxn).trans q3)
        refine ⟨_, E, C, v1, zG_le zz (by omega) (by omega), fun _ h => by omega, fun _ _ => wR_r, fun h => Bool.noConfusion h, ?_⟩
        rw [e_X7_one, hd]
        simp (disch := first | omega | assumption | exact Or.inl rfl | exact Or.inr rfl | exact wN_kls (by omega) | exact wE_kls (by omega) | exact wR_kls (by omega) | (simp only [a_cat_nil, a_cat_int, a_cat_ref, a_cat_null, a_cat_long]; done) | (simp only [a_cat_nil, a_cat_int, a_cat_ref, a_cat_null, a_cat_long]; omega) | decide | rfl | (apply Or.inr; omega) | (apply Or.inl; omega)) only [w_X7_one_71, w_X7_one_72, w_X7_one_73, w_X7_one_76, w_X7_one_79, w_X7_one_80, w_X7_one_81, w_X7_one_84, w_X7_one_85, w_X7_one_86, w_X7_one_89, w_X7_one_90, w_X7_one_93, w_X7_one_94, w_X7_one_97, w_X7_one_98, w_X7_one_99, w_X7_one_102, w_X7_one_103, w_X7_one_104, w_X7_one_107, w_X7_one_124, w_X7_one_124N, w_X7_one_125, w_X7_one_126, w_X7_one_127, w_X7_one_130, w_X7_one_131, w_X7_one_131N, w_X7_one_132, w_X7_one_135, w_X7_one_138, w_ret, w_exc, Nat.reduceAdd, Option.toList_some, Option.toList_none, List.cons_append, List.nil_append, Option.bind_some, nI_add, q_mul, q_sub, q_eq, q_eqz, q_lt, q_ltz, q_gtz, q_le, q_lez, q_div, q_or, q_and, q_shl, q_shr, q_m1, q_eqm, q_meq, q_mm, q_mlt, q_mgt, q_mlt2, q_dec, Nat.add_sub_cancel, q_ltT, q_ltF, q_leT, q_leF, q_eqT, q_eqF, ↓reduceIte, uN_s, uN_n, upN_app, uG_s, uG_n, uG_uG, if_true, if_false, Nat.reduceMul, Nat.reduceSub, Nat.reduceEqDiff, Nat.reduceLT, and_true, true_and, and_false, false_and, or_true, true_or, or_false, false_or, not_true_eq_false, not_false_eq_true, Option.some.injEq, n3, g0, g1, y3, tc, p4, fk, p5]
/-- all orders are read and done, as far as the first fault -/
theorem z_go : ∀ (f B B0 : Nat) (D : t_D) (n C : Nat) (v : Nat → Nat) (X : a_H), zS X r nu t g B B0 0 C n v D tx → n ≤ B → B ≤ tx.length → tx.length ≤ B + f → ∃ (X' : a_H) (A' B' R' C' M' : Nat), X'.2.2 r = cRd t nu A' B' R' C' M' g ∧ zG X X' r nu t (60 * (tx.length - B)) (1000 * (tx.length - B)) ∧ ((t_go tx f B D n).1 = true → M' = (t_go tx f B D n).2.2.2.2.2 ∧ cM X' t (t_go tx f B D n).2.2.2.2.1) ∧ ((t_go tx f B D n).1 = false → B' = (t_go tx f B D n).2.1 ∧ R' = (t_go tx f B D n).2.2.1 ∧ C' = (t_go tx f B D n).2.2.2.1) ∧ a_run (d+17) MX7_isWell 0 [some (.ref r)] [] (X) = some (.inl (some (.int (nI (t_go tx f B D n).1.toNat))), X')
  | f, B, B0, D, n, C, v, X, z, hn, hB, hf => by
    have id := zS_id z
    have hr := z.2.2.2.2.1
    have ⟨s, gs, ks, l60, c128, ln, ch⟩ := zT_use z.2.2.2.1
    have ln := ln (d+15)
    have g2 := wR_g2 (K := X) (nu := nu) (t := t) (g := g) (A := B) (B := B0) (R := 0) (C := C) (M := n) (v := v) hr
    have g4 := wR_g4 (K := X) (nu := nu) (t := t) (g := g) (A := B) (B := B0) (R := 0) (C := C) (M := n) (v := v) hr
    have g7 := wR_g7 (K := X) (nu := nu) (t := t) (g := g) (A := B) (B := B0) (R := 0) (C := C) (M := n) (v := v) hr
    have p3 := wR_p3 (K := X) (nu := nu) (t := t) (g := g) (A := B) (B := B0) (R := 0) (C := C) (M := n) (v := v) (x := B) hr
    rw [id] at g2 g4 g7 p3
    by_cases c : B < tx.length
    · cases f with
      | zero => omega
      | succ f =>
        have z1 := zS_R (A' := B) (B' := B) (R' := 0) (C' := C) (M' := n) (v' := v) z
        have ⟨X1, A', C', v', o1, o2, o3, o4, o5⟩ := z_one (d := d) z1 c (by omega)
        have kr : a_kls (wR X r nu t g B B 0 C n v) r = some 6 := wR_kls hr
        have zg0 : zG X (wR X r nu t g B B 0 C n v) r nu t 0 0 := zG_R
        have pe := t_pz_end (tx := tx) (s := B)
        have st : a_run (d+17) MX7_isWell 0 [some (.ref r)] [] (X) = a_run (d+17) MX7_isWell 0 [some (.ref r)] [] (X1) := by
          rw [w_X7_isWell_0]
          simp (disch := first | omega | assumption | exact Or.inl rfl | exact Or.inr rfl | exact wN_kls (by omega) | exact wE_kls (by omega) | exact wR_kls (by omega) | (simp only [a_cat_nil, a_cat_int, a_cat_ref, a_cat_null, a_cat_long]; done) | (simp only [a_cat_nil, a_cat_int, a_cat_ref, a_cat_null, a_cat_long]; omega) | decide | rfl | (apply Or.inr; omega) | (apply Or.inl; omega)) only [w_X7_isWell_1, w_X7_isWell_4, w_X7_isWell_7, w_X7_isWell_8, w_X7_isWell_11, w_X7_isWell_12, w_X7_isWell_15, w_X7_isWell_18, w_X7_isWell_21, w_X7_isWell_24, w_X7_isWell_25, w_X7_isWell_26, w_X7_isWell_29, w_X7_isWell_32, w_X7_isWell_33, w_X7_isWell_36, w_ret, w_exc, Nat.reduceAdd, Option.toList_some, Option.toList_none, List.cons_append, List.nil_append, Option.bind_some, nI_add, q_mul, q_sub, q_eq, q_eqz, q_lt, q_ltz, q_gtz, q_le, q_lez, q_div, q_or, q_and, q_shl, q_shr, q_m1, q_eqm, q_meq, q_mm, q_mlt, q_mgt, q_mlt2, q_dec, Nat.add_sub_cancel, q_ltT, q_ltF, q_leT, q_leF, q_eqT, q_eqF, ↓reduceIte, uN_s, uN_n, upN_app, uG_s, uG_n, uG_uG, if_true, if_false, Nat.reduceMul, Nat.reduceSub, Nat.reduceEqDiff, Nat.reduceLT, and_true, true_and, and_false, false_and, or_true, true_or, or_false, false_or, not_true_eq_false, not_false_eq_true, Option.some.injEq, g2, g4, g7, gs, ln, p3, o5]
        have fin : ∀ R : Nat, R ≠ 0 → R < 1000 → X1.2.2 r = cRd t nu A' B R C' n g → True := fun _ _ _ _ => trivial
        have bad : ∀ (R C' : Nat), R ≠ 0 → R < 1000 → X1.2.2 r = cRd t nu A' B R C' n g → a_run (d+17) MX7_isWell 0 [some (.ref r)] [] (X1) = some (.inl (some (.int (nI 0))), X1) := fun R C' h1 h2 e => by
          have q4 : a_gf X1 r 4 [6] = some (.int (nI R)) := a_gf_o hr rfl e
          simp (disch := first | omega | assumption | exact Or.inl rfl | exact Or.inr rfl | exact wN_kls (by omega) | exact wE_kls (by omega) | exact wR_kls (by omega) | (simp only [a_cat_nil, a_cat_int, a_cat_ref, a_cat_null, a_cat_long]; done) | (simp only [a_cat_nil, a_cat_int, a_cat_ref, a_cat_null, a_cat_long]; omega) | decide | rfl | (apply Or.inr; omega) | (apply Or.inl; omega)) only [w_X7_isWell_0, w_X7_isWell_1, w_X7_isWell_4, w_X7_isWell_39, w_X7_isWell_40, w_X7_isWell_43, w_X7_isWell_46, w_X7_isWell_47, w_X7_isWell_50, w_X7_isWell_51, w_ret, w_exc, Nat.reduceAdd, Option.toList_some, Option.toList_none, List.cons_append, List.nil_append, Option.bind_some, nI_add, q_mul, q_sub, q_eq, q_eqz, q_lt, q_ltz, q_gtz, q_le, q_lez, q_div, q_or, q_and, q_shl, q_shr, q_m1, q_eqm, q_meq, q_mm, q_mlt, q_mgt, q_mlt2, q_dec, Nat.add_sub_cancel, q_ltT, q_ltF, q_leT, q_leF, q_eqT, q_eqF, ↓reduceIte, uN_s, uN_n, upN_app, uG_s, uG_n, uG_uG, if_true, if_false, Nat.reduceMul, Nat.reduceSub, Nat.reduceEqDiff, Nat.reduceLT, and_true, true_and, and_false, false_and, or_true, true_or, or_false, false_or, not_true_eq_false, not_false_eq_true, Option.some.injEq, q4]
        rw [st]
        unfold t_go
        rw [if_pos c]
        by_cases c1 : (t_pz tx B).1 = true
        · rw [if_pos c1]
          by_cases c2 : (t_ex D (tx.getD B 0) (t_pz tx B).2.1 (t_pz tx B).2.2.1).1 = 0
          · rw [if_pos c2]
            have ⟨y1, y2⟩ := o2 c1 c2
            have ⟨pe4, pe5, pe6⟩ := pe.2.2 c1
            have ⟨X2, a1, a2, a3, a4, a5, b1, b2, b3, b4, b5⟩ := z_go f (t_pz tx B).2.2.2 B (t_ex D (tx.getD B 0) (t_pz tx B).2.1 (t_pz tx B).2.2.1).2 (n + 1) C' v' X1 y2 (by omega) pe6 (by omega)
            exact ⟨X2, a1, a2, a3, a4, a5, b1, zG_le (zG_tr (zG_tr zg0 y1) b2) (by omega) (by omega), b3, b4, b5⟩
          · rw [if_neg c2]
            have e := o3 c1 c2
            have x2 : (t_ex D (tx.getD B 0) (t_pz tx B).2.1 (t_pz tx B).2.2.1).1 < 1000 ∨ True := Or.inr trivial
            exact ⟨X1, A', B, 2, _, n, e, zG_le (zG_tr zg0 o1) (by omega) (by omega), fun h => Bool.noConfusion h, fun _ => ⟨rfl, rfl, rfl⟩, bad 2 _ (by decide) (by decide) e⟩
        · rw [if_neg c1]
          have e := o4 (Bool.eq_false_iff.mpr c1)
          exact ⟨X1, A', B, 1, _, n, e, zG_le (zG_tr zg0 o1) (by omega) (by omega), fun h => Bool.noConfusion h, fun _ => ⟨rfl, rfl, rfl⟩, bad 1 _ (by decide) (by decide) e⟩
    · have e : t_go tx f B D n = (true, B, 0, 0, D, n) := by
        cases f with
        | zero => rfl
        | succ f =>
          unfold t_go
          rw [if_neg c]
      rw [e]
      refine ⟨X, B, B0, 0, C, n, z.1, ⟨Nat.le_refl _, Nat.le_add_right _ _, Nat.le_add_right _ _, fun _ _ _ _ _ => rfl⟩, fun _ => ⟨rfl, z.2.2.1⟩, fun h => Bool.noConfusion h, ?_⟩
      simp (disch := first | omega | assumption | exact Or.inl rfl | exact Or.inr rfl | exact wN_kls (by omega) | exact wE_kls (by omega) | exact wR_kls (by omega) | (simp only [a_cat_nil, a_cat_int, a_cat_ref, a_cat_null, a_cat_long]; done) | (simp only [a_cat_nil, a_cat_int, a_cat_ref, a_cat_null, a_cat_long]; omega) | decide | rfl | (apply Or.inr; omega) | (apply Or.inl; omega)) only [w_X7_isWell_0, w_X7_isWell_1, w_X7_isWell_4, w_X7_isWell_7, w_X7_isWell_8, w_X7_isWell_11, w_X7_isWell_12, w_X7_isWell_15, w_X7_isWell_18, w_X7_isWell_21, w_X7_isWell_39, w_X7_isWell_40, w_X7_isWell_43, w_X7_isWell_46, w_X7_isWell_47, w_X7_isWell_50, w_X7_isWell_51, w_ret, w_exc, Nat.reduceAdd, Option.toList_some, Option.toList_none, List.cons_append, List.nil_append, Option.bind_some, nI_add, q_mul, q_sub, q_eq, q_eqz, q_lt, q_ltz, q_gtz, q_le, q_lez, q_div, q_or, q_and, q_shl, q_shr, q_m1, q_eqm, q_meq, q_mm, q_mlt, q_mgt, q_mlt2, q_dec, Nat.add_sub_cancel, q_ltT, q_ltF, q_leT, q_leF, q_eqT, q_eqF, ↓reduceIte, uN_s, uN_n, upN_app, uG_s, uG_n, uG_uG, if_true, if_false, Nat.reduceMul, Nat.reduceSub, Nat.reduceEqDiff, Nat.reduceLT, and_true, true_and, and_false, false_and, or_true, true_or, or_false, false_or, not_true_eq_false, not_false_eq_true, Option.some.injEq, g2, g4, g7, gs, ln, Bool.toNat_true]
theorem z_well {D : t_D} {v : Nat → Nat} {X : a_H} (z : zS X r nu t g 0 0 0 0 0 v D tx) : ∃ (X' : a_H) (A' B' R' C' M' : Nat), X'.2.2 r = cRd t nu A' B' R' C' M' g ∧ zG X X' r nu t 3600 60000 ∧ ((t_go tx 61 0 D 0).1 = true → M' = (t_go tx 61 0 D 0).2.2.2.2.2 ∧ cM X' t (t_go tx 61 0 D 0).2.2.2.2.1) ∧ ((t_go tx 61 0 D 0).1 = false → B' = (t_go tx 61 0 D 0).2.1 ∧ R' = (t_go tx 61 0 D 0).2.2.1 ∧ C' = (t_go tx 61 0 D 0).2.2.2.1) ∧ a_call (d+18) MX7_isWell [.ref r] X = some (.inl (some (.int (nI (t_go tx 61 0 D 0).1.toNat))), X') := by
  have ⟨_, _, _, l60, _⟩ := zT_use z.2.2.2.1
  have ⟨X', A', B', R', C', M', b1, b2, b3, b4, b5⟩ := z_go (d := d) 61 0 0 D 0 0 v X z (Nat.le_refl _) (Nat.zero_le _) (by omega)
  refine ⟨X', A', B', R', C', M', b1, zG_le b2 (by omega) (by omega), b3, b4, ?_⟩
  rw [e_X7_isWell]
  exact b5
end X7
