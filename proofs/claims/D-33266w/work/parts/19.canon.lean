/-! PART canon: heaps with one object of the model or of the diagram in plain sight (written by gen/modgen.py) -/
def uF (F : Nat → Int32) (k : Nat) (x : Int32) : Nat → Int32 := fun j => if j = k then x else F j
def uA (A : Nat → Nat → Int32) (k i : Nat) (x : Int32) : Nat → Nat → Int32 := fun j => if j = k then upd (A k) i x else A j
theorem uF_s {F : Nat → Int32} {k : Nat} {x : Int32} : uF F k x k = x := if_pos rfl
theorem uF_n {F : Nat → Int32} {k j : Nat} {x : Int32} (h : j ≠ k) : uF F k x j = F j := if_neg h
theorem uA_s {A : Nat → Nat → Int32} {k i : Nat} {x : Int32} : uA A k i x k = upd (A k) i x := if_pos rfl
theorem uA_n {A : Nat → Nat → Int32} {k i j : Nat} {x : Int32} (h : j ≠ k) : uA A k i x j = A j := if_neg h
/-- the fields of the object -/
def wMF (m : Nat) (F : Nat → Int32) : List Value := [.ref (m + 1), .ref (m + 2), .ref (m + 3), .ref (m + 4), .ref (m + 5), .ref (m + 6), .ref (m + 7), .int (F 7), .ref (m + 8), .ref (m + 9), .ref (m + 10), .ref (m + 11), .ref (m + 12), .ref (m + 13), .ref (m + 14), .ref (m + 15), .ref (m + 16), .ref (m + 17), .int (F 18), .int (F 19), .int (F 20), .int (F 21), .ref (m + 18), .int (F 23), .int (F 24), .int (F 25), .int (F 26), .int (F 27), .int (F 28), .int (F 29), .ref (m + 19)]
def wMN : Nat → Nat
  | 0 => 800
  | 1 => 3200
  | 2 => 800
  | 3 => 800
  | 4 => 16
  | 5 => 26
  | 6 => 26
  | 7 => 30
  | 8 => 60
  | 9 => 60
  | 10 => 720
  | 11 => 30
  | 12 => 30
  | 13 => 16
  | 14 => 16
  | 15 => 720
  | 16 => 720
  | 17 => 60
  | 18 => 2
  | _ => 0
/-- the heap with the object at m and its arrays behind it -/
def wM (h : a_H) (m : Nat) (F : Nat → Int32) (A : Nat → Nat → Int32) : a_H := (h.1, h.2.1, fun q => if q < m then h.2.2 q else if q = m then .inr (2, wMF m F) else if q ≤ m + 19 then .inl (.int, wMN (q - m - 1), .inl (A (q - m - 1))) else h.2.2 q)
section
variable {h : a_H} {m : Nat} {F : Nat → Int32} {A : Nat → Nat → Int32}
theorem wM_obj : (wM h m F A).2.2 m = .inr (2, wMF m F) := by
  show (if m < m then _ else if m = m then _ else _) = _
  rw [if_neg (Nat.lt_irrefl m), if_pos rfl]
theorem wM_arr {k : Nat} (hk : k < 19) : (wM h m F A).2.2 (m + (k + 1)) = .inl (.int, wMN k, .inl (A k)) := by
  show (if m + (k + 1) < m then _ else if m + (k + 1) = m then _ else if m + (k + 1) ≤ m + 19 then _ else _) = _
  rw [if_neg (by omega), if_neg (by omega), if_pos (by omega), show m + (k + 1) - m - 1 = k by omega]
theorem wM_out {q : Nat} (hq : q < m ∨ m + 19 < q) : (wM h m F A).2.2 q = h.2.2 q := by
  show (if q < m then _ else if q = m then _ else if q ≤ m + 19 then _ else _) = _
  rcases hq with hq | hq
  · rw [if_pos hq]
  · rw [if_neg (by omega), if_neg (by omega), if_neg (by omega)]
theorem wM_1 : (wM h m F A).1 = h.1 := rfl
theorem wM_2 : (wM h m F A).2.1 = h.2.1 := rfl
theorem wM_kls (hm : 1024 ≤ m) : a_kls (wM h m F A) m = some 2 := by
  unfold a_kls
  rw [if_neg (by omega), if_pos hm]
  unfold a_cls
  rw [wM_obj]
theorem wM_gf {k : Nat} (hm : 1024 ≤ m) : a_gf (wM h m F A) m k [2] = (wMF m F)[k]? := by
  unfold a_gf
  rw [wM_obj]
  exact if_pos ⟨rfl, hm⟩
theorem wM_rdk {k n : Nat} (hk : k < 19) (hn : wMN k = n) {j : Int32} (hm : 1024 ≤ m) (hj : a_out j n = false) : a_rdi (wM h m F A) (m + (k + 1)) a_int j = some (.int (A k j.toNatClampNeg)) := by
  unfold a_rdi
  rw [wM_arr hk, hn]
  exact if_pos ⟨rfl, hj, Or.inl (by omega)⟩
theorem a_out_nI {i n : Nat} (hi : i < n) (hn : n < 2 ^ 31) : a_out (nI i) n = false := decide_eq_false (nI_in hi hn)
theorem wM_rdn {k n i : Nat} (hk : k < 19) (hn : wMN k = n) (hm : 1024 ≤ m) (hi : i < n) (hb : n < 2 ^ 31) : a_rdi (wM h m F A) (m + (k + 1)) a_int (nI i) = some (.int (A k i)) := by
  rw [wM_rdk hk hn hm (a_out_nI hi hb), nI_clamp (Nat.lt_trans hi hb)]
theorem wM_ext {h' : a_H} (h1 : h'.1 = h.1) (h2 : h'.2.1 = h.2.1) (ho : h'.2.2 m = .inr (2, wMF m F)) (ha : ∀ k, k < 19 → h'.2.2 (m + (k + 1)) = .inl (.int, wMN k, .inl (A k))) (hx : ∀ q, q < m ∨ m + 19 < q → h'.2.2 q = h.2.2 q) : h' = wM h m F A := by
  obtain ⟨a, b, c⟩ := h'
  have h1 : a = h.1 := h1
  have h2 : b = h.2.1 := h2
  subst h1 h2
  refine congrArg (fun z => (h.1, h.2.1, z)) (funext fun q => ?_)
  show c q = (if q < m then _ else if q = m then _ else if q ≤ m + 19 then _ else _)
  by_cases q1 : q < m
  · rw [if_pos q1]; exact hx q (Or.inl q1)
  · rw [if_neg q1]
    by_cases q2 : q = m
    · rw [if_pos q2, q2]; exact ho
    · rw [if_neg q2]
      by_cases q3 : q ≤ m + 19
      · rw [if_pos q3]
        have := ha (q - m - 1) (by omega)
        rw [show m + (q - m - 1 + 1) = q by omega] at this
        exact this
      · rw [if_neg q3]; exact hx q (Or.inr (by omega))
theorem wM_wrn {k n i : Nat} {x : Int32} (hk : k < 19) (hn : wMN k = n) (hm : 1024 ≤ m) (hi : i < n) (hb : n < 2 ^ 31) : a_wri (wM h m F A) (m + (k + 1)) a_int (nI i) x = some (wM h m F (uA A k i x)) := by
  unfold a_wri
  rw [wM_arr hk, hn]
  show (if a_int .int = true ∧ a_out (nI i) n = false ∧ 1024 ≤ m + (k + 1) then some (a_set (wM h m F A) (m + (k + 1)) (.inl (.int, n, .inl (upd (A k) (nI i).toNatClampNeg (vp_nar .int x))))) else none) = _
  rw [if_pos ⟨rfl, a_out_nI hi hb, by omega⟩, nI_clamp (Nat.lt_trans hi hb)]
  refine congrArg some (wM_ext rfl rfl ?_ (fun k' hk' => ?_) (fun q hq => ?_))
  · show (if m = m + (k + 1) then _ else (wM h m F A).2.2 m) = _
    rw [if_neg (by omega)]
    exact wM_obj
  · show (if m + (k' + 1) = m + (k + 1) then _ else (wM h m F A).2.2 (m + (k' + 1))) = _
    by_cases e : k' = k
    · subst e
      rw [if_pos rfl, uA_s, hn]
      rfl
    · rw [if_neg (by omega), uA_n e]
      exact wM_arr hk'
  · show (if q = m + (k + 1) then _ else (wM h m F A).2.2 q) = _
    rw [if_neg (by omega)]
    exact wM_out hq
theorem wM_pfk {k : Nat} {v : Value} {F' : Nat → Int32} (hm : 1024 ≤ m) (hk : k < 31) (hF : (wMF m F).set k v = wMF m F') : a_pf (wM h m F A) m k [2] v = some (wM h m F' A) := by
  unfold a_pf
  rw [wM_obj]
  show (if List.contains [2] 2 = true ∧ k < (wMF m F).length ∧ 1024 ≤ m then some (a_set (wM h m F A) m (.inr (2, (wMF m F).set k v))) else none) = _
  rw [if_pos ⟨rfl, hk, hm⟩, hF]
  refine congrArg some (wM_ext rfl rfl ?_ (fun k' hk' => ?_) (fun q hq => ?_))
  · show (if m = m then _ else _) = _
    rw [if_pos rfl]
  · show (if m + (k' + 1) = m then _ else (wM h m F A).2.2 (m + (k' + 1))) = _
    rw [if_neg (by omega)]
    exact wM_arr hk'
  · show (if q = m then _ else (wM h m F A).2.2 q) = _
    rw [if_neg (by omega)]
    exact wM_out hq
theorem wMg_s (hm : 1024 ≤ m) : a_gf (wM h m F A) m 0 [2] = some (.ref (m + 1)) := (wM_gf hm).trans rfl
theorem wMg_past (hm : 1024 ≤ m) : a_gf (wM h m F A) m 1 [2] = some (.ref (m + 2)) := (wM_gf hm).trans rfl
theorem wMg_kept (hm : 1024 ≤ m) : a_gf (wM h m F A) m 2 [2] = some (.ref (m + 3)) := (wM_gf hm).trans rfl
theorem wMg_aside (hm : 1024 ≤ m) : a_gf (wM h m F A) m 3 [2] = some (.ref (m + 4)) := (wM_gf hm).trans rfl
theorem wMg_lay (hm : 1024 ≤ m) : a_gf (wM h m F A) m 4 [2] = some (.ref (m + 5)) := (wM_gf hm).trans rfl
theorem wMg_start (hm : 1024 ≤ m) : a_gf (wM h m F A) m 5 [2] = some (.ref (m + 6)) := (wM_gf hm).trans rfl
theorem wMg_count (hm : 1024 ≤ m) : a_gf (wM h m F A) m 6 [2] = some (.ref (m + 7)) := (wM_gf hm).trans rfl
theorem wMg_deep (hm : 1024 ≤ m) : a_gf (wM h m F A) m 7 [2] = some (.int (F 7)) := (wM_gf hm).trans rfl
theorem wMp_deep (hm : 1024 ≤ m) (x : Int32) : a_pf (wM h m F A) m 7 [2] (.int x) = some (wM h m (uF F 7 x) A) := wM_pfk hm (by decide) rfl
theorem wMg_near (hm : 1024 ≤ m) : a_gf (wM h m F A) m 8 [2] = some (.ref (m + 8)) := (wM_gf hm).trans rfl
theorem wMg_medians (hm : 1024 ≤ m) : a_gf (wM h m F A) m 9 [2] = some (.ref (m + 9)) := (wM_gf hm).trans rfl
theorem wMg_points (hm : 1024 ≤ m) : a_gf (wM h m F A) m 10 [2] = some (.ref (m + 10)) := (wM_gf hm).trans rfl
theorem wMg_columns (hm : 1024 ≤ m) : a_gf (wM h m F A) m 11 [2] = some (.ref (m + 11)) := (wM_gf hm).trans rfl
theorem wMg_upper (hm : 1024 ≤ m) : a_gf (wM h m F A) m 12 [2] = some (.ref (m + 12)) := (wM_gf hm).trans rfl
theorem wMg_lower (hm : 1024 ≤ m) : a_gf (wM h m F A) m 13 [2] = some (.ref (m + 13)) := (wM_gf hm).trans rfl
theorem wMg_heard (hm : 1024 ≤ m) : a_gf (wM h m F A) m 14 [2] = some (.ref (m + 14)) := (wM_gf hm).trans rfl
theorem wMg_walks (hm : 1024 ≤ m) : a_gf (wM h m F A) m 15 [2] = some (.ref (m + 15)) := (wM_gf hm).trans rfl
theorem wMg_spare (hm : 1024 ≤ m) : a_gf (wM h m F A) m 16 [2] = some (.ref (m + 16)) := (wM_gf hm).trans rfl
theorem wMg_best (hm : 1024 ≤ m) : a_gf (wM h m F A) m 17 [2] = some (.ref (m + 17)) := (wM_gf hm).trans rfl
theorem wMg_isKept (hm : 1024 ≤ m) : a_gf (wM h m F A) m 18 [2] = some (.int (F 18)) := (wM_gf hm).trans rfl
theorem wMp_isKept (hm : 1024 ≤ m) (x : Int32) : a_pf (wM h m F A) m 18 [2] (.int x) = some (wM h m (uF F 18 x) A) := wM_pfk hm (by decide) rfl
theorem wMg_pasts (hm : 1024 ≤ m) : a_gf (wM h m F A) m 19 [2] = some (.int (F 19)) := (wM_gf hm).trans rfl
theorem wMp_pasts (hm : 1024 ≤ m) (x : Int32) : a_pf (wM h m F A) m 19 [2] (.int x) = some (wM h m (uF F 19 x) A) := wM_pfk hm (by decide) rfl
theorem wMg_runs (hm : 1024 ≤ m) : a_gf (wM h m F A) m 20 [2] = some (.int (F 20)) := (wM_gf hm).trans rfl
theorem wMp_runs (hm : 1024 ≤ m) (x : Int32) : a_pf (wM h m F A) m 20 [2] (.int x) = some (wM h m (uF F 20 x) A) := wM_pfk hm (by decide) rfl
theorem wMg_last (hm : 1024 ≤ m) : a_gf (wM h m F A) m 21 [2] = some (.int (F 21)) := (wM_gf hm).trans rfl
theorem wMp_last (hm : 1024 ≤ m) (x : Int32) : a_pf (wM h m F A) m 21 [2] (.int x) = some (wM h m (uF F 21 x) A) := wM_pfk hm (by decide) rfl
theorem wMg_text (hm : 1024 ≤ m) : a_gf (wM h m F A) m 22 [2] = some (.ref (m + 18)) := (wM_gf hm).trans rfl
theorem wMg_typed (hm : 1024 ≤ m) : a_gf (wM h m F A) m 23 [2] = some (.int (F 23)) := (wM_gf hm).trans rfl
theorem wMp_typed (hm : 1024 ≤ m) (x : Int32) : a_pf (wM h m F A) m 23 [2] (.int x) = some (wM h m (uF F 23 x) A) := wM_pfk hm (by decide) rfl
theorem wMg_spot (hm : 1024 ≤ m) : a_gf (wM h m F A) m 24 [2] = some (.int (F 24)) := (wM_gf hm).trans rfl
theorem wMp_spot (hm : 1024 ≤ m) (x : Int32) : a_pf (wM h m F A) m 24 [2] (.int x) = some (wM h m (uF F 24 x) A) := wM_pfk hm (by decide) rfl
theorem wMg_from (hm : 1024 ≤ m) : a_gf (wM h m F A) m 25 [2] = some (.int (F 25)) := (wM_gf hm).trans rfl
theorem wMp_from (hm : 1024 ≤ m) (x : Int32) : a_pf (wM h m F A) m 25 [2] (.int x) = some (wM h m (uF F 25 x) A) := wM_pfk hm (by decide) rfl
theorem wMg_reason (hm : 1024 ≤ m) : a_gf (wM h m F A) m 26 [2] = some (.int (F 26)) := (wM_gf hm).trans rfl
theorem wMp_reason (hm : 1024 ≤ m) (x : Int32) : a_pf (wM h m F A) m 26 [2] (.int x) = some (wM h m (uF F 26 x) A) := wM_pfk hm (by decide) rfl
theorem wMg_cause (hm : 1024 ≤ m) : a_gf (wM h m F A) m 27 [2] = some (.int (F 27)) := (wM_gf hm).trans rfl
theorem wMp_cause (hm : 1024 ≤ m) (x : Int32) : a_pf (wM h m F A) m 27 [2] (.int x) = some (wM h m (uF F 27 x) A) := wM_pfk hm (by decide) rfl
theorem wMg_orders (hm : 1024 ≤ m) : a_gf (wM h m F A) m 28 [2] = some (.int (F 28)) := (wM_gf hm).trans rfl
theorem wMp_orders (hm : 1024 ≤ m) (x : Int32) : a_pf (wM h m F A) m 28 [2] (.int x) = some (wM h m (uF F 28 x) A) := wM_pfk hm (by decide) rfl
theorem wMg_letter (hm : 1024 ≤ m) : a_gf (wM h m F A) m 29 [2] = some (.int (F 29)) := (wM_gf hm).trans rfl
theorem wMp_letter (hm : 1024 ≤ m) (x : Int32) : a_pf (wM h m F A) m 29 [2] (.int x) = some (wM h m (uF F 29 x) A) := wM_pfk hm (by decide) rfl
theorem wMg_numbers (hm : 1024 ≤ m) : a_gf (wM h m F A) m 30 [2] = some (.ref (m + 19)) := (wM_gf hm).trans rfl
theorem wMr_s {i : Nat} (hm : 1024 ≤ m) (hi : i < 800) : a_rdi (wM h m F A) (m + 1) a_int (nI i) = some (.int (A 0 i)) := wM_rdn (by decide) rfl hm hi (by decide)
theorem wMw_s {i : Nat} {x : Int32} (hm : 1024 ≤ m) (hi : i < 800) : a_wri (wM h m F A) (m + 1) a_int (nI i) x = some (wM h m F (uA A 0 i x)) := wM_wrn (by decide) rfl hm hi (by decide)
theorem wMr_past {i : Nat} (hm : 1024 ≤ m) (hi : i < 3200) : a_rdi (wM h m F A) (m + 2) a_int (nI i) = some (.int (A 1 i)) := wM_rdn (by decide) rfl hm hi (by decide)
theorem wMw_past {i : Nat} {x : Int32} (hm : 1024 ≤ m) (hi : i < 3200) : a_wri (wM h m F A) (m + 2) a_int (nI i) x = some (wM h m F (uA A 1 i x)) := wM_wrn (by decide) rfl hm hi (by decide)
theorem wMr_kept {i : Nat} (hm : 1024 ≤ m) (hi : i < 800) : a_rdi (wM h m F A) (m + 3) a_int (nI i) = some (.int (A 2 i)) := wM_rdn (by decide) rfl hm hi (by decide)
theorem wMw_kept {i : Nat} {x : Int32} (hm : 1024 ≤ m) (hi : i < 800) : a_wri (wM h m F A) (m + 3) a_int (nI i) x = some (wM h m F (uA A 2 i x)) := wM_wrn (by decide) rfl hm hi (by decide)
theorem wMr_aside {i : Nat} (hm : 1024 ≤ m) (hi : i < 800) : a_rdi (wM h m F A) (m + 4) a_int (nI i) = some (.int (A 3 i)) := wM_rdn (by decide) rfl hm hi (by decide)
theorem wMw_aside {i : Nat} {x : Int32} (hm : 1024 ≤ m) (hi : i < 800) : a_wri (wM h m F A) (m + 4) a_int (nI i) x = some (wM h m F (uA A 3 i x)) := wM_wrn (by decide) rfl hm hi (by decide)
theorem wMr_lay {i : Nat} (hm : 1024 ≤ m) (hi : i < 16) : a_rdi (wM h m F A) (m + 5) a_int (nI i) = some (.int (A 4 i)) := wM_rdn (by decide) rfl hm hi (by decide)
theorem wMw_lay {i : Nat} {x : Int32} (hm : 1024 ≤ m) (hi : i < 16) : a_wri (wM h m F A) (m + 5) a_int (nI i) x = some (wM h m F (uA A 4 i x)) := wM_wrn (by decide) rfl hm hi (by decide)
theorem wMr_start {i : Nat} (hm : 1024 ≤ m) (hi : i < 26) : a_rdi (wM h m F A) (m + 6) a_int (nI i) = some (.int (A 5 i)) := wM_rdn (by decide) rfl hm hi (by decide)
theorem wMw_start {i : Nat} {x : Int32} (hm : 1024 ≤ m) (hi : i < 26) : a_wri (wM h m F A) (m + 6) a_int (nI i) x = some (wM h m F (uA A 5 i x)) := wM_wrn (by decide) rfl hm hi (by decide)
theorem wMr_count {i : Nat} (hm : 1024 ≤ m) (hi : i < 26) : a_rdi (wM h m F A) (m + 7) a_int (nI i) = some (.int (A 6 i)) := wM_rdn (by decide) rfl hm hi (by decide)
theorem wMw_count {i : Nat} {x : Int32} (hm : 1024 ≤ m) (hi : i < 26) : a_wri (wM h m F A) (m + 7) a_int (nI i) x = some (wM h m F (uA A 6 i x)) := wM_wrn (by decide) rfl hm hi (by decide)
theorem wMr_near {i : Nat} (hm : 1024 ≤ m) (hi : i < 30) : a_rdi (wM h m F A) (m + 8) a_int (nI i) = some (.int (A 7 i)) := wM_rdn (by decide) rfl hm hi (by decide)
theorem wMw_near {i : Nat} {x : Int32} (hm : 1024 ≤ m) (hi : i < 30) : a_wri (wM h m F A) (m + 8) a_int (nI i) x = some (wM h m F (uA A 7 i x)) := wM_wrn (by decide) rfl hm hi (by decide)
theorem wMr_medians {i : Nat} (hm : 1024 ≤ m) (hi : i < 60) : a_rdi (wM h m F A) (m + 9) a_int (nI i) = some (.int (A 8 i)) := wM_rdn (by decide) rfl hm hi (by decide)
theorem wMw_medians {i : Nat} {x : Int32} (hm : 1024 ≤ m) (hi : i < 60) : a_wri (wM h m F A) (m + 9) a_int (nI i) x = some (wM h m F (uA A 8 i x)) := wM_wrn (by decide) rfl hm hi (by decide)
theorem wMr_points {i : Nat} (hm : 1024 ≤ m) (hi : i < 60) : a_rdi (wM h m F A) (m + 10) a_int (nI i) = some (.int (A 9 i)) := wM_rdn (by decide) rfl hm hi (by decide)
theorem wMw_points {i : Nat} {x : Int32} (hm : 1024 ≤ m) (hi : i < 60) : a_wri (wM h m F A) (m + 10) a_int (nI i) x = some (wM h m F (uA A 9 i x)) := wM_wrn (by decide) rfl hm hi (by decide)
theorem wMr_columns {i : Nat} (hm : 1024 ≤ m) (hi : i < 720) : a_rdi (wM h m F A) (m + 11) a_int (nI i) = some (.int (A 10 i)) := wM_rdn (by decide) rfl hm hi (by decide)
theorem wMw_columns {i : Nat} {x : Int32} (hm : 1024 ≤ m) (hi : i < 720) : a_wri (wM h m F A) (m + 11) a_int (nI i) x = some (wM h m F (uA A 10 i x)) := wM_wrn (by decide) rfl hm hi (by decide)
theorem wMr_upper {i : Nat} (hm : 1024 ≤ m) (hi : i < 30) : a_rdi (wM h m F A) (m + 12) a_int (nI i) = some (.int (A 11 i)) := wM_rdn (by decide) rfl hm hi (by decide)
theorem wMw_upper {i : Nat} {x : Int32} (hm : 1024 ≤ m) (hi : i < 30) : a_wri (wM h m F A) (m + 12) a_int (nI i) x = some (wM h m F (uA A 11 i x)) := wM_wrn (by decide) rfl hm hi (by decide)
theorem wMr_lower {i : Nat} (hm : 1024 ≤ m) (hi : i < 30) : a_rdi (wM h m F A) (m + 13) a_int (nI i) = some (.int (A 12 i)) := wM_rdn (by decide) rfl hm hi (by decide)
theorem wMw_lower {i : Nat} {x : Int32} (hm : 1024 ≤ m) (hi : i < 30) : a_wri (wM h m F A) (m + 13) a_int (nI i) x = some (wM h m F (uA A 12 i x)) := wM_wrn (by decide) rfl hm hi (by decide)
theorem wMr_heard {i : Nat} (hm : 1024 ≤ m) (hi : i < 16) : a_rdi (wM h m F A) (m + 14) a_int (nI i) = some (.int (A 13 i)) := wM_rdn (by decide) rfl hm hi (by decide)
theorem wMw_heard {i : Nat} {x : Int32} (hm : 1024 ≤ m) (hi : i < 16) : a_wri (wM h m F A) (m + 14) a_int (nI i) x = some (wM h m F (uA A 13 i x)) := wM_wrn (by decide) rfl hm hi (by decide)
theorem wMr_walks {i : Nat} (hm : 1024 ≤ m) (hi : i < 16) : a_rdi (wM h m F A) (m + 15) a_int (nI i) = some (.int (A 14 i)) := wM_rdn (by decide) rfl hm hi (by decide)
theorem wMw_walks {i : Nat} {x : Int32} (hm : 1024 ≤ m) (hi : i < 16) : a_wri (wM h m F A) (m + 15) a_int (nI i) x = some (wM h m F (uA A 14 i x)) := wM_wrn (by decide) rfl hm hi (by decide)
theorem wMr_spare {i : Nat} (hm : 1024 ≤ m) (hi : i < 720) : a_rdi (wM h m F A) (m + 16) a_int (nI i) = some (.int (A 15 i)) := wM_rdn (by decide) rfl hm hi (by decide)
theorem wMw_spare {i : Nat} {x : Int32} (hm : 1024 ≤ m) (hi : i < 720) : a_wri (wM h m F A) (m + 16) a_int (nI i) x = some (wM h m F (uA A 15 i x)) := wM_wrn (by decide) rfl hm hi (by decide)
theorem wMr_best {i : Nat} (hm : 1024 ≤ m) (hi : i < 720) : a_rdi (wM h m F A) (m + 17) a_int (nI i) = some (.int (A 16 i)) := wM_rdn (by decide) rfl hm hi (by decide)
theorem wMw_best {i : Nat} {x : Int32} (hm : 1024 ≤ m) (hi : i < 720) : a_wri (wM h m F A) (m + 17) a_int (nI i) x = some (wM h m F (uA A 16 i x)) := wM_wrn (by decide) rfl hm hi (by decide)
theorem wMr_text {i : Nat} (hm : 1024 ≤ m) (hi : i < 60) : a_rdi (wM h m F A) (m + 18) a_int (nI i) = some (.int (A 17 i)) := wM_rdn (by decide) rfl hm hi (by decide)
theorem wMw_text {i : Nat} {x : Int32} (hm : 1024 ≤ m) (hi : i < 60) : a_wri (wM h m F A) (m + 18) a_int (nI i) x = some (wM h m F (uA A 17 i x)) := wM_wrn (by decide) rfl hm hi (by decide)
theorem wMr_numbers {i : Nat} (hm : 1024 ≤ m) (hi : i < 2) : a_rdi (wM h m F A) (m + 19) a_int (nI i) = some (.int (A 18 i)) := wM_rdn (by decide) rfl hm hi (by decide)
theorem wMw_numbers {i : Nat} {x : Int32} (hm : 1024 ≤ m) (hi : i < 2) : a_wri (wM h m F A) (m + 19) a_int (nI i) x = some (wM h m F (uA A 18 i x)) := wM_wrn (by decide) rfl hm hi (by decide)
end
/-- the fields of the object -/
def wDF (m : Nat) (F : Nat → Int32) : List Value := [.ref (m + 6), .ref (m + 7), .ref (m + 8), .ref (m + 9), .ref (m + 10), .ref (m + 11), .ref (m + 1), .ref (m + 2), .ref (m + 3), .ref (m + 4), .ref (m + 5), .int (F 11), .int (F 12), .int (F 13), .int (F 14), .int (F 15)]
def wDN : Nat → Nat
  | 0 => 30
  | 1 => 30
  | 2 => 30
  | 3 => 46
  | 4 => 46
  | 5 => 30
  | 6 => 30
  | 7 => 16
  | 8 => 16
  | 9 => 1150
  | 10 => 25
  | _ => 0
/-- the heap with the object at m and its arrays behind it -/
def wD (h : a_H) (m : Nat) (F : Nat → Int32) (A : Nat → Nat → Int32) : a_H := (h.1, h.2.1, fun q => if q < m then h.2.2 q else if q = m then .inr (1, wDF m F) else if q ≤ m + 11 then .inl (.int, wDN (q - m - 1), .inl (A (q - m - 1))) else h.2.2 q)
section
variable {h : a_H} {m : Nat} {F : Nat → Int32} {A : Nat → Nat → Int32}
theorem wD_obj : (wD h m F A).2.2 m = .inr (1, wDF m F) := by
  show (if m < m then _ else if m = m then _ else _) = _
  rw [if_neg (Nat.lt_irrefl m), if_pos rfl]
theorem wD_arr {k : Nat} (hk : k < 11) : (wD h m F A).2.2 (m + (k + 1)) = .inl (.int, wDN k, .inl (A k)) := by
  show (if m + (k + 1) < m then _ else if m + (k + 1) = m then _ else if m + (k + 1) ≤ m + 11 then _ else _) = _
  rw [if_neg (by omega), if_neg (by omega), if_pos (by omega), show m + (k + 1) - m - 1 = k by omega]
theorem wD_out {q : Nat} (hq : q < m ∨ m + 11 < q) : (wD h m F A).2.2 q = h.2.2 q := by
  show (if q < m then _ else if q = m then _ else if q ≤ m + 11 then _ else _) = _
  rcases hq with hq | hq
  · rw [if_pos hq]
  · rw [if_neg (by omega), if_neg (by omega), if_neg (by omega)]
theorem wD_1 : (wD h m F A).1 = h.1 := rfl
theorem wD_2 : (wD h m F A).2.1 = h.2.1 := rfl
theorem wD_kls (hm : 1024 ≤ m) : a_kls (wD h m F A) m = some 1 := by
  unfold a_kls
  rw [if_neg (by omega), if_pos hm]
  unfold a_cls
  rw [wD_obj]
theorem wD_gf {k : Nat} (hm : 1024 ≤ m) : a_gf (wD h m F A) m k [1] = (wDF m F)[k]? := by
  unfold a_gf
  rw [wD_obj]
  exact if_pos ⟨rfl, hm⟩
theorem wD_rdk {k n : Nat} (hk : k < 11) (hn : wDN k = n) {j : Int32} (hm : 1024 ≤ m) (hj : a_out j n = false) : a_rdi (wD h m F A) (m + (k + 1)) a_int j = some (.int (A k j.toNatClampNeg)) := by
  unfold a_rdi
  rw [wD_arr hk, hn]
  exact if_pos ⟨rfl, hj, Or.inl (by omega)⟩
theorem a_out_nI2 {i n : Nat} (hi : i < n) (hn : n < 2 ^ 31) : a_out (nI i) n = false := decide_eq_false (nI_in hi hn)
theorem wD_rdn {k n i : Nat} (hk : k < 11) (hn : wDN k = n) (hm : 1024 ≤ m) (hi : i < n) (hb : n < 2 ^ 31) : a_rdi (wD h m F A) (m + (k + 1)) a_int (nI i) = some (.int (A k i)) := by
  rw [wD_rdk hk hn hm (a_out_nI hi hb), nI_clamp (Nat.lt_trans hi hb)]
theorem wD_ext {h' : a_H} (h1 : h'.1 = h.1) (h2 : h'.2.1 = h.2.1) (ho : h'.2.2 m = .inr (1, wDF m F)) (ha : ∀ k, k < 11 → h'.2.2 (m + (k + 1)) = .inl (.int, wDN k, .inl (A k))) (hx : ∀ q, q < m ∨ m + 11 < q → h'.2.2 q = h.2.2 q) : h' = wD h m F A := by
  obtain ⟨a, b, c⟩ := h'
  have h1 : a = h.1 := h1
  have h2 : b = h.2.1 := h2
  subst h1 h2
  refine congrArg (fun z => (h.1, h.2.1, z)) (funext fun q => ?_)
  show c q = (if q < m then _ else if q = m then _ else if q ≤ m + 11 then _ else _)
  by_cases q1 : q < m
  · rw [if_pos q1]; exact hx q (Or.inl q1)
  · rw [if_neg q1]
    by_cases q2 : q = m
    · rw [if_pos q2, q2]; exact ho
    · rw [if_neg q2]
      by_cases q3 : q ≤ m + 11
      · rw [if_pos q3]
        have := ha (q - m - 1) (by omega)
        rw [show m + (q - m - 1 + 1) = q by omega] at this
        exact this
      · rw [if_neg q3]; exact hx q (Or.inr (by omega))
theorem wD_wrn {k n i : Nat} {x : Int32} (hk : k < 11) (hn : wDN k = n) (hm : 1024 ≤ m) (hi : i < n) (hb : n < 2 ^ 31) : a_wri (wD h m F A) (m + (k + 1)) a_int (nI i) x = some (wD h m F (uA A k i x)) := by
  unfold a_wri
  rw [wD_arr hk, hn]
  show (if a_int .int = true ∧ a_out (nI i) n = false ∧ 1024 ≤ m + (k + 1) then some (a_set (wD h m F A) (m + (k + 1)) (.inl (.int, n, .inl (upd (A k) (nI i).toNatClampNeg (vp_nar .int x))))) else none) = _
  rw [if_pos ⟨rfl, a_out_nI hi hb, by omega⟩, nI_clamp (Nat.lt_trans hi hb)]
  refine congrArg some (wD_ext rfl rfl ?_ (fun k' hk' => ?_) (fun q hq => ?_))
  · show (if m = m + (k + 1) then _ else (wD h m F A).2.2 m) = _
    rw [if_neg (by omega)]
    exact wD_obj
  · show (if m + (k' + 1) = m + (k + 1) then _ else (wD h m F A).2.2 (m + (k' + 1))) = _
    by_cases e : k' = k
    · subst e
      rw [if_pos rfl, uA_s, hn]
      rfl
    · rw [if_neg (by omega), uA_n e]
      exact wD_arr hk'
  · show (if q = m + (k + 1) then _ else (wD h m F A).2.2 q) = _
    rw [if_neg (by omega)]
    exact wD_out hq
theorem wD_pfk {k : Nat} {v : Value} {F' : Nat → Int32} (hm : 1024 ≤ m) (hk : k < 16) (hF : (wDF m F).set k v = wDF m F') : a_pf (wD h m F A) m k [1] v = some (wD h m F' A) := by
  unfold a_pf
  rw [wD_obj]
  show (if List.contains [1] 1 = true ∧ k < (wDF m F).length ∧ 1024 ≤ m then some (a_set (wD h m F A) m (.inr (1, (wDF m F).set k v))) else none) = _
  rw [if_pos ⟨rfl, hk, hm⟩, hF]
  refine congrArg some (wD_ext rfl rfl ?_ (fun k' hk' => ?_) (fun q hq => ?_))
  · show (if m = m then _ else _) = _
    rw [if_pos rfl]
  · show (if m + (k' + 1) = m then _ else (wD h m F A).2.2 (m + (k' + 1))) = _
    rw [if_neg (by omega)]
    exact wD_arr hk'
  · show (if q = m then _ else (wD h m F A).2.2 q) = _
    rw [if_neg (by omega)]
    exact wD_out hq
theorem wDg_froms (hm : 1024 ≤ m) : a_gf (wD h m F A) m 0 [1] = some (.ref (m + 6)) := (wD_gf hm).trans rfl
theorem wDg_tos (hm : 1024 ≤ m) : a_gf (wD h m F A) m 1 [1] = some (.ref (m + 7)) := (wD_gf hm).trans rfl
theorem wDg_least (hm : 1024 ≤ m) : a_gf (wD h m F A) m 2 [1] = some (.ref (m + 8)) := (wD_gf hm).trans rfl
theorem wDg_layers (hm : 1024 ≤ m) : a_gf (wD h m F A) m 3 [1] = some (.ref (m + 9)) := (wD_gf hm).trans rfl
theorem wDg_rows (hm : 1024 ≤ m) : a_gf (wD h m F A) m 4 [1] = some (.ref (m + 10)) := (wD_gf hm).trans rfl
theorem wDg_lengths (hm : 1024 ≤ m) : a_gf (wD h m F A) m 5 [1] = some (.ref (m + 11)) := (wD_gf hm).trans rfl
theorem wDg_uppers (hm : 1024 ≤ m) : a_gf (wD h m F A) m 6 [1] = some (.ref (m + 1)) := (wD_gf hm).trans rfl
theorem wDg_lowers (hm : 1024 ≤ m) : a_gf (wD h m F A) m 7 [1] = some (.ref (m + 2)) := (wD_gf hm).trans rfl
theorem wDg_near (hm : 1024 ≤ m) : a_gf (wD h m F A) m 8 [1] = some (.ref (m + 3)) := (wD_gf hm).trans rfl
theorem wDg_medians (hm : 1024 ≤ m) : a_gf (wD h m F A) m 9 [1] = some (.ref (m + 4)) := (wD_gf hm).trans rfl
theorem wDg_points (hm : 1024 ≤ m) : a_gf (wD h m F A) m 10 [1] = some (.ref (m + 5)) := (wD_gf hm).trans rfl
theorem wDg_boxes (hm : 1024 ≤ m) : a_gf (wD h m F A) m 11 [1] = some (.int (F 11)) := (wD_gf hm).trans rfl
theorem wDp_boxes (hm : 1024 ≤ m) (x : Int32) : a_pf (wD h m F A) m 11 [1] (.int x) = some (wD h m (uF F 11 x) A) := wD_pfk hm (by decide) rfl
theorem wDg_arrows (hm : 1024 ≤ m) : a_gf (wD h m F A) m 12 [1] = some (.int (F 12)) := (wD_gf hm).trans rfl
theorem wDp_arrows (hm : 1024 ≤ m) (x : Int32) : a_pf (wD h m F A) m 12 [1] (.int x) = some (wD h m (uF F 12 x) A) := wD_pfk hm (by decide) rfl
theorem wDg_depth (hm : 1024 ≤ m) : a_gf (wD h m F A) m 13 [1] = some (.int (F 13)) := (wD_gf hm).trans rfl
theorem wDp_depth (hm : 1024 ≤ m) (x : Int32) : a_pf (wD h m F A) m 13 [1] (.int x) = some (wD h m (uF F 13 x) A) := wD_pfk hm (by decide) rfl
theorem wDg_made (hm : 1024 ≤ m) : a_gf (wD h m F A) m 14 [1] = some (.int (F 14)) := (wD_gf hm).trans rfl
theorem wDp_made (hm : 1024 ≤ m) (x : Int32) : a_pf (wD h m F A) m 14 [1] (.int x) = some (wD h m (uF F 14 x) A) := wD_pfk hm (by decide) rfl
theorem wDg_come (hm : 1024 ≤ m) : a_gf (wD h m F A) m 15 [1] = some (.int (F 15)) := (wD_gf hm).trans rfl
theorem wDp_come (hm : 1024 ≤ m) (x : Int32) : a_pf (wD h m F A) m 15 [1] (.int x) = some (wD h m (uF F 15 x) A) := wD_pfk hm (by decide) rfl
theorem wDr_uppers {i : Nat} (hm : 1024 ≤ m) (hi : i < 30) : a_rdi (wD h m F A) (m + 1) a_int (nI i) = some (.int (A 0 i)) := wD_rdn (by decide) rfl hm hi (by decide)
theorem wDw_uppers {i : Nat} {x : Int32} (hm : 1024 ≤ m) (hi : i < 30) : a_wri (wD h m F A) (m + 1) a_int (nI i) x = some (wD h m F (uA A 0 i x)) := wD_wrn (by decide) rfl hm hi (by decide)
theorem wDr_lowers {i : Nat} (hm : 1024 ≤ m) (hi : i < 30) : a_rdi (wD h m F A) (m + 2) a_int (nI i) = some (.int (A 1 i)) := wD_rdn (by decide) rfl hm hi (by decide)
theorem wDw_lowers {i : Nat} {x : Int32} (hm : 1024 ≤ m) (hi : i < 30) : a_wri (wD h m F A) (m + 2) a_int (nI i) x = some (wD h m F (uA A 1 i x)) := wD_wrn (by decide) rfl hm hi (by decide)
theorem wDr_near {i : Nat} (hm : 1024 ≤ m) (hi : i < 30) : a_rdi (wD h m F A) (m + 3) a_int (nI i) = some (.int (A 2 i)) := wD_rdn (by decide) rfl hm hi (by decide)
theorem wDw_near {i : Nat} {x : Int32} (hm : 1024 ≤ m) (hi : i < 30) : a_wri (wD h m F A) (m + 3) a_int (nI i) x = some (wD h m F (uA A 2 i x)) := wD_wrn (by decide) rfl hm hi (by decide)
theorem wDr_medians {i : Nat} (hm : 1024 ≤ m) (hi : i < 46) : a_rdi (wD h m F A) (m + 4) a_int (nI i) = some (.int (A 3 i)) := wD_rdn (by decide) rfl hm hi (by decide)
theorem wDw_medians {i : Nat} {x : Int32} (hm : 1024 ≤ m) (hi : i < 46) : a_wri (wD h m F A) (m + 4) a_int (nI i) x = some (wD h m F (uA A 3 i x)) := wD_wrn (by decide) rfl hm hi (by decide)
theorem wDr_points {i : Nat} (hm : 1024 ≤ m) (hi : i < 46) : a_rdi (wD h m F A) (m + 5) a_int (nI i) = some (.int (A 4 i)) := wD_rdn (by decide) rfl hm hi (by decide)
theorem wDw_points {i : Nat} {x : Int32} (hm : 1024 ≤ m) (hi : i < 46) : a_wri (wD h m F A) (m + 5) a_int (nI i) x = some (wD h m F (uA A 4 i x)) := wD_wrn (by decide) rfl hm hi (by decide)
theorem wDr_froms {i : Nat} (hm : 1024 ≤ m) (hi : i < 30) : a_rdi (wD h m F A) (m + 6) a_int (nI i) = some (.int (A 5 i)) := wD_rdn (by decide) rfl hm hi (by decide)
theorem wDw_froms {i : Nat} {x : Int32} (hm : 1024 ≤ m) (hi : i < 30) : a_wri (wD h m F A) (m + 6) a_int (nI i) x = some (wD h m F (uA A 5 i x)) := wD_wrn (by decide) rfl hm hi (by decide)
theorem wDr_tos {i : Nat} (hm : 1024 ≤ m) (hi : i < 30) : a_rdi (wD h m F A) (m + 7) a_int (nI i) = some (.int (A 6 i)) := wD_rdn (by decide) rfl hm hi (by decide)
theorem wDw_tos {i : Nat} {x : Int32} (hm : 1024 ≤ m) (hi : i < 30) : a_wri (wD h m F A) (m + 7) a_int (nI i) x = some (wD h m F (uA A 6 i x)) := wD_wrn (by decide) rfl hm hi (by decide)
theorem wDr_least {i : Nat} (hm : 1024 ≤ m) (hi : i < 16) : a_rdi (wD h m F A) (m + 8) a_int (nI i) = some (.int (A 7 i)) := wD_rdn (by decide) rfl hm hi (by decide)
theorem wDw_least {i : Nat} {x : Int32} (hm : 1024 ≤ m) (hi : i < 16) : a_wri (wD h m F A) (m + 8) a_int (nI i) x = some (wD h m F (uA A 7 i x)) := wD_wrn (by decide) rfl hm hi (by decide)
theorem wDr_layers {i : Nat} (hm : 1024 ≤ m) (hi : i < 16) : a_rdi (wD h m F A) (m + 9) a_int (nI i) = some (.int (A 8 i)) := wD_rdn (by decide) rfl hm hi (by decide)
theorem wDw_layers {i : Nat} {x : Int32} (hm : 1024 ≤ m) (hi : i < 16) : a_wri (wD h m F A) (m + 9) a_int (nI i) x = some (wD h m F (uA A 8 i x)) := wD_wrn (by decide) rfl hm hi (by decide)
theorem wDr_rows {i : Nat} (hm : 1024 ≤ m) (hi : i < 1150) : a_rdi (wD h m F A) (m + 10) a_int (nI i) = some (.int (A 9 i)) := wD_rdn (by decide) rfl hm hi (by decide)
theorem wDw_rows {i : Nat} {x : Int32} (hm : 1024 ≤ m) (hi : i < 1150) : a_wri (wD h m F A) (m + 10) a_int (nI i) x = some (wD h m F (uA A 9 i x)) := wD_wrn (by decide) rfl hm hi (by decide)
theorem wDr_lengths {i : Nat} (hm : 1024 ≤ m) (hi : i < 25) : a_rdi (wD h m F A) (m + 11) a_int (nI i) = some (.int (A 10 i)) := wD_rdn (by decide) rfl hm hi (by decide)
theorem wDw_lengths {i : Nat} {x : Int32} (hm : 1024 ≤ m) (hi : i < 25) : a_wri (wD h m F A) (m + 11) a_int (nI i) x = some (wD h m F (uA A 10 i x)) := wD_wrn (by decide) rfl hm hi (by decide)
end
