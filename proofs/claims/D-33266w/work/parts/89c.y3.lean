/-- the law's state: class's object at g, model at mm, the two arrays at o and p, the script -/
def lI (H : a_H) (g mm o p n : Nat) (S : Nat → Int32) (D : t_D) (hs : List t_D) (kp : Option t_D) (tx : List Nat) : Prop := ∃ (m : Nat) (G : Nat → Nat) (N : Nat → Nat → Nat) (f : Nat → Int64) (e : Nat → UInt32), cI H g m D hs kp tx ∧ 1024 ≤ mm ∧ mm + 19 < H.1 ∧ wN H mm G N = H ∧ mI N G D hs kp ∧ mX N G tx ∧ G 20 = 0 ∧ 1024 ≤ o ∧ o < H.1 ∧ H.2.2 o = .inl (.long, 1, .inr (.inl f)) ∧ 1024 ≤ p ∧ p < H.1 ∧ H.2.2 p = .inl (.float, 1, .inr (.inr (.inl e))) ∧ H.2.2 650 = .inl (.int, n, .inl S)
/-- by how much an order lets the heap grow -/
def lG (H H' : a_H) : Prop := H.1 ≤ H'.1 ∧ H'.1 ≤ H.1 + 4000 ∧ H'.2.1 ≤ H.2.1 + 70000
/-- what a step of the law sees -/
def lS (H : a_H) (mm n : Nat) (S : Nat → Int32) : Prop := a_kls H mm = some 2 ∧ H.2.2 650 = .inl (.int, n, .inl S)
section Y3
variable {d : Nat} {H H1 H' : a_H} {g m mm o p n : Nat} {S : Nat → Int32} {D D' : t_D} {hs hs' : List t_D} {kp kp' : Option t_D} {tx tx' : List Nat} {G G' : Nat → Nat} {N N' : Nat → Nat → Nat}
theorem cM_wN {k : Nat} {K : t_D} (e : wN H mm G N = H) (c : cM H k K) : k + 11 < mm ∨ mm + 19 < k := by
  have h0 : H.2.2 mm = .inr (2, wMF mm fun k => nI (G k)) := by rw [← e]; exact wN_obj
  have h1 : ∀ j, j < 19 → H.2.2 (mm + (j + 1)) = .inl (.int, wMN j, .inl fun i => nI (N j i)) := fun j hj => by rw [← e]; exact wN_arr hj
  obtain ⟨b1, b2, G', N', k1, k2, k3⟩ := c
  by_cases a : k + 11 < mm ∨ mm + 19 < k
  · exact a
  · exfalso
    rcases Nat.lt_trichotomy k mm with z | z | z
    · have := k2 (mm - k - 1) (by omega)
      rw [show k + (mm - k - 1 + 1) = mm by omega, h0] at this
      cases this
    · rw [z, h0] at k1
      cases k1
    · have := h1 (k - mm - 1) (by omega)
      rw [show mm + (k - mm - 1 + 1) = k by omega, k1] at this
      cases this
/-- the model's own cells are the class's in no way -/
theorem cI_wN (e : wN H mm G N = H) (i : cI H g m D hs kp tx) : cI (wN H mm G' N') g m D hs kp tx := by
  refine cI_kT (H := H) (H' := wN H mm G' N') (fun k K c => ?_) (Nat.le_refl _) (fun q _ hk => wN_out ?_) i
  · have ap := cM_wN e c
    obtain ⟨b1, b2, G', N', k1, k2, k3⟩ := c
    exact ⟨b1, b2, G', N', (wN_out (by omega)).trans k1, fun j hj => (wN_out (by omega)).trans (k2 j hj), k3⟩
  · by_cases a : q < mm ∨ mm + 19 < q
    · exact a
    · exfalso
      by_cases z : q = mm
      · rw [z, ← e, wN_obj] at hk
        exact k_tf hk.symm
      · rw [show q = mm + ((q - mm - 1) + 1) by omega, ← e, wN_arr (by omega)] at hk
        exact k_tf hk.symm
theorem wN_wN : wN (wN H mm G N) mm G' N' = wN H mm G' N' := (wM_ext rfl rfl wN_obj (fun k hk => wN_arr hk) fun q hq => (wN_out hq).trans (wN_out hq) : wN (wN H mm G N) mm G' N' = wM H mm _ _)
theorem wN_kind {x : Nat} {w : a_C} (e : wN H mm G N = H) (h : H.2.2 x = w) (h1 : ∀ t, w ≠ .inr (2, t)) (h2 : ∀ n f, w ≠ .inl (.int, n, .inl f)) : x < mm ∨ mm + 19 < x := by
  by_cases a : x < mm ∨ mm + 19 < x
  · exact a
  · exfalso
    by_cases z : x = mm
    · rw [z, ← e, wN_obj] at h
      exact h1 _ h.symm
    · rw [show x = mm + ((x - mm - 1) + 1) by omega, ← e, wN_arr (by omega)] at h
      exact h2 _ _ h.symm
/-- the model stays where it is while the class works -/
theorem wN_gO {a b : Nat} {f : Nat → Int64} (e : wN H mm G N = H) (hm : mm + 19 < H.1) (i : cI H g m D hs kp tx) (o3 : H.2.2 o = .inl (.long, 1, .inr (.inl f))) (x : gO H H1 m o a b) : wN H1 mm G N = H1 := by
  have ko := wN_kind e o3 (fun t z => by cases z) (fun n f z => by cases z)
  obtain ⟨kv, q, s, g1, g2, g3, cm, _⟩ := i
  have ap := cM_wN e cm
  have h0 : H.2.2 mm = .inr (2, wMF mm fun k => nI (G k)) := by rw [← e]; exact wN_obj
  have h1 : ∀ j, j < 19 → H.2.2 (mm + (j + 1)) = .inl (.int, wMN j, .inl fun i => nI (N j i)) := fun j hj => by rw [← e]; exact wN_arr hj
  exact (wM_ext rfl rfl ((x.2.2.2 mm (by omega) (by rw [h0]; rfl) (by omega) (by omega)).trans h0) (fun j hj => (x.2.2.2 _ (by omega) (by rw [h1 j hj]; rfl) (by omega) (by omega)).trans (h1 j hj)) (fun _ _ => rfl) : H1 = wN H1 mm G N).symm
theorem lI_S (L : lI H g mm o p n S D hs kp tx) : lS H mm n S := by
  obtain ⟨m, G, N, f, e, i, h1, h2, h3, h4, h5, h6, h7, h8, h9, h10, h11, h12, h13⟩ := L
  exact ⟨by rw [← h3]; exact wN_kls h1, h13⟩
theorem lS_rd {i : Nat} (s : lS H mm n S) (hi : i < n) (hn : n < 1000) : a_rdi H 650 a_int (nI i) = some (.int (S i)) := by
  unfold a_rdi
  rw [s.2]
  refine (if_pos ⟨rfl, a_out_nI hi (by omega), Or.inr ⟨rfl, rfl⟩⟩).trans ?_
  rw [nI_clamp (by omega)]
theorem lS_len (s : lS H mm n S) : a_len H 650 = some (.int (nI n)) := by
  unfold a_len
  rw [s.2]
  exact if_pos (Or.inr ⟨rfl, rfl, rfl⟩)
/-- the class's part done, the model's follows -/
theorem l_mod {M3 : a_M} {as : List Value} {c v m1 : Nat} {f f1 : Nat → Int64} {e : Nat → UInt32} (hs1 : 1024 ≤ mm) (h2 : mm + 19 < H.1) (h3 : wN H mm G N = H) (i : cI H g m D hs kp tx) (o1 : 1024 ≤ o) (o2 : o < H.1) (o3 : H.2.2 o = .inl (.long, 1, .inr (.inl f))) (p1 : 1024 ≤ p) (p2 : p < H.1) (p3 : H.2.2 p = .inl (.float, 1, .inr (.inr (.inl e)))) (sc : H.2.2 650 = .inl (.int, n, .inl S)) (x : gO H H1 m o 4000 70000) (i1 : cI H1 g m1 D' hs' kp' tx') (o4 : H1.2.2 o = .inl (.long, 1, .inr (.inl f1))) (z : zOm d M3 as H1 mm N G c v D' hs' kp' tx') : ∃ H2, a_call d M3 (.ref mm :: as) H1 = some (.inl (some (.int (nI v))), H2) ∧ lS H1 mm n S ∧ a_gf H2 mm 21 [2] = some (.int (nI c)) ∧ a_rdl H2 o (nI 0) = some (.long (f1 0)) ∧ lI H2 g mm o p n S D' hs' kp' tx' ∧ lG H H2 := by
  have e1 := wN_gO h3 h2 i o3 x
  obtain ⟨N', G', z1, z2, z3, z4, z5⟩ := z
  rw [e1] at z5
  have x1 := x.1
  have p4 : H1.2.2 p = .inl (.float, 1, .inr (.inr (.inl e))) := (x.2.2.2 p p2 (by rw [p3]; rfl) (cI_kind i p3 (fun t z => by cases z) (fun n f z => by cases z)) (fun z => by rw [z, o3] at p3; cases p3)).trans p3
  have hm1 : 1024 ≤ m := by
    obtain ⟨_, _, _, _, _, _, cm, _⟩ := i
    exact cm.1
  have sc1 : H1.2.2 650 = .inl (.int, n, .inl S) := (x.2.2.2 650 (by omega) (by rw [sc]; rfl) (Or.inl (by omega)) (by omega)).trans sc
  have oo := wN_kind e1 o4 (fun t z => by cases z) (fun n f z => by cases z)
  have pp := wN_kind e1 p4 (fun t z => by cases z) (fun n f z => by cases z)
  refine ⟨wN H1 mm G' N', z5, ⟨by rw [← e1]; exact wN_kls hs1, sc1⟩, ?_, ?_, ⟨m1, G', N', f1, e, cI_wN e1 i1, hs1, by show mm + 19 < H1.1; omega, wN_wN, z1, z2, z3, o1, by show o < H1.1; omega, (wN_out oo).trans o4, p1, by show p < H1.1; omega, (wN_out pp).trans p4, (wN_out (Or.inl (by omega))).trans sc1⟩, x.1, x.2.1, x.2.2.1⟩
  · have := wMg_last (h := H1) (F := fun k => nI (G' k)) (A := fun j i => nI (N' j i)) hs1
    rw [show nI c = (fun k => nI (G' k)) 21 from by dsimp only; rw [z4]]
    exact this
  · unfold a_rdl
    rw [(wN_out oo).trans o4]
    refine (if_pos ⟨a_out_nI (by decide) (by decide), o1⟩).trans ?_
    rw [nI_clamp (by decide)]
/-- an order that may refuse -/
theorem l_A {M0 M1 M3 : a_M} {as as0 : List Value} {k1 k2 : Nat} {bl : Bool} (L : lI H g mm o p n S D hs kp tx) (j : jO M1 M3 as k1 k2 bl D hs kp tx) (y : ∀ (m : Nat) (r : Value ⊕ Nat) (c v : Nat) (D' : t_D) (hs' : List t_D) (kp' : Option t_D) (tx' : List Nat) (f0 : Nat → Int64), cI H g m D hs kp tx → 1024 ≤ o → o < H.1 → H.2.2 o = .inl (.long, 1, .inr (.inl f0)) → kW r c v k1 k2 → (bl = true → v ≤ 1) → cZ (d+40) M1 as H g m r D' hs' kp' tx' → yO (d+41) M0 as0 H g m o c v D' hs' kp' tx') : ∃ (H1 H2 : a_H) (c v : Nat) (D' : t_D) (hs' : List t_D) (kp' : Option t_D) (tx' : List Nat), a_call (d+41) M0 as0 H = some (.inl (some (.int (nI c))), H1) ∧ a_call (d+41) M3 (.ref mm :: as) H1 = some (.inl (some (.int (nI v))), H2) ∧ lS H1 mm n S ∧ a_gf H2 mm 21 [2] = some (.int (nI c)) ∧ (c = 0 → a_rdl H2 o (nI 0) = some (.long (nI v).toInt64)) ∧ c ≤ 2 ∧ (bl = true → v ≤ 1) ∧ lI H2 g mm o p n S D' hs' kp' tx' ∧ lG H H2 := by
  obtain ⟨m, G, N, f, e, i, h1, h2, h3, h4, h5, h6, o1, o2, o3, p1, p2, p3, sc⟩ := L
  obtain ⟨r, c, v, D', hs', kp', tx', w, wb, jc, jm⟩ := j
  obtain ⟨H1, m1, f1, y1, y2, y3, y4, y5⟩ := y m r c v D' hs' kp' tx' f i o1 o2 o3 w wb (jc d H g m i)
  have ⟨H2, z1, z2, z3, z4, z5, z6⟩ := l_mod (d := d+41) h1 h2 h3 i o1 o2 o3 p1 p2 p3 sc y2 y1 y3 (jm d H1 mm N G h1 h4 h5 h6)
  refine ⟨H1, H2, c, v, D', hs', kp', tx', y5, z1, z2, z3, fun c0 => ?_, ?_, wb, z5, z6⟩
  · rw [z4, y4 c0]
  · rcases w with ⟨a, _⟩ | ⟨a, _⟩ | ⟨a, _⟩ <;> omega
/-- an order that refuses nothing -/
theorem l_B {M1 M3 : a_M} {as : List Value} (L : lI H g mm o p n S D hs kp tx) (j : jB M1 M3 as D hs kp tx) : ∃ (H1 H2 : a_H) (v : Nat) (D' : t_D) (hs' : List t_D) (kp' : Option t_D) (tx' : List Nat), a_call (d+41) M1 (.ref g :: as) H = some (.inl (some (.int (nI v))), H1) ∧ a_call (d+41) M3 (.ref mm :: as) H1 = some (.inl (some (.int (nI v))), H2) ∧ lS H1 mm n S ∧ lI H2 g mm o p n S D' hs' kp' tx' ∧ lG H H2 := by
  obtain ⟨m, G, N, f, e, i, h1, h2, h3, h4, h5, h6, o1, o2, o3, p1, p2, p3, sc⟩ := L
  obtain ⟨v, D', hs', kp', tx', jc, jm⟩ := j
  obtain ⟨H1, m1, y1, y2, y3⟩ := jc (d+1) H g m i
  have y3 : a_call (d+41) M1 (.ref g :: as) H = some (.inl (some (.int (nI v))), H1) := y3
  have ⟨H2, z1, z2, z3, z4, z5, z6⟩ := l_mod (d := d+41) h1 h2 h3 i o1 o2 o3 p1 p2 p3 sc (gO_R y2) y1 (o_keeps i y2 o2 o3) (jm d H1 mm N G h1 h4 h5 h6)
  exact ⟨H1, H2, v, D', hs', kp', tx', y3, z1, z2, z5, z6⟩
theorem l_kg (L : lI H g mm o p n S D hs kp tx) : a_kls H g = some 0 := by
  obtain ⟨m, G, N, f, e, i, _⟩ := L
  exact (cI_g i).2.2.1
end Y3
