/-- what an order of the model answers -/
def zOm (d : Nat) (M : a_M) (as : List Value) (h : a_H) (m : Nat) (N : Nat → Nat → Nat) (G : Nat → Nat) (c v : Nat) (D : t_D) (hs : List t_D) (kp : Option t_D) (tx : List Nat) : Prop := ∃ (N' : Nat → Nat → Nat) (G' : Nat → Nat), mI N' G' D hs kp ∧ mX N' G' tx ∧ G' 20 = 0 ∧ G' 21 = c ∧ a_call d M (.ref m :: as) (wN h m G N) = some (.inl (some (.int (nI v))), wN h m G' N')
/-- an order's outcome: a value, or one of two exceptions -/
def kW (r : Value ⊕ Nat) (c v k1 k2 : Nat) : Prop := (c = 0 ∧ r = .inl (.int (nI v))) ∨ (c = 1 ∧ r = .inr k1) ∨ (c = 2 ∧ r = .inr k2 ∧ k2 ≠ 0)
/-- an order that class and model answer alike -/
def jO (M1 M3 : a_M) (as : List Value) (k1 k2 : Nat) (bl : Bool) (D : t_D) (hs : List t_D) (kp : Option t_D) (tx : List Nat) : Prop := ∃ (r : Value ⊕ Nat) (c v : Nat) (D' : t_D) (hs' : List t_D) (kp' : Option t_D) (tx' : List Nat), kW r c v k1 k2 ∧ (bl = true → v ≤ 1) ∧ (∀ d H g m, cI H g m D hs kp tx → cZ (d+40) M1 as H g m r D' hs' kp' tx') ∧ ∀ d h mm N G, 1024 ≤ mm → mI N G D hs kp → mX N G tx → G 20 = 0 → zOm (d+41) M3 as h mm N G c v D' hs' kp' tx'
/-- the same of one that refuses nothing -/
def jB (M1 M3 : a_M) (as : List Value) (D : t_D) (hs : List t_D) (kp : Option t_D) (tx : List Nat) : Prop := ∃ (v : Nat) (D' : t_D) (hs' : List t_D) (kp' : Option t_D) (tx' : List Nat), (∀ d H g m, cI H g m D hs kp tx → cZ (d+40) M1 as H g m (.inl (.int (nI v))) D' hs' kp' tx') ∧ ∀ d h mm N G, 1024 ≤ mm → mI N G D hs kp → mX N G tx → G 20 = 0 → zOm (d+41) M3 as h mm N G 0 v D' hs' kp' tx'
section Y1
variable {d : Nat} {h : a_H} {m nb na ma co c v : Nat} {fr to le : Nat → Nat} {row : Nat → Nat → Nat} {D : t_D} {hs : List t_D} {kp : Option t_D} {tx : List Nat} {G : Nat → Nat} {N : Nat → Nat → Nat}
theorem zOm_Z {M : a_M} {as : List Value} (z : mZ d M as h m N G c v D hs kp) (x : mX N G tx) (g : G 20 = 0) : zOm d M as h m N G c v D hs kp tx := by
  obtain ⟨N', G', ⟨f3, f17, f18, fG⟩, z2, z3, z4⟩ := z
  exact ⟨N', G', z2, ⟨(fG 23 (by decide) (by decide) (by decide)).trans x.1, x.2.1, fun i c h => by rw [f17]; exact x.2.2 i c h⟩, (fG 20 (by decide) (by decide) (by decide)).trans g, z3, z4⟩
theorem zOm_H {M : a_M} {as : List Value} {E : t_D} (z : mZ d M as h m N G c v D (t_hi G hs E) kp) (x : mX N G tx) (g : G 20 = 0) : zOm d M as h m N G c v D (t_pu hs E) kp tx := by
  rw [show t_hi G hs E = t_pu hs E from if_neg (by omega)] at z
  exact zOm_Z z x g
theorem cI_OK {H : a_H} {g : Nat} (i : cI H g m (nb, na, fr, to, le, row, ma, co) hs kp tx) : t_OK nb na fr to le (t_ly na fr to le) row := by
  obtain ⟨h, G, N, rfl, hm, hq, c⟩ := cI_E i
  exact c.1
theorem q_vv {x z : Int32} (hn : nb ≤ 16) (q : ¬ (vB nb x ∧ vB nb z)) : (x < 0 ∨ nI nb - nI 1 < x) ∨ (∃ f, f < nb ∧ x = nI f) ∧ (z < 0 ∨ nI nb - nI 1 < z) := by
  rcases q_in (x := x) (n := nb) (by omega) with ⟨f, hf, e⟩ | ⟨_, q2⟩
  · rcases q_in (x := z) (n := nb) (by omega) with ⟨f', hf', e'⟩ | ⟨_, q2'⟩
    · exact absurd ⟨⟨f, hf, e⟩, ⟨f', hf', e'⟩⟩ q
    · exact Or.inr ⟨⟨f, hf, e⟩, q2'⟩
  · exact Or.inl q2
theorem j_hears {x : Int32} : jO MX1_hears MX3_hears [.int x] 11 0 false (nb, na, fr, to, le, row, ma, co) hs kp tx := by
  by_cases q : vB nb x
  · obtain ⟨k, hk, rfl⟩ := q
    exact ⟨_, 0, _, _, _, _, _, Or.inl ⟨rfl, rfl⟩, (by first | exact fun h => Bool.noConfusion h | exact fun _ => Nat.zero_le _ | exact fun _ => Bool.toNat_le _), fun d H g m i => x_hears i hk, fun d h mm N G hm i x g => zOm_Z (o_hears (d := d+33) hm i hk) x g⟩
  · exact ⟨_, 1, 0, _, _, _, _, Or.inr (Or.inl ⟨rfl, rfl⟩), (by first | exact fun h => Bool.noConfusion h | exact fun _ => Nat.zero_le _ | exact fun _ => Bool.toNat_le _), fun d H g m i => x_hears1 i q, fun d h mm N G hm i x g => zOm_Z (o_hears1 (d := d+33) hm i q) x g⟩
theorem j_layerOf {x : Int32} : jO MX1_layerOf MX3_layerOf [.int x] 11 0 false (nb, na, fr, to, le, row, ma, co) hs kp tx := by
  by_cases q : vB nb x
  · obtain ⟨k, hk, rfl⟩ := q
    exact ⟨_, 0, _, _, _, _, _, Or.inl ⟨rfl, rfl⟩, (by first | exact fun h => Bool.noConfusion h | exact fun _ => Nat.zero_le _ | exact fun _ => Bool.toNat_le _), fun d H g m i => x_layerOf i hk, fun d h mm N G hm i x g => zOm_Z (o_layerOf (d := d+32) hm i hk) x g⟩
  · exact ⟨_, 1, 0, _, _, _, _, Or.inr (Or.inl ⟨rfl, rfl⟩), (by first | exact fun h => Bool.noConfusion h | exact fun _ => Nat.zero_le _ | exact fun _ => Bool.toNat_le _), fun d H g m i => x_layerOf1 i q, fun d h mm N G hm i x g => zOm_Z (o_layerOf1 (d := d+32) hm i q) x g⟩
theorem j_layerByGoingBack {x : Int32} : jO MX1_layerByGoingBack MX3_layerByGoingBack [.int x] 11 0 false (nb, na, fr, to, le, row, ma, co) hs kp tx := by
  by_cases q : vB nb x
  · obtain ⟨k, hk, rfl⟩ := q
    exact ⟨_, 0, _, _, _, _, _, Or.inl ⟨rfl, rfl⟩, (by first | exact fun h => Bool.noConfusion h | exact fun _ => Nat.zero_le _ | exact fun _ => Bool.toNat_le _), fun d H g m i => x_layerByGoingBack i hk, fun d h mm N G hm i x g => zOm_Z (o_layerByGoingBack (d := d+32) hm i hk) x g⟩
  · exact ⟨_, 1, 0, _, _, _, _, Or.inr (Or.inl ⟨rfl, rfl⟩), (by first | exact fun h => Bool.noConfusion h | exact fun _ => Nat.zero_le _ | exact fun _ => Bool.toNat_le _), fun d H g m i => x_layerByGoingBack1 i q, fun d h mm N G hm i x g => zOm_Z (o_layerByGoingBack1 (d := d+32) hm i q) x g⟩
theorem j_leastOf {x : Int32} : jO MX1_leastOf MX3_leastOf [.int x] 11 0 false (nb, na, fr, to, le, row, ma, co) hs kp tx := by
  by_cases q : vB nb x
  · obtain ⟨k, hk, rfl⟩ := q
    exact ⟨_, 0, _, _, _, _, _, Or.inl ⟨rfl, rfl⟩, (by first | exact fun h => Bool.noConfusion h | exact fun _ => Nat.zero_le _ | exact fun _ => Bool.toNat_le _), fun d H g m i => x_leastOf i hk, fun d h mm N G hm i x g => zOm_Z (o_leastOf (d := d+33) hm i hk) x g⟩
  · exact ⟨_, 1, 0, _, _, _, _, Or.inr (Or.inl ⟨rfl, rfl⟩), (by first | exact fun h => Bool.noConfusion h | exact fun _ => Nat.zero_le _ | exact fun _ => Bool.toNat_le _), fun d H g m i => x_leastOf1 i q, fun d h mm N G hm i x g => zOm_Z (o_leastOf1 (d := d+33) hm i q) x g⟩
theorem j_placeOf {x : Int32} : jO MX1_placeOf MX3_placeOf [.int x] 11 0 false (nb, na, fr, to, le, row, ma, co) hs kp tx := by
  by_cases q : vB nb x
  · obtain ⟨k, hk, rfl⟩ := q
    exact ⟨_, 0, _, _, _, _, _, Or.inl ⟨rfl, rfl⟩, (by first | exact fun h => Bool.noConfusion h | exact fun _ => Nat.zero_le _ | exact fun _ => Bool.toNat_le _), fun d H g m i => x_placeOf i hk, fun d h mm N G hm i x g => zOm_Z (o_placeOf (d := d+33) hm i hk) x g⟩
  · exact ⟨_, 1, 0, _, _, _, _, Or.inr (Or.inl ⟨rfl, rfl⟩), (by first | exact fun h => Bool.noConfusion h | exact fun _ => Nat.zero_le _ | exact fun _ => Bool.toNat_le _), fun d H g m i => x_placeOf1 i q, fun d h mm N G hm i x g => zOm_Z (o_placeOf1 (d := d+33) hm i q) x g⟩
theorem j_fromOf {x : Int32} : jO MX1_fromOf MX3_fromOf [.int x] 11 0 false (nb, na, fr, to, le, row, ma, co) hs kp tx := by
  by_cases q : vB na x
  · obtain ⟨k, hk, rfl⟩ := q
    exact ⟨_, 0, _, _, _, _, _, Or.inl ⟨rfl, rfl⟩, (by first | exact fun h => Bool.noConfusion h | exact fun _ => Nat.zero_le _ | exact fun _ => Bool.toNat_le _), fun d H g m i => x_fromOf i hk, fun d h mm N G hm i x g => zOm_Z (o_fromOf (d := d+32) hm i hk) x g⟩
  · exact ⟨_, 1, 0, _, _, _, _, Or.inr (Or.inl ⟨rfl, rfl⟩), (by first | exact fun h => Bool.noConfusion h | exact fun _ => Nat.zero_le _ | exact fun _ => Bool.toNat_le _), fun d H g m i => x_fromOf1 i q, fun d h mm N G hm i x g => zOm_Z (o_fromOf1 (d := d+32) hm i q) x g⟩
theorem j_toOf {x : Int32} : jO MX1_toOf MX3_toOf [.int x] 11 0 false (nb, na, fr, to, le, row, ma, co) hs kp tx := by
  by_cases q : vB na x
  · obtain ⟨k, hk, rfl⟩ := q
    exact ⟨_, 0, _, _, _, _, _, Or.inl ⟨rfl, rfl⟩, (by first | exact fun h => Bool.noConfusion h | exact fun _ => Nat.zero_le _ | exact fun _ => Bool.toNat_le _), fun d H g m i => x_toOf i hk, fun d h mm N G hm i x g => zOm_Z (o_toOf (d := d+32) hm i hk) x g⟩
  · exact ⟨_, 1, 0, _, _, _, _, Or.inr (Or.inl ⟨rfl, rfl⟩), (by first | exact fun h => Bool.noConfusion h | exact fun _ => Nat.zero_le _ | exact fun _ => Bool.toNat_le _), fun d H g m i => x_toOf1 i q, fun d h mm N G hm i x g => zOm_Z (o_toOf1 (d := d+32) hm i q) x g⟩
theorem j_isNeedless {x : Int32} : jO MX1_isNeedless MX3_isNeedless [.int x] 11 0 true (nb, na, fr, to, le, row, ma, co) hs kp tx := by
  by_cases q : vB na x
  · obtain ⟨k, hk, rfl⟩ := q
    exact ⟨_, 0, _, _, _, _, _, Or.inl ⟨rfl, rfl⟩, (by first | exact fun h => Bool.noConfusion h | exact fun _ => Nat.zero_le _ | exact fun _ => Bool.toNat_le _), fun d H g m i => x_isNeedless i hk, fun d h mm N G hm i x g => zOm_Z (o_isNeedless (d := d+33) hm i hk) x g⟩
  · exact ⟨_, 1, 0, _, _, _, _, Or.inr (Or.inl ⟨rfl, rfl⟩), (by first | exact fun h => Bool.noConfusion h | exact fun _ => Nat.zero_le _ | exact fun _ => Bool.toNat_le _), fun d H g m i => x_isNeedless1 i q, fun d h mm N G hm i x g => zOm_Z (o_isNeedless1 (d := d+33) hm i q) x g⟩
theorem j_spanOf {x : Int32} : jO MX1_spanOf MX3_spanOf [.int x] 11 0 false (nb, na, fr, to, le, row, ma, co) hs kp tx := by
  by_cases q : vB na x
  · obtain ⟨k, hk, rfl⟩ := q
    exact ⟨_, 0, _, _, _, _, _, Or.inl ⟨rfl, rfl⟩, (by first | exact fun h => Bool.noConfusion h | exact fun _ => Nat.zero_le _ | exact fun _ => Bool.toNat_le _), fun d H g m i => x_spanOf i hk, fun d h mm N G hm i x g => zOm_Z (o_spanOf (d := d+33) hm i hk) x g⟩
  · exact ⟨_, 1, 0, _, _, _, _, Or.inr (Or.inl ⟨rfl, rfl⟩), (by first | exact fun h => Bool.noConfusion h | exact fun _ => Nat.zero_le _ | exact fun _ => Bool.toNat_le _), fun d H g m i => x_spanOf1 i q, fun d h mm N G hm i x g => zOm_Z (o_spanOf1 (d := d+33) hm i q) x g⟩
theorem j_crossingsOf {x : Int32} : jO MX1_crossingsOf MX3_crossingsOf [.int x] 11 0 false (nb, na, fr, to, le, row, ma, co) hs kp tx := by
  by_cases q : vB na x
  · obtain ⟨k, hk, rfl⟩ := q
    exact ⟨_, 0, _, _, _, _, _, Or.inl ⟨rfl, rfl⟩, (by first | exact fun h => Bool.noConfusion h | exact fun _ => Nat.zero_le _ | exact fun _ => Bool.toNat_le _), fun d H g m i => x_crossingsOf i hk, fun d h mm N G hm i x g => zOm_Z (o_crossingsOf (d := d+33) hm i hk) x g⟩
  · exact ⟨_, 1, 0, _, _, _, _, Or.inr (Or.inl ⟨rfl, rfl⟩), (by first | exact fun h => Bool.noConfusion h | exact fun _ => Nat.zero_le _ | exact fun _ => Bool.toNat_le _), fun d H g m i => x_crossingsOf1 i q, fun d h mm N G hm i x g => zOm_Z (o_crossingsOf1 (d := d+33) hm i q) x g⟩
theorem j_bendsOf {x : Int32} : jO MX1_bendsOf MX3_bendsOf [.int x] 11 0 false (nb, na, fr, to, le, row, ma, co) hs kp tx := by
  by_cases q : vB na x
  · obtain ⟨k, hk, rfl⟩ := q
    exact ⟨_, 0, _, _, _, _, _, Or.inl ⟨rfl, rfl⟩, (by first | exact fun h => Bool.noConfusion h | exact fun _ => Nat.zero_le _ | exact fun _ => Bool.toNat_le _), fun d H g m i => x_bendsOf i hk, fun d h mm N G hm i x g => zOm_Z (o_bendsOf (d := d+33) hm i hk) x g⟩
  · exact ⟨_, 1, 0, _, _, _, _, Or.inr (Or.inl ⟨rfl, rfl⟩), (by first | exact fun h => Bool.noConfusion h | exact fun _ => Nat.zero_le _ | exact fun _ => Bool.toNat_le _), fun d H g m i => x_bendsOf1 i q, fun d h mm N G hm i x g => zOm_Z (o_bendsOf1 (d := d+33) hm i q) x g⟩
theorem j_pointsOf {x : Int32} : jO MX1_pointsOf MX3_pointsOf [.int x] 11 0 false (nb, na, fr, to, le, row, ma, co) hs kp tx := by
  by_cases q : vB (t_dp (t_ly na fr to le) nb) x
  · obtain ⟨k, hk, rfl⟩ := q
    exact ⟨_, 0, _, _, _, _, _, Or.inl ⟨rfl, rfl⟩, (by first | exact fun h => Bool.noConfusion h | exact fun _ => Nat.zero_le _ | exact fun _ => Bool.toNat_le _), fun d H g m i => x_pointsOf i hk, fun d h mm N G hm i x g => zOm_Z (o_pointsOf (d := d+33) hm i hk) x g⟩
  · exact ⟨_, 1, 0, _, _, _, _, Or.inr (Or.inl ⟨rfl, rfl⟩), (by first | exact fun h => Bool.noConfusion h | exact fun _ => Nat.zero_le _ | exact fun _ => Bool.toNat_le _), fun d H g m i => x_pointsOf1 i q, fun d h mm N G hm i x g => zOm_Z (o_pointsOf1 (d := d+33) hm i q) x g⟩
theorem j_crossingsBelow {x : Int32} : jO MX1_crossingsBelow MX3_crossingsBelow [.int x] 11 0 false (nb, na, fr, to, le, row, ma, co) hs kp tx := by
  by_cases q : vB (t_dp (t_ly na fr to le) nb) x
  · obtain ⟨k, hk, rfl⟩ := q
    exact ⟨_, 0, _, _, _, _, _, Or.inl ⟨rfl, rfl⟩, (by first | exact fun h => Bool.noConfusion h | exact fun _ => Nat.zero_le _ | exact fun _ => Bool.toNat_le _), fun d H g m i => x_crossingsBelow i hk, fun d h mm N G hm i x g => zOm_Z (o_crossingsBelow (d := d+33) hm i hk) x g⟩
  · exact ⟨_, 1, 0, _, _, _, _, Or.inr (Or.inl ⟨rfl, rfl⟩), (by first | exact fun h => Bool.noConfusion h | exact fun _ => Nat.zero_le _ | exact fun _ => Bool.toNat_le _), fun d H g m i => x_crossingsBelow1 i q, fun d h mm N G hm i x g => zOm_Z (o_crossingsBelow1 (d := d+33) hm i q) x g⟩
theorem j_removeArrow {x : Int32} : jO MX1_removeArrow MX3_removeArrow [.int x] 11 0 false (nb, na, fr, to, le, row, ma, co) hs kp tx := by
  by_cases q : vB na x
  · obtain ⟨k, hk, rfl⟩ := q
    exact ⟨_, 0, _, _, _, _, _, Or.inl ⟨rfl, rfl⟩, (by first | exact fun h => Bool.noConfusion h | exact fun _ => Nat.zero_le _ | exact fun _ => Bool.toNat_le _), fun d H g m i => x_removeArrow i hk, fun d h mm N G hm i x g => zOm_H (o_removeArrow (d := d+33) hm i (by omega) hk) x g⟩
  · exact ⟨_, 1, 0, _, _, _, _, Or.inr (Or.inl ⟨rfl, rfl⟩), (by first | exact fun h => Bool.noConfusion h | exact fun _ => Nat.zero_le _ | exact fun _ => Bool.toNat_le _), fun d H g m i => x_removeArrow1 i q, fun d h mm N G hm i x g => zOm_Z (o_removeArrow1 (d := d+33) hm i q) x g⟩
theorem j_ways {x z : Int32} : jO MX1_ways MX3_ways [.int x, .int z] 11 0 false (nb, na, fr, to, le, row, ma, co) hs kp tx := by
  by_cases q : vB nb x ∧ vB nb z
  · obtain ⟨⟨b, hb, rfl⟩, ⟨a, ha, rfl⟩⟩ := q
    exact ⟨_, 0, _, _, _, _, _, Or.inl ⟨rfl, rfl⟩, (by first | exact fun h => Bool.noConfusion h | exact fun _ => Nat.zero_le _ | exact fun _ => Bool.toNat_le _), fun d H g m i => x_ways i hb ha, fun d h mm N G hm i x g => zOm_Z (o_ways (d := d+32) hm i hb ha) x g⟩
  · exact ⟨_, 1, 0, _, _, _, _, Or.inr (Or.inl ⟨rfl, rfl⟩), (by first | exact fun h => Bool.noConfusion h | exact fun _ => Nat.zero_le _ | exact fun _ => Bool.toNat_le _), fun d H g m i => x_ways1 i q, fun d h mm N G hm i x g => zOm_Z (o_ways1 (d := d+32) hm i q) x g⟩
theorem j_waysByGoingBack {x z : Int32} : jO MX1_waysByGoingBack MX3_waysByGoingBack [.int x, .int z] 11 0 false (nb, na, fr, to, le, row, ma, co) hs kp tx := by
  by_cases q : vB nb x ∧ vB nb z
  · obtain ⟨⟨b, hb, rfl⟩, ⟨a, ha, rfl⟩⟩ := q
    exact ⟨_, 0, _, _, _, _, _, Or.inl ⟨rfl, rfl⟩, (by first | exact fun h => Bool.noConfusion h | exact fun _ => Nat.zero_le _ | exact fun _ => Bool.toNat_le _), fun d H g m i => x_waysByGoingBack i hb ha, fun d h mm N G hm i x g => zOm_Z (o_waysByGoingBack (d := d+32) hm i hb ha) x g⟩
  · exact ⟨_, 1, 0, _, _, _, _, Or.inr (Or.inl ⟨rfl, rfl⟩), (by first | exact fun h => Bool.noConfusion h | exact fun _ => Nat.zero_le _ | exact fun _ => Bool.toNat_le _), fun d H g m i => x_waysByGoingBack1 i q, fun d h mm N G hm i x g => zOm_Z (o_waysByGoingBack1 (d := d+32) hm i q) x g⟩
theorem j_doesHear {x z : Int32} : jO MX1_doesHear MX3_doesHear [.int x, .int z] 11 0 true (nb, na, fr, to, le, row, ma, co) hs kp tx := by
  by_cases q : vB nb x ∧ vB nb z
  · obtain ⟨⟨b, hb, rfl⟩, ⟨a, ha, rfl⟩⟩ := q
    exact ⟨_, 0, _, _, _, _, _, Or.inl ⟨rfl, rfl⟩, (by first | exact fun h => Bool.noConfusion h | exact fun _ => Nat.zero_le _ | exact fun _ => Bool.toNat_le _), fun d H g m i => x_doesHear i hb ha, fun d h mm N G hm i x g => zOm_Z (o_doesHear (d := d+33) hm i hb ha) x g⟩
  · exact ⟨_, 1, 0, _, _, _, _, Or.inr (Or.inl ⟨rfl, rfl⟩), (by first | exact fun h => Bool.noConfusion h | exact fun _ => Nat.zero_le _ | exact fun _ => Bool.toNat_le _), fun d H g m i => x_doesHear1 i q, fun d h mm N G hm i x g => zOm_Z (o_doesHear1 (d := d+33) hm i q) x g⟩
theorem j_whyRefused {x z : Int32} : jO MX1_whyRefused MX3_whyRefused [.int x, .int z] 11 0 false (nb, na, fr, to, le, row, ma, co) hs kp tx := by
  by_cases q : vB nb x ∧ vB nb z
  · obtain ⟨⟨b, hb, rfl⟩, ⟨a, ha, rfl⟩⟩ := q
    exact ⟨_, 0, _, _, _, _, _, Or.inl ⟨rfl, rfl⟩, (by first | exact fun h => Bool.noConfusion h | exact fun _ => Nat.zero_le _ | exact fun _ => Bool.toNat_le _), fun d H g m i => x_whyRefused i hb ha, fun d h mm N G hm i x g => zOm_Z (o_whyRefused (d := d+33) hm i hb ha) x g⟩
  · exact ⟨_, 1, 0, _, _, _, _, Or.inr (Or.inl ⟨rfl, rfl⟩), (by first | exact fun h => Bool.noConfusion h | exact fun _ => Nat.zero_le _ | exact fun _ => Bool.toNat_le _), fun d H g m i => x_whyRefused1 i q, fun d h mm N G hm i x g => zOm_Z (o_whyRefused1 (d := d+33) hm i q) x g⟩
theorem j_fewestArrows {x z : Int32} : jO MX1_fewestArrows MX3_fewestArrows [.int x, .int z] 11 10 false (nb, na, fr, to, le, row, ma, co) hs kp tx := by
  by_cases q : vB nb x ∧ vB nb z
  · obtain ⟨⟨b, hb, rfl⟩, ⟨a, ha, rfl⟩⟩ := q
    by_cases w : t_G (t_wk 1) (t_wi 1 b) na fr to 25 a = 4294967295
    · exact ⟨_, 2, 0, _, _, _, _, Or.inr (Or.inr ⟨rfl, rfl, by decide⟩), (by first | exact fun h => Bool.noConfusion h | exact fun _ => Nat.zero_le _ | exact fun _ => Bool.toNat_le _), fun d H g m i => x_fewestArrows2 i hb ha w, fun d h mm N G hm i x g => zOm_Z (by
        have z := o_fewestArrows (d := d+32) (h := h) hm i hb ha
        rw [if_pos w, if_pos w] at z
        exact z) x g⟩
    · exact ⟨_, 0, _, _, _, _, _, Or.inl ⟨rfl, rfl⟩, (by first | exact fun h => Bool.noConfusion h | exact fun _ => Nat.zero_le _ | exact fun _ => Bool.toNat_le _), fun d H g m i => x_fewestArrows i hb ha w, fun d h mm N G hm i x g => zOm_Z (by
        have z := o_fewestArrows (d := d+32) (h := h) hm i hb ha
        rw [if_neg w, if_neg w] at z
        exact z) x g⟩
  · exact ⟨_, 1, 0, _, _, _, _, Or.inr (Or.inl ⟨rfl, rfl⟩), (by first | exact fun h => Bool.noConfusion h | exact fun _ => Nat.zero_le _ | exact fun _ => Bool.toNat_le _), fun d H g m i => x_fewestArrows1 i q, fun d h mm N G hm i x g => zOm_Z (o_fewestArrows1 (d := d+32) hm i q) x g⟩
theorem j_mostArrows {x z : Int32} : jO MX1_mostArrows MX3_mostArrows [.int x, .int z] 11 10 false (nb, na, fr, to, le, row, ma, co) hs kp tx := by
  by_cases q : vB nb x ∧ vB nb z
  · obtain ⟨⟨b, hb, rfl⟩, ⟨a, ha, rfl⟩⟩ := q
    by_cases w : t_G (t_wk 2) (t_wi 2 b) na fr to 25 a = 4294967295
    · exact ⟨_, 2, 0, _, _, _, _, Or.inr (Or.inr ⟨rfl, rfl, by decide⟩), (by first | exact fun h => Bool.noConfusion h | exact fun _ => Nat.zero_le _ | exact fun _ => Bool.toNat_le _), fun d H g m i => x_mostArrows2 i hb ha w, fun d h mm N G hm i x g => zOm_Z (by
        have z := o_mostArrows (d := d+32) (h := h) hm i hb ha
        rw [if_pos w, if_pos w] at z
        exact z) x g⟩
    · exact ⟨_, 0, _, _, _, _, _, Or.inl ⟨rfl, rfl⟩, (by first | exact fun h => Bool.noConfusion h | exact fun _ => Nat.zero_le _ | exact fun _ => Bool.toNat_le _), fun d H g m i => x_mostArrows i hb ha w, fun d h mm N G hm i x g => zOm_Z (by
        have z := o_mostArrows (d := d+32) (h := h) hm i hb ha
        rw [if_neg w, if_neg w] at z
        exact z) x g⟩
  · exact ⟨_, 1, 0, _, _, _, _, Or.inr (Or.inl ⟨rfl, rfl⟩), (by first | exact fun h => Bool.noConfusion h | exact fun _ => Nat.zero_le _ | exact fun _ => Bool.toNat_le _), fun d H g m i => x_mostArrows1 i q, fun d h mm N G hm i x g => zOm_Z (o_mostArrows1 (d := d+32) hm i q) x g⟩
theorem j_pointAt {x z : Int32} : jO MX1_pointAt MX3_pointAt [.int x, .int z] 11 10 false (nb, na, fr, to, le, row, ma, co) hs kp tx := by
  by_cases q : ¬ vB (t_dp (t_ly na fr to le) nb) x ∨ z < 0
  · exact ⟨_, 1, 0, _, _, _, _, Or.inr (Or.inl ⟨rfl, rfl⟩), (by first | exact fun h => Bool.noConfusion h | exact fun _ => Nat.zero_le _ | exact fun _ => Bool.toNat_le _), fun d H g m i => x_pointAt1 i q, fun d h mm N G hm i x g => zOm_Z (o_pointAt1 (d := d+33) hm i q) x g⟩
  · have q1 : vB (t_dp (t_ly na fr to le) nb) x := Classical.byContradiction fun w => q (Or.inl w)
    obtain ⟨l, hl, rfl⟩ := q1
    obtain ⟨p, hp2, rfl⟩ := q_nat (fun w => q (Or.inr w))
    by_cases hp : p < t_cn nb na fr to (t_ly na fr to le) l
    · exact ⟨_, 0, _, _, _, _, _, Or.inl ⟨rfl, rfl⟩, (by first | exact fun h => Bool.noConfusion h | exact fun _ => Nat.zero_le _ | exact fun _ => Bool.toNat_le _), fun d H g m i => x_pointAt i hl hp, fun d h mm N G hm i x g => zOm_Z (o_pointAt (d := d+33) hm i hl hp) x g⟩
    · exact ⟨_, 2, 0, _, _, _, _, Or.inr (Or.inr ⟨rfl, rfl, by decide⟩), (by first | exact fun h => Bool.noConfusion h | exact fun _ => Nat.zero_le _ | exact fun _ => Bool.toNat_le _), fun d H g m i => x_pointAt2 i hl (Nat.le_of_not_lt hp) hp2, fun d h mm N G hm i x g => zOm_Z (o_pointAt2 (d := d+33) hm i hl (Nat.le_of_not_lt hp) hp2) x g⟩
theorem j_medianAbove {x z : Int32} : jO MX1_medianAbove MX3_medianAbove [.int x, .int z] 11 10 false (nb, na, fr, to, le, row, ma, co) hs kp tx := by
  by_cases q : ¬ vB (t_dp (t_ly na fr to le) nb) x ∨ z < 0
  · exact ⟨_, 1, 0, _, _, _, _, Or.inr (Or.inl ⟨rfl, rfl⟩), (by first | exact fun h => Bool.noConfusion h | exact fun _ => Nat.zero_le _ | exact fun _ => Bool.toNat_le _), fun d H g m i => x_medianAbove1 i q, fun d h mm N G hm i x g => zOm_Z (o_medianAbove1 (d := d+33) hm i q) x g⟩
  · have q1 : vB (t_dp (t_ly na fr to le) nb) x := Classical.byContradiction fun w => q (Or.inl w)
    obtain ⟨l, hl, rfl⟩ := q1
    obtain ⟨p, hp2, rfl⟩ := q_nat (fun w => q (Or.inr w))
    by_cases hp : p < t_cn nb na fr to (t_ly na fr to le) l
    · exact ⟨_, 0, _, _, _, _, _, Or.inl ⟨rfl, rfl⟩, (by first | exact fun h => Bool.noConfusion h | exact fun _ => Nat.zero_le _ | exact fun _ => Bool.toNat_le _), fun d H g m i => x_medianAbove i hl hp, fun d h mm N G hm i x g => zOm_Z (o_medianAbove (d := d+33) hm i hl hp) x g⟩
    · exact ⟨_, 2, 0, _, _, _, _, Or.inr (Or.inr ⟨rfl, rfl, by decide⟩), (by first | exact fun h => Bool.noConfusion h | exact fun _ => Nat.zero_le _ | exact fun _ => Bool.toNat_le _), fun d H g m i => x_medianAbove2 i hl (Nat.le_of_not_lt hp) hp2, fun d h mm N G hm i x g => zOm_Z (o_medianAbove2 (d := d+33) hm i hl (Nat.le_of_not_lt hp) hp2) x g⟩
theorem j_medianBelow {x z : Int32} : jO MX1_medianBelow MX3_medianBelow [.int x, .int z] 11 10 false (nb, na, fr, to, le, row, ma, co) hs kp tx := by
  by_cases q : ¬ vB (t_dp (t_ly na fr to le) nb) x ∨ z < 0
  · exact ⟨_, 1, 0, _, _, _, _, Or.inr (Or.inl ⟨rfl, rfl⟩), (by first | exact fun h => Bool.noConfusion h | exact fun _ => Nat.zero_le _ | exact fun _ => Bool.toNat_le _), fun d H g m i => x_medianBelow1 i q, fun d h mm N G hm i x g => zOm_Z (o_medianBelow1 (d := d+33) hm i q) x g⟩
  · have q1 : vB (t_dp (t_ly na fr to le) nb) x := Classical.byContradiction fun w => q (Or.inl w)
    obtain ⟨l, hl, rfl⟩ := q1
    obtain ⟨p, hp2, rfl⟩ := q_nat (fun w => q (Or.inr w))
    by_cases hp : p < t_cn nb na fr to (t_ly na fr to le) l
    · exact ⟨_, 0, _, _, _, _, _, Or.inl ⟨rfl, rfl⟩, (by first | exact fun h => Bool.noConfusion h | exact fun _ => Nat.zero_le _ | exact fun _ => Bool.toNat_le _), fun d H g m i => x_medianBelow i hl hp, fun d h mm N G hm i x g => zOm_Z (o_medianBelow (d := d+33) hm i hl hp) x g⟩
    · exact ⟨_, 2, 0, _, _, _, _, Or.inr (Or.inr ⟨rfl, rfl, by decide⟩), (by first | exact fun h => Bool.noConfusion h | exact fun _ => Nat.zero_le _ | exact fun _ => Bool.toNat_le _), fun d H g m i => x_medianBelow2 i hl (Nat.le_of_not_lt hp) hp2, fun d h mm N G hm i x g => zOm_Z (o_medianBelow2 (d := d+33) hm i hl (Nat.le_of_not_lt hp) hp2) x g⟩
theorem j_columnAt {x z : Int32} : jO MX1_columnAt MX3_columnAt [.int x, .int z] 11 10 false (nb, na, fr, to, le, row, ma, co) hs kp tx := by
  by_cases q : ¬ vB (t_dp (t_ly na fr to le) nb) x ∨ z < 0
  · exact ⟨_, 1, 0, _, _, _, _, Or.inr (Or.inl ⟨rfl, rfl⟩), (by first | exact fun h => Bool.noConfusion h | exact fun _ => Nat.zero_le _ | exact fun _ => Bool.toNat_le _), fun d H g m i => x_columnAt1 i q, fun d h mm N G hm i x g => zOm_Z (o_columnAt1 (d := d+33) hm i q) x g⟩
  · have q1 : vB (t_dp (t_ly na fr to le) nb) x := Classical.byContradiction fun w => q (Or.inl w)
    obtain ⟨l, hl, rfl⟩ := q1
    obtain ⟨p, hp2, rfl⟩ := q_nat (fun w => q (Or.inr w))
    by_cases hp : p < t_cn nb na fr to (t_ly na fr to le) l
    · exact ⟨_, 0, _, _, _, _, _, Or.inl ⟨rfl, rfl⟩, (by first | exact fun h => Bool.noConfusion h | exact fun _ => Nat.zero_le _ | exact fun _ => Bool.toNat_le _), fun d H g m i => x_columnAt i hl hp, fun d h mm N G hm i x g => zOm_Z (o_columnAt (d := d+33) hm i hl hp) x g⟩
    · exact ⟨_, 2, 0, _, _, _, _, Or.inr (Or.inr ⟨rfl, rfl, by decide⟩), (by first | exact fun h => Bool.noConfusion h | exact fun _ => Nat.zero_le _ | exact fun _ => Bool.toNat_le _), fun d H g m i => x_columnAt2 i hl (Nat.le_of_not_lt hp) hp2, fun d h mm N G hm i x g => zOm_Z (o_columnAt2 (d := d+33) hm i hl (Nat.le_of_not_lt hp) hp2) x g⟩
theorem j_addBox : jO MX1_addBox MX3_addBox [] 9 0 false (nb, na, fr, to, le, row, ma, co) hs kp tx := by
  by_cases q : nb = 16
  · exact ⟨_, 1, 0, _, _, _, _, Or.inr (Or.inl ⟨rfl, rfl⟩), (by first | exact fun h => Bool.noConfusion h | exact fun _ => Nat.zero_le _ | exact fun _ => Bool.toNat_le _), fun d H g m i => x_addBox0 i q, fun d h mm N G hm i x g => zOm_Z (o_addBox0 (d := d+33) hm i q) x g⟩
  · exact ⟨_, 0, _, _, _, _, _, Or.inl ⟨rfl, rfl⟩, (by first | exact fun h => Bool.noConfusion h | exact fun _ => Nat.zero_le _ | exact fun _ => Bool.toNat_le _), fun d H g m i => x_addBox i (by have := (cI_OK i).1; omega), fun d h mm N G hm i x g => zOm_H (o_addBox (d := d+33) hm i (by omega) (by have := i.1.1.1; omega)) x g⟩
theorem j_addArrow {x z : Int32} : jO MX1_addArrow MX3_addArrow [.int x, .int z] 11 9 false (nb, na, fr, to, le, row, ma, co) hs kp tx := by
  by_cases q : vB nb x ∧ vB nb z
  · obtain ⟨⟨f, hf, rfl⟩, ⟨t, ht, rfl⟩⟩ := q
    by_cases w : 0 < t_rf na fr to f t
    · exact ⟨_, 2, 0, _, _, _, _, Or.inr (Or.inr ⟨rfl, rfl, by decide⟩), (by first | exact fun h => Bool.noConfusion h | exact fun _ => Nat.zero_le _ | exact fun _ => Bool.toNat_le _), fun d H g m i => x_addArrow2 i hf ht w, fun d h mm N G hm i x g => zOm_Z (o_addArrow2 (d := d+33) hm i hf ht w) x g⟩
    · have w : t_rf na fr to f t = 0 := by omega
      exact ⟨_, 0, _, _, _, _, _, Or.inl ⟨rfl, rfl⟩, (by first | exact fun h => Bool.noConfusion h | exact fun _ => Nat.zero_le _ | exact fun _ => Bool.toNat_le _), fun d H g m i => x_addArrow i hf ht w, fun d h mm N G hm i x g => zOm_H (o_addArrow (d := d+33) hm i (by omega) hf ht w) x g⟩
  · exact ⟨_, 1, 0, _, _, _, _, Or.inr (Or.inl ⟨rfl, rfl⟩), (by first | exact fun h => Bool.noConfusion h | exact fun _ => Nat.zero_le _ | exact fun _ => Bool.toNat_le _), fun d H g m i => x_addArrow1 i q, fun d h mm N G hm i x g => zOm_Z (o_addArrow1 (d := d+33) hm i (q_vv i.1.1.1 q)) x g⟩
theorem j_addChain {x z u : Int32} : jO MX1_addChain MX3_addChain [.int x, .int z, .int u] 11 9 false (nb, na, fr, to, le, row, ma, co) hs kp tx := by
  by_cases q : vB nb x ∧ vB nb z ∧ vB nb u
  · obtain ⟨⟨a, ha, rfl⟩, ⟨b, hb, rfl⟩, ⟨e, he, rfl⟩⟩ := q
    by_cases w : 0 < t_nc na fr to a b e
    · exact ⟨_, 2, 0, _, _, _, _, Or.inr (Or.inr ⟨rfl, rfl, by decide⟩), (by first | exact fun h => Bool.noConfusion h | exact fun _ => Nat.zero_le _ | exact fun _ => Bool.toNat_le _), fun d H g m i => x_addChain2 i ha hb he w, fun d h mm N G hm i x g => zOm_Z (o_addChain2 (d := d+33) hm i ha hb he w) x g⟩
    · have w : t_nc na fr to a b e = 0 := by omega
      exact ⟨_, 0, _, _, _, _, _, Or.inl ⟨rfl, rfl⟩, (by first | exact fun h => Bool.noConfusion h | exact fun _ => Nat.zero_le _ | exact fun _ => Bool.toNat_le _), fun d H g m i => x_addChain i ha hb he w, fun d h mm N G hm i x g => zOm_H (o_addChain (d := d+33) hm i (by omega) ha hb he w) x g⟩
  · exact ⟨_, 1, 0, _, _, _, _, Or.inr (Or.inl ⟨rfl, rfl⟩), (by first | exact fun h => Bool.noConfusion h | exact fun _ => Nat.zero_le _ | exact fun _ => Bool.toNat_le _), fun d H g m i => x_addChain1 i q, fun d h mm N G hm i x g => zOm_Z (o_addChain1 (d := d+33) hm i q) x g⟩
theorem j_holdDown {x z : Int32} : jO MX1_holdDown MX3_holdDown [.int x, .int z] 11 0 false (nb, na, fr, to, le, row, ma, co) hs kp tx := by
  by_cases q : vB nb x ∧ vB 10 z
  · obtain ⟨⟨b, hb, rfl⟩, ⟨l, hl, rfl⟩⟩ := q
    exact ⟨_, 0, _, _, _, _, _, Or.inl ⟨rfl, rfl⟩, (by first | exact fun h => Bool.noConfusion h | exact fun _ => Nat.zero_le _ | exact fun _ => Bool.toNat_le _), fun d H g m i => x_holdDown i hb hl, fun d h mm N G hm i x g => zOm_H (o_holdDown (d := d+33) hm i (by omega) hb hl) x g⟩
  · exact ⟨_, 1, 0, _, _, _, _, Or.inr (Or.inl ⟨rfl, rfl⟩), (by first | exact fun h => Bool.noConfusion h | exact fun _ => Nat.zero_le _ | exact fun _ => Bool.toNat_le _), fun d H g m i => x_holdDown1 i q, fun d h mm N G hm i x g => zOm_Z (o_holdDown1 (d := d+33) hm i q) x g⟩
theorem j_exchange {x z u : Int32} : jO MX1_exchange MX3_exchange [.int x, .int z, .int u] 11 0 false (nb, na, fr, to, le, row, ma, co) hs kp tx := by
  by_cases q : vP nb na fr to (t_ly na fr to le) x z ∧ vP nb na fr to (t_ly na fr to le) x u
  · obtain ⟨⟨l, hl, rfl, ⟨p, hp, rfl⟩⟩, ⟨l', hl', e, ⟨p', hp', rfl⟩⟩⟩ := q
    exact ⟨_, 0, _, _, _, _, _, Or.inl ⟨rfl, rfl⟩, (by first | exact fun h => Bool.noConfusion h | exact fun _ => Nat.zero_le _ | exact fun _ => Bool.toNat_le _), fun d H g m i => x_exchange i hl hp (by
      have b := t_dp_bd (y := (t_ly na fr to le)) (c := 25) nb (fun b hb => t_OK_y (cI_OK i) (by have := (cI_OK i).1; omega))
      rw [q_eq (by omega) (by omega)] at e
      rw [e]; exact hp'), fun d h mm N G hm i x g => zOm_H (o_exchange (d := d+33) hm i (by omega) hl hp (by
      have b := mD_dp i.1
      rw [q_eq (by omega) (by omega)] at e
      rw [e]; exact hp')) x g⟩
  · exact ⟨_, 1, 0, _, _, _, _, Or.inr (Or.inl ⟨rfl, rfl⟩), (by first | exact fun h => Bool.noConfusion h | exact fun _ => Nat.zero_le _ | exact fun _ => Bool.toNat_le _), fun d H g m i => x_exchange1 i q, fun d h mm N G hm i x g => zOm_Z (o_exchange1 (d := d+33) hm i q) x g⟩
theorem j_whyNoChain {x z u : Int32} : jO MX1_whyNoChain MX3_whyNoChain [.int x, .int z, .int u] 11 0 false (nb, na, fr, to, le, row, ma, co) hs kp tx := by
  by_cases q : vB nb x ∧ vB nb z ∧ vB nb u
  · obtain ⟨⟨a, ha, rfl⟩, ⟨b, hb, rfl⟩, ⟨e, he, rfl⟩⟩ := q
    exact ⟨_, 0, _, _, _, _, _, Or.inl ⟨rfl, rfl⟩, (by first | exact fun h => Bool.noConfusion h | exact fun _ => Nat.zero_le _ | exact fun _ => Bool.toNat_le _), fun d H g m i => x_whyNoChain i ha hb he, fun d h mm N G hm i x g => zOm_Z (o_whyNoChain (d := d+33) hm i ha hb he) x g⟩
  · exact ⟨_, 1, 0, _, _, _, _, Or.inr (Or.inl ⟨rfl, rfl⟩), (by first | exact fun h => Bool.noConfusion h | exact fun _ => Nat.zero_le _ | exact fun _ => Bool.toNat_le _), fun d H g m i => x_whyNoChain1 i q, fun d h mm N G hm i x g => zOm_Z (o_whyNoChain1 (d := d+33) hm i q) x g⟩
theorem j_crowdedLayer : jO MX1_crowdedLayer MX3_crowdedLayer [] 10 0 false (nb, na, fr, to, le, row, ma, co) hs kp tx := by
  by_cases q : t_dp (t_ly na fr to le) nb = 0
  · exact ⟨_, 1, _, _, _, _, _, Or.inr (Or.inl ⟨rfl, rfl⟩), (by first | exact fun h => Bool.noConfusion h | exact fun _ => Nat.zero_le _ | exact fun _ => Bool.toNat_le _), fun d H g m i => x_crowdedLayer1 i q, fun d h mm N G hm i x g => zOm_Z (by
      have z := o_crowdedLayer (d := d+33) (h := h) hm i
      rw [if_pos q] at z
      exact z) x g⟩
  · exact ⟨_, 0, _, _, _, _, _, Or.inl ⟨rfl, rfl⟩, (by first | exact fun h => Bool.noConfusion h | exact fun _ => Nat.zero_le _ | exact fun _ => Bool.toNat_le _), fun d H g m i => x_crowdedLayer i q, fun d h mm N G hm i x g => zOm_Z (by
      have z := o_crowdedLayer (d := d+33) (h := h) hm i
      rw [if_neg q] at z
      exact z) x g⟩
theorem j_goBack : jO MX1_goBack MX3_goBack [] 9 0 false D hs kp tx := by
  cases kp with
  | none => exact ⟨_, 1, 0, _, _, _, _, Or.inr (Or.inl ⟨rfl, rfl⟩), (by first | exact fun h => Bool.noConfusion h | exact fun _ => Nat.zero_le _ | exact fun _ => Bool.toNat_le _), fun d H g m i => x_goBack1 i, fun d h mm N G hm i x g => zOm_Z (o_goBack1 (d := d+33) hm i) x g⟩
  | some K =>
    obtain ⟨nb, na, fr, to, le, row, ma, co⟩ := K
    exact ⟨_, 0, _, _, _, _, _, Or.inl ⟨rfl, rfl⟩, (by first | exact fun h => Bool.noConfusion h | exact fun _ => Nat.zero_le _ | exact fun _ => Bool.toNat_le _), fun d H g m i => x_goBack i, fun d h mm N G hm i x g => zOm_H (o_goBack (d := d+33) hm i (by omega)) x g⟩
theorem j_undo : jO MX1_undo MX3_undo [] 9 0 false D hs kp tx := by
  rcases List.eq_nil_or_concat hs with rfl | ⟨hs', E, rfl⟩
  · exact ⟨_, 1, 0, _, _, _, _, Or.inr (Or.inl ⟨rfl, rfl⟩), (by first | exact fun h => Bool.noConfusion h | exact fun _ => Nat.zero_le _ | exact fun _ => Bool.toNat_le _), fun d H g m i => x_undo1 i, fun d h mm N G hm i x g => zOm_Z (o_undo1 (d := d+33) hm i) x g⟩
  · rw [List.concat_eq_append]
    exact ⟨_, 0, _, _, _, _, _, Or.inl ⟨rfl, rfl⟩, (by first | exact fun h => Bool.noConfusion h | exact fun _ => Nat.zero_le _ | exact fun _ => Bool.toNat_le _), fun d H g m i => x_undo i, fun d h mm N G hm i x g => zOm_Z (o_undo (d := d+33) hm i) x g⟩
theorem j_type {y : Int32} : jO MX1_type MX3_type [.int y] 11 9 false D hs kp tx := by
  by_cases q : vT y
  · obtain ⟨c, h1, h2, rfl⟩ := q
    by_cases w : tx.length = 60
    · exact ⟨_, 2, 0, _, _, _, _, Or.inr (Or.inr ⟨rfl, rfl, by decide⟩), (by first | exact fun h => Bool.noConfusion h | exact fun _ => Nat.zero_le _ | exact fun _ => Bool.toNat_le _), fun d H g m i => x_type2 i h1 h2 w, fun d h mm N G hm i x g => zOm_Z (o_type2 (d := d+33) hm i x h1 h2 w) x g⟩
    · exact ⟨_, 0, _, _, _, _, _, Or.inl ⟨rfl, rfl⟩, (by first | exact fun h => Bool.noConfusion h | exact fun _ => Nat.zero_le _ | exact fun _ => Bool.toNat_le _), fun d H g m i => x_type i h1 h2 (by
        have ⟨_, _, _, _, _, _, s, _, _, _, _, _, _, _, _, _, _, _, _, t1, _⟩ := i
        omega), fun d h mm N G hm i x g => by
        have l := x.2.1
        have ⟨N', G', z1, z2, z3, z4, z5⟩ := o_type (d := d+33) (h := h) hm i x h1 h2 (by omega)
        exact ⟨N', G', z1, z2, z3.trans g, z4, z5⟩⟩
  · exact ⟨_, 1, 0, _, _, _, _, Or.inr (Or.inl ⟨rfl, rfl⟩), (by first | exact fun h => Bool.noConfusion h | exact fun _ => Nat.zero_le _ | exact fun _ => Bool.toNat_le _), fun d H g m i => x_type1 i q, fun d h mm N G hm i x g => zOm_Z (o_type1 (d := d+33) hm i q) x g⟩
theorem j_faultPosition : jO MX1_faultPosition MX3_faultPosition [] 10 0 false D hs kp tx := by
  cases q : (t_go tx 61 0 D 0).1
  · exact ⟨_, 0, _, _, _, _, _, Or.inl ⟨rfl, rfl⟩, (by first | exact fun h => Bool.noConfusion h | exact fun _ => Nat.zero_le _ | exact fun _ => Bool.toNat_le _), fun d H g m i => x_faultPosition i q, fun d h mm N G hm i x g => by
      have ⟨N', G', z1, z2, z3, z4, z5⟩ := o_fault (d := d+28) (h := h) (w := 0) hm i x g (by decide) q
      refine ⟨N', G', z1, z2, z3, z4, ?_⟩
      have z5 : a_call (d+40) MX3_fault [.ref mm, .int (nI 0)] (wN h mm G N) = some (.inl (some (.int (nI (t_go tx 61 0 D 0).2.1))), wN h mm G' N') := z5
      rw [e_X3_faultPosition]
      simp (disch := first | omega | assumption | exact Or.inl rfl | exact Or.inr rfl | exact wN_kls (by omega) | exact wE_kls (by omega) | (simp only [a_cat_nil, a_cat_int, a_cat_ref, a_cat_null, a_cat_long]; done) | (simp only [a_cat_nil, a_cat_int, a_cat_ref, a_cat_null, a_cat_long]; omega) | decide | rfl | (apply Or.inr; omega) | (apply Or.inl; omega)) only [w_X3_faultPosition_0, w_X3_faultPosition_1, w_X3_faultPosition_2, w_X3_faultPosition_5, w_ret, w_exc, Nat.reduceAdd, Option.toList_some, Option.toList_none, List.cons_append, List.nil_append, Option.bind_some, nI_add, q_mul, q_sub, q_eq, q_eqz, q_lt, q_ltz, q_gtz, q_le, q_lez, q_div, q_or, q_and, q_shl, q_shr, q_m1, q_eqm, q_meq, q_mm, q_mlt, q_mgt, q_mlt2, q_dec, Nat.add_sub_cancel, q_ltT, q_ltF, q_leT, q_leF, q_eqT, q_eqF, ↓reduceIte, uN_s, uN_n, upN_app, uG_s, uG_n, uG_uG, if_true, if_false, Nat.reduceMul, Nat.reduceSub, Nat.reduceEqDiff, Nat.reduceLT, and_true, true_and, and_false, false_and, or_true, true_or, or_false, false_or, not_true_eq_false, not_false_eq_true, Option.some.injEq, wNg_s, wNg_past, wNg_kept, wNg_aside, wNg_lay, wNg_start, wNg_count, wNg_deep, wNp_deep, wNg_near, wNg_medians, wNg_points, wNg_columns, wNg_upper, wNg_lower, wNg_heard, wNg_walks, wNg_spare, wNg_best, wNg_isKept, wNp_isKept, wNg_pasts, wNp_pasts, wNg_runs, wNp_runs, wNg_last, wNp_last, wNg_text, wNg_typed, wNp_typed, wNg_spot, wNp_spot, wNg_from, wNp_from, wNg_reason, wNp_reason, wNg_cause, wNp_cause, wNg_orders, wNp_orders, wNg_letter, wNp_letter, wNg_numbers, wNr_s, wNw_s, wNr_past, wNw_past, wNr_kept, wNw_kept, wNr_aside, wNw_aside, wNr_lay, wNw_lay, wNr_start, wNw_start, wNr_count, wNw_count, wNr_near, wNw_near, wNr_medians, wNw_medians, wNr_points, wNw_points, wNr_columns, wNw_columns, wNr_upper, wNw_upper, wNr_lower, wNw_lower, wNr_heard, wNw_heard, wNr_walks, wNw_walks, wNr_spare, wNw_spare, wNr_best, wNw_best, wNr_text, wNw_text, wNr_numbers, wNw_numbers, wN_kls, z5]⟩
  · exact ⟨_, 1, 0, _, _, _, _, Or.inr (Or.inl ⟨rfl, rfl⟩), (by first | exact fun h => Bool.noConfusion h | exact fun _ => Nat.zero_le _ | exact fun _ => Bool.toNat_le _), fun d H g m i => x_faultPosition1 i q, fun d h mm N G hm i x g => by
      have ⟨N', G', z1, z2, z3, z4, z5⟩ := o_fault1 (d := d+28) (h := h) (w := 0) hm i x g q
      refine ⟨N', G', z1, z2, z3, z4, ?_⟩
      rw [e_X3_faultPosition]
      simp (disch := first | omega | assumption | exact Or.inl rfl | exact Or.inr rfl | exact wN_kls (by omega) | exact wE_kls (by omega) | (simp only [a_cat_nil, a_cat_int, a_cat_ref, a_cat_null, a_cat_long]; done) | (simp only [a_cat_nil, a_cat_int, a_cat_ref, a_cat_null, a_cat_long]; omega) | decide | rfl | (apply Or.inr; omega) | (apply Or.inl; omega)) only [w_X3_faultPosition_0, w_X3_faultPosition_1, w_X3_faultPosition_2, w_X3_faultPosition_5, w_ret, w_exc, Nat.reduceAdd, Option.toList_some, Option.toList_none, List.cons_append, List.nil_append, Option.bind_some, nI_add, q_mul, q_sub, q_eq, q_eqz, q_lt, q_ltz, q_gtz, q_le, q_lez, q_div, q_or, q_and, q_shl, q_shr, q_m1, q_eqm, q_meq, q_mm, q_mlt, q_mgt, q_mlt2, q_dec, Nat.add_sub_cancel, q_ltT, q_ltF, q_leT, q_leF, q_eqT, q_eqF, ↓reduceIte, uN_s, uN_n, upN_app, uG_s, uG_n, uG_uG, if_true, if_false, Nat.reduceMul, Nat.reduceSub, Nat.reduceEqDiff, Nat.reduceLT, and_true, true_and, and_false, false_and, or_true, true_or, or_false, false_or, not_true_eq_false, not_false_eq_true, Option.some.injEq, wNg_s, wNg_past, wNg_kept, wNg_aside, wNg_lay, wNg_start, wNg_count, wNg_deep, wNp_deep, wNg_near, wNg_medians, wNg_points, wNg_columns, wNg_upper, wNg_lower, wNg_heard, wNg_walks, wNg_spare, wNg_best, wNg_isKept, wNp_isKept, wNg_pasts, wNp_pasts, wNg_runs, wNp_runs, wNg_last, wNp_last, wNg_text, wNg_typed, wNp_typed, wNg_spot, wNp_spot, wNg_from, wNp_from, wNg_reason, wNp_reason, wNg_cause, wNp_cause, wNg_orders, wNp_orders, wNg_letter, wNp_letter, wNg_numbers, wNr_s, wNw_s, wNr_past, wNw_past, wNr_kept, wNw_kept, wNr_aside, wNw_aside, wNr_lay, wNw_lay, wNr_start, wNw_start, wNr_count, wNw_count, wNr_near, wNw_near, wNr_medians, wNw_medians, wNr_points, wNw_points, wNr_columns, wNw_columns, wNr_upper, wNw_upper, wNr_lower, wNw_lower, wNr_heard, wNw_heard, wNr_walks, wNw_walks, wNr_spare, wNw_spare, wNr_best, wNw_best, wNr_text, wNw_text, wNr_numbers, wNw_numbers, wN_kls, z5]⟩
theorem j_faultReason : jO MX1_faultReason MX3_faultReason [] 10 0 false D hs kp tx := by
  cases q : (t_go tx 61 0 D 0).1
  · exact ⟨_, 0, _, _, _, _, _, Or.inl ⟨rfl, rfl⟩, (by first | exact fun h => Bool.noConfusion h | exact fun _ => Nat.zero_le _ | exact fun _ => Bool.toNat_le _), fun d H g m i => x_faultReason i q, fun d h mm N G hm i x g => by
      have ⟨N', G', z1, z2, z3, z4, z5⟩ := o_fault (d := d+28) (h := h) (w := 1) hm i x g (by decide) q
      refine ⟨N', G', z1, z2, z3, z4, ?_⟩
      have z5 : a_call (d+40) MX3_fault [.ref mm, .int (nI 1)] (wN h mm G N) = some (.inl (some (.int (nI (t_go tx 61 0 D 0).2.2.1))), wN h mm G' N') := z5
      rw [e_X3_faultReason]
      simp (disch := first | omega | assumption | exact Or.inl rfl | exact Or.inr rfl | exact wN_kls (by omega) | exact wE_kls (by omega) | (simp only [a_cat_nil, a_cat_int, a_cat_ref, a_cat_null, a_cat_long]; done) | (simp only [a_cat_nil, a_cat_int, a_cat_ref, a_cat_null, a_cat_long]; omega) | decide | rfl | (apply Or.inr; omega) | (apply Or.inl; omega)) only [w_X3_faultReason_0, w_X3_faultReason_1, w_X3_faultReason_2, w_X3_faultReason_5, w_ret, w_exc, Nat.reduceAdd, Option.toList_some, Option.toList_none, List.cons_append, List.nil_append, Option.bind_some, nI_add, q_mul, q_sub, q_eq, q_eqz, q_lt, q_ltz, q_gtz, q_le, q_lez, q_div, q_or, q_and, q_shl, q_shr, q_m1, q_eqm, q_meq, q_mm, q_mlt, q_mgt, q_mlt2, q_dec, Nat.add_sub_cancel, q_ltT, q_ltF, q_leT, q_leF, q_eqT, q_eqF, ↓reduceIte, uN_s, uN_n, upN_app, uG_s, uG_n, uG_uG, if_true, if_false, Nat.reduceMul, Nat.reduceSub, Nat.reduceEqDiff, Nat.reduceLT, and_true, true_and, and_false, false_and, or_true, true_or, or_false, false_or, not_true_eq_false, not_false_eq_true, Option.some.injEq, wNg_s, wNg_past, wNg_kept, wNg_aside, wNg_lay, wNg_start, wNg_count, wNg_deep, wNp_deep, wNg_near, wNg_medians, wNg_points, wNg_columns, wNg_upper, wNg_lower, wNg_heard, wNg_walks, wNg_spare, wNg_best, wNg_isKept, wNp_isKept, wNg_pasts, wNp_pasts, wNg_runs, wNp_runs, wNg_last, wNp_last, wNg_text, wNg_typed, wNp_typed, wNg_spot, wNp_spot, wNg_from, wNp_from, wNg_reason, wNp_reason, wNg_cause, wNp_cause, wNg_orders, wNp_orders, wNg_letter, wNp_letter, wNg_numbers, wNr_s, wNw_s, wNr_past, wNw_past, wNr_kept, wNw_kept, wNr_aside, wNw_aside, wNr_lay, wNw_lay, wNr_start, wNw_start, wNr_count, wNw_count, wNr_near, wNw_near, wNr_medians, wNw_medians, wNr_points, wNw_points, wNr_columns, wNw_columns, wNr_upper, wNw_upper, wNr_lower, wNw_lower, wNr_heard, wNw_heard, wNr_walks, wNw_walks, wNr_spare, wNw_spare, wNr_best, wNw_best, wNr_text, wNw_text, wNr_numbers, wNw_numbers, wN_kls, z5]⟩
  · exact ⟨_, 1, 0, _, _, _, _, Or.inr (Or.inl ⟨rfl, rfl⟩), (by first | exact fun h => Bool.noConfusion h | exact fun _ => Nat.zero_le _ | exact fun _ => Bool.toNat_le _), fun d H g m i => x_faultReason1 i q, fun d h mm N G hm i x g => by
      have ⟨N', G', z1, z2, z3, z4, z5⟩ := o_fault1 (d := d+28) (h := h) (w := 1) hm i x g q
      refine ⟨N', G', z1, z2, z3, z4, ?_⟩
      rw [e_X3_faultReason]
      simp (disch := first | omega | assumption | exact Or.inl rfl | exact Or.inr rfl | exact wN_kls (by omega) | exact wE_kls (by omega) | (simp only [a_cat_nil, a_cat_int, a_cat_ref, a_cat_null, a_cat_long]; done) | (simp only [a_cat_nil, a_cat_int, a_cat_ref, a_cat_null, a_cat_long]; omega) | decide | rfl | (apply Or.inr; omega) | (apply Or.inl; omega)) only [w_X3_faultReason_0, w_X3_faultReason_1, w_X3_faultReason_2, w_X3_faultReason_5, w_ret, w_exc, Nat.reduceAdd, Option.toList_some, Option.toList_none, List.cons_append, List.nil_append, Option.bind_some, nI_add, q_mul, q_sub, q_eq, q_eqz, q_lt, q_ltz, q_gtz, q_le, q_lez, q_div, q_or, q_and, q_shl, q_shr, q_m1, q_eqm, q_meq, q_mm, q_mlt, q_mgt, q_mlt2, q_dec, Nat.add_sub_cancel, q_ltT, q_ltF, q_leT, q_leF, q_eqT, q_eqF, ↓reduceIte, uN_s, uN_n, upN_app, uG_s, uG_n, uG_uG, if_true, if_false, Nat.reduceMul, Nat.reduceSub, Nat.reduceEqDiff, Nat.reduceLT, and_true, true_and, and_false, false_and, or_true, true_or, or_false, false_or, not_true_eq_false, not_false_eq_true, Option.some.injEq, wNg_s, wNg_past, wNg_kept, wNg_aside, wNg_lay, wNg_start, wNg_count, wNg_deep, wNp_deep, wNg_near, wNg_medians, wNg_points, wNg_columns, wNg_upper, wNg_lower, wNg_heard, wNg_walks, wNg_spare, wNg_best, wNg_isKept, wNp_isKept, wNg_pasts, wNp_pasts, wNg_runs, wNp_runs, wNg_last, wNp_last, wNg_text, wNg_typed, wNp_typed, wNg_spot, wNp_spot, wNg_from, wNp_from, wNg_reason, wNp_reason, wNg_cause, wNp_cause, wNg_orders, wNp_orders, wNg_letter, wNp_letter, wNg_numbers, wNr_s, wNw_s, wNr_past, wNw_past, wNr_kept, wNw_kept, wNr_aside, wNw_aside, wNr_lay, wNw_lay, wNr_start, wNw_start, wNr_count, wNw_count, wNr_near, wNw_near, wNr_medians, wNw_medians, wNr_points, wNw_points, wNr_columns, wNw_columns, wNr_upper, wNw_upper, wNr_lower, wNw_lower, wNr_heard, wNw_heard, wNr_walks, wNw_walks, wNr_spare, wNw_spare, wNr_best, wNw_best, wNr_text, wNw_text, wNr_numbers, wNw_numbers, wN_kls, z5]⟩
theorem j_faultCause : jO MX1_faultCause MX3_faultCause [] 10 0 false D hs kp tx := by
  cases q : (t_go tx 61 0 D 0).1
  · exact ⟨_, 0, _, _, _, _, _, Or.inl ⟨rfl, rfl⟩, (by first | exact fun h => Bool.noConfusion h | exact fun _ => Nat.zero_le _ | exact fun _ => Bool.toNat_le _), fun d H g m i => x_faultCause i q, fun d h mm N G hm i x g => by
      have ⟨N', G', z1, z2, z3, z4, z5⟩ := o_fault (d := d+28) (h := h) (w := 2) hm i x g (by decide) q
      refine ⟨N', G', z1, z2, z3, z4, ?_⟩
      have z5 : a_call (d+40) MX3_fault [.ref mm, .int (nI 2)] (wN h mm G N) = some (.inl (some (.int (nI (t_go tx 61 0 D 0).2.2.2.1))), wN h mm G' N') := z5
      rw [e_X3_faultCause]
      simp (disch := first | omega | assumption | exact Or.inl rfl | exact Or.inr rfl | exact wN_kls (by omega) | exact wE_kls (by omega) | (simp only [a_cat_nil, a_cat_int, a_cat_ref, a_cat_null, a_cat_long]; done) | (simp only [a_cat_nil, a_cat_int, a_cat_ref, a_cat_null, a_cat_long]; omega) | decide | rfl | (apply Or.inr; omega) | (apply Or.inl; omega)) only [w_X3_faultCause_0, w_X3_faultCause_1, w_X3_faultCause_2, w_X3_faultCause_5, w_ret, w_exc, Nat.reduceAdd, Option.toList_some, Option.toList_none, List.cons_append, List.nil_append, Option.bind_some, nI_add, q_mul, q_sub, q_eq, q_eqz, q_lt, q_ltz, q_gtz, q_le, q_lez, q_div, q_or, q_and, q_shl, q_shr, q_m1, q_eqm, q_meq, q_mm, q_mlt, q_mgt, q_mlt2, q_dec, Nat.add_sub_cancel, q_ltT, q_ltF, q_leT, q_leF, q_eqT, q_eqF, ↓reduceIte, uN_s, uN_n, upN_app, uG_s, uG_n, uG_uG, if_true, if_false, Nat.reduceMul, Nat.reduceSub, Nat.reduceEqDiff, Nat.reduceLT, and_true, true_and, and_false, false_and, or_true, true_or, or_false, false_or, not_true_eq_false, not_false_eq_true, Option.some.injEq, wNg_s, wNg_past, wNg_kept, wNg_aside, wNg_lay, wNg_start, wNg_count, wNg_deep, wNp_deep, wNg_near, wNg_medians, wNg_points, wNg_columns, wNg_upper, wNg_lower, wNg_heard, wNg_walks, wNg_spare, wNg_best, wNg_isKept, wNp_isKept, wNg_pasts, wNp_pasts, wNg_runs, wNp_runs, wNg_last, wNp_last, wNg_text, wNg_typed, wNp_typed, wNg_spot, wNp_spot, wNg_from, wNp_from, wNg_reason, wNp_reason, wNg_cause, wNp_cause, wNg_orders, wNp_orders, wNg_letter, wNp_letter, wNg_numbers, wNr_s, wNw_s, wNr_past, wNw_past, wNr_kept, wNw_kept, wNr_aside, wNw_aside, wNr_lay, wNw_lay, wNr_start, wNw_start, wNr_count, wNw_count, wNr_near, wNw_near, wNr_medians, wNw_medians, wNr_points, wNw_points, wNr_columns, wNw_columns, wNr_upper, wNw_upper, wNr_lower, wNw_lower, wNr_heard, wNw_heard, wNr_walks, wNw_walks, wNr_spare, wNw_spare, wNr_best, wNw_best, wNr_text, wNw_text, wNr_numbers, wNw_numbers, wN_kls, z5]⟩
  · exact ⟨_, 1, 0, _, _, _, _, Or.inr (Or.inl ⟨rfl, rfl⟩), (by first | exact fun h => Bool.noConfusion h | exact fun _ => Nat.zero_le _ | exact fun _ => Bool.toNat_le _), fun d H g m i => x_faultCause1 i q, fun d h mm N G hm i x g => by
      have ⟨N', G', z1, z2, z3, z4, z5⟩ := o_fault1 (d := d+28) (h := h) (w := 2) hm i x g q
      refine ⟨N', G', z1, z2, z3, z4, ?_⟩
      rw [e_X3_faultCause]
      simp (disch := first | omega | assumption | exact Or.inl rfl | exact Or.inr rfl | exact wN_kls (by omega) | exact wE_kls (by omega) | (simp only [a_cat_nil, a_cat_int, a_cat_ref, a_cat_null, a_cat_long]; done) | (simp only [a_cat_nil, a_cat_int, a_cat_ref, a_cat_null, a_cat_long]; omega) | decide | rfl | (apply Or.inr; omega) | (apply Or.inl; omega)) only [w_X3_faultCause_0, w_X3_faultCause_1, w_X3_faultCause_2, w_X3_faultCause_5, w_ret, w_exc, Nat.reduceAdd, Option.toList_some, Option.toList_none, List.cons_append, List.nil_append, Option.bind_some, nI_add, q_mul, q_sub, q_eq, q_eqz, q_lt, q_ltz, q_gtz, q_le, q_lez, q_div, q_or, q_and, q_shl, q_shr, q_m1, q_eqm, q_meq, q_mm, q_mlt, q_mgt, q_mlt2, q_dec, Nat.add_sub_cancel, q_ltT, q_ltF, q_leT, q_leF, q_eqT, q_eqF, ↓reduceIte, uN_s, uN_n, upN_app, uG_s, uG_n, uG_uG, if_true, if_false, Nat.reduceMul, Nat.reduceSub, Nat.reduceEqDiff, Nat.reduceLT, and_true, true_and, and_false, false_and, or_true, true_or, or_false, false_or, not_true_eq_false, not_false_eq_true, Option.some.injEq, wNg_s, wNg_past, wNg_kept, wNg_aside, wNg_lay, wNg_start, wNg_count, wNg_deep, wNp_deep, wNg_near, wNg_medians, wNg_points, wNg_columns, wNg_upper, wNg_lower, wNg_heard, wNg_walks, wNg_spare, wNg_best, wNg_isKept, wNp_isKept, wNg_pasts, wNp_pasts, wNg_runs, wNp_runs, wNg_last, wNp_last, wNg_text, wNg_typed, wNp_typed, wNg_spot, wNp_spot, wNg_from, wNp_from, wNg_reason, wNp_reason, wNg_cause, wNp_cause, wNg_orders, wNp_orders, wNg_letter, wNp_letter, wNg_numbers, wNr_s, wNw_s, wNr_past, wNw_past, wNr_kept, wNw_kept, wNr_aside, wNw_aside, wNr_lay, wNw_lay, wNr_start, wNw_start, wNr_count, wNw_count, wNr_near, wNw_near, wNr_medians, wNw_medians, wNr_points, wNw_points, wNr_columns, wNw_columns, wNr_upper, wNw_upper, wNr_lower, wNw_lower, wNr_heard, wNw_heard, wNr_walks, wNw_walks, wNr_spare, wNw_spare, wNr_best, wNw_best, wNr_text, wNw_text, wNr_numbers, wNw_numbers, wN_kls, z5]⟩
theorem j_play : jO MX1_play MX3_play [] 9 0 false D hs kp tx := by
  cases q : (t_go tx 61 0 D 0).1
  · exact ⟨_, 1, 0, _, _, _, _, Or.inr (Or.inl ⟨rfl, rfl⟩), (by first | exact fun h => Bool.noConfusion h | exact fun _ => Nat.zero_le _ | exact fun _ => Bool.toNat_le _), fun d H g m i => x_play1 i q, fun d h mm N G hm i x g => o_play1 (d := d+29) hm i x g q⟩
  · exact ⟨_, 0, _, _, _, _, _, Or.inl ⟨rfl, rfl⟩, (by first | exact fun h => Bool.noConfusion h | exact fun _ => Nat.zero_le _ | exact fun _ => Bool.toNat_le _), fun d H g m i => x_play i q, fun d h mm N G hm i x g => o_play (d := d+29) hm i x g q⟩
theorem j_sweepDown : jB MX1_sweepDown MX3_sweepDown [] (nb, na, fr, to, le, row, ma, co) hs kp tx := ⟨_, _, _, _, _, fun d H g m i => x_sweepDown i, fun d h mm N G hm i x g => zOm_H (o_sweepDown (d := d+32) hm i (by omega)) x g⟩
theorem j_sweepUp : jB MX1_sweepUp MX3_sweepUp [] (nb, na, fr, to, le, row, ma, co) hs kp tx := ⟨_, _, _, _, _, fun d H g m i => x_sweepUp i, fun d h mm N G hm i x g => zOm_H (o_sweepUp (d := d+32) hm i (by omega)) x g⟩
theorem j_untangle : jB MX1_untangle MX3_untangle [] (nb, na, fr, to, le, row, ma, co) hs kp tx := ⟨_, _, _, _, _, fun d H g m i => x_untangle i, fun d h mm N G hm i x g => zOm_H (o_untangle (d := d+33) hm i (by omega)) x g⟩
theorem j_settle : jB MX1_settle MX3_settle [] (nb, na, fr, to, le, row, ma, co) hs kp tx := ⟨_, _, _, _, _, fun d H g m i => x_settle i, fun d h mm N G hm i x g => zOm_H (o_settle (d := d+33) hm i (by omega)) x g⟩
theorem j_prune : jB MX1_prune MX3_prune [] (nb, na, fr, to, le, row, ma, co) hs kp tx := ⟨_, _, _, _, _, fun d H g m i => x_prune i, fun d h mm N G hm i x g => zOm_H (o_prune (d := d+33) hm i (by omega)) x g⟩
theorem j_turnRound : jB MX1_turnRound MX3_turnRound [] (nb, na, fr, to, le, row, ma, co) hs kp tx := ⟨_, _, _, _, _, fun d H g m i => x_turnRound i, fun d h mm N G hm i x g => zOm_H (o_turnRound (d := d+33) hm i (by omega)) x g⟩
theorem j_boxes : jB MX1_boxes MX3_boxes [] (nb, na, fr, to, le, row, ma, co) hs kp tx := ⟨_, _, _, _, _, fun d H g m i => x_boxes i, fun d h mm N G hm i x g => zOm_Z (o_boxes (d := d+32) hm i) x g⟩
theorem j_arrows : jB MX1_arrows MX3_arrows [] (nb, na, fr, to, le, row, ma, co) hs kp tx := ⟨_, _, _, _, _, fun d H g m i => x_arrows i, fun d h mm N G hm i x g => zOm_Z (o_arrows (d := d+32) hm i) x g⟩
theorem j_needless : jB MX1_needless MX3_needless [] (nb, na, fr, to, le, row, ma, co) hs kp tx := ⟨_, _, _, _, _, fun d H g m i => x_needless i, fun d h mm N G hm i x g => zOm_Z (o_needless (d := d+33) hm i) x g⟩
theorem j_firstTellers : jB MX1_firstTellers MX3_firstTellers [] (nb, na, fr, to, le, row, ma, co) hs kp tx := ⟨_, _, _, _, _, fun d H g m i => x_firstTellers i, fun d h mm N G hm i x g => zOm_Z (o_firstTellers (d := d+32) hm i) x g⟩
theorem j_lastHearers : jB MX1_lastHearers MX3_lastHearers [] (nb, na, fr, to, le, row, ma, co) hs kp tx := ⟨_, _, _, _, _, fun d H g m i => x_lastHearers i, fun d h mm N G hm i x g => zOm_Z (o_lastHearers (d := d+32) hm i) x g⟩
theorem j_layers : jB MX1_layers MX3_layers [] (nb, na, fr, to, le, row, ma, co) hs kp tx := ⟨_, _, _, _, _, fun d H g m i => x_layers i, fun d h mm N G hm i x g => zOm_Z (o_layers (d := d+33) hm i) x g⟩
theorem j_arrowPoints : jB MX1_arrowPoints MX3_arrowPoints [] (nb, na, fr, to, le, row, ma, co) hs kp tx := ⟨_, _, _, _, _, fun d H g m i => x_arrowPoints i, fun d h mm N G hm i x g => zOm_Z (o_arrowPoints (d := d+33) hm i) x g⟩
theorem j_crossings : jB MX1_crossings MX3_crossings [] (nb, na, fr, to, le, row, ma, co) hs kp tx := ⟨_, _, _, _, _, fun d H g m i => x_crossings i, fun d h mm N G hm i x g => zOm_Z (o_crossings (d := d+32) hm i) x g⟩
theorem j_crossingsByPuttingIn : jB MX1_crossingsByPuttingIn MX3_crossingsByPuttingIn [] (nb, na, fr, to, le, row, ma, co) hs kp tx := ⟨_, _, _, _, _, fun d H g m i => x_crossingsByPuttingIn i, fun d h mm N G hm i x g => zOm_Z (o_crossingsByPuttingIn (d := d+32) hm i) x g⟩
theorem j_ifSweptDown : jB MX1_ifSweptDown MX3_ifSweptDown [] (nb, na, fr, to, le, row, ma, co) hs kp tx := ⟨_, _, _, _, _, fun d H g m i => x_ifSweptDown i, fun d h mm N G hm i x g => zOm_Z (o_ifSweptDown (d := d+32) hm i) x g⟩
theorem j_ifSweptUp : jB MX1_ifSweptUp MX3_ifSweptUp [] (nb, na, fr, to, le, row, ma, co) hs kp tx := ⟨_, _, _, _, _, fun d H g m i => x_ifSweptUp i, fun d h mm N G hm i x g => zOm_Z (o_ifSweptUp (d := d+32) hm i) x g⟩
theorem j_bends : jB MX1_bends MX3_bends [] (nb, na, fr, to, le, row, ma, co) hs kp tx := ⟨_, _, _, _, _, fun d H g m i => x_bends i, fun d h mm N G hm i x g => zOm_Z (o_bends (d := d+33) hm i) x g⟩
theorem j_widest : jB MX1_widest MX3_widest [] (nb, na, fr, to, le, row, ma, co) hs kp tx := ⟨_, _, _, _, _, fun d H g m i => x_widest i, fun d h mm N G hm i x g => zOm_Z (o_widest (d := d+33) hm i) x g⟩
theorem j_slant : jB MX1_slant MX3_slant [] (nb, na, fr, to, le, row, ma, co) hs kp tx := ⟨_, _, _, _, _, fun d H g m i => x_slant i, fun d h mm N G hm i x g => zOm_Z (o_slant (d := d+32) hm i) x g⟩
theorem j_straightLines : jB MX1_straightLines MX3_straightLines [] (nb, na, fr, to, le, row, ma, co) hs kp tx := ⟨_, _, _, _, _, fun d H g m i => x_straightLines i, fun d h mm N G hm i x g => zOm_Z (o_straightLines (d := d+32) hm i) x g⟩
theorem j_sweeps : jB MX1_sweeps MX3_sweeps [] (nb, na, fr, to, le, row, ma, co) hs kp tx := ⟨_, _, _, _, _, fun d H g m i => x_sweeps i, fun d h mm N G hm i x g => zOm_Z (o_sweeps (d := d+32) hm i) x g⟩
theorem j_came : jB MX1_came MX3_came [] (nb, na, fr, to, le, row, ma, co) hs kp tx := ⟨_, _, _, _, _, fun d H g m i => x_came i, fun d h mm N G hm i x g => zOm_Z (o_came (d := d+32) hm i) x g⟩
theorem j_states : jB MX1_states MX3_states [] D hs kp tx := ⟨_, _, _, _, _, fun d H g m i => x_states i, fun d h mm N G hm i x g => zOm_Z (o_states (d := d+33) hm i) x g⟩
theorem j_keep : jB MX1_keep MX3_keep [] (nb, na, fr, to, le, row, ma, co) hs kp tx := ⟨_, _, _, _, _, fun d H g m i => x_keep i, fun d h mm N G hm i x g => by
  have ⟨N', G', z1, z2, z3, z4, z5⟩ := o_keep (d := d+33) (h := h) hm i
  exact ⟨N', G', z3, ⟨(z2 23 (by decide) (by decide)).trans x.1, x.2.1, fun i c h => by rw [z1]; exact x.2.2 i c h⟩, (z2 20 (by decide) (by decide)).trans g, z4, z5⟩⟩
theorem j_clearText : jB MX1_clearText MX3_clearText [] D hs kp tx := ⟨_, _, _, _, _, fun d H g m i => x_clearText i, fun d h mm N G hm i x g => by
  have ⟨G', z1, z2, z3, z4, z5⟩ := o_clearText (d := d+33) (h := h) hm i x
  exact ⟨N, G', z1, z2, z3.trans g, z4, z5⟩⟩
end Y1
