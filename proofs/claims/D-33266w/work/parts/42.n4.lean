/-- the layers, if there are any that are as small as can be -/
noncomputable def t_ly (na : Nat) (fr to le : Nat → Nat) : Nat → Nat := @Classical.epsilon (Nat → Nat) ⟨fun _ => 0⟩ (t_LY na fr to le)
theorem t_ly_sp {na : Nat} {fr to le y : Nat → Nat} (h : t_LY na fr to le y) : t_LY na fr to le (t_ly na fr to le) := Classical.epsilon_spec (p := t_LY na fr to le) ⟨y, h⟩
/-- a diagram: boxes, arrows, from and to which boxes they go, least layers, points of all layers, sweeps, arrows that came -/
abbrev t_D : Type := Nat × Nat × (Nat → Nat) × (Nat → Nat) × (Nat → Nat) × (Nat → Nat → Nat) × Nat × Nat
noncomputable def t_nw (nb na : Nat) (fr to le : Nat → Nat) (ma co : Nat) : t_D := (nb, na, fr, to, le, t_r0 nb na fr to (t_ly na fr to le), ma, co)
/-- a diagram is in order -/
def t_OK (nb na : Nat) (fr to le : Nat → Nat) (y : Nat → Nat) (row : Nat → Nat → Nat) : Prop := nb ≤ 16 ∧ na ≤ 30 ∧ (∀ k, k < na → fr k < nb ∧ to k < nb) ∧ (∀ b, b < 16 → le b ≤ 9) ∧ (∀ b, nb ≤ b → b < 16 → le b = 0) ∧ (∃ r : Nat → Nat, t_RK na fr to r ∧ ∀ b, b < 16 → r b < 16) ∧ t_LY na fr to le y ∧ t_RW nb na fr to y row
/-- the model's array tells a diagram -/
def mD (a : Nat → Nat) : t_D → Prop := fun (nb, na, fr, to, le, row, ma, co) => t_OK nb na fr to le (t_ly na fr to le) row ∧ mS (fun _ => a) nb na fr to le ∧ mR (fun _ => a) nb na fr to (t_ly na fr to le) row ∧ a 78 = ma ∧ a 79 = co
theorem t_OK_BX {nb na : Nat} {fr to le y : Nat → Nat} {row : Nat → Nat → Nat} (o : t_OK nb na fr to le y row) : t_BX na fr to := fun k hk => by
  have := o.1
  have := o.2.2.1 k hk
  omega
theorem t_OK_y {nb na : Nat} {fr to le y : Nat → Nat} {row : Nat → Nat → Nat} (o : t_OK nb na fr to le y row) {b : Nat} (hb : b < 16) : y b < 25 := by
  have ⟨r, r1, r2⟩ := o.2.2.2.2.2.1
  have := t_LY_bd r1 (t_OK_BX o) o.2.2.2.1 o.2.2.2.2.2.2.1 _ b (Nat.le_refl _) hb
  have := r2 b hb
  omega
theorem t_pb_congr {y z : Nat → Nat} {l : Nat} : ∀ n, (∀ b, b < n → y b = z b) → t_pb y l n = t_pb z l n
  | 0, _ => rfl
  | n + 1, h => by
    unfold t_pb
    rw [t_pb_congr n (fun b hb => h b (by omega)), h n (by omega)]
theorem t_pa_congr {fr to y z : Nat → Nat} {l : Nat} : ∀ n, (∀ k, k < n → y (fr k) = z (fr k) ∧ y (to k) = z (to k)) → t_pa fr to y l n = t_pa fr to z l n
  | 0, _ => rfl
  | n + 1, h => by
    unfold t_pa
    have ⟨a, b⟩ := h n (by omega)
    rw [t_pa_congr n (fun b hb => h b (by omega)), a, b]
theorem t_ps_congr {nb na : Nat} {fr to y z : Nat → Nat} (h1 : ∀ b, b < nb → y b = z b) (h2 : ∀ k, k < na → fr k < nb ∧ to k < nb) : t_ps nb na fr to y = t_ps nb na fr to z := funext fun l => by
  unfold t_ps
  rw [t_pb_congr nb h1, t_pa_congr na fun k hk => ⟨h1 _ (h2 k hk).1, h1 _ (h2 k hk).2⟩]
theorem t_cn_congr {nb na : Nat} {fr to y z : Nat → Nat} (h : t_ps nb na fr to y = t_ps nb na fr to z) : t_cn nb na fr to y = t_cn nb na fr to z := funext fun l => by
  unfold t_cn
  rw [h]
theorem t_st_congr {nb na : Nat} {fr to y z : Nat → Nat} (h : t_ps nb na fr to y = t_ps nb na fr to z) : t_st nb na fr to y = t_st nb na fr to z := funext fun l => by
  unfold t_st
  rw [t_cn_congr h]
theorem t_dp_congr {y z : Nat → Nat} : ∀ n, (∀ b, b < n → y b = z b) → t_dp y n = t_dp z n
  | 0, _ => rfl
  | n + 1, h => by
    unfold t_dp
    rw [t_dp_congr n (fun b hb => h b (by omega)), h n (by omega)]
theorem t_cn_0 {nb na l : Nat} {fr to y : Nat → Nat} (hf : ∀ k, k < na → to k < nb) (hl : t_dp y nb ≤ l) : t_cn nb na fr to y l = 0 := by
  cases q : t_ps nb na fr to y l with
  | nil => unfold t_cn; rw [q]; rfl
  | cons x t =>
    exfalso
    have z : x ∈ t_ps nb na fr to y l := by rw [q]; exact List.mem_cons_self
    rw [t_ps_mem] at z
    rcases z with ⟨a, b⟩ | ⟨a, b, c, e⟩
    · have := t_dp_le (y := y) nb a; omega
    · have := t_dp_le (y := y) nb (hf (x - 100) (by omega)); omega
theorem mQ_congr {N : Nat → Nat → Nat} {G : Nat → Nat} {nb na : Nat} {fr to y z : Nat → Nat} (hn : nb ≤ 16) (h1 : ∀ b, b < 16 → y b = z b) (h2 : ∀ k, k < na → fr k < nb ∧ to k < nb) (q : mQ N G nb na fr to y) : mQ N G nb na fr to z := by
  have ⟨q1, q2, q3, q4⟩ := q
  have e := t_ps_congr (nb := nb) (na := na) (fr := fr) (to := to) (y := y) (z := z) (fun b hb => h1 b (by omega)) h2
  refine ⟨fun b hb => by rw [← h1 b hb]; exact q1 b hb, fun l hl => by rw [← t_st_congr e, ← t_cn_congr e]; exact q2 l hl, by rw [q3]; exact t_dp_congr nb fun b hb => h1 b (by omega), fun k hk => ?_⟩
  have ⟨a, b⟩ := h2 k hk
  rw [← h1 _ (show fr k < 16 by omega), ← h1 _ (show to k < 16 by omega)]
  exact q4 k hk
theorem mD_i {a b : Nat → Nat} {D : t_D} (h : ∀ i, i < 800 → a i = b i) (d : mD a D) : mD b D := by
  obtain ⟨nb, na, fr, to, le, row, ma, co⟩ := D
  have ⟨o, s, r, e1, e2⟩ := d
  refine ⟨o, mS_1 (N := fun _ => a) (fun i hi => (h i (by omega)).symm) s, fun l p hl hp => ?_, (h 78 (by decide)).symm.trans e1, (h 79 (by decide)).symm.trans e2⟩
  have st := t_st_p o.1 o.2.1 (fun k hk => by
    have := t_OK_y o (t_OK_BX o k hk).2
    omega) hp
  exact (h _ (by omega)).symm.trans (r l p hl hp)
/-- one more in the history, of which the oldest is lost if there are four -/
def t_pu (hs : List t_D) (D : t_D) : List t_D := (if hs.length = 4 then hs.drop 1 else hs) ++ [D]
/-- what the model tells: its diagram, the history, the snapshot -/
def mI (N : Nat → Nat → Nat) (G : Nat → Nat) (D : t_D) (hs : List t_D) (kp : Option t_D) : Prop := mD (N 0) D ∧ G 19 = hs.length ∧ hs.length ≤ 4 ∧ (∀ q E, hs[q]? = some E → mD (fun i => N 1 (800 * q + i)) E) ∧ match kp with
  | none => G 18 = 0
  | some K => G 18 = 1 ∧ mD (N 2) K
theorem mI_D {N N' : Nat → Nat → Nat} {G G' : Nat → Nat} {D D' : t_D} {hs : List t_D} {kp : Option t_D} (i : mI N G D hs kp) (h0 : mD (N' 0) D') (h1 : N' 1 = N 1) (h2 : N' 2 = N 2) (g1 : G' 18 = G 18) (g2 : G' 19 = G 19) : mI N' G' D' hs kp := by
  have ⟨_, i1, i2, i3, i4⟩ := i
  refine ⟨h0, g2.trans i1, i2, by rw [h1]; exact i3, ?_⟩
  cases kp with
  | none => exact g1.trans i4
  | some K => exact ⟨g1.trans i4.1, by rw [h2]; exact i4.2⟩
/-- what an order of the model leaves -/
def mF (N : Nat → Nat → Nat) (G : Nat → Nat) (N' : Nat → Nat → Nat) (G' : Nat → Nat) : Prop := N' 3 = N 3 ∧ N' 17 = N 17 ∧ N' 18 = N 18 ∧ ∀ k, k ≠ 7 → k ≠ 19 → k ≠ 21 → G' k = G k
theorem mF_tr {N N' N'' : Nat → Nat → Nat} {G G' G'' : Nat → Nat} (a : mF N G N' G') (b : mF N' G' N'' G'') : mF N G N'' G'' := ⟨b.1.trans a.1, b.2.1.trans a.2.1, b.2.2.1.trans a.2.2.1, fun k h1 h2 h3 => (b.2.2.2 k h1 h2 h3).trans (a.2.2.2 k h1 h2 h3)⟩
theorem mF_N {N N' : Nat → Nat → Nat} {G : Nat → Nat} (h3 : N' 3 = N 3) (h17 : N' 17 = N 17) (h18 : N' 18 = N 18) : mF N G N' G := ⟨h3, h17, h18, fun _ _ _ _ => rfl⟩
theorem mF_G {N : Nat → Nat → Nat} {G : Nat → Nat} {k x : Nat} (hk : k = 7 ∨ k = 19 ∨ k = 21) : mF N G N (uG G k x) := ⟨rfl, rfl, rfl, fun j h1 h2 h3 => uG_n (by omega)⟩
section N4
variable {d : Nat} {h : a_H} {m : Nat} {G : Nat → Nat} {N : Nat → Nat → Nat} {nb na : Nat} {fr to le r y : Nat → Nat} {row : Nat → Nat → Nat}
theorem n_looks {ma co : Nat} (hm : 1024 ≤ m) (D : mD (N 0) (nb, na, fr, to, le, row, ma, co)) : ∃ N' : Nat → Nat → Nat, (∀ j, j ≠ 4 → j ≠ 5 → j ≠ 6 → N' j = N j) ∧ mA N' (uG G 7 (t_dp (t_ly na fr to le) nb)) nb na fr to le (t_ly na fr to le) row ∧ a_call (d+1) MX3_looks [.ref m] (wN h m G N) = some (.inl none, wN h m (uG G 7 (t_dp (t_ly na fr to le) nb)) N') := by
  have ⟨o, s, rr, e1, e2⟩ := D
  have ⟨r, r1, r2⟩ := o.2.2.2.2.2.1
  have ⟨N', y, a1, a2, a3, a4⟩ := m_looks (d := d) (h := h) (G := G) (N := N) hm s r1 r2
  have ey : ∀ b, b < 16 → y b = t_ly na fr to le b := fun b hb => t_LY_eq r1 (t_OK_BX o) a1 o.2.2.2.2.2.2.1 b hb
  have ed : t_dp y nb = t_dp (t_ly na fr to le) nb := t_dp_congr nb fun b hb => ey b (by have := o.1; omega)
  rw [ed] at a2 a4
  have e0 := a3 0 (by decide) (by decide) (by decide)
  refine ⟨N', a3, ⟨mS_1 (fun i _ => congrFun e0 i) s, mQ_congr o.1 ey o.2.2.1 a4, fun l p hl hp => ?_, o.2.2.2.2.2.2.2⟩, a2⟩
  rw [e0]
  exact rr l p hl hp
/-- all is laid anew -/
theorem n_orders (hm : 1024 ≤ m) (s : mS N nb na fr to le) (hr : t_RK na fr to r) (hz : ∀ b, nb ≤ b → b < 16 → le b = 0) : ∃ N' : Nat → Nat → Nat, (∀ j, j ≠ 0 → j ≠ 4 → j ≠ 5 → j ≠ 6 → N' j = N j) ∧ mD (N' 0) (t_nw nb na fr to le (N 0 78) (N 0 79)) ∧ a_call (d+2) MX3_orders [.ref m] (wN h m G N) = some (.inl none, wN h m (uG G 7 (t_dp (t_ly na fr to le) nb)) N') := by
  have hb := mS_BX s
  have ⟨q, q1, q2⟩ := t_RK_small hr hb
  have ⟨N', y, a1, a2, a3, a4, a5, a6⟩ := m_orders (d := d) (h := h) (G := G) (N := N) hm s q1 q2
  have lz := t_ly_sp a1
  have ey : ∀ b, b < 16 → y b = t_ly na fr to le b := fun b hb2 => t_LY_eq q1 hb a1 lz b hb2
  have s1 := s.1
  have ed : t_dp y nb = t_dp (t_ly na fr to le) nb := t_dp_congr nb fun b hb => ey b (by omega)
  have ep := t_ps_congr (nb := nb) (na := na) (fr := fr) (to := to) (y := y) (z := t_ly na fr to le) (fun b hb => ey b (by omega)) (fun k hk => (s.2.2.2.2.1 k hk).2.2)
  rw [ed] at a2
  refine ⟨N', a3, ⟨⟨s1, s.2.1, fun k hk => (s.2.2.2.2.1 k hk).2.2, fun b hb => (s.2.2.2.2.2 b hb).2, hz, ⟨q, q1, q2⟩, lz, t_r0_RW (by omega)⟩, mS_1 a4 s, fun l p hl hp => ?_, a4 78 (by decide), a4 79 (by decide)⟩, a2⟩
  rw [← t_cn_congr ep] at hp
  rw [← t_st_congr ep]
  by_cases c : l < t_dp y nb
  · have := a6 l p c hp
    unfold t_r0 at this ⊢
    rw [ep] at this
    rw [← ep] at this ⊢
    exact this
  · rw [t_cn_0 (fun k hk => (s.2.2.2.2.1 k hk).2.2.2) (by omega)] at hp
    omega
/-- the diagram as it is goes into the history, but not while a text is done -/
theorem n_changesI {D : t_D} {hs : List t_D} {kp : Option t_D} (hm : 1024 ≤ m) (i : mI N G D hs kp) (hr : G 20 ≤ 1) : ∃ (N' : Nat → Nat → Nat) (G' : Nat → Nat), (∀ j, j ≠ 1 → N' j = N j) ∧ (∀ k, k ≠ 19 → G' k = G k) ∧ mI N' G' D (if G 20 = 1 then hs else t_pu hs D) kp ∧ a_call (d+1) MX3_changes [.ref m] (wN h m G N) = some (.inl none, wN h m G' N') := by
  by_cases c : G 20 = 1
  · rw [if_pos c]
    exact ⟨N, G, fun _ _ => rfl, fun _ _ => rfl, i, n_changes1 hm c⟩
  · rw [if_neg c]
    have ⟨i0, i1, i2, i3, i4⟩ := i
    have ⟨N', a1, a2, a3, a4⟩ := n_changes (d := d) (h := h) (N := N) (p := hs.length) hm (show G 20 = 0 by omega) i2 i1
    refine ⟨N', uG G 19 ((if hs.length = 4 then 3 else hs.length) + 1), a1, fun k hk => uG_n hk, ⟨by rw [a1 0 (by decide)]; exact i0, ?_, ?_, fun q E hq => ?_, ?_⟩, a4⟩
    · rw [uG_s]
      unfold t_pu
      rw [List.length_append, List.length_singleton]
      split
      · next e => rw [List.length_drop, e]
      · rfl
    · unfold t_pu
      rw [List.length_append, List.length_singleton]
      split
      · rw [List.length_drop]; omega
      · omega
    · unfold t_pu at hq
      have le : (if hs.length = 4 then hs.drop 1 else hs).length = if hs.length = 4 then 3 else hs.length := by
        split
        · next e => rw [List.length_drop, e]
        · rfl
      by_cases c2 : q < if hs.length = 4 then 3 else hs.length
      · rw [List.getElem?_append_left (by rw [le]; exact c2)] at hq
        refine mD_i (fun i hi => (a3 q i c2 hi).symm) ?_
        by_cases c3 : hs.length = 4
        · rw [if_pos c3] at hq ⊢
          rw [List.getElem?_drop, Nat.add_comm] at hq
          exact i3 (q + 1) E hq
        · rw [if_neg c3] at hq ⊢
          exact i3 q E hq
      · rw [List.getElem?_append_right (by rw [le]; omega)] at hq
        have e : q = (if hs.length = 4 then 3 else hs.length) := by
          by_cases z : q - (if hs.length = 4 then hs.drop 1 else hs).length = 0
          · rw [le] at z; omega
          · rw [List.getElem?_singleton, if_neg z] at hq
            cases hq
        subst e
        rw [le, Nat.sub_self] at hq
        cases hq
        exact mD_i (fun i hi => (a2 i hi).symm) i0
    · cases kp with
      | none => exact (uG_n (by decide)).trans i4
      | some K => exact ⟨(uG_n (by decide)).trans i4.1, by rw [a1 2 (by decide)]; exact i4.2⟩
end N4
