theorem t_gd_snoc {L : List Nat} {x p : Nat} (h : p < L.length + 1) : (L ++ [x]).getD p 0 = if p = L.length then x else L.getD p 0 := by
  by_cases e : p = L.length
  · subst e
    rw [if_pos rfl, t_gd (by rw [List.length_append]; exact Nat.lt_succ_self _)]
    simp
  · rw [if_neg e, t_gd (by rw [List.length_append]; exact h), t_gd (show p < L.length by omega), List.getElem_append_left]
theorem t_pb_mono {y : Nat → Nat} {l k n : Nat} (h : k ≤ n) : (t_pb y l k).length ≤ (t_pb y l n).length := by
  induction h with
  | refl => exact Nat.le_refl _
  | step _ i =>
    refine Nat.le_trans i ?_
    rw [show ∀ n, t_pb y l (n + 1) = t_pb y l n ++ (if y n = l then [n] else []) from fun _ => rfl, List.length_append]
    exact Nat.le_add_right _ _
theorem t_pa_mono {fr to y : Nat → Nat} {l k n : Nat} (h : k ≤ n) : (t_pa fr to y l k).length ≤ (t_pa fr to y l n).length := by
  induction h with
  | refl => exact Nat.le_refl _
  | step _ i =>
    refine Nat.le_trans i ?_
    rw [show ∀ n, t_pa fr to y l (n + 1) = t_pa fr to y l n ++ (if y (fr n) < l ∧ l < y (to n) then [100 + n] else []) from fun _ => rfl, List.length_append]
    exact Nat.le_add_right _ _
theorem t_cn_eq {nb na l : Nat} {fr to y : Nat → Nat} : t_cn nb na fr to y l = (t_pb y l nb).length + (t_pa fr to y l na).length := List.length_append
theorem t_st_mono {nb na l n : Nat} {fr to y : Nat → Nat} (h : l ≤ n) : t_st nb na fr to y l ≤ t_st nb na fr to y n := t_sum_mono h
theorem t_st_s {nb na l : Nat} {fr to y : Nat → Nat} : t_st nb na fr to y (l + 1) = t_st nb na fr to y l + t_cn nb na fr to y l := rfl
theorem t_st_far {nb na l l' p : Nat} {fr to y : Nat → Nat} (h : l' < l) (hp : p < t_cn nb na fr to y l') : t_st nb na fr to y l' + p < t_st nb na fr to y l := by
  have := t_st_mono (nb := nb) (na := na) (fr := fr) (to := to) (y := y) (show l' + 1 ≤ l from h)
  rw [t_st_s] at this
  omega
theorem t_st_inj {nb na l l' p p' : Nat} {fr to y : Nat → Nat} (hp : p < t_cn nb na fr to y l) (hp' : p' < t_cn nb na fr to y l') (e : t_st nb na fr to y l + p = t_st nb na fr to y l' + p') : l = l' ∧ p = p' := by
  by_cases c1 : l < l'
  · have := t_st_far c1 hp; omega
  · by_cases c2 : l' < l
    · have := t_st_far c2 hp'; omega
    · have : l = l' := by omega
      subst this
      exact ⟨rfl, by omega⟩
def q_cd (x : Int32) : Nat := x.toBitVec.toNat
theorem q_cd_eq (x : Int32) : nI (q_cd x) = x := Int32.toBitVec_inj.mp (by simp [nI, q_cd])
