/-- a sum over the first -/
def t_sum (f : Nat → Nat) : Nat → Nat
  | 0 => 0
  | n + 1 => t_sum f n + f n
theorem t_sum_congr {f g : Nat → Nat} : ∀ n, (∀ i, i < n → f i = g i) → t_sum f n = t_sum g n
  | 0, _ => rfl
  | n+1, h => by unfold t_sum; rw [t_sum_congr n (fun i hi => h i (by omega)), h n (by omega)]
theorem t_sum_le {f g : Nat → Nat} : ∀ n, (∀ i, i < n → f i ≤ g i) → t_sum f n ≤ t_sum g n
  | 0, _ => Nat.le_refl 0
  | n+1, h => by
    have := t_sum_le n (fun i hi => h i (by omega))
    have := h n (by omega)
    unfold t_sum; omega
theorem t_sum_lt {f g : Nat → Nat} {x : Nat} (hx : f x < g x) : ∀ n, x < n → (∀ i, i < n → f i ≤ g i) → t_sum f n < t_sum g n
  | 0, h, _ => by omega
  | n+1, hn, h => by
    by_cases e : x = n
    · subst e
      have := t_sum_le x (fun i hi => h i (by omega))
      unfold t_sum; omega
    · have := t_sum_lt hx n (by omega) (fun i hi => h i (by omega))
      have := h n (by omega)
      unfold t_sum; omega
theorem t_sum_add {f g : Nat → Nat} : ∀ n, t_sum (fun i => f i + g i) n = t_sum f n + t_sum g n
  | 0 => rfl
  | n+1 => by unfold t_sum; rw [t_sum_add n]; omega
theorem t_sum_0 : ∀ n, t_sum (fun _ => 0) n = 0
  | 0 => rfl
  | n+1 => by unfold t_sum; rw [t_sum_0 n]
theorem t_sum_const {c : Nat} : ∀ n, t_sum (fun _ => c) n = n * c
  | 0 => by simp [t_sum]
  | n+1 => by unfold t_sum; rw [t_sum_const n, Nat.succ_mul]
theorem t_sum_swap {f : Nat → Nat → Nat} : ∀ n m, t_sum (fun i => t_sum (fun j => f i j) m) n = t_sum (fun j => t_sum (fun i => f i j) n) m
  | 0, m => (t_sum_0 m).symm
  | n+1, m => by
    show t_sum (fun i => t_sum (fun j => f i j) m) n + t_sum (fun j => f n j) m = _
    rw [t_sum_swap n m, ← t_sum_add]
    rfl
theorem t_sum_mem {f : Nat → Nat} {x : Nat} : ∀ n, x < n → f x ≤ t_sum f n
  | 0, h => by omega
  | n+1, h => by
    unfold t_sum
    by_cases e : x = n
    · subst e; omega
    · have := t_sum_mem (f := f) n (show x < n by omega); omega
theorem t_sum_mono {f : Nat → Nat} {n m : Nat} (h : n ≤ m) : t_sum f n ≤ t_sum f m := by
  induction h with
  | refl => exact Nat.le_refl _
  | step _ i => exact Nat.le_trans i (Nat.le_add_right _ _)
theorem t_sum_ind' {a b : Nat} : ∀ n, t_sum (fun i => if a < i ∧ i < b then 1 else 0) n ≤ (min n b) - a - 1
  | 0 => Nat.zero_le _
  | n+1 => by
    have ih := t_sum_ind' (a := a) (b := b) n
    unfold t_sum
    split <;> omega
theorem t_sum_ind {a b : Nat} (n : Nat) : t_sum (fun i => if a < i ∧ i < b then 1 else 0) n ≤ b - a - 1 := by
  have := t_sum_ind' (a := a) (b := b) n
  omega
theorem t_sum_one {a : Nat} : ∀ n, t_sum (fun i => if a = i then 1 else 0) n = if a < n then 1 else 0
  | 0 => rfl
  | n+1 => by
    unfold t_sum
    rw [t_sum_one n]
    split <;> split <;> split <;> omega
/-- the boxes of a layer, in order -/
def t_pb (y : Nat → Nat) (l : Nat) : Nat → List Nat
  | 0 => []
  | n + 1 => t_pb y l n ++ if y n = l then [n] else []
/-- the points of arrows in a layer, in order -/
def t_pa (fr to y : Nat → Nat) (l : Nat) : Nat → List Nat
  | 0 => []
  | n + 1 => t_pa fr to y l n ++ if y (fr n) < l ∧ l < y (to n) then [100 + n] else []
def t_ps (nb na : Nat) (fr to y : Nat → Nat) (l : Nat) : List Nat := t_pb y l nb ++ t_pa fr to y l na
/-- how many points a layer has -/
def t_cn (nb na : Nat) (fr to y : Nat → Nat) (l : Nat) : Nat := (t_ps nb na fr to y l).length
/-- where a layer begins -/
def t_st (nb na : Nat) (fr to y : Nat → Nat) (l : Nat) : Nat := t_sum (t_cn nb na fr to y) l
/-- a point as at first -/
def t_r0 (nb na : Nat) (fr to y : Nat → Nat) (l p : Nat) : Nat := (t_ps nb na fr to y l).getD p 0
/-- what is a point of a layer -/
def t_is (nb na : Nat) (fr to y : Nat → Nat) (l x : Nat) : Prop := (x < nb ∧ y x = l) ∨ (100 ≤ x ∧ x < 100 + na ∧ y (fr (x - 100)) < l ∧ l < y (to (x - 100)))
/-- how many layers -/
def t_dp (y : Nat → Nat) : Nat → Nat
  | 0 => 0
  | n + 1 => if t_dp y n < y n + 1 then y n + 1 else t_dp y n
theorem t_dp_le {y : Nat → Nat} {b : Nat} : ∀ n, b < n → y b < t_dp y n
  | 0, h => by omega
  | n+1, h => by
    unfold t_dp
    by_cases e : b = n
    · subst e; split <;> omega
    · have := t_dp_le (y := y) n (show b < n by omega)
      split <;> omega
theorem t_dp_bd {y : Nat → Nat} {c : Nat} : ∀ n, (∀ b, b < n → y b < c) → t_dp y n ≤ c
  | 0, _ => Nat.zero_le _
  | n+1, h => by
    have i := t_dp_bd n (fun b hb => h b (by omega))
    have := h n (by omega)
    unfold t_dp
    split <;> omega
theorem t_pb_len {y : Nat → Nat} {l : Nat} : ∀ n, (t_pb y l n).length ≤ n
  | 0 => Nat.le_refl 0
  | n+1 => by
    have := t_pb_len (y := y) (l := l) n
    unfold t_pb
    rw [List.length_append]
    split <;> simp <;> omega
theorem t_pa_len {fr to y : Nat → Nat} {l : Nat} : ∀ n, (t_pa fr to y l n).length ≤ n
  | 0 => Nat.le_refl 0
  | n+1 => by
    have := t_pa_len (fr := fr) (to := to) (y := y) (l := l) n
    unfold t_pa
    rw [List.length_append]
    split <;> simp <;> omega
theorem t_cn_le {nb na : Nat} {fr to y : Nat → Nat} {l : Nat} : t_cn nb na fr to y l ≤ nb + na := by
  unfold t_cn t_ps
  rw [List.length_append]
  have := t_pb_len (y := y) (l := l) nb
  have := t_pa_len (fr := fr) (to := to) (y := y) (l := l) na
  omega
theorem t_pb_sum {y : Nat → Nat} : ∀ n m, t_sum (fun l => (t_pb y l n).length) m ≤ n
  | 0, m => by
    show t_sum (fun _ => 0) m ≤ 0
    rw [t_sum_0]; exact Nat.le_refl 0
  | n+1, m => by
    have i := t_pb_sum (y := y) n m
    have e : t_sum (fun l => (t_pb y l (n+1)).length) m = t_sum (fun l => (t_pb y l n).length) m + t_sum (fun l => if y n = l then 1 else 0) m := by
      rw [← t_sum_add]
      refine t_sum_congr m fun l _ => ?_
      show (t_pb y l n ++ if y n = l then [n] else []).length = _
      rw [List.length_append]
      split <;> rfl
    rw [e, t_sum_one]
    split <;> omega
theorem t_pa_sum {fr to y : Nat → Nat} {c : Nat} : ∀ n m, (∀ k, k < n → y (to k) ≤ c + 1) → t_sum (fun l => (t_pa fr to y l n).length) m ≤ n * c
  | 0, m, _ => by
    show t_sum (fun _ => 0) m ≤ _
    rw [t_sum_0]; exact Nat.zero_le _
  | n+1, m, h => by
    have i := t_pa_sum (fr := fr) (to := to) n m (fun k hk => h k (by omega))
    have e : t_sum (fun l => (t_pa fr to y l (n+1)).length) m = t_sum (fun l => (t_pa fr to y l n).length) m + t_sum (fun l => if y (fr n) < l ∧ l < y (to n) then 1 else 0) m := by
      rw [← t_sum_add]
      refine t_sum_congr m fun l _ => ?_
      show (t_pa fr to y l n ++ if y (fr n) < l ∧ l < y (to n) then [100 + n] else []).length = _
      rw [List.length_append]
      split <;> rfl
    have := t_sum_ind (a := y (fr n)) (b := y (to n)) m
    have := h n (by omega)
    rw [e, Nat.succ_mul]
    omega
/-- all points find room -/
theorem t_st_le {nb na : Nat} {fr to y : Nat → Nat} (hb : nb ≤ 16) (ha : na ≤ 30) (hy : ∀ k, k < na → y (to k) ≤ 24) (m : Nat) : t_st nb na fr to y m ≤ 706 := by
  have e : t_st nb na fr to y m = t_sum (fun l => (t_pb y l nb).length) m + t_sum (fun l => (t_pa fr to y l na).length) m := by
    rw [← t_sum_add]
    exact t_sum_congr m fun l _ => List.length_append
  have a := t_pb_sum (y := y) nb m
  have b := t_pa_sum (fr := fr) (to := to) (y := y) (c := 23) na m hy
  have : na * 23 ≤ 30 * 23 := Nat.mul_le_mul_right 23 ha
  omega
theorem t_st_p {nb na : Nat} {fr to y : Nat → Nat} {l p : Nat} (hb : nb ≤ 16) (ha : na ≤ 30) (hy : ∀ k, k < na → y (to k) ≤ 24) (hp : p < t_cn nb na fr to y l) : t_st nb na fr to y l + p < 706 := by
  have h := t_st_le (nb := nb) (fr := fr) hb ha hy (l + 1)
  have : t_st nb na fr to y (l + 1) = t_st nb na fr to y l + t_cn nb na fr to y l := rfl
  omega
theorem t_pb_mem {y : Nat → Nat} {l x : Nat} : ∀ n, x ∈ t_pb y l n ↔ x < n ∧ y x = l
  | 0 => by simp [t_pb]
  | n+1 => by
    unfold t_pb
    rw [List.mem_append, t_pb_mem n]
    by_cases e : x = n
    · subst e
      split <;> simp <;> omega
    · split <;> simp <;> omega
theorem t_pa_mem {fr to y : Nat → Nat} {l x : Nat} : ∀ n, x ∈ t_pa fr to y l n ↔ 100 ≤ x ∧ x < 100 + n ∧ y (fr (x - 100)) < l ∧ l < y (to (x - 100))
  | 0 => by simp [t_pa]; omega
  | n+1 => by
    unfold t_pa
    rw [List.mem_append, t_pa_mem n]
    by_cases e : x = 100 + n
    · subst e
      rw [Nat.add_sub_cancel_left]
      split <;> simp <;> omega
    · split <;> simp <;> omega
theorem t_ps_mem {nb na : Nat} {fr to y : Nat → Nat} {l x : Nat} : x ∈ t_ps nb na fr to y l ↔ t_is nb na fr to y l x := by
  unfold t_ps t_is
  rw [List.mem_append, t_pb_mem, t_pa_mem]
theorem t_pb_nodup {y : Nat → Nat} {l : Nat} : ∀ n, (t_pb y l n).Nodup
  | 0 => List.nodup_nil
  | n+1 => by
    unfold t_pb
    rw [List.nodup_append]
    refine ⟨t_pb_nodup n, by split <;> simp, fun a ha b hb e => ?_⟩
    rw [t_pb_mem] at ha
    split at hb
    · simp at hb; omega
    · simp at hb
theorem t_pa_nodup {fr to y : Nat → Nat} {l : Nat} : ∀ n, (t_pa fr to y l n).Nodup
  | 0 => List.nodup_nil
  | n+1 => by
    unfold t_pa
    rw [List.nodup_append]
    refine ⟨t_pa_nodup n, by split <;> simp, fun a ha b hb e => ?_⟩
    rw [t_pa_mem] at ha
    split at hb
    · simp at hb; omega
    · simp at hb
theorem t_gd {L : List Nat} {p : Nat} (h : p < L.length) : L.getD p 0 = L[p] := by
  rw [List.getD_eq_getElem?_getD, List.getElem?_eq_getElem h]
  rfl
theorem t_ps_nodup {nb na : Nat} {fr to y : Nat → Nat} {l : Nat} (hb : nb ≤ 100) : (t_ps nb na fr to y l).Nodup := by
  unfold t_ps
  rw [List.nodup_append]
  refine ⟨t_pb_nodup nb, t_pa_nodup na, fun a ha b hb e => ?_⟩
  rw [t_pb_mem] at ha
  rw [t_pa_mem] at hb
  omega
/-- the points of all layers stand in order: each once -/
def t_RW (nb na : Nat) (fr to y : Nat → Nat) (row : Nat → Nat → Nat) : Prop := ∀ l, (∀ p, p < t_cn nb na fr to y l → t_is nb na fr to y l (row l p)) ∧ (∀ x, t_is nb na fr to y l x → ∃ p, p < t_cn nb na fr to y l ∧ row l p = x) ∧ ∀ p q, p < t_cn nb na fr to y l → q < t_cn nb na fr to y l → row l p = row l q → p = q
theorem t_r0_RW {nb na : Nat} {fr to y : Nat → Nat} (hb : nb ≤ 100) : t_RW nb na fr to y (t_r0 nb na fr to y) := fun l => by
  unfold t_cn t_r0
  refine ⟨fun p hp => ?_, fun x hx => ?_, fun p q hp hq e => ?_⟩
  · rw [← t_ps_mem, t_gd hp]
    exact List.getElem_mem hp
  · rw [← t_ps_mem] at hx
    have ⟨p, hp, e⟩ := List.getElem_of_mem hx
    exact ⟨p, hp, by rw [t_gd hp, e]⟩
  · rw [t_gd hp, t_gd hq] at e
    exact (List.getElem_inj (t_ps_nodup hb)).mp e
