theorem p_sm_snoc {f : Nat → Nat} : ∀ r j, p_sm f j (r + 1) = p_sm f j r + f (j + r)
  | 0, j => by simp [p_sm]
  | r + 1, j => by
    have i := p_sm_snoc (f := f) r (j + 1)
    show f j + p_sm f (j + 1) (r + 1) = f j + p_sm f (j + 1) r + f (j + (r + 1))
    rw [i, show j + 1 + r = j + (r + 1) by omega, Nat.add_assoc]
theorem p_sm_sum {f : Nat → Nat} : ∀ n, p_sm f 0 n = t_sum f n
  | 0 => rfl
  | n + 1 => by rw [p_sm_snoc, p_sm_sum n, Nat.zero_add]; rfl
theorem t_sum_pick {a : Nat} {f : Nat → Nat} : ∀ n, t_sum (fun i => if a = i then f i else 0) n = if a < n then f a else 0
  | 0 => rfl
  | n+1 => by
    unfold t_sum
    rw [t_sum_pick n]
    by_cases e : a = n
    · subst e
      rw [if_neg (Nat.lt_irrefl a), if_pos rfl, if_pos (Nat.lt_succ_self a), Nat.zero_add]
    · rw [if_neg e]
      by_cases c : a < n
      · rw [if_pos c, if_pos (by omega), Nat.add_zero]
      · rw [if_neg c, if_neg (by omega)]
theorem t_sum_mul {c : Nat} {f : Nat → Nat} : ∀ n, t_sum (fun i => f i * c) n = t_sum f n * c
  | 0 => by simp [t_sum]
  | n+1 => by unfold t_sum; rw [t_sum_mul n, Nat.add_mul]
theorem t_sum_mul' {c : Nat} {f : Nat → Nat} : ∀ n, t_sum (fun i => c * f i) n = c * t_sum f n
  | 0 => by simp [t_sum]
  | n+1 => by unfold t_sum; rw [t_sum_mul' n, Nat.mul_add]
/-- all pairs, each in both orders -/
theorem t_sum_pairs {X : Nat → Nat → Nat} : ∀ n, t_sum (fun k => t_sum (fun j => X k j) n) n = t_sum (fun k => X k k + t_sum (fun j => X k j + X j k) k) n
  | 0 => rfl
  | n+1 => by
    have e1 : t_sum (fun k => t_sum (fun j => X k j) (n+1)) (n+1) = t_sum (fun k => t_sum (fun j => X k j) n + X k n) n + (t_sum (fun j => X n j) n + X n n) := rfl
    have e2 : t_sum (fun k => X k k + t_sum (fun j => X k j + X j k) k) (n+1) = t_sum (fun k => X k k + t_sum (fun j => X k j + X j k) k) n + (X n n + t_sum (fun j => X n j + X j n) n) := rfl
    rw [e1, e2, t_sum_add, t_sum_pairs n, t_sum_add (f := fun j => X n j)]
    omega
/-- a line stands on the left above and on the right below -/
def t_X (ps : Nat → Bool) (u v : Nat → Nat) (k j : Nat) : Nat := if ps k = true ∧ ps j = true ∧ u j < u k ∧ v k < v j then 1 else 0
theorem t_cross_X {ps : Nat → Bool} {u v : Nat → Nat} (n : Nat) : p_sm (p_c1 ps u v) 0 n = t_sum (fun k => t_sum (fun j => t_X ps u v k j) n) n := by
  rw [t_sum_pairs, p_sm_sum]
  refine t_sum_congr n fun k _ => ?_
  have e0 : t_X ps u v k k = 0 := if_neg fun h => Nat.lt_irrefl _ h.2.2.1
  rw [e0, Nat.zero_add]
  unfold p_c1
  by_cases c : ps k = true
  · rw [if_pos c, p_sm_sum]
    refine t_sum_congr k fun j _ => ?_
    unfold p_cr t_X
    by_cases z : ps j = true
    · simp only [c, z, true_and]
      split <;> split <;> split <;> omega
    · simp [z]
  · rw [if_neg c]
    symm
    rw [show (fun j => t_X ps u v k j + t_X ps u v j k) = fun _ => 0 from funext fun j => by simp [t_X, c]]
    exact t_sum_0 k
/-- how many lines go from a place to a place below -/
def t_ln (na : Nat) (ps : Nat → Bool) (u v : Nat → Nat) (a b : Nat) : Nat := t_sum (fun k => if ps k = true ∧ u k = a ∧ v k = b then 1 else 0) na
/-- how many lines that stand on the left of a place above go to a place below -/
def t_bl (na : Nat) (ps : Nat → Bool) (u v : Nat → Nat) (a b : Nat) : Nat := t_sum (fun k => if ps k = true ∧ u k < a ∧ v k = b then 1 else 0) na
theorem t_bl_0 {na : Nat} {ps : Nat → Bool} {u v : Nat → Nat} {b : Nat} : t_bl na ps u v 0 b = 0 := by
  unfold t_bl
  rw [show (fun k => if ps k = true ∧ u k < 0 ∧ v k = b then 1 else 0) = fun _ => 0 from funext fun k => if_neg fun h => Nat.not_lt_zero _ h.2.1]
  exact t_sum_0 na
theorem t_bl_s {na : Nat} {ps : Nat → Bool} {u v : Nat → Nat} {a b : Nat} : t_bl na ps u v (a + 1) b = t_bl na ps u v a b + t_ln na ps u v a b := by
  unfold t_bl t_ln
  rw [← t_sum_add]
  refine t_sum_congr na fun k _ => ?_
  by_cases z : ps k = true
  · simp only [z, true_and]
    split <;> split <;> split <;> omega
  · simp [z]
theorem t_put {na n m : Nat} {ps : Nat → Bool} {u v : Nat → Nat} (h : ∀ k, k < na → ps k = true → u k < n ∧ v k < m) : t_sum (fun a => t_sum (fun b => t_sum (fun r => if b < r then t_ln na ps u v a b * t_bl na ps u v a r else 0) m) m) n = p_sm (p_c1 ps u v) 0 na := by
  rw [t_cross_X]
  let B : Nat → Nat → Nat := fun a b => t_sum (fun j => if ps j = true ∧ u j < a ∧ b < v j then 1 else 0) na
  have e1 : ∀ a b, t_sum (fun r => if b < r then t_ln na ps u v a b * t_bl na ps u v a r else 0) m = t_ln na ps u v a b * B a b := by
    intro a b
    rw [show (fun r => if b < r then t_ln na ps u v a b * t_bl na ps u v a r else 0) = fun r => t_ln na ps u v a b * (if b < r then t_bl na ps u v a r else 0) from funext fun r => by split <;> simp, t_sum_mul']
    congr 1
    rw [show (fun r => if b < r then t_bl na ps u v a r else 0) = fun r => t_sum (fun j => if v j = r then (if ps j = true ∧ u j < a ∧ b < v j then 1 else 0) else 0) na from funext fun r => by
      unfold t_bl
      split
      · next c =>
        refine t_sum_congr na fun j _ => ?_
        by_cases z : v j = r
        · simp [z, c]
        · simp [z]
      · next c =>
        symm
        rw [show (fun j => if v j = r then (if ps j = true ∧ u j < a ∧ b < v j then 1 else 0) else 0) = fun _ => 0 from funext fun j => by
          split
          · next z => exact if_neg fun q => c (z ▸ q.2.2)
          · rfl]
        exact t_sum_0 na, t_sum_swap]
    refine t_sum_congr na fun j hj => ?_
    rw [t_sum_pick (f := fun r => if ps j = true ∧ u j < a ∧ b < v j then 1 else 0)]
    split
    · rfl
    · next c => exact (if_neg fun q => c (h j hj q.1).2).symm
  have e2 : ∀ a, t_sum (fun b => t_ln na ps u v a b * B a b) m = t_sum (fun k => if ps k = true ∧ u k = a then B a (v k) else 0) na := by
    intro a
    rw [show (fun b => t_ln na ps u v a b * B a b) = fun b => t_sum (fun k => if v k = b then (if ps k = true ∧ u k = a then B a b else 0) else 0) na from funext fun b => by
      unfold t_ln
      rw [← t_sum_mul]
      refine t_sum_congr na fun k _ => ?_
      by_cases z : v k = b
      · by_cases z2 : ps k = true ∧ u k = a
        · rw [if_pos ⟨z2.1, z2.2, z⟩, if_pos z, if_pos z2, Nat.one_mul]
        · rw [if_neg fun q => z2 ⟨q.1, q.2.1⟩, if_pos z, if_neg z2, Nat.zero_mul]
      · rw [if_neg fun q => z q.2.2, if_neg z, Nat.zero_mul], t_sum_swap]
    refine t_sum_congr na fun k hk => ?_
    rw [t_sum_pick (f := fun b => if ps k = true ∧ u k = a then B a b else 0)]
    split
    · rfl
    · next c => exact (if_neg fun q => c (h k hk q.1).2).symm
  rw [t_sum_congr n fun a _ => (t_sum_congr m fun b _ => e1 a b).trans (e2 a), t_sum_swap]
  refine t_sum_congr na fun k hk => ?_
  rw [show (fun a => if ps k = true ∧ u k = a then B a (v k) else 0) = fun a => if u k = a then (if ps k = true then B a (v k) else 0) else 0 from funext fun a => by
    by_cases z : u k = a
    · by_cases z2 : ps k = true
      · rw [if_pos ⟨z2, z⟩, if_pos z, if_pos z2]
      · rw [if_neg fun q => z2 q.1, if_pos z, if_neg z2]
    · rw [if_neg fun q => z q.2, if_neg z], t_sum_pick (f := fun a => if ps k = true then B a (v k) else 0)]
  by_cases z : ps k = true
  · rw [if_pos (h k hk z).1, if_pos z]
    refine t_sum_congr na fun j _ => ?_
    unfold t_X
    simp [z]
  · rw [if_neg z, show (fun j => t_X ps u v k j) = fun _ => 0 from funext fun j => if_neg fun q => z q.1, t_sum_0]
    split <;> rfl
/-- a point of an arrow is a point of the layer -/
theorem t_pt_is {nb na k l : Nat} {fr to y : Nat → Nat} (hk : k < na) (h1 : fr k < nb) (h2 : to k < nb) (a : y (fr k) ≤ l) (b : l ≤ y (to k)) : t_is nb na fr to y l (p_pt fr to y k l) := by
  unfold t_is p_pt
  by_cases c1 : l = y (fr k)
  · rw [if_pos c1]; exact Or.inl ⟨h1, c1.symm⟩
  · by_cases c2 : l = y (to k)
    · rw [if_neg c1, if_pos c2]; exact Or.inl ⟨h2, c2.symm⟩
    · rw [if_neg c1, if_neg c2, Nat.add_sub_cancel_left]
      exact Or.inr ⟨by omega, by omega, by omega, by omega⟩
/-- the neighbours above, by the arrows -/
theorem t_nb_up {nb na k l x : Nat} {fr to y : Nat → Nat} (hn : nb ≤ 16) (h1 : fr k < nb) (h2 : to k < nb) (hy : y (fr k) < y (to k)) (hx : t_is nb na fr to y l x) : ((y (fr k) < l ∧ l ≤ y (to k)) ∧ p_pt fr to y k l = x) ↔ (if 100 ≤ x then x - 100 = k else to k = x) := by
  unfold p_pt
  rcases hx with ⟨q1, q2⟩ | ⟨q1, q2, q3, q4⟩
  · rw [if_neg (show ¬ 100 ≤ x by omega)]
    constructor
    · rintro ⟨⟨a, b⟩, e⟩
      rw [if_neg (by omega)] at e
      by_cases c : l = y (to k)
      · rw [if_pos c] at e; exact e
      · rw [if_neg c] at e; omega
    · intro e
      rw [e] at hy ⊢
      exact ⟨⟨by omega, by omega⟩, by rw [if_neg (by omega), if_pos q2.symm]⟩
  · rw [if_pos q1]
    constructor
    · rintro ⟨⟨a, b⟩, e⟩
      rw [if_neg (by omega)] at e
      by_cases c : l = y (to k)
      · rw [if_pos c] at e; omega
      · rw [if_neg c] at e; omega
    · intro e
      rw [e] at q3 q4
      exact ⟨⟨q3, by omega⟩, by rw [if_neg (by omega), if_neg (by omega)]; omega⟩
theorem t_nb_dn {nb na k l x : Nat} {fr to y : Nat → Nat} (hn : nb ≤ 16) (h1 : fr k < nb) (h2 : to k < nb) (hy : y (fr k) < y (to k)) (hx : t_is nb na fr to y l x) : ((y (fr k) ≤ l ∧ l < y (to k)) ∧ p_pt fr to y k l = x) ↔ (if 100 ≤ x then x - 100 = k else fr k = x) := by
  unfold p_pt
  rcases hx with ⟨q1, q2⟩ | ⟨q1, q2, q3, q4⟩
  · rw [if_neg (show ¬ 100 ≤ x by omega)]
    constructor
    · rintro ⟨⟨a, b⟩, e⟩
      by_cases c : l = y (fr k)
      · rw [if_pos c] at e; exact e
      · rw [if_neg c, if_neg (by omega)] at e; omega
    · intro e
      rw [e] at hy ⊢
      exact ⟨⟨by omega, by omega⟩, if_pos q2.symm⟩
  · rw [if_pos q1]
    constructor
    · rintro ⟨⟨a, b⟩, e⟩
      by_cases c : l = y (fr k)
      · rw [if_pos c] at e; omega
      · rw [if_neg c, if_neg (by omega)] at e; omega
    · intro e
      rw [e] at q3 q4
      exact ⟨⟨by omega, q4⟩, by rw [if_neg (by omega), if_neg (by omega)]; omega⟩
/-- the place of an arrow's point in a layer -/
def t_pl (nb na : Nat) (fr to y : Nat → Nat) (row : Nat → Nat → Nat) (l k : Nat) : Nat := t_fd (row l) (p_pt fr to y k l) (t_cn nb na fr to y l)
theorem t_pl_sp {nb na k l : Nat} {fr to y : Nat → Nat} {row : Nat → Nat → Nat} (w : t_RW nb na fr to y row) (hk : k < na) (h1 : fr k < nb) (h2 : to k < nb) (a : y (fr k) ≤ l) (b : l ≤ y (to k)) : t_pl nb na fr to y row l k < t_cn nb na fr to y l ∧ row l (t_pl nb na fr to y row l k) = p_pt fr to y k l ∧ ∀ i, i < t_pl nb na fr to y row l k → row l i ≠ p_pt fr to y k l :=
  t_fd_sp _ ((w l).2.1 _ (t_pt_is hk h1 h2 a b))
theorem t_pl_eq {nb na k l p : Nat} {fr to y : Nat → Nat} {row : Nat → Nat → Nat} (w : t_RW nb na fr to y row) (hk : k < na) (h1 : fr k < nb) (h2 : to k < nb) (a : y (fr k) ≤ l) (b : l ≤ y (to k)) (hp : p < t_cn nb na fr to y l) : t_pl nb na fr to y row l k = p ↔ p_pt fr to y k l = row l p := by
  have ⟨s1, s2, _⟩ := t_pl_sp w hk h1 h2 a b
  constructor
  · intro e; rw [← e, s2]
  · intro e; exact (w l).2.2 _ _ s1 hp (s2.trans e)
