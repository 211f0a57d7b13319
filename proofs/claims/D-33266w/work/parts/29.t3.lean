/-- while layers are laid: each box's layer is its least one or comes from an arrow -/
def t_J (na : Nat) (fr to le r y : Nat → Nat) : Prop := ∀ b, b < 16 → le b ≤ y b ∧ y b ≤ 9 + r b ∧ (y b = le b ∨ ∃ k, k < na ∧ to k = b ∧ y b ≤ y (fr k) + 1)
theorem t_J_0 {na : Nat} {fr to le r y : Nat → Nat} (hl : ∀ b, b < 16 → le b ≤ 9) (h : ∀ b, b < 16 → y b = le b) : t_J na fr to le r y := fun b hb => by
  have := h b hb
  have := hl b hb
  exact ⟨by omega, by omega, Or.inl (h b hb)⟩
theorem t_J_up {na k : Nat} {fr to le r y : Nat → Nat} (hr : t_RK na fr to r) (hb : t_BX na fr to) (hk : k < na) (j : t_J na fr to le r y) (c : y (to k) ≤ y (fr k)) : t_J na fr to le r (upN y (to k) (y (fr k) + 1)) := fun b hx => by
  have ⟨j1, j2, j3⟩ := j b hx
  have ⟨f1, f2, _⟩ := j (fr k) (hb k hk).1
  have r1 := hr k hk
  have g : ∀ x, x < 16 → y x ≤ upN y (to k) (y (fr k) + 1) x := by
    intro x _
    unfold upN
    split
    · next e => rw [e]; omega
    · exact Nat.le_refl _
  by_cases e : b = to k
  · subst e
    have v : upN y (to k) (y (fr k) + 1) (to k) = y (fr k) + 1 := if_pos rfl
    rw [v]
    refine ⟨by omega, by omega, Or.inr ⟨k, hk, rfl, ?_⟩⟩
    have := g (fr k) (hb k hk).1
    omega
  · have v : upN y (to k) (y (fr k) + 1) b = y b := if_neg e
    rw [v]
    refine ⟨j1, j2, j3.elim Or.inl fun ⟨q, h1, h2, h3⟩ => Or.inr ⟨q, h1, h2, ?_⟩⟩
    have := g (fr q) (hb q h1).1
    omega
theorem t_J_gr {na k : Nat} {fr to y : Nat → Nat} (hb : t_BX na fr to) (hk : k < na) (c : y (to k) ≤ y (fr k)) : t_sum y 16 < t_sum (upN y (to k) (y (fr k) + 1)) 16 := by
  refine t_sum_lt (x := to k) ?_ 16 (hb k hk).2 fun i _ => ?_
  · show _ < (if to k = to k then _ else _)
    rw [if_pos rfl]; omega
  · unfold upN
    split
    · next e => rw [e]; omega
    · exact Nat.le_refl _
theorem t_J_bd {na : Nat} {fr to le r y : Nat → Nat} (hs : ∀ b, b < 16 → r b < 16) (j : t_J na fr to le r y) : t_sum y 16 ≤ 384 := by
  have h := t_sum_le (f := y) (g := fun _ => 24) 16 (fun b hb => by
    have := j b hb
    have := hs b hb
    omega)
  rw [t_sum_const] at h
  omega
theorem t_J_end {na : Nat} {fr to le r y : Nat → Nat} (j : t_J na fr to le r y) (h : ∀ k, k < na → y (fr k) < y (to k)) : t_LY na fr to le y := by
  refine ⟨fun b hb => (j b hb).1, h, fun b hb => (j b hb).2.2.elim Or.inl fun ⟨k, h1, h2, h3⟩ => Or.inr ⟨k, h1, h2, ?_⟩⟩
  have := h k h1
  rw [h2] at this
  omega
/-- where a value goes among the first, that stand in order: behind all that aren't greater -/
def t_ci (a : Nat → Nat) (v : Nat) : Nat → Nat
  | 0 => 0
  | n + 1 => if v < a n then t_ci a v n else n + 1
theorem t_ci_le {a : Nat → Nat} {v : Nat} : ∀ n, t_ci a v n ≤ n
  | 0 => Nat.le_refl 0
  | n + 1 => by
    have := t_ci_le (a := a) (v := v) n
    unfold t_ci
    split <;> omega
/-- put in at a place, the later ones one farther -/
def t_in (a : Nat → Nat) (c v : Nat) : Nat → Nat := fun i => if i < c then a i else if i = c then v else a (i - 1)
theorem t_ci_congr {a b : Nat → Nat} {v : Nat} : ∀ n, (∀ i, i < n → a i = b i) → t_ci a v n = t_ci b v n
  | 0, _ => rfl
  | n + 1, h => by
    unfold t_ci
    rw [h n (by omega), t_ci_congr n (fun i hi => h i (by omega))]
theorem t_in_congr {a b : Nat → Nat} {c v n : Nat} (h : ∀ i, i < n → a i = b i) (hc : c ≤ n) : ∀ i, i < n + 1 → t_in a c v i = t_in b c v i := by
  intro i hi
  unfold t_in
  by_cases e1 : i < c
  · rw [if_pos e1, if_pos e1]; exact h i (by omega)
  · rw [if_neg e1, if_neg e1]
    by_cases e2 : i = c
    · rw [if_pos e2, if_pos e2]
    · rw [if_neg e2, if_neg e2]; exact h (i - 1) (by omega)
/-- the order of so many, by values: values and what goes with them -/
def t_so (mv pt : Nat → Nat) : Nat → (Nat → Nat) × (Nat → Nat)
  | 0 => (fun _ => 0, fun _ => 0)
  | n + 1 => (t_in (t_so mv pt n).1 (t_ci (t_so mv pt n).1 (mv n) n) (mv n), t_in (t_so mv pt n).2 (t_ci (t_so mv pt n).1 (mv n) n) (pt n))
theorem t_so_congr {mv nv pt qt : Nat → Nat} : ∀ n, (∀ i, i < n → mv i = nv i) → (∀ i, i < n → pt i = qt i) → t_so mv pt n = t_so nv qt n
  | 0, _, _ => rfl
  | n + 1, h, g => by
    unfold t_so
    rw [t_so_congr n (fun i hi => h i (by omega)) (fun i hi => g i (by omega)), h n (by omega), g n (by omega)]
/-- the one is the other in another order -/
def t_pm (f g : Nat → Nat) (n : Nat) : Prop := ∃ s : Nat → Nat, (∀ i, i < n → s i < n ∧ f i = g (s i)) ∧ (∀ j, j < n → ∃ i, i < n ∧ s i = j) ∧ ∀ i j, i < n → j < n → s i = s j → i = j
theorem t_pm_refl {f : Nat → Nat} {n : Nat} : t_pm f f n := ⟨fun i => i, fun _ h => ⟨h, rfl⟩, fun j h => ⟨j, h, rfl⟩, fun _ _ _ _ e => e⟩
theorem t_pm_in {f g : Nat → Nat} {n c : Nat} (hc : c ≤ n) (h : t_pm f g n) : t_pm (t_in f c (g n)) g (n + 1) := by
  have ⟨s, h1, h2, h3⟩ := h
  refine ⟨t_in s c n, fun i hi => ?_, fun j hj => ?_, fun i j hi hj e => ?_⟩
  · unfold t_in
    by_cases e1 : i < c
    · have := h1 i (by omega)
      rw [if_pos e1, if_pos e1]
      exact ⟨by omega, this.2⟩
    · by_cases e2 : i = c
      · rw [if_neg e1, if_neg e1, if_pos e2, if_pos e2]
        exact ⟨by omega, rfl⟩
      · have := h1 (i - 1) (by omega)
        rw [if_neg e1, if_neg e1, if_neg e2, if_neg e2]
        exact ⟨by omega, this.2⟩
  · by_cases e : j = n
    · refine ⟨c, by omega, ?_⟩
      unfold t_in
      rw [if_neg (by omega), if_pos rfl, e]
    · have ⟨i, hi, q⟩ := h2 j (by omega)
      by_cases e1 : i < c
      · refine ⟨i, by omega, ?_⟩
        unfold t_in
        rw [if_pos e1, q]
      · refine ⟨i + 1, by omega, ?_⟩
        unfold t_in
        rw [if_neg (by omega), if_neg (by omega)]
        exact q
  · unfold t_in at e
    by_cases a1 : i < c
    · by_cases b1 : j < c
      · rw [if_pos a1, if_pos b1] at e
        exact h3 i j (by omega) (by omega) e
      · rw [if_pos a1, if_neg b1] at e
        have p := (h1 i (by omega)).1
        by_cases b2 : j = c
        · rw [if_pos b2] at e; omega
        · rw [if_neg b2] at e
          have := h3 i (j - 1) (by omega) (by omega) e
          omega
    · by_cases b1 : j < c
      · rw [if_neg a1, if_pos b1] at e
        have p := (h1 j (by omega)).1
        by_cases a2 : i = c
        · rw [if_pos a2] at e; omega
        · rw [if_neg a2] at e
          have := h3 (i - 1) j (by omega) (by omega) e
          omega
      · rw [if_neg a1, if_neg b1] at e
        by_cases a2 : i = c
        · by_cases b2 : j = c
          · omega
          · rw [if_pos a2, if_neg b2] at e
            have := (h1 (j - 1) (by omega)).1
            omega
        · by_cases b2 : j = c
          · rw [if_neg a2, if_pos b2] at e
            have := (h1 (i - 1) (by omega)).1
            omega
          · rw [if_neg a2, if_neg b2] at e
            have := h3 (i - 1) (j - 1) (by omega) (by omega) e
            omega
theorem t_so_pm {mv pt : Nat → Nat} : ∀ n, t_pm (t_so mv pt n).2 pt n
  | 0 => ⟨fun i => i, fun _ h => absurd h (Nat.not_lt_zero _), fun _ h => absurd h (Nat.not_lt_zero _), fun _ _ h => absurd h (Nat.not_lt_zero _)⟩
  | n + 1 => t_pm_in (t_ci_le n) (t_so_pm n)
theorem t_pm_swap {f : Nat → Nat} {n a b : Nat} (ha : a < n) (hb : b < n) : t_pm (upN (upN f a (f b)) b (f a)) f n := by
  refine ⟨fun i => if i = b then a else if i = a then b else i, fun i hi => ?_, fun j hj => ?_, fun i j hi hj e => ?_⟩
  · unfold upN
    dsimp only
    by_cases e1 : i = b
    · rw [if_pos e1, if_pos e1]; exact ⟨ha, rfl⟩
    · rw [if_neg e1, if_neg e1]
      by_cases e2 : i = a
      · rw [if_pos e2, if_pos e2]; exact ⟨hb, rfl⟩
      · rw [if_neg e2, if_neg e2]; exact ⟨hi, rfl⟩
  · dsimp only
    by_cases e1 : j = a
    · exact ⟨b, hb, by rw [if_pos rfl, e1]⟩
    · by_cases e2 : j = b
      · refine ⟨a, ha, ?_⟩
        by_cases e3 : a = b
        · omega
        · rw [if_neg e3, if_pos rfl, e2]
      · exact ⟨j, hj, by rw [if_neg e2, if_neg e1]⟩
  · dsimp only at e
    split at e <;> split at e <;> (try split at e) <;> (try split at e) <;> omega
/-- rows of which one was put in another order are rows still -/
theorem t_RW_pm {nb na l : Nat} {fr to y f : Nat → Nat} {row : Nat → Nat → Nat} (h : t_RW nb na fr to y row) (p : t_pm f (row l) (t_cn nb na fr to y l)) : t_RW nb na fr to y (fun j => if j = l then f else row j) := fun j => by
  by_cases e : j = l
  · subst e
    dsimp only
    rw [if_pos rfl]
    have ⟨h1, h2, h3⟩ := h j
    have ⟨s, p1, p2, p3⟩ := p
    refine ⟨fun q hq => ?_, fun x hx => ?_, fun a b ha hb e => ?_⟩
    · have ⟨a, b⟩ := p1 q hq
      rw [b]; exact h1 _ a
    · have ⟨q, hq, e⟩ := h2 x hx
      have ⟨i, hi, e2⟩ := p2 q hq
      exact ⟨i, hi, by rw [(p1 i hi).2, e2, e]⟩
    · rw [(p1 a ha).2, (p1 b hb).2] at e
      exact p3 a b ha hb (h3 _ _ (p1 a ha).1 (p1 b hb).1 e)
  · dsimp only
    rw [if_neg e]
    exact h j
/-- the first place of it -/
def t_fd (f : Nat → Nat) (x : Nat) : Nat → Nat
  | 0 => 0
  | n + 1 => if t_fd f x n < n then t_fd f x n else if f n = x then n else n + 1
theorem t_fd_no {f : Nat → Nat} {x : Nat} : ∀ n, (∀ i, i < n → f i ≠ x) → t_fd f x n = n
  | 0, _ => rfl
  | n + 1, h => by
    unfold t_fd
    rw [t_fd_no n (fun i hi => h i (by omega)), if_neg (Nat.lt_irrefl n), if_neg (h n (by omega))]
theorem t_fd_at {f : Nat → Nat} {x p : Nat} (hx : f p = x) (hf : ∀ i, i < p → f i ≠ x) : ∀ n, p < n → t_fd f x n = p
  | 0, h => by omega
  | n + 1, h => by
    unfold t_fd
    by_cases e : p = n
    · subst e
      rw [t_fd_no p hf, if_neg (Nat.lt_irrefl p), if_pos hx]
    · rw [t_fd_at hx hf n (by omega), if_pos (by omega)]
theorem t_fd_sp {f : Nat → Nat} {x : Nat} : ∀ n, (∃ p, p < n ∧ f p = x) → t_fd f x n < n ∧ f (t_fd f x n) = x ∧ ∀ i, i < t_fd f x n → f i ≠ x
  | 0, h => by have ⟨p, h, _⟩ := h; omega
  | n + 1, h => by
    by_cases c : ∃ p, p < n ∧ f p = x
    · have ⟨h1, h2, h3⟩ := t_fd_sp n c
      have e : t_fd f x (n + 1) = t_fd f x n := if_pos h1
      rw [e]
      exact ⟨by omega, h2, h3⟩
    · have ⟨p, h1, h2⟩ := h
      have q : ∀ i, i < n → f i ≠ x := fun i hi e => c ⟨i, hi, e⟩
      have e : p = n := Nat.le_antisymm (by omega) (Nat.le_of_not_lt fun z => c ⟨p, z, h2⟩)
      subst e
      rw [t_fd_at h2 q (p + 1) (by omega)]
      exact ⟨by omega, h2, q⟩
theorem t_fd_congr {f g : Nat → Nat} {x : Nat} : ∀ n, (∀ i, i < n → f i = g i) → t_fd f x n = t_fd g x n
  | 0, _ => rfl
  | n + 1, h => by
    unfold t_fd
    rw [t_fd_congr n (fun i hi => h i (by omega)), h n (by omega)]
