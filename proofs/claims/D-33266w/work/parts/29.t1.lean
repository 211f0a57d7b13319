/-- layers that are as small as can be -/
def t_LY (na : Nat) (fr to le y : Nat → Nat) : Prop := (∀ b, b < 16 → le b ≤ y b) ∧ (∀ k, k < na → y (fr k) < y (to k)) ∧ ∀ b, b < 16 → y b = le b ∨ ∃ k, k < na ∧ to k = b ∧ y b = y (fr k) + 1
/-- the arrows' boxes are boxes -/
def t_BX (na : Nat) (fr to : Nat → Nat) : Prop := ∀ k, k < na → fr k < 16 ∧ to k < 16
/-- a rank that grows along the arrows -/
def t_RK (na : Nat) (fr to r : Nat → Nat) : Prop := ∀ k, k < na → r (fr k) < r (to k)
theorem t_LY_le {na : Nat} {fr to le y z r : Nat → Nat} (hr : t_RK na fr to r) (hb : t_BX na fr to) (h1 : t_LY na fr to le y) (h2 : t_LY na fr to le z) : ∀ n b, r b ≤ n → b < 16 → y b ≤ z b
  | n, b, e, hx => by
    rcases h1.2.2 b hx with q | ⟨k, hk, q1, q2⟩
    · rw [q]; exact h2.1 b hx
    · have a1 := hr k hk
      have a2 := (hb k hk).1
      rw [q1] at a1
      match n with
      | 0 => omega
      | n + 1 =>
        have i := t_LY_le hr hb h1 h2 n (fr k) (by omega) a2
        have := h2.2.1 k hk
        rw [q1] at this
        omega
theorem t_LY_eq {na : Nat} {fr to le y z r : Nat → Nat} (hr : t_RK na fr to r) (hb : t_BX na fr to) (h1 : t_LY na fr to le y) (h2 : t_LY na fr to le z) (b : Nat) (hx : b < 16) : y b = z b := Nat.le_antisymm (t_LY_le hr hb h1 h2 _ b (Nat.le_refl _) hx) (t_LY_le hr hb h2 h1 _ b (Nat.le_refl _) hx)
theorem t_LY_bd {na : Nat} {fr to le y r : Nat → Nat} (hr : t_RK na fr to r) (hb : t_BX na fr to) (hl : ∀ b, b < 16 → le b ≤ 9) (h : t_LY na fr to le y) : ∀ n b, r b ≤ n → b < 16 → y b ≤ 9 + r b
  | n, b, e, hx => by
    rcases h.2.2 b hx with q | ⟨k, hk, q1, q2⟩
    · have := hl b hx; omega
    · have a1 := hr k hk
      have a2 := (hb k hk).1
      rw [q1] at a1
      match n with
      | 0 => omega
      | n + 1 =>
        have i := t_LY_bd hr hb hl h n (fr k) (by omega) a2
        omega
/-- how many of the first have it -/
noncomputable def t_ct (P : Nat → Prop) : Nat → Nat
  | 0 => 0
  | n + 1 => t_ct P n + @ite _ (P n) (Classical.propDecidable _) 1 0
theorem t_ct_le {P : Nat → Prop} : ∀ n, t_ct P n ≤ n
  | 0 => Nat.le_refl 0
  | n + 1 => by
    have := t_ct_le (P := P) n
    unfold t_ct
    split <;> omega
theorem t_ct_mono {P Q : Nat → Prop} : ∀ n, (∀ a, a < n → P a → Q a) → t_ct P n ≤ t_ct Q n
  | 0, _ => Nat.le_refl 0
  | n + 1, h => by
    have i := t_ct_mono n (fun a ha => h a (by omega))
    unfold t_ct
    by_cases p : P n
    · rw [if_pos p, if_pos (h n (by omega) p)]; omega
    · rw [if_neg p]; omega
theorem t_ct_lt {P Q : Nat → Prop} {x : Nat} (hp : ¬ P x) (hq : Q x) : ∀ n, x < n → (∀ a, a < n → P a → Q a) → t_ct P n < t_ct Q n
  | 0, hx, _ => by omega
  | n + 1, hx, h => by
    unfold t_ct
    by_cases e : x = n
    · subst e
      have i := t_ct_mono (P := P) (Q := Q) x (fun a ha => h a (by omega))
      rw [if_neg hp, if_pos hq]; omega
    · have i := t_ct_lt hp hq n (by omega) (fun a ha => h a (by omega))
      by_cases p : P n
      · rw [if_pos p, if_pos (h n (by omega) p)]; omega
      · rw [if_neg p]; omega
/-- going back along arrows from b one comes to a -/
def t_R (E : Nat → Prop) (fr to : Nat → Nat) (b a : Nat) : Prop := ∀ P : Nat → Prop, (∀ k, E k → to k = b → P (fr k)) → (∀ k, E k → P (to k) → P (fr k)) → P a
theorem t_R_one {E : Nat → Prop} {fr to : Nat → Nat} {k : Nat} (h : E k) : t_R E fr to (to k) (fr k) := fun _ p _ => p k h rfl
theorem t_R_snoc {E : Nat → Prop} {fr to : Nat → Nat} {b k : Nat} (h : E k) (r : t_R E fr to b (to k)) : t_R E fr to b (fr k) := fun P p q => q k h (r P p q)
theorem t_R_trans {E : Nat → Prop} {fr to : Nat → Nat} {c b a : Nat} (r : t_R E fr to c b) (s : t_R E fr to b a) : t_R E fr to c a := s (fun x => t_R E fr to c x) (fun _ h e => t_R_snoc h (e ▸ r)) (fun _ h r => t_R_snoc h r)
theorem t_R_cons {E : Nat → Prop} {fr to : Nat → Nat} {k a : Nat} (h : E k) (r : t_R E fr to (fr k) a) : t_R E fr to (to k) a := t_R_trans (t_R_one h) r
/-- the first step back -/
theorem t_R_inv {E : Nat → Prop} {fr to : Nat → Nat} {b a : Nat} (r : t_R E fr to b a) : ∃ k, E k ∧ to k = b ∧ (a = fr k ∨ t_R E fr to (fr k) a) := r (fun x => ∃ k, E k ∧ to k = b ∧ (x = fr k ∨ t_R E fr to (fr k) x)) (fun k h e => ⟨k, h, e, Or.inl rfl⟩) (fun k h ⟨j, hj, e, q⟩ => ⟨j, hj, e, Or.inr (by
  rcases q with q | q
  · rw [← q]; exact t_R_one h
  · exact t_R_snoc h q)⟩)
theorem t_R_lt {E : Nat → Prop} {fr to r : Nat → Nat} (hr : ∀ k, E k → r (fr k) < r (to k)) {b a : Nat} (q : t_R E fr to b a) : r a < r b := q (fun x => r x < r b) (fun k h e => e ▸ hr k h) (fun k h e => Nat.lt_trans (hr k h) e)
theorem t_R_mono {E E' : Nat → Prop} {fr to : Nat → Nat} (h : ∀ k, E k → E' k) {b a : Nat} (r : t_R E fr to b a) : t_R E' fr to b a := fun P p q => r P (fun k e => p k (h k e)) (fun k e => q k (h k e))
/-- a rank of at most 15 -/
theorem t_RK_small {na : Nat} {fr to r : Nat → Nat} (hr : t_RK na fr to r) (hb : t_BX na fr to) : ∃ s : Nat → Nat, t_RK na fr to s ∧ ∀ b, b < 16 → s b < 16 := by
  refine ⟨fun b => t_ct (fun a => t_R (fun k => k < na) fr to b a) 16, fun k hk => ?_, fun b hx => ?_⟩
  · exact t_ct_lt (x := fr k) (fun q => Nat.lt_irrefl _ (t_R_lt hr q)) (t_R_one hk) 16 (hb k hk).1 (fun a _ q => t_R_cons hk q)
  · have h := t_ct_lt (P := fun a => t_R (fun k => k < na) fr to b a) (Q := fun _ => True) (x := b) (fun q => Nat.lt_irrefl _ (t_R_lt hr q)) trivial 16 hx (fun _ _ _ => trivial)
    have := t_ct_le (P := fun _ => True) 16
    show t_ct (fun a => t_R (fun k => k < na) fr to b a) 16 < 16
    omega
/-- a new arrow to one of whom its teller does not hear -/
theorem t_RK_add {na f t : Nat} {fr to r : Nat → Nat} (hr : t_RK na fr to r) (hn : f ≠ t) (hh : ¬ t_R (fun k => k < na) fr to f t) : ∃ s : Nat → Nat, t_RK (na + 1) (fun k => if k = na then f else fr k) (fun k => if k = na then t else to k) s := by
  refine ⟨fun x => r x + @ite _ (x = t ∨ t_R (fun k => k < na) fr to x t) (Classical.propDecidable _) (r f + 1) 0, fun k hk => ?_⟩
  dsimp only
  by_cases e : k = na
  · rw [if_pos e, if_pos e]
    show r f + _ < r t + _
    rw [if_neg (show ¬ (f = t ∨ t_R (fun k => k < na) fr to f t) from fun q => q.elim hn hh), if_pos (Or.inl rfl)]
    omega
  · rw [if_neg e, if_neg e]
    have hk : k < na := by omega
    have := hr k hk
    show r (fr k) + _ < r (to k) + _
    by_cases q : fr k = t ∨ t_R (fun k => k < na) fr to (fr k) t
    · rw [if_pos q, if_pos (show to k = t ∨ t_R (fun k => k < na) fr to (to k) t from Or.inr (by
        rcases q with q | q
        · rw [← q]; exact t_R_one hk
        · exact t_R_cons hk q))]
      omega
    · rw [if_neg q]
      omega
theorem t_RK_rev {na : Nat} {fr to r : Nat → Nat} (hr : t_RK na fr to r) (hb : t_BX na fr to) : ∃ s : Nat → Nat, t_RK na to fr s := by
  have ⟨s, h1, h2⟩ := t_RK_small hr hb
  refine ⟨fun x => 16 - s x, fun k hk => ?_⟩
  have a := h1 k hk
  have b := h2 (to k) (hb k hk).2
  show 16 - s (to k) < 16 - s (fr k)
  omega
