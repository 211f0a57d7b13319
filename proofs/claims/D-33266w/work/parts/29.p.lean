theorem p_neg {a b c e : Nat} (ha : a < 1000) (hb : b < 1000) (hc : c < 1000) (he : e < 1000) : ((nI a - nI b) * (nI c - nI e) < nI 0) = ((a < b ∧ e < c) ∨ (b < a ∧ c < e)) := by
  have t1 : (nI a - nI b).toInt = (a : Int) - b := by
    rw [Int32.toInt_sub, nI_toInt (by omega), nI_toInt (by omega)]
    exact Int.bmod_eq_of_le (by omega) (by omega)
  have t2 : (nI c - nI e).toInt = (c : Int) - e := by
    rw [Int32.toInt_sub, nI_toInt (by omega), nI_toInt (by omega)]
    exact Int.bmod_eq_of_le (by omega) (by omega)
  have b1 : -1000000 ≤ ((a : Int) - b) * (c - e) ∧ ((a : Int) - b) * (c - e) ≤ 1000000 := by
    have n : (((a : Int) - b) * (c - e)).natAbs ≤ 1000 * 1000 := by
      rw [Int.natAbs_mul]
      exact Nat.mul_le_mul (by omega) (by omega)
    omega
  have t3 : ((nI a - nI b) * (nI c - nI e)).toInt = ((a : Int) - b) * (c - e) := by
    rw [Int32.toInt_mul, t1, t2]
    exact Int.bmod_eq_of_le (by omega) (by omega)
  apply propext
  rw [Int32.lt_iff_toInt_lt, t3, nI_toInt (by omega)]
  constructor
  · intro q
    by_cases z1 : a < b
    · by_cases z2 : e < c
      · exact Or.inl ⟨z1, z2⟩
      · have := Int.mul_nonneg_of_nonpos_of_nonpos (a := (a : Int) - b) (b := c - e) (by omega) (by omega)
        omega
    · by_cases z2 : c < e
      · by_cases z3 : b < a
        · exact Or.inr ⟨z3, z2⟩
        · have z4 : (a : Int) - b = 0 := by omega
          rw [z4, Int.zero_mul] at q
          omega
      · have := Int.mul_nonneg (a := (a : Int) - b) (b := c - e) (by omega) (by omega)
        omega
  · rintro (⟨z1, z2⟩ | ⟨z1, z2⟩)
    · exact Int.mul_neg_of_neg_of_pos (by omega) (by omega)
    · exact Int.mul_neg_of_pos_of_neg (by omega) (by omega)
theorem p_neg0 {a b c e : Nat} (ha : a < 1000) (hb : b < 1000) (hc : c < 1000) (he : e < 1000) : ((nI a - nI b) * (nI c - nI e) < 0) = ((a < b ∧ e < c) ∨ (b < a ∧ c < e)) := p_neg ha hb hc he
theorem p_z0 : (nI 0 = 0) = True := eq_true rfl
theorem p_z1 : (nI 1 = 0) = False := eq_false (by decide)
/-- a sum over so many from the first on -/
def p_sm (f : Nat → Nat) : Nat → Nat → Nat
  | _, 0 => 0
  | j, r + 1 => f j + p_sm f (j + 1) r
/-- whether an arrow crosses another one below a layer, by the places of their points -/
def p_cr (ps : Nat → Bool) (u v : Nat → Nat) (k j : Nat) : Nat := if ps j = true ∧ ((u k < u j ∧ v j < v k) ∨ (u j < u k ∧ v k < v j)) then 1 else 0
/-- the point of an arrow in a layer -/
def p_pt (fr to ly : Nat → Nat) (k l : Nat) : Nat := if l = ly (fr k) then fr k else if l = ly (to k) then to k else 100 + k
/-- an arrow passes from a layer to the next -/
def p_ps (fr to ly : Nat → Nat) (k l : Nat) : Bool := ly (fr k) ≤ l && l < ly (to k)
/-- crossings below a layer that one arrow adds -/
def p_c1 (ps : Nat → Bool) (u v : Nat → Nat) (k : Nat) : Nat := if ps k = true then p_sm (p_cr ps u v k) 0 k else 0
