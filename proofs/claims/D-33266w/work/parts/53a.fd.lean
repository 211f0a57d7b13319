theorem q_fd0 : ((List.range 707).all fun a => (List.range 26).all fun b => b == 0 || decide (FP.fdiv (FP.i2f (nI a)) (FP.i2f (nI b)) &&& 0x7fffffff ≤ 0x7f800000)) = true := by decide +kernel
theorem q_fd {a b : Nat} (ha : a ≤ 706) (hb : b ≤ 25) (h0 : b ≠ 0) : FP.fdiv (FP.i2f (nI a)) (FP.i2f (nI b)) &&& 0x7fffffff ≤ 0x7f800000 := by
  have h := List.all_eq_true.mp q_fd0 a (List.mem_range.mpr (by omega))
  have h := List.all_eq_true.mp h b (List.mem_range.mpr (by omega))
  rw [Bool.or_eq_true, decide_eq_true_eq] at h
  exact h.resolve_left fun z => h0 (by simpa using z)
