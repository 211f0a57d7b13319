section Wk4
variable {d : Nat} {M : a_M} {pc : Nat} {L : a_L} {st : List Value} {h : a_H} {x y : Int32} {i : Nat}
theorem w_cpy {idx n : Nat} {cs : List Nat} {M' : a_M} {s t : Nat} {z : Int32} (hd : decode (mCode M) pc = .ok (.invokestatic idx, 3)) (hm : k_mth (mCls M) idx = some (22, n, cs, M')) : a_run d M pc L (.int z :: .int y :: .ref t :: .int x :: .ref s :: st) h = a_cont d M (a_cpy pc L (.int z :: .int y :: .ref t :: .int x :: .ref s :: st) h) := by
  rw [w_step hd rfl]
  dsimp only [a_ins]
  unfold a_inv
  rw [hm]
  dsimp only
  rw [if_pos (show List.contains _ _ = true from rfl)]
  rfl
end Wk4
