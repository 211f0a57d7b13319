/-! PART wk3: the plain instructions, one by one -/
section Wk3
variable {d : Nat} {M : a_M} {pc tgt : Nat} {L : a_L} {st : List Value} {h : a_H} {x y : Int32} {i j : Nat} {u v : UInt32}
theorem w_ldIn {k : Fin 4} (hd : decode (mCode M) pc = .ok (.iload_n k, 1)) (hl : L[(k : Nat)]? = some (some (.int x))) : a_run d M pc L st h = a_run d M (pc + 1) L ((.int x) :: st) h := by
  rw [w_step hd rfl]
  dsimp only [a_ins, a_ld]
  rw [hl]
  rfl
theorem w_ldFn {k : Fin 4} (hd : decode (mCode M) pc = .ok (.fload_n k, 1)) (hl : L[(k : Nat)]? = some (some (.float u))) : a_run d M pc L st h = a_run d M (pc + 1) L ((.float u) :: st) h := by
  rw [w_step hd rfl]
  dsimp only [a_ins, a_ld]
  rw [hl]
  rfl
theorem w_ldAn {k : Fin 4} (hd : decode (mCode M) pc = .ok (.aload_n k, 1)) (hl : L[(k : Nat)]? = some (some (.ref i))) : a_run d M pc L st h = a_run d M (pc + 1) L ((.ref i) :: st) h := by
  rw [w_step hd rfl]
  dsimp only [a_ins, a_ld]
  rw [hl]
  rfl
theorem w_ldNn {k : Fin 4} (hd : decode (mCode M) pc = .ok (.aload_n k, 1)) (hl : L[(k : Nat)]? = some (some .null)) : a_run d M pc L st h = a_run d M (pc + 1) L (.null :: st) h := by
  rw [w_step hd rfl]
  dsimp only [a_ins, a_ld]
  rw [hl]
  rfl
theorem w_stIn {k : Fin 4} {L' : a_L} (hd : decode (mCode M) pc = .ok (.istore_n k, 1)) (hk : (k : Nat) < L.length) (hl : L.set (k : Nat) (some (.int x)) = L') : a_run d M pc L ((.int x) :: st) h = a_run d M (pc + 1) L' st h := by
  subst hl
  rw [w_step hd rfl]
  dsimp only [a_ins, a_st]
  rw [if_pos ⟨rfl, hk⟩]
  rfl
theorem w_stFn {k : Fin 4} {L' : a_L} (hd : decode (mCode M) pc = .ok (.fstore_n k, 1)) (hk : (k : Nat) < L.length) (hl : L.set (k : Nat) (some (.float u)) = L') : a_run d M pc L ((.float u) :: st) h = a_run d M (pc + 1) L' st h := by
  subst hl
  rw [w_step hd rfl]
  dsimp only [a_ins, a_st]
  rw [if_pos ⟨rfl, hk⟩]
  rfl
theorem w_stAn {k : Fin 4} {L' : a_L} (hd : decode (mCode M) pc = .ok (.astore_n k, 1)) (hk : (k : Nat) < L.length) (hl : L.set (k : Nat) (some (.ref i)) = L') : a_run d M pc L ((.ref i) :: st) h = a_run d M (pc + 1) L' st h := by
  subst hl
  rw [w_step hd rfl]
  dsimp only [a_ins, a_st]
  rw [if_pos ⟨rfl, hk⟩]
  rfl
theorem w_stNn {k : Fin 4} {L' : a_L} (hd : decode (mCode M) pc = .ok (.astore_n k, 1)) (hk : (k : Nat) < L.length) (hl : L.set (k : Nat) (some (.null)) = L') : a_run d M pc L ((.null) :: st) h = a_run d M (pc + 1) L' st h := by
  subst hl
  rw [w_step hd rfl]
  dsimp only [a_ins, a_st]
  rw [if_pos ⟨rfl, hk⟩]
  rfl
theorem w_ldI {k : Nat} (hd : decode (mCode M) pc = .ok (.iload k, 2)) (hl : L[(k : Nat)]? = some (some (.int x))) : a_run d M pc L st h = a_run d M (pc + 2) L ((.int x) :: st) h := by
  rw [w_step hd rfl]
  dsimp only [a_ins, a_ld]
  rw [hl]
  rfl
theorem w_ldF {k : Nat} (hd : decode (mCode M) pc = .ok (.fload k, 2)) (hl : L[(k : Nat)]? = some (some (.float u))) : a_run d M pc L st h = a_run d M (pc + 2) L ((.float u) :: st) h := by
  rw [w_step hd rfl]
  dsimp only [a_ins, a_ld]
  rw [hl]
  rfl
theorem w_ldA {k : Nat} (hd : decode (mCode M) pc = .ok (.aload k, 2)) (hl : L[(k : Nat)]? = some (some (.ref i))) : a_run d M pc L st h = a_run d M (pc + 2) L ((.ref i) :: st) h := by
  rw [w_step hd rfl]
  dsimp only [a_ins, a_ld]
  rw [hl]
  rfl
theorem w_ldN {k : Nat} (hd : decode (mCode M) pc = .ok (.aload k, 2)) (hl : L[(k : Nat)]? = some (some .null)) : a_run d M pc L st h = a_run d M (pc + 2) L (.null :: st) h := by
  rw [w_step hd rfl]
  dsimp only [a_ins, a_ld]
  rw [hl]
  rfl
theorem w_stI {k : Nat} {L' : a_L} (hd : decode (mCode M) pc = .ok (.istore k, 2)) (hk : (k : Nat) < L.length) (hl : L.set (k : Nat) (some (.int x)) = L') : a_run d M pc L ((.int x) :: st) h = a_run d M (pc + 2) L' st h := by
  subst hl
  rw [w_step hd rfl]
  dsimp only [a_ins, a_st]
  rw [if_pos ⟨rfl, hk⟩]
  rfl
theorem w_stF {k : Nat} {L' : a_L} (hd : decode (mCode M) pc = .ok (.fstore k, 2)) (hk : (k : Nat) < L.length) (hl : L.set (k : Nat) (some (.float u)) = L') : a_run d M pc L ((.float u) :: st) h = a_run d M (pc + 2) L' st h := by
  subst hl
  rw [w_step hd rfl]
  dsimp only [a_ins, a_st]
  rw [if_pos ⟨rfl, hk⟩]
  rfl
theorem w_stA {k : Nat} {L' : a_L} (hd : decode (mCode M) pc = .ok (.astore k, 2)) (hk : (k : Nat) < L.length) (hl : L.set (k : Nat) (some (.ref i)) = L') : a_run d M pc L ((.ref i) :: st) h = a_run d M (pc + 2) L' st h := by
  subst hl
  rw [w_step hd rfl]
  dsimp only [a_ins, a_st]
  rw [if_pos ⟨rfl, hk⟩]
  rfl
theorem w_stN {k : Nat} {L' : a_L} (hd : decode (mCode M) pc = .ok (.astore k, 2)) (hk : (k : Nat) < L.length) (hl : L.set (k : Nat) (some (.null)) = L') : a_run d M pc L ((.null) :: st) h = a_run d M (pc + 2) L' st h := by
  subst hl
  rw [w_step hd rfl]
  dsimp only [a_ins, a_st]
  rw [if_pos ⟨rfl, hk⟩]
  rfl
theorem w_incL {k : Nat} {n : Int} {z : Int32} {L' : a_L} (hd : decode (mCode M) pc = .ok (.iinc k n, 3)) (hl : L[k]? = some (some (.int x))) (hv : Int32.ofInt n = z) (hs : L.set k (some (.int (x + z))) = L') : a_run d M pc L st h = a_run d M (pc + 3) L' st h := by
  subst hs
  exact w_inc hd hl hv
theorem w_iadd (hd : decode (mCode M) pc = .ok (.iadd, 1)) : a_run d M pc L (.int y :: .int x :: st) h = a_run d M (pc + 1) L (.int (x + y) :: st) h := by
  rw [w_step hd rfl]
  rfl
theorem w_isub (hd : decode (mCode M) pc = .ok (.isub, 1)) : a_run d M pc L (.int y :: .int x :: st) h = a_run d M (pc + 1) L (.int (x - y) :: st) h := by
  rw [w_step hd rfl]
  rfl
theorem w_imul (hd : decode (mCode M) pc = .ok (.imul, 1)) : a_run d M pc L (.int y :: .int x :: st) h = a_run d M (pc + 1) L (.int (x * y) :: st) h := by
  rw [w_step hd rfl]
  rfl
theorem w_iand (hd : decode (mCode M) pc = .ok (.iand, 1)) : a_run d M pc L (.int y :: .int x :: st) h = a_run d M (pc + 1) L (.int (x &&& y) :: st) h := by
  rw [w_step hd rfl]
  rfl
theorem w_ior (hd : decode (mCode M) pc = .ok (.ior, 1)) : a_run d M pc L (.int y :: .int x :: st) h = a_run d M (pc + 1) L (.int (x ||| y) :: st) h := by
  rw [w_step hd rfl]
  rfl
theorem w_ixor (hd : decode (mCode M) pc = .ok (.ixor, 1)) : a_run d M pc L (.int y :: .int x :: st) h = a_run d M (pc + 1) L (.int (x ^^^ y) :: st) h := by
  rw [w_step hd rfl]
  rfl
theorem w_ishl (hd : decode (mCode M) pc = .ok (.ishl, 1)) : a_run d M pc L (.int y :: .int x :: st) h = a_run d M (pc + 1) L (.int (x <<< (y &&& 31)) :: st) h := by
  rw [w_step hd rfl]
  rfl
theorem w_ishr (hd : decode (mCode M) pc = .ok (.ishr, 1)) : a_run d M pc L (.int y :: .int x :: st) h = a_run d M (pc + 1) L (.int (x >>> (y &&& 31)) :: st) h := by
  rw [w_step hd rfl]
  rfl
theorem w_ineg (hd : decode (mCode M) pc = .ok (.ineg, 1)) : a_run d M pc L (.int x :: st) h = a_run d M (pc + 1) L (.int (-x) :: st) h := by
  rw [w_step hd rfl]
  rfl
theorem w_i2l (hd : decode (mCode M) pc = .ok (.i2l, 1)) : a_run d M pc L (.int x :: st) h = a_run d M (pc + 1) L (.long x.toInt64 :: st) h := by
  rw [w_step hd rfl]
  rfl
theorem w_i2b (hd : decode (mCode M) pc = .ok (.i2b, 1)) : a_run d M pc L (.int x :: st) h = a_run d M (pc + 1) L (.int x.toInt8.toInt32 :: st) h := by
  rw [w_step hd rfl]
  rfl
theorem w_i2c (hd : decode (mCode M) pc = .ok (.i2c, 1)) : a_run d M pc L (.int x :: st) h = a_run d M (pc + 1) L (.int (x.toUInt32 % 65536).toInt32 :: st) h := by
  rw [w_step hd rfl]
  rfl
theorem w_i2f (hd : decode (mCode M) pc = .ok (.i2f, 1)) : a_run d M pc L (.int x :: st) h = a_run d M (pc + 1) L (.float (FP.i2f x) :: st) h := by
  rw [w_step hd rfl]
  rfl
theorem w_lconst {n : Fin 2} (hd : decode (mCode M) pc = .ok (.lconst n, 1)) : a_run d M pc L st h = a_run d M (pc + 1) L (.long (Int64.ofNat (n : Nat)) :: st) h := by
  rw [w_step hd rfl]
  rfl
theorem w_fconst (hd : decode (mCode M) pc = .ok (.fconst 0, 1)) : a_run d M pc L st h = a_run d M (pc + 1) L (.float FP.fconst0 :: st) h := by
  rw [w_step hd rfl]
  rfl
theorem w_null (hd : decode (mCode M) pc = .ok (.aconst_null, 1)) : a_run d M pc L st h = a_run d M (pc + 1) L (.null :: st) h := by
  rw [w_step hd rfl]
  rfl
theorem w_lcmp {a b : Int64} (hd : decode (mCode M) pc = .ok (.lcmp, 1)) : a_run d M pc L (.long b :: .long a :: st) h = a_run d M (pc + 1) L (.int (lg_cmp a b) :: st) h := by
  rw [w_step hd rfl]
  rfl
theorem w_fcmp {op : CmpOp} (hd : decode (mCode M) pc = .ok (.fcmp op, 1)) : a_run d M pc L (.float v :: .float u :: st) h = a_run d M (pc + 1) L (.int (Op.cmpValue (FP.fcmp u v) op) :: st) h := by
  rw [w_step hd rfl]
  rfl
theorem w_dup (hd : decode (mCode M) pc = .ok (.dup, 1)) : a_run d M pc L (.ref i :: st) h = a_run d M (pc + 1) L (.ref i :: .ref i :: st) h := by
  rw [w_step hd rfl]
  rfl
theorem w_dupI (hd : decode (mCode M) pc = .ok (.dup, 1)) : a_run d M pc L (.int x :: st) h = a_run d M (pc + 1) L (.int x :: .int x :: st) h := by
  rw [w_step hd rfl]
  rfl
theorem w_pop (hd : decode (mCode M) pc = .ok (.pop, 1)) : a_run d M pc L (.ref i :: st) h = a_run d M (pc + 1) L st h := by
  rw [w_step hd rfl]
  rfl
theorem w_popI (hd : decode (mCode M) pc = .ok (.pop, 1)) : a_run d M pc L (.int x :: st) h = a_run d M (pc + 1) L st h := by
  rw [w_step hd rfl]
  rfl
theorem w_dupx (hd : decode (mCode M) pc = .ok (.dup_x1, 1)) : a_run d M pc L (.int x :: .ref i :: st) h = a_run d M (pc + 1) L (.int x :: .ref i :: .int x :: st) h := by
  rw [w_step hd rfl]
  rfl
theorem w_dupxR (hd : decode (mCode M) pc = .ok (.dup_x1, 1)) : a_run d M pc L (.ref j :: .ref i :: st) h = a_run d M (pc + 1) L (.ref j :: .ref i :: .ref j :: st) h := by
  rw [w_step hd rfl]
  rfl
theorem w_dup2 (hd : decode (mCode M) pc = .ok (.dup2, 1)) : a_run d M pc L (.int x :: .ref i :: st) h = a_run d M (pc + 1) L (.int x :: .ref i :: .int x :: .ref i :: st) h := by
  rw [w_step hd rfl]
  rfl
theorem w_fret (hd : decode (mCode M) pc = .ok (.freturn, 1)) (hr : mRet M = some .float) : a_run d M pc L [.float u] h = some (.inl (some (.float u)), h) := by
  rw [w_step hd rfl]
  dsimp only [a_ins]
  rw [if_pos hr]
  rfl
theorem w_aret (hd : decode (mCode M) pc = .ok (.areturn, 1)) (hr : a_retA M = true) : a_run d M pc L [.ref i] h = some (.inl (some (.ref i)), h) := by
  rw [w_step hd rfl]
  dsimp only [a_ins]
  rw [if_pos ⟨rfl, hr⟩]
  rfl
theorem w_aretN (hd : decode (mCode M) pc = .ok (.areturn, 1)) (hr : a_retA M = true) : a_run d M pc L [.null] h = some (.inl (some .null), h) := by
  rw [w_step hd rfl]
  dsimp only [a_ins]
  rw [if_pos ⟨rfl, hr⟩]
  rfl
theorem w_vret (hd : decode (mCode M) pc = .ok (.return_, 1)) (hr : mRet M = none) : a_run d M pc L [] h = some (.inl none, h) := by
  rw [w_step hd rfl]
  dsimp only [a_ins]
  rw [if_pos ⟨rfl, hr⟩]
  rfl
end Wk3
