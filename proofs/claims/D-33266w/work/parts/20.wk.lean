/-! PART wk: a step of the abstract machine as an equation, an instruction a row -/
noncomputable def a_cont (d : Nat) (M : a_M) (o : a_O) : Option a_R := match o with
  | some (.inl g) => a_run d M g.1 g.2.1 g.2.2.1 g.2.2.2
  | some (.inr r) => some r
  | none => none
section Wk
variable {d : Nat} {M : a_M} {pc tgt : Nat} {L : a_L} {st : List Value} {h : a_H} {x y : Int32} {i : Nat}
theorem w_step {ins : Instr} {len : Nat} (hd : decode (mCode M) pc = .ok (ins, len)) (hl : a_lnok ins len = true) : a_run d M pc L st h = a_cont d M (a_ins (a_call d) M ins pc L st h) := by
  rw [a_run_eq]
  unfold a_step
  rw [hd]
  show (match (if a_lnok ins len = true then a_ins (a_call d) M ins pc L st h else none) with
    | some (.inl g) => a_run d M g.1 g.2.1 g.2.2.1 g.2.2.2
    | some (.inr r) => some r
    | none => none) = _
  rw [if_pos hl]
  rfl
theorem w_br {b : Bool} {off : Int} (ht : (pc : Int) + off = (tgt : Int)) : a_cont d M (a_br b off pc L st h) = if b = true then a_run d M tgt L st h else a_run d M (pc + 3) L st h := by
  unfold a_br
  rw [if_pos (by rw [ht]; exact Int.natCast_nonneg _), ht]
  split <;> rfl
theorem w_to {off : Int} (ht : (pc : Int) + off = (tgt : Int)) : a_cont d M (a_to off pc L st h) = a_run d M tgt L st h := by
  unfold a_to
  rw [if_pos (by rw [ht]; exact Int.natCast_nonneg _), ht]
  rfl
theorem w_goto {off : Int} (hd : decode (mCode M) pc = .ok (.goto off, 3)) (ht : (pc : Int) + off = (tgt : Int)) : a_run d M pc L st h = a_run d M tgt L st h := (w_step hd rfl).trans (w_to ht)
theorem w_ite {p : Prop} [Decidable p] {b : Bool} {α : Type} {u v : α} (hb : b = decide p) : (if b = true then u else v) = if p then u else v := by
  subst hb
  by_cases hp : p
  · rw [if_pos (decide_eq_true hp), if_pos hp]
  · rw [if_neg (by rw [decide_eq_false hp]; decide), if_neg hp]
theorem w_icmp_eq {off : Int} (hd : decode (mCode M) pc = .ok (.if_icmp .eq off, 3)) (ht : (pc : Int) + off = (tgt : Int)) : a_run d M pc L (.int y :: .int x :: st) h = if x = y then a_run d M tgt L st h else a_run d M (pc + 3) L st h := ((w_step hd rfl).trans (w_br ht)).trans (w_ite rfl)
theorem w_icmp_ne {off : Int} (hd : decode (mCode M) pc = .ok (.if_icmp .ne off, 3)) (ht : (pc : Int) + off = (tgt : Int)) : a_run d M pc L (.int y :: .int x :: st) h = if x = y then a_run d M (pc + 3) L st h else a_run d M tgt L st h := ((w_step hd rfl).trans (w_br ht)).trans (by
  by_cases hp : x = y
  · rw [if_pos hp, if_neg (by show ¬ decide (x ≠ y) = true; simp [hp])]
  · rw [if_neg hp, if_pos (by show decide (x ≠ y) = true; simp [hp])])
theorem w_icmp_lt {off : Int} (hd : decode (mCode M) pc = .ok (.if_icmp .lt off, 3)) (ht : (pc : Int) + off = (tgt : Int)) : a_run d M pc L (.int y :: .int x :: st) h = if x < y then a_run d M tgt L st h else a_run d M (pc + 3) L st h := ((w_step hd rfl).trans (w_br ht)).trans (w_ite rfl)
theorem w_icmp_ge {off : Int} (hd : decode (mCode M) pc = .ok (.if_icmp .ge off, 3)) (ht : (pc : Int) + off = (tgt : Int)) : a_run d M pc L (.int y :: .int x :: st) h = if x < y then a_run d M (pc + 3) L st h else a_run d M tgt L st h := ((w_step hd rfl).trans (w_br ht)).trans (by
  by_cases hp : x < y
  · rw [if_pos hp, if_neg (by show ¬ decide (y ≤ x) = true; simpa using hp)]
  · rw [if_neg hp, if_pos (by show decide (y ≤ x) = true; simpa using hp)])
theorem w_icmp_gt {off : Int} (hd : decode (mCode M) pc = .ok (.if_icmp .gt off, 3)) (ht : (pc : Int) + off = (tgt : Int)) : a_run d M pc L (.int y :: .int x :: st) h = if y < x then a_run d M tgt L st h else a_run d M (pc + 3) L st h := ((w_step hd rfl).trans (w_br ht)).trans (w_ite rfl)
theorem w_icmp_le {off : Int} (hd : decode (mCode M) pc = .ok (.if_icmp .le off, 3)) (ht : (pc : Int) + off = (tgt : Int)) : a_run d M pc L (.int y :: .int x :: st) h = if y < x then a_run d M (pc + 3) L st h else a_run d M tgt L st h := ((w_step hd rfl).trans (w_br ht)).trans (by
  by_cases hp : y < x
  · rw [if_pos hp, if_neg (by show ¬ decide (x ≤ y) = true; simpa using hp)]
  · rw [if_neg hp, if_pos (by show decide (x ≤ y) = true; simpa using hp)])
theorem w_if_eq {off : Int} (hd : decode (mCode M) pc = .ok (.ifCond .eq off, 3)) (ht : (pc : Int) + off = (tgt : Int)) : a_run d M pc L (.int x :: st) h = if x = 0 then a_run d M tgt L st h else a_run d M (pc + 3) L st h := ((w_step hd rfl).trans (w_br ht)).trans (w_ite rfl)
theorem w_if_ne {off : Int} (hd : decode (mCode M) pc = .ok (.ifCond .ne off, 3)) (ht : (pc : Int) + off = (tgt : Int)) : a_run d M pc L (.int x :: st) h = if x = 0 then a_run d M (pc + 3) L st h else a_run d M tgt L st h := ((w_step hd rfl).trans (w_br ht)).trans (by
  by_cases hp : x = 0
  · rw [if_pos hp, if_neg (by show ¬ decide (x ≠ 0) = true; simp [hp])]
  · rw [if_neg hp, if_pos (by show decide (x ≠ 0) = true; simp [hp])])
theorem w_if_lt {off : Int} (hd : decode (mCode M) pc = .ok (.ifCond .lt off, 3)) (ht : (pc : Int) + off = (tgt : Int)) : a_run d M pc L (.int x :: st) h = if x < 0 then a_run d M tgt L st h else a_run d M (pc + 3) L st h := ((w_step hd rfl).trans (w_br ht)).trans (w_ite rfl)
theorem w_if_ge {off : Int} (hd : decode (mCode M) pc = .ok (.ifCond .ge off, 3)) (ht : (pc : Int) + off = (tgt : Int)) : a_run d M pc L (.int x :: st) h = if x < 0 then a_run d M (pc + 3) L st h else a_run d M tgt L st h := ((w_step hd rfl).trans (w_br ht)).trans (by
  by_cases hp : x < 0
  · rw [if_pos hp, if_neg (by show ¬ decide (0 ≤ x) = true; simpa using hp)]
  · rw [if_neg hp, if_pos (by show decide (0 ≤ x) = true; simpa using hp)])
theorem w_if_gt {off : Int} (hd : decode (mCode M) pc = .ok (.ifCond .gt off, 3)) (ht : (pc : Int) + off = (tgt : Int)) : a_run d M pc L (.int x :: st) h = if 0 < x then a_run d M tgt L st h else a_run d M (pc + 3) L st h := ((w_step hd rfl).trans (w_br ht)).trans (w_ite rfl)
theorem w_if_le {off : Int} (hd : decode (mCode M) pc = .ok (.ifCond .le off, 3)) (ht : (pc : Int) + off = (tgt : Int)) : a_run d M pc L (.int x :: st) h = if 0 < x then a_run d M (pc + 3) L st h else a_run d M tgt L st h := ((w_step hd rfl).trans (w_br ht)).trans (by
  by_cases hp : 0 < x
  · rw [if_pos hp, if_neg (by show ¬ decide (x ≤ 0) = true; simpa using hp)]
  · rw [if_neg hp, if_pos (by show decide (x ≤ 0) = true; simpa using hp)])
theorem w_getf {idx k : Nat} {cs : List Nat} (hd : decode (mCode M) pc = .ok (.getfield idx, 3)) (hf : k_fld (mCls M) idx = some (k, cs)) : a_run d M pc L (.ref i :: st) h = (a_gf h i k cs).bind fun v => a_run d M (pc + 3) L (v :: st) h := by
  rw [w_step hd rfl]
  dsimp only [a_ins]
  rw [hf]
  dsimp only
  cases a_gf h i k cs <;> rfl
theorem w_putf {idx k fin : Nat} {cs : List Nat} {ty : FieldType} {v : Value} (hd : decode (mCode M) pc = .ok (.putfield idx, 3)) (hf : k_fld (mCls M) idx = some (k, cs)) (ht : k_fty (mCls M) idx = some (ty, fin)) (hfin : fin = 0 ∨ (fin = 1 ∧ (mNm M).name = "<init>")) (hn : narrow ty v = v) (hv : fits ty v = true) : a_run d M pc L (v :: .ref i :: st) h = (a_pf h i k cs v).bind fun h' => a_run d M (pc + 3) L st h' := by
  rw [w_step hd rfl]
  dsimp only [a_ins]
  rw [hf, ht]
  dsimp only
  rw [if_pos ⟨hn, hv, hfin⟩]
  cases a_pf h i k cs v <;> rfl
theorem w_ar {f : Nat → Int32 → Option Value} : a_cont d M (a_ar f pc L (.int x :: .ref i :: st) h) = (f i x).bind fun v => a_run d M (pc + 1) L (v :: st) h := by
  unfold a_ar
  dsimp only
  cases f i x <;> rfl
theorem w_iald (hd : decode (mCode M) pc = .ok (.iaload, 1)) : a_run d M pc L (.int x :: .ref i :: st) h = (a_rdi h i a_int x).bind fun v => a_run d M (pc + 1) L (v :: st) h := (w_step hd rfl).trans (w_ar (f := fun i j => a_rdi h i a_int j))
theorem w_bald (hd : decode (mCode M) pc = .ok (.baload, 1)) : a_run d M pc L (.int x :: .ref i :: st) h = (a_rdi h i a_bz x).bind fun v => a_run d M (pc + 1) L (v :: st) h := (w_step hd rfl).trans (w_ar (f := fun i j => a_rdi h i a_bz j))
theorem w_lald (hd : decode (mCode M) pc = .ok (.laload, 1)) : a_run d M pc L (.int x :: .ref i :: st) h = (a_rdl h i x).bind fun v => a_run d M (pc + 1) L (v :: st) h := (w_step hd rfl).trans (w_ar (f := fun i j => a_rdl h i j))
theorem w_fald (hd : decode (mCode M) pc = .ok (.faload, 1)) : a_run d M pc L (.int x :: .ref i :: st) h = (a_rdf h i x).bind fun v => a_run d M (pc + 1) L (v :: st) h := (w_step hd rfl).trans (w_ar (f := fun i j => a_rdf h i j))
theorem w_aald (hd : decode (mCode M) pc = .ok (.aaload, 1)) : a_run d M pc L (.int x :: .ref i :: st) h = (a_rdq h i x).bind fun v => a_run d M (pc + 1) L (v :: st) h := (w_step hd rfl).trans (w_ar (f := fun i j => a_rdq h i j))
theorem w_aw {f : Nat → Int32 → Value → Option a_H} {v : Value} : a_cont d M (a_aw f pc L (v :: .int x :: .ref i :: st)) = (f i x v).bind fun h' => a_run d M (pc + 1) L st h' := by
  unfold a_aw
  dsimp only
  cases f i x v <;> rfl
theorem w_iast (hd : decode (mCode M) pc = .ok (.iastore, 1)) : a_run d M pc L (.int y :: .int x :: .ref i :: st) h = (a_wri h i a_int x y).bind fun h' => a_run d M (pc + 1) L st h' := (w_step hd rfl).trans (w_aw (d := d) (M := M) (pc := pc) (L := L) (st := st) (i := i) (x := x) (v := .int y) (f := fun i j v => match v with
    | .int x => a_wri h i a_int j x
    | _ => none))
theorem w_bast (hd : decode (mCode M) pc = .ok (.bastore, 1)) : a_run d M pc L (.int y :: .int x :: .ref i :: st) h = (a_wri h i a_bz x y).bind fun h' => a_run d M (pc + 1) L st h' := (w_step hd rfl).trans (w_aw (d := d) (M := M) (pc := pc) (L := L) (st := st) (i := i) (x := x) (v := .int y) (f := fun i j v => match v with
    | .int x => a_wri h i a_bz j x
    | _ => none))
theorem w_last {z : Int64} (hd : decode (mCode M) pc = .ok (.lastore, 1)) : a_run d M pc L (.long z :: .int x :: .ref i :: st) h = (a_wrl h i x z).bind fun h' => a_run d M (pc + 1) L st h' := (w_step hd rfl).trans (w_aw (d := d) (M := M) (pc := pc) (L := L) (st := st) (i := i) (x := x) (v := .long z) (f := fun i j v => match v with
    | .long x => a_wrl h i j x
    | _ => none))
theorem w_fast {z : UInt32} (hd : decode (mCode M) pc = .ok (.fastore, 1)) : a_run d M pc L (.float z :: .int x :: .ref i :: st) h = (a_wrf h i x z).bind fun h' => a_run d M (pc + 1) L st h' := (w_step hd rfl).trans (w_aw (d := d) (M := M) (pc := pc) (L := L) (st := st) (i := i) (x := x) (v := .float z) (f := fun i j v => match v with
    | .float x => a_wrf h i j x
    | _ => none))
theorem w_aast {v : Value} (hd : decode (mCode M) pc = .ok (.aastore, 1)) : a_run d M pc L (v :: .int x :: .ref i :: st) h = (a_wrq h i x v).bind fun h' => a_run d M (pc + 1) L st h' := (w_step hd rfl).trans (w_aw (f := fun i j v => a_wrq h i j v))
theorem w_alen (hd : decode (mCode M) pc = .ok (.arraylength, 1)) : a_run d M pc L (.ref i :: st) h = (a_len h i).bind fun v => a_run d M (pc + 1) L (v :: st) h := by
  rw [w_step hd rfl]
  dsimp only [a_ins]
  cases a_len h i <;> rfl
theorem w_idiv (hd : decode (mCode M) pc = .ok (.idiv, 1)) (hy : y ≠ 0) : a_run d M pc L (.int y :: .int x :: st) h = a_run d M (pc + 1) L (.int (x / y) :: st) h := by
  rw [w_step hd rfl]
  dsimp only [a_ins, a_i2]
  rw [if_neg hy]
  rfl
theorem w_irem (hd : decode (mCode M) pc = .ok (.irem, 1)) (hy : y ≠ 0) : a_run d M pc L (.int y :: .int x :: st) h = a_run d M (pc + 1) L (.int (x - x / y * y) :: st) h := by
  rw [w_step hd rfl]
  dsimp only [a_ins, a_i2]
  rw [if_neg hy]
  rfl
theorem w_newa {ty : ArrayType} (hd : decode (mCode M) pc = .ok (.newarray ty, 2)) : a_run d M pc L (.int x :: st) h = (a_newa h (newarray.typeOf ty) x).bind fun q => a_run d M (pc + 2) L (.ref q.1 :: st) q.2 := by
  rw [w_step hd rfl]
  dsimp only [a_ins]
  cases a_newa h (newarray.typeOf ty) x <;> rfl
theorem w_anew {idx : Nat} (hd : decode (mCode M) pc = .ok (.anewarray idx, 3)) (hc : k_cls (mCls M) idx = some 28) : a_run d M pc L (.int x :: st) h = (a_newa h (.object "java/lang/Object") x).bind fun q => a_run d M (pc + 3) L (.ref q.1 :: st) q.2 := by
  rw [w_step hd rfl]
  dsimp only [a_ins]
  rw [hc]
  dsimp only
  rw [if_pos rfl]
  cases a_newa h (.object "java/lang/Object") x <;> rfl
theorem w_new {idx k : Nat} {fs : List Value} (hd : decode (mCode M) pc = .ok (.new idx, 3)) (hc : k_cls (mCls M) idx = some k) (hf : k_dfs k = some fs) : a_run d M pc L st h = a_run d M (pc + 3) L (.ref h.1 :: st) (a_add h (.inr (k, fs)) fs.length) := by
  rw [w_step hd rfl]
  dsimp only [a_ins]
  rw [hc]
  dsimp only
  rw [hf]
  rfl
theorem w_castN {idx k : Nat} (hd : decode (mCode M) pc = .ok (.checkcast idx, 3)) (hc : k_cls (mCls M) idx = some k) : a_run d M pc L (.null :: st) h = a_run d M (pc + 3) L (.null :: st) h := by
  rw [w_step hd rfl]
  dsimp only [a_ins]
  rw [hc]
  rfl
theorem w_cast {idx k c : Nat} (hd : decode (mCode M) pc = .ok (.checkcast idx, 3)) (hc : k_cls (mCls M) idx = some k) (hk : a_kls h i = some c) (hcc : k_cast c k = some true) : a_run d M pc L (.ref i :: st) h = a_run d M (pc + 3) L (.ref i :: st) h := by
  rw [w_step hd rfl]
  dsimp only [a_ins]
  rw [hc]
  dsimp only
  rw [hk]
  dsimp only
  rw [hcc]
  rfl
theorem w_castA {idx : Nat} (hd : decode (mCode M) pc = .ok (.checkcast idx, 3)) (hM : mCls M = 1) (hx : idx = 46) (hc : k_cls (mCls M) idx = none) (hk : a_isArr h i = true) : a_run d M pc L (.ref i :: st) h = a_run d M (pc + 3) L (.ref i :: st) h := by
  rw [w_step hd rfl]
  dsimp only [a_ins]
  rw [hc]
  dsimp only
  rw [if_pos ⟨hM, hx, hk⟩]
  rfl
theorem w_inst {idx k c : Nat} {b : Bool} (hd : decode (mCode M) pc = .ok (.instanceof idx, 3)) (hc : k_cls (mCls M) idx = some k) (hk : a_kls h i = some c) (hcc : k_cast c k = some b) : a_run d M pc L (.ref i :: st) h = a_run d M (pc + 3) L (.int (if b = true then 1 else 0) :: st) h := by
  rw [w_step hd rfl]
  dsimp only [a_ins]
  rw [hc]
  dsimp only
  rw [hk]
  dsimp only
  rw [hcc]
  rfl
theorem w_inv {call : a_M → List Value → a_H → Option a_R} {idx kd n : Nat} {cs knds : List Nat} {M' : a_M} {as : List Value} (hm : k_mth (mCls M) idx = some (kd, n, cs, M')) (hc : knds.contains kd = true) (hkd : kd < 10) (hn : as.length = n) (hcat : a_cat st ≤ 8) (hr : kd = 0 ∨ ((kd = 1 ∨ kd = 3 ∨ kd = 4) ∧ a_rcv h cs as = true) ∨ (kd = 2 ∧ a_new0 (as.headD .null) = true)) : a_inv call M idx knds pc L (as.reverse ++ st) h = a_bk M pc L st (call M' as h) := by
  unfold a_inv
  rw [hm]
  dsimp only
  rw [if_pos hc]
  have hl : as.reverse.length = n := by rw [List.length_reverse]; exact hn
  have h1 : (as.reverse ++ st).take n = as.reverse := by rw [← hl]; simp
  have h2 : (as.reverse ++ st).drop n = st := by rw [← hl]; simp
  have key : a_gen call M kd n cs M' pc L (as.reverse ++ st) h = a_bk M pc L st (call M' as h) := by
    unfold a_gen
    rw [h1, h2, List.reverse_reverse, if_pos ⟨by rw [List.length_append, hl]; omega, hcat, hr⟩]
  split <;> first | exact key | (exfalso; omega)
theorem w_callS {idx n : Nat} {cs : List Nat} {M' : a_M} {as : List Value} {s : List Value} (hd : decode (mCode M) pc = .ok (.invokestatic idx, 3)) (hm : k_mth (mCls M) idx = some (0, n, cs, M')) (hn : as.length = n) (hs : s = as.reverse ++ st) (hcat : a_cat st ≤ 8) : a_run d M pc L s h = a_cont d M (a_bk M pc L st (a_call d M' as h)) := by
  subst hs
  rw [w_step hd rfl]
  exact congrArg _ (w_inv (knds := [0, 22, 25, 26, 27]) hm rfl (by decide) hn hcat (Or.inl rfl))
theorem w_callV {idx n : Nat} {cs : List Nat} {M' : a_M} {as : List Value} {s : List Value} (hd : decode (mCode M) pc = .ok (.invokevirtual idx, 3)) (hm : k_mth (mCls M) idx = some (1, n, cs, M')) (hn : as.length = n) (hs : s = as.reverse ++ st) (hcat : a_cat st ≤ 8) (hr : a_rcv h cs as = true) : a_run d M pc L s h = a_cont d M (a_bk M pc L st (a_call d M' as h)) := by
  subst hs
  rw [w_step hd rfl]
  exact congrArg _ (w_inv (knds := [1, 4, 21, 23, 24]) hm rfl (by decide) hn hcat (Or.inr (Or.inl ⟨Or.inl rfl, hr⟩)))
theorem w_callP {idx n : Nat} {cs : List Nat} {M' : a_M} {as : List Value} {s : List Value} (hd : decode (mCode M) pc = .ok (.invokevirtual idx, 3)) (hm : k_mth (mCls M) idx = some (4, n, cs, M')) (hn : as.length = n) (hs : s = as.reverse ++ st) (hcat : a_cat st ≤ 8) (hr : a_rcv h cs as = true) : a_run d M pc L s h = a_cont d M (a_bk M pc L st (a_call d M' as h)) := by
  subst hs
  rw [w_step hd rfl]
  exact congrArg _ (w_inv (knds := [1, 4, 21, 23, 24]) hm rfl (by decide) hn hcat (Or.inr (Or.inl ⟨Or.inr (Or.inr rfl), hr⟩)))
theorem w_callU {idx n : Nat} {cs : List Nat} {M' : a_M} {as : List Value} {s : List Value} (hd : decode (mCode M) pc = .ok (.invokespecial idx, 3)) (hm : k_mth (mCls M) idx = some (3, n, cs, M')) (hn : as.length = n) (hs : s = as.reverse ++ st) (hcat : a_cat st ≤ 8) (hr : a_rcv h cs as = true) : a_run d M pc L s h = a_cont d M (a_bk M pc L st (a_call d M' as h)) := by
  subst hs
  rw [w_step hd rfl]
  exact congrArg _ (w_inv (knds := [2, 3, 20]) hm rfl (by decide) hn hcat (Or.inr (Or.inl ⟨Or.inr (Or.inl rfl), hr⟩)))
theorem w_callI {idx n : Nat} {cs : List Nat} {M' : a_M} {as : List Value} {s : List Value} (hd : decode (mCode M) pc = .ok (.invokespecial idx, 3)) (hm : k_mth (mCls M) idx = some (2, n, cs, M')) (hn : as.length = n) (hs : s = as.reverse ++ st) (hcat : a_cat st ≤ 8) (hr : a_new0 (as.headD .null) = true) : a_run d M pc L s h = a_cont d M (a_bk M pc L st (a_call d M' as h)) := by
  subst hs
  rw [w_step hd rfl]
  exact congrArg _ (w_inv (knds := [2, 3, 20]) hm rfl (by decide) hn hcat (Or.inr (Or.inr ⟨rfl, hr⟩)))
/-- behind a call that returned -/
theorem w_ret {v : Option Value} {h' : a_H} : a_cont d M (a_bk M pc L st (some (.inl v, h'))) = a_run d M (pc + 3) L (v.toList ++ st) h' := rfl
/-- behind a call that threw -/
theorem w_exc {x : Nat} {h' : a_H} : a_cont d M (a_bk M pc L st (some (.inr x, h'))) = a_cont d M (a_thr M pc L x h') := rfl
theorem w_thr0 {x k : Nat} (hk : a_cls h x = some k) (hx : 1024 ≤ x) (hh : mHnd M = []) : a_cont d M (a_thr M pc L x h) = some (.inr x, h) := by
  unfold a_thr
  rw [hk, hh]
  dsimp only
  rw [if_pos hx]
  rfl
theorem w_thrC {x k t : Nat} (hk : a_cls h x = some k) (hx : 1024 ≤ x) (hh : a_hnd M pc k (mHnd M) = some (some t)) : a_cont d M (a_thr M pc L x h) = a_run d M t L [.ref x] h := by
  unfold a_thr
  rw [hk]
  dsimp only
  rw [if_pos hx, hh]
  rfl
theorem w_thrN {x k : Nat} (hk : a_cls h x = some k) (hx : 1024 ≤ x) (hh : a_hnd M pc k (mHnd M) = some none) : a_cont d M (a_thr M pc L x h) = some (.inr x, h) := by
  unfold a_thr
  rw [hk]
  dsimp only
  rw [if_pos hx, hh]
  rfl
theorem w_athrow {x : Nat} (hd : decode (mCode M) pc = .ok (.athrow, 1)) : a_run d M pc L (.ref x :: st) h = a_cont d M (a_thr M pc L x h) := w_step hd rfl
theorem w_iret (hd : decode (mCode M) pc = .ok (.ireturn, 1)) (hr : a_retI M x = true) : a_run d M pc L [.int x] h = some (.inl (some (.int x)), h) := by
  rw [w_step hd rfl]
  dsimp only [a_ins]
  rw [if_pos hr]
  rfl
theorem w_retI (hr : mRet M = some .int) : a_retI M x = true := by
  unfold a_retI
  rw [hr]
  simp [narrow]
theorem w_retZ (hr : mRet M = some .boolean) (hx : x = 0 ∨ x = 1) : a_retI M x = true := by
  unfold a_retI
  rw [hr]
  rcases hx with rfl | rfl <;> decide
end Wk
section Wk2
variable {d : Nat} {M : a_M} {pc tgt : Nat} {L : a_L} {st : List Value} {h : a_H} {x y : Int32} {i : Nat}
theorem a_cat_nil : a_cat [] = 0 := rfl
theorem a_cat_int (x : Int32) (st : List Value) : a_cat (.int x :: st) = 1 + a_cat st := by unfold a_cat; simp [Value.category]
theorem a_cat_ref (x : Nat) (st : List Value) : a_cat (.ref x :: st) = 1 + a_cat st := by unfold a_cat; simp [Value.category]
theorem a_cat_null (st : List Value) : a_cat (.null :: st) = 1 + a_cat st := by unfold a_cat; simp [Value.category]
theorem a_cat_long (x : Int64) (st : List Value) : a_cat (.long x :: st) = 2 + a_cat st := by unfold a_cat; simp [Value.category]
theorem a_cat_float (x : UInt32) (st : List Value) : a_cat (.float x :: st) = 1 + a_cat st := by unfold a_cat; simp [Value.category]
theorem a_rcv_of {c : Nat} {cs : List Nat} {as : List Value} (hk : a_kls h i = some c) (hc : cs.contains c = true) : a_rcv h cs (.ref i :: as) = true := by
  unfold a_rcv
  dsimp only
  rw [hk]
  exact hc
theorem a_new0_of (hi : 1024 ≤ i) : a_new0 (.ref i) = true := decide_eq_true hi
theorem w_iconst {n : Int} {v : Int32} (hd : decode (mCode M) pc = .ok (.iconst n, 1)) (hv : Int32.ofInt n = v) : a_run d M pc L st h = a_run d M (pc + 1) L (.int v :: st) h := by
  subst hv
  exact w_step hd rfl
theorem w_bipush {n : Int} {v : Int32} (hd : decode (mCode M) pc = .ok (.bipush n, 2)) (hv : (Int8.ofInt n).toInt32 = v) : a_run d M pc L st h = a_run d M (pc + 2) L (.int v :: st) h := by
  subst hv
  exact w_step hd rfl
theorem w_sipush {n : Int} {v : Int32} (hd : decode (mCode M) pc = .ok (.sipush n, 3)) (hv : (Int16.ofInt n).toInt32 = v) : a_run d M pc L st h = a_run d M (pc + 3) L (.int v :: st) h := by
  subst hv
  exact w_step hd rfl
theorem w_ldc {j : Nat} {v : Value} (hd : decode (mCode M) pc = .ok (.ldc j, 2)) (hv : k_ldc (mCls M) j = some v) : a_run d M pc L st h = a_run d M (pc + 2) L (v :: st) h := by
  rw [w_step hd rfl]
  dsimp only [a_ins]
  rw [hv]
  rfl
theorem w_ldc2 {j : Nat} {v : Int64} (hd : decode (mCode M) pc = .ok (.ldc2_w j, 3)) (hv : k_ldl (mCls M) j = some v) : a_run d M pc L st h = a_run d M (pc + 3) L (.long v :: st) h := by
  rw [w_step hd rfl]
  dsimp only [a_ins]
  rw [hv]
  rfl
theorem w_gst {j : Nat} {v : Value} (hd : decode (mCode M) pc = .ok (.getstatic j, 3)) (hv : k_gst (mCls M) j = some v) : a_run d M pc L st h = a_run d M (pc + 3) L (v :: st) h := by
  rw [w_step hd rfl]
  dsimp only [a_ins]
  rw [hv]
  rfl
theorem w_inc {k : Nat} {n : Int} {v : Int32} (hd : decode (mCode M) pc = .ok (.iinc k n, 3)) (hl : L[k]? = some (some (.int x))) (hv : Int32.ofInt n = v) : a_run d M pc L st h = a_run d M (pc + 3) (L.set k (some (.int (x + v)))) st h := by
  subst hv
  rw [w_step hd rfl]
  dsimp only [a_ins]
  rw [hl]
  rfl
theorem w_ifnull_r {off : Int} (hd : decode (mCode M) pc = .ok (.ifnull off, 3)) (ht : (pc : Int) + off = (tgt : Int)) (hi : 1024 ≤ i) : a_run d M pc L (.ref i :: st) h = a_run d M (pc + 3) L st h := by
  rw [w_step hd rfl]
  dsimp only [a_ins]
  rw [if_neg (show ¬ ((i : Nat) = 600 ∨ (i : Nat) = 601) by omega), w_br ht]
  rfl
theorem w_ifnull_n {off : Int} (hd : decode (mCode M) pc = .ok (.ifnull off, 3)) (ht : (pc : Int) + off = (tgt : Int)) : a_run d M pc L (.null :: st) h = a_run d M tgt L st h := by
  rw [w_step hd rfl]
  dsimp only [a_ins]
  rw [w_br ht]
  rfl
theorem w_ifnonnull_r {off : Int} (hd : decode (mCode M) pc = .ok (.ifnonnull off, 3)) (ht : (pc : Int) + off = (tgt : Int)) (hi : i < 600 ∨ 1024 ≤ i) : a_run d M pc L (.ref i :: st) h = a_run d M tgt L st h := by
  rw [w_step hd rfl]
  dsimp only [a_ins]
  rw [if_neg (show ¬ ((i : Nat) = 600 ∨ (i : Nat) = 601) by omega), w_br ht]
  rfl
theorem w_ifnonnull_n {off : Int} (hd : decode (mCode M) pc = .ok (.ifnonnull off, 3)) (ht : (pc : Int) + off = (tgt : Int)) : a_run d M pc L (.null :: st) h = a_run d M (pc + 3) L st h := by
  rw [w_step hd rfl]
  dsimp only [a_ins]
  rw [w_br ht]
  rfl
theorem w_obj {idx n : Nat} {cs : List Nat} {M' : a_M} (hd : decode (mCode M) pc = .ok (.invokespecial idx, 3)) (hm : k_mth (mCls M) idx = some (20, n, cs, M')) (hi : 1024 ≤ i) (hcat : a_cat st ≤ 8) : a_run d M pc L (.ref i :: st) h = a_run d M (pc + 3) L st h := by
  rw [w_step hd rfl]
  dsimp only [a_ins]
  unfold a_inv
  rw [hm]
  dsimp only
  rw [if_pos (show List.contains _ _ = true from rfl)]
  show a_cont d M (a_obj pc L _ h) = _
  dsimp only [a_obj]; rw [if_pos ⟨hi, hcat⟩]
  rfl
theorem w_cln {idx n m : Nat} {cs : List Nat} {M' : a_M} {f : Nat → Int32} (hd : decode (mCode M) pc = .ok (.invokevirtual idx, 3)) (hm : k_mth (mCls M) idx = some (21, n, cs, M')) (hi : 1024 ≤ i) (hcat : a_cat st ≤ 8) (he : h.2.2 i = .inl (.int, m, .inl f)) : a_run d M pc L (.ref i :: st) h = a_run d M (pc + 3) L (.ref h.1 :: st) (a_add h (.inl (.int, m, .inl f)) m) := by
  rw [w_step hd rfl]
  dsimp only [a_ins]
  unfold a_inv
  rw [hm]
  dsimp only
  rw [if_pos (show List.contains _ _ = true from rfl)]
  show a_cont d M (a_cln pc L _ h) = _
  dsimp only [a_cln]; rw [he]; dsimp only; rw [if_pos ⟨hi, hcat⟩]
  rfl
theorem w_gca {idx n : Nat} {cs : List Nat} {M' : a_M} {v : Value} (hd : decode (mCode M) pc = .ok (.invokevirtual idx, 3)) (hm : k_mth (mCls M) idx = some (23, n, cs, M')) (hi : 1024 ≤ i) (hcat : a_cat st ≤ 8) (hv : a_gf h i 0 [3, 4, 5, 9, 10, 11] = some v) (hA : a_isA v = true) : a_run d M pc L (.ref i :: st) h = a_run d M (pc + 3) L ((if v = .ref i then .null else v) :: st) h := by
  rw [w_step hd rfl]
  dsimp only [a_ins]
  unfold a_inv
  rw [hm]
  dsimp only
  rw [if_pos (show List.contains _ _ = true from rfl)]
  show a_cont d M (a_gca pc L _ h) = _
  dsimp only [a_gca]; rw [hv]; dsimp only; rw [if_pos ⟨hi, hcat, hA⟩]
  rfl
theorem w_fil {idx n : Nat} {cs : List Nat} {M' : a_M} (hd : decode (mCode M) pc = .ok (.invokevirtual idx, 3)) (hm : k_mth (mCls M) idx = some (24, n, cs, M')) (hi : 1024 ≤ i) (hcat : a_cat st ≤ 8) (h1 : a_gf h i 1 [3, 4, 5, 9, 10, 11] = some (.ref 600)) (h4 : a_gf h i 4 [3, 4, 5, 9, 10, 11] = some .null) : a_run d M pc L (.ref i :: st) h = a_run d M (pc + 3) L (.ref i :: st) h := by
  rw [w_step hd rfl]
  dsimp only [a_ins]
  unfold a_inv
  rw [hm]
  dsimp only
  rw [if_pos (show List.contains _ _ = true from rfl)]
  show a_cont d M (a_fil pc L _ h) = _
  dsimp only [a_fil]; rw [if_pos ⟨hi, hcat, h1, h4⟩]
  rfl
theorem w_max {idx n : Nat} {cs : List Nat} {M' : a_M} (hd : decode (mCode M) pc = .ok (.invokestatic idx, 3)) (hm : k_mth (mCls M) idx = some (25, n, cs, M')) (hcat : a_cat st ≤ 8) : a_run d M pc L (.int y :: .int x :: st) h = a_run d M (pc + 3) L (.int (if x < y then y else x) :: st) h := by
  rw [w_step hd rfl]
  dsimp only [a_ins]
  unfold a_inv
  rw [hm]
  dsimp only
  rw [if_pos (show List.contains _ _ = true from rfl)]
  show a_cont d M (a_m2 (fun x y => if x < y then y else x) pc L _ h) = _
  dsimp only [a_m2]; rw [if_pos hcat]
  rfl
theorem w_min {idx n : Nat} {cs : List Nat} {M' : a_M} (hd : decode (mCode M) pc = .ok (.invokestatic idx, 3)) (hm : k_mth (mCls M) idx = some (26, n, cs, M')) (hcat : a_cat st ≤ 8) : a_run d M pc L (.int y :: .int x :: st) h = a_run d M (pc + 3) L (.int (if y < x then y else x) :: st) h := by
  rw [w_step hd rfl]
  dsimp only [a_ins]
  unfold a_inv
  rw [hm]
  dsimp only
  rw [if_pos (show List.contains _ _ = true from rfl)]
  show a_cont d M (a_m2 (fun x y => if y < x then y else x) pc L _ h) = _
  dsimp only [a_m2]; rw [if_pos hcat]
  rfl
theorem w_abs {idx n : Nat} {cs : List Nat} {M' : a_M} (hd : decode (mCode M) pc = .ok (.invokestatic idx, 3)) (hm : k_mth (mCls M) idx = some (27, n, cs, M')) (hcat : a_cat st ≤ 8) : a_run d M pc L (.int x :: st) h = a_run d M (pc + 3) L (.int (if 0 ≤ x then x else 0 - x) :: st) h := by
  rw [w_step hd rfl]
  dsimp only [a_ins]
  unfold a_inv
  rw [hm]
  dsimp only
  rw [if_pos (show List.contains _ _ = true from rfl)]
  show a_cont d M (a_mab pc L _ h) = _
  dsimp only [a_mab]; rw [if_pos hcat]
  rfl
theorem w_lookup {dflt : Int} {ps : Array (Int × Int)} {len : Nat} (hd : decode (mCode M) pc = .ok (.lookupswitch dflt ps, len)) (hp : (ps.toList.zip (ps.toList.drop 1)).all (fun (a, next) => a.1 < next.1) = true) (ht : (pc : Int) + Op.lookupswitch.offset ps.toList dflt x.toInt = (tgt : Int)) : a_run d M pc L (.int x :: st) h = a_run d M tgt L st h := by
  rw [w_step hd rfl]
  dsimp only [a_ins]
  rw [if_pos hp, w_to ht]
theorem w_table {dflt lo hi off : Int} {offs : Array Int} {len : Nat} (hd : decode (mCode M) pc = .ok (.tableswitch dflt lo hi offs, len)) (ho : a_tab dflt lo hi offs x = some off) (ht : (pc : Int) + off = (tgt : Int)) : a_run d M pc L (.int x :: st) h = a_run d M tgt L st h := by
  rw [w_step hd rfl]
  dsimp only [a_ins]
  rw [ho]
  exact w_to ht
theorem w_fdiv {u v : UInt32} (hd : decode (mCode M) pc = .ok (.fdiv, 1)) (hn : FP.fdiv u v &&& 0x7fffffff ≤ 0x7f800000) : a_run d M pc L (.float v :: .float u :: st) h = a_run d M (pc + 1) L (.float (FP.fdiv u v) :: st) h := by
  rw [w_step hd rfl]
  dsimp only [a_ins]
  rw [if_pos hn]
  rfl
end Wk2
