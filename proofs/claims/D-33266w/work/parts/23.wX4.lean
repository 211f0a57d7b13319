set_option maxRecDepth 100000
set_option maxRecDepth 100000
def dkwX4_init_0 : List UInt8 := [42, 18, 1, 183, 0, 3, 42, 27, 181, 0, 9, 177]
abbrev dktX4_init_0 : List UInt8 := dkwX4_init_0 ++ []
theorem dksX4_init_0 : cX4_init.data.toList.drop 0 = dktX4_init_0 := by decide +kernel
theorem dX4_init_0 : decode cX4_init 0 = .ok (.aload_n 0, 1) := dk_42 (dk_at dksX4_init_0 0 rfl rfl)
theorem dX4_init_1 : decode cX4_init 1 = .ok (.ldc 1, 2) := dk_18 1 (dk_at dksX4_init_0 1 rfl rfl)
theorem dX4_init_3 : decode cX4_init 3 = .ok (.invokespecial 3, 3) := dk_183 0 3 (dk_at dksX4_init_0 3 rfl rfl)
theorem dX4_init_6 : decode cX4_init 6 = .ok (.aload_n 0, 1) := dk_42 (dk_at dksX4_init_0 6 rfl rfl)
theorem dX4_init_7 : decode cX4_init 7 = .ok (.iload_n 1, 1) := dk_27 (dk_at dksX4_init_0 7 rfl rfl)
theorem dX4_init_8 : decode cX4_init 8 = .ok (.putfield 9, 3) := dk_181 0 9 (dk_at dksX4_init_0 8 rfl rfl)
theorem dX4_init_11 : decode cX4_init 11 = .ok (.return_, 1) := dk_177 (dk_at dksX4_init_0 11 rfl rfl)
def dkwX4_init_2_0 : List UInt8 := [42, 18, 1, 44, 183, 0, 15, 42, 27, 181, 0, 9, 177]
abbrev dktX4_init_2_0 : List UInt8 := dkwX4_init_2_0 ++ []
theorem dksX4_init_2_0 : cX4_init_2.data.toList.drop 0 = dktX4_init_2_0 := by decide +kernel
theorem dX4_init_2_0 : decode cX4_init_2 0 = .ok (.aload_n 0, 1) := dk_42 (dk_at dksX4_init_2_0 0 rfl rfl)
theorem dX4_init_2_1 : decode cX4_init_2 1 = .ok (.ldc 1, 2) := dk_18 1 (dk_at dksX4_init_2_0 1 rfl rfl)
theorem dX4_init_2_3 : decode cX4_init_2 3 = .ok (.aload_n 2, 1) := dk_44 (dk_at dksX4_init_2_0 3 rfl rfl)
theorem dX4_init_2_4 : decode cX4_init_2 4 = .ok (.invokespecial 15, 3) := dk_183 0 15 (dk_at dksX4_init_2_0 4 rfl rfl)
theorem dX4_init_2_7 : decode cX4_init_2 7 = .ok (.aload_n 0, 1) := dk_42 (dk_at dksX4_init_2_0 7 rfl rfl)
theorem dX4_init_2_8 : decode cX4_init_2 8 = .ok (.iload_n 1, 1) := dk_27 (dk_at dksX4_init_2_0 8 rfl rfl)
theorem dX4_init_2_9 : decode cX4_init_2 9 = .ok (.putfield 9, 3) := dk_181 0 9 (dk_at dksX4_init_2_0 9 rfl rfl)
theorem dX4_init_2_12 : decode cX4_init_2 12 = .ok (.return_, 1) := dk_177 (dk_at dksX4_init_2_0 12 rfl rfl)
theorem e_X4_init (d : Nat) (x0 : Nat) (x1 : Int32) (h : a_H) : a_call (d + 1) MX4_init [.ref x0, .int x1] h = a_run d MX4_init 0 [some (.ref x0), some (.int x1)] [] h := a_call_run rfl (Nat.le_of_ble_eq_true rfl) rfl
theorem w_X4_init_0 (d : Nat) (a1 : Option Value) (x : Nat) (st : List Value) (h : a_H) : a_run d MX4_init 0 [some (.ref x), a1] st h = a_run d MX4_init 1 [some (.ref x), a1] (.ref x :: st) h := w_ldAn dX4_init_0 rfl
theorem w_X4_init_1 (d : Nat) (L : a_L) (st : List Value) (h : a_H) : a_run d MX4_init 1 L st h = a_run d MX4_init 3 L (.ref 708 :: st) h := w_ldc dX4_init_1 rfl
theorem w_X4_init_3 (d : Nat) (L : a_L) (i : Nat) (v1 : Value) (st : List Value) (h : a_H) (hi : 1024 ≤ i) (hc : a_cat st ≤ 8) : a_run d MX4_init 3 L (v1 :: .ref i :: st) h = a_cont d MX4_init (a_bk MX4_init 3 L st (a_call d MJ7_init [.ref i, v1] h)) := w_callI (as := [.ref i, v1]) dX4_init_3 rfl rfl rfl hc (a_new0_of hi)
theorem w_X4_init_6 (d : Nat) (a1 : Option Value) (x : Nat) (st : List Value) (h : a_H) : a_run d MX4_init 6 [some (.ref x), a1] st h = a_run d MX4_init 7 [some (.ref x), a1] (.ref x :: st) h := w_ldAn dX4_init_6 rfl
theorem w_X4_init_7 (d : Nat) (a0 : Option Value) (x : Int32) (st : List Value) (h : a_H) : a_run d MX4_init 7 [a0, some (.int x)] st h = a_run d MX4_init 8 [a0, some (.int x)] (.int x :: st) h := w_ldIn dX4_init_7 rfl
theorem w_X4_init_8 (d : Nat) (L : a_L) (x : Int32) (i : Nat) (st : List Value) (h : a_H) : a_run d MX4_init 8 L (.int x :: .ref i :: st) h = (a_pf h i 6 [3] (.int x)).bind fun h' => a_run d MX4_init 11 L st h' := w_putf dX4_init_8 rfl rfl (Or.inr ⟨rfl, rfl⟩) rfl rfl
theorem w_X4_init_11 (d : Nat) (L : a_L) (h : a_H) : a_run d MX4_init 11 L [] h = some (.inl none, h) := w_vret dX4_init_11 rfl
theorem e_X4_init_2 (d : Nat) (x0 : Nat) (x1 : Int32) (x2 : Nat) (h : a_H) : a_call (d + 1) MX4_init_2 [.ref x0, .int x1, .ref x2] h = a_run d MX4_init_2 0 [some (.ref x0), some (.int x1), some (.ref x2)] [] h := a_call_run rfl (Nat.le_of_ble_eq_true rfl) rfl
theorem w_X4_init_2_0 (d : Nat) (a1 a2 : Option Value) (x : Nat) (st : List Value) (h : a_H) : a_run d MX4_init_2 0 [some (.ref x), a1, a2] st h = a_run d MX4_init_2 1 [some (.ref x), a1, a2] (.ref x :: st) h := w_ldAn dX4_init_2_0 rfl
theorem w_X4_init_2_1 (d : Nat) (L : a_L) (st : List Value) (h : a_H) : a_run d MX4_init_2 1 L st h = a_run d MX4_init_2 3 L (.ref 708 :: st) h := w_ldc dX4_init_2_1 rfl
theorem w_X4_init_2_3 (d : Nat) (a0 a1 : Option Value) (x : Nat) (st : List Value) (h : a_H) : a_run d MX4_init_2 3 [a0, a1, some (.ref x)] st h = a_run d MX4_init_2 4 [a0, a1, some (.ref x)] (.ref x :: st) h := w_ldAn dX4_init_2_3 rfl
theorem w_X4_init_2_3N (d : Nat) (a0 a1 : Option Value) (st : List Value) (h : a_H) : a_run d MX4_init_2 3 [a0, a1, some .null] st h = a_run d MX4_init_2 4 [a0, a1, some .null] (.null :: st) h := w_ldNn dX4_init_2_3 rfl
theorem w_X4_init_2_4 (d : Nat) (L : a_L) (i : Nat) (v1 v2 : Value) (st : List Value) (h : a_H) (hi : 1024 ≤ i) (hc : a_cat st ≤ 8) : a_run d MX4_init_2 4 L (v2 :: v1 :: .ref i :: st) h = a_cont d MX4_init_2 (a_bk MX4_init_2 4 L st (a_call d MJ7_init_2 [.ref i, v1, v2] h)) := w_callI (as := [.ref i, v1, v2]) dX4_init_2_4 rfl rfl rfl hc (a_new0_of hi)
theorem w_X4_init_2_7 (d : Nat) (a1 a2 : Option Value) (x : Nat) (st : List Value) (h : a_H) : a_run d MX4_init_2 7 [some (.ref x), a1, a2] st h = a_run d MX4_init_2 8 [some (.ref x), a1, a2] (.ref x :: st) h := w_ldAn dX4_init_2_7 rfl
theorem w_X4_init_2_8 (d : Nat) (a0 a2 : Option Value) (x : Int32) (st : List Value) (h : a_H) : a_run d MX4_init_2 8 [a0, some (.int x), a2] st h = a_run d MX4_init_2 9 [a0, some (.int x), a2] (.int x :: st) h := w_ldIn dX4_init_2_8 rfl
theorem w_X4_init_2_9 (d : Nat) (L : a_L) (x : Int32) (i : Nat) (st : List Value) (h : a_H) : a_run d MX4_init_2 9 L (.int x :: .ref i :: st) h = (a_pf h i 6 [3] (.int x)).bind fun h' => a_run d MX4_init_2 12 L st h' := w_putf dX4_init_2_9 rfl rfl (Or.inr ⟨rfl, rfl⟩) rfl rfl
theorem w_X4_init_2_12 (d : Nat) (L : a_L) (h : a_H) : a_run d MX4_init_2 12 L [] h = some (.inl none, h) := w_vret dX4_init_2_12 rfl
