set_option maxRecDepth 100000
set_option maxRecDepth 100000
def dkwX5_init_0 : List UInt8 := [42, 18, 1, 183, 0, 3, 42, 27, 181, 0, 9, 177]
abbrev dktX5_init_0 : List UInt8 := dkwX5_init_0 ++ []
theorem dksX5_init_0 : cX5_init.data.toList.drop 0 = dktX5_init_0 := by decide +kernel
theorem dX5_init_0 : decode cX5_init 0 = .ok (.aload_n 0, 1) := dk_42 (dk_at dksX5_init_0 0 rfl rfl)
theorem dX5_init_1 : decode cX5_init 1 = .ok (.ldc 1, 2) := dk_18 1 (dk_at dksX5_init_0 1 rfl rfl)
theorem dX5_init_3 : decode cX5_init 3 = .ok (.invokespecial 3, 3) := dk_183 0 3 (dk_at dksX5_init_0 3 rfl rfl)
theorem dX5_init_6 : decode cX5_init 6 = .ok (.aload_n 0, 1) := dk_42 (dk_at dksX5_init_0 6 rfl rfl)
theorem dX5_init_7 : decode cX5_init 7 = .ok (.iload_n 1, 1) := dk_27 (dk_at dksX5_init_0 7 rfl rfl)
theorem dX5_init_8 : decode cX5_init 8 = .ok (.putfield 9, 3) := dk_181 0 9 (dk_at dksX5_init_0 8 rfl rfl)
theorem dX5_init_11 : decode cX5_init 11 = .ok (.return_, 1) := dk_177 (dk_at dksX5_init_0 11 rfl rfl)
theorem e_X5_init (d : Nat) (x0 : Nat) (x1 : Int32) (h : a_H) : a_call (d + 1) MX5_init [.ref x0, .int x1] h = a_run d MX5_init 0 [some (.ref x0), some (.int x1)] [] h := a_call_run rfl (Nat.le_of_ble_eq_true rfl) rfl
theorem w_X5_init_0 (d : Nat) (a1 : Option Value) (x : Nat) (st : List Value) (h : a_H) : a_run d MX5_init 0 [some (.ref x), a1] st h = a_run d MX5_init 1 [some (.ref x), a1] (.ref x :: st) h := w_ldAn dX5_init_0 rfl
theorem w_X5_init_1 (d : Nat) (L : a_L) (st : List Value) (h : a_H) : a_run d MX5_init 1 L st h = a_run d MX5_init 3 L (.ref 709 :: st) h := w_ldc dX5_init_1 rfl
theorem w_X5_init_3 (d : Nat) (L : a_L) (i : Nat) (v1 : Value) (st : List Value) (h : a_H) (hi : 1024 ≤ i) (hc : a_cat st ≤ 8) : a_run d MX5_init 3 L (v1 :: .ref i :: st) h = a_cont d MX5_init (a_bk MX5_init 3 L st (a_call d MJ7_init [.ref i, v1] h)) := w_callI (as := [.ref i, v1]) dX5_init_3 rfl rfl rfl hc (a_new0_of hi)
theorem w_X5_init_6 (d : Nat) (a1 : Option Value) (x : Nat) (st : List Value) (h : a_H) : a_run d MX5_init 6 [some (.ref x), a1] st h = a_run d MX5_init 7 [some (.ref x), a1] (.ref x :: st) h := w_ldAn dX5_init_6 rfl
theorem w_X5_init_7 (d : Nat) (a0 : Option Value) (x : Int32) (st : List Value) (h : a_H) : a_run d MX5_init 7 [a0, some (.int x)] st h = a_run d MX5_init 8 [a0, some (.int x)] (.int x :: st) h := w_ldIn dX5_init_7 rfl
theorem w_X5_init_8 (d : Nat) (L : a_L) (x : Int32) (i : Nat) (st : List Value) (h : a_H) : a_run d MX5_init 8 L (.int x :: .ref i :: st) h = (a_pf h i 6 [4] (.int x)).bind fun h' => a_run d MX5_init 11 L st h' := w_putf dX5_init_8 rfl rfl (Or.inr ⟨rfl, rfl⟩) rfl rfl
theorem w_X5_init_11 (d : Nat) (L : a_L) (h : a_H) : a_run d MX5_init 11 L [] h = some (.inl none, h) := w_vret dX5_init_11 rfl
