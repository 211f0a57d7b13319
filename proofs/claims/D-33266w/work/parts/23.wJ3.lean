set_option maxRecDepth 100000
set_option maxRecDepth 100000
def dkwJ3_init_0 : List UInt8 := [42, 16, 16, 183, 0, 1, 177]
abbrev dktJ3_init_0 : List UInt8 := dkwJ3_init_0 ++ []
theorem dksJ3_init_0 : cJ3_init.data.toList.drop 0 = dktJ3_init_0 := by decide +kernel
theorem dJ3_init_0 : decode cJ3_init 0 = .ok (.aload_n 0, 1) := dk_42 (dk_at dksJ3_init_0 0 rfl rfl)
theorem dJ3_init_1 : decode cJ3_init 1 = .ok (.bipush 16, 2) := dk_16 16 (dk_at dksJ3_init_0 1 rfl rfl)
theorem dJ3_init_3 : decode cJ3_init 3 = .ok (.invokespecial 1, 3) := dk_183 0 1 (dk_at dksJ3_init_0 3 rfl rfl)
theorem dJ3_init_6 : decode cJ3_init 6 = .ok (.return_, 1) := dk_177 (dk_at dksJ3_init_0 6 rfl rfl)
theorem dJ3_length_0 : decode cJ3_length 0 = .ok (.aload_n 0, 1) := by decide +kernel
theorem dJ3_length_1 : decode cJ3_length 1 = .ok (.invokespecial 343, 3) := by decide +kernel
theorem dJ3_length_4 : decode cJ3_length 4 = .ok (.ireturn, 1) := by decide +kernel
def dkwJ3_setLength_0 : List UInt8 := [42, 27, 183, 1, 77, 177]
abbrev dktJ3_setLength_0 : List UInt8 := dkwJ3_setLength_0 ++ []
theorem dksJ3_setLength_0 : cJ3_setLength.data.toList.drop 0 = dktJ3_setLength_0 := by decide +kernel
theorem dJ3_setLength_0 : decode cJ3_setLength 0 = .ok (.aload_n 0, 1) := dk_42 (dk_at dksJ3_setLength_0 0 rfl rfl)
theorem dJ3_setLength_1 : decode cJ3_setLength 1 = .ok (.iload_n 1, 1) := dk_27 (dk_at dksJ3_setLength_0 1 rfl rfl)
theorem dJ3_setLength_2 : decode cJ3_setLength 2 = .ok (.invokespecial 333, 3) := dk_183 1 77 (dk_at dksJ3_setLength_0 2 rfl rfl)
theorem dJ3_setLength_5 : decode cJ3_setLength 5 = .ok (.return_, 1) := dk_177 (dk_at dksJ3_setLength_0 5 rfl rfl)
def dkwJ3_append_0 : List UInt8 := [42, 43, 183, 0, 29, 87, 42, 176]
abbrev dktJ3_append_0 : List UInt8 := dkwJ3_append_0 ++ []
theorem dksJ3_append_0 : cJ3_append.data.toList.drop 0 = dktJ3_append_0 := by decide +kernel
theorem dJ3_append_0 : decode cJ3_append 0 = .ok (.aload_n 0, 1) := dk_42 (dk_at dksJ3_append_0 0 rfl rfl)
theorem dJ3_append_1 : decode cJ3_append 1 = .ok (.aload_n 1, 1) := dk_43 (dk_at dksJ3_append_0 1 rfl rfl)
theorem dJ3_append_2 : decode cJ3_append 2 = .ok (.invokespecial 29, 3) := dk_183 0 29 (dk_at dksJ3_append_0 2 rfl rfl)
theorem dJ3_append_5 : decode cJ3_append 5 = .ok (.pop, 1) := dk_87 (dk_at dksJ3_append_0 5 rfl rfl)
theorem dJ3_append_6 : decode cJ3_append 6 = .ok (.aload_n 0, 1) := dk_42 (dk_at dksJ3_append_0 6 rfl rfl)
theorem dJ3_append_7 : decode cJ3_append 7 = .ok (.areturn, 1) := dk_176 (dk_at dksJ3_append_0 7 rfl rfl)
def dkwJ3_append_2_0 : List UInt8 := [42, 27, 183, 0, 53, 87, 42, 176]
abbrev dktJ3_append_2_0 : List UInt8 := dkwJ3_append_2_0 ++ []
theorem dksJ3_append_2_0 : cJ3_append_2.data.toList.drop 0 = dktJ3_append_2_0 := by decide +kernel
theorem dJ3_append_2_0 : decode cJ3_append_2 0 = .ok (.aload_n 0, 1) := dk_42 (dk_at dksJ3_append_2_0 0 rfl rfl)
theorem dJ3_append_2_1 : decode cJ3_append_2 1 = .ok (.iload_n 1, 1) := dk_27 (dk_at dksJ3_append_2_0 1 rfl rfl)
theorem dJ3_append_2_2 : decode cJ3_append_2 2 = .ok (.invokespecial 53, 3) := dk_183 0 53 (dk_at dksJ3_append_2_0 2 rfl rfl)
theorem dJ3_append_2_5 : decode cJ3_append_2 5 = .ok (.pop, 1) := dk_87 (dk_at dksJ3_append_2_0 5 rfl rfl)
theorem dJ3_append_2_6 : decode cJ3_append_2 6 = .ok (.aload_n 0, 1) := dk_42 (dk_at dksJ3_append_2_0 6 rfl rfl)
theorem dJ3_append_2_7 : decode cJ3_append_2 7 = .ok (.areturn, 1) := dk_176 (dk_at dksJ3_append_2_0 7 rfl rfl)
def dkwJ3_toString_0 : List UInt8 := [187, 0, 18, 89, 42, 183, 0, 137, 176]
abbrev dktJ3_toString_0 : List UInt8 := dkwJ3_toString_0 ++ []
theorem dksJ3_toString_0 : cJ3_toString.data.toList.drop 0 = dktJ3_toString_0 := by decide +kernel
theorem dJ3_toString_0 : decode cJ3_toString 0 = .ok (.new 18, 3) := dk_187 0 18 (dk_at dksJ3_toString_0 0 rfl rfl)
theorem dJ3_toString_3 : decode cJ3_toString 3 = .ok (.dup, 1) := dk_89 (dk_at dksJ3_toString_0 3 rfl rfl)
theorem dJ3_toString_4 : decode cJ3_toString 4 = .ok (.aload_n 0, 1) := dk_42 (dk_at dksJ3_toString_0 4 rfl rfl)
theorem dJ3_toString_5 : decode cJ3_toString 5 = .ok (.invokespecial 137, 3) := dk_183 0 137 (dk_at dksJ3_toString_0 5 rfl rfl)
theorem dJ3_toString_8 : decode cJ3_toString 8 = .ok (.areturn, 1) := dk_176 (dk_at dksJ3_toString_0 8 rfl rfl)
def dkwJ3_append_3_0 : List UInt8 := [42, 27, 183, 0, 50, 87, 42, 176]
abbrev dktJ3_append_3_0 : List UInt8 := dkwJ3_append_3_0 ++ []
theorem dksJ3_append_3_0 : cJ3_append_3.data.toList.drop 0 = dktJ3_append_3_0 := by decide +kernel
theorem dJ3_append_3_0 : decode cJ3_append_3 0 = .ok (.aload_n 0, 1) := dk_42 (dk_at dksJ3_append_3_0 0 rfl rfl)
theorem dJ3_append_3_1 : decode cJ3_append_3 1 = .ok (.iload_n 1, 1) := dk_27 (dk_at dksJ3_append_3_0 1 rfl rfl)
theorem dJ3_append_3_2 : decode cJ3_append_3 2 = .ok (.invokespecial 50, 3) := dk_183 0 50 (dk_at dksJ3_append_3_0 2 rfl rfl)
theorem dJ3_append_3_5 : decode cJ3_append_3 5 = .ok (.pop, 1) := dk_87 (dk_at dksJ3_append_3_0 5 rfl rfl)
theorem dJ3_append_3_6 : decode cJ3_append_3 6 = .ok (.aload_n 0, 1) := dk_42 (dk_at dksJ3_append_3_0 6 rfl rfl)
theorem dJ3_append_3_7 : decode cJ3_append_3 7 = .ok (.areturn, 1) := dk_176 (dk_at dksJ3_append_3_0 7 rfl rfl)
def dkwJ3_charAt_0 : List UInt8 := [42, 27, 183, 1, 73, 172]
abbrev dktJ3_charAt_0 : List UInt8 := dkwJ3_charAt_0 ++ []
theorem dksJ3_charAt_0 : cJ3_charAt.data.toList.drop 0 = dktJ3_charAt_0 := by decide +kernel
theorem dJ3_charAt_0 : decode cJ3_charAt 0 = .ok (.aload_n 0, 1) := dk_42 (dk_at dksJ3_charAt_0 0 rfl rfl)
theorem dJ3_charAt_1 : decode cJ3_charAt 1 = .ok (.iload_n 1, 1) := dk_27 (dk_at dksJ3_charAt_0 1 rfl rfl)
theorem dJ3_charAt_2 : decode cJ3_charAt 2 = .ok (.invokespecial 329, 3) := dk_183 1 73 (dk_at dksJ3_charAt_0 2 rfl rfl)
theorem dJ3_charAt_5 : decode cJ3_charAt 5 = .ok (.ireturn, 1) := dk_172 (dk_at dksJ3_charAt_0 5 rfl rfl)
theorem e_J3_init (d : Nat) (x0 : Nat) (h : a_H) : a_call (d + 1) MJ3_init [.ref x0] h = a_run d MJ3_init 0 [some (.ref x0)] [] h := a_call_run rfl (Nat.le_of_ble_eq_true rfl) rfl
theorem w_J3_init_0 (d : Nat) (x : Nat) (st : List Value) (h : a_H) : a_run d MJ3_init 0 [some (.ref x)] st h = a_run d MJ3_init 1 [some (.ref x)] (.ref x :: st) h := w_ldAn dJ3_init_0 rfl
theorem w_J3_init_1 (d : Nat) (L : a_L) (st : List Value) (h : a_H) : a_run d MJ3_init 1 L st h = a_run d MJ3_init 3 L (.int (nI 16) :: st) h := w_bipush dJ3_init_1 rfl
theorem w_J3_init_3 (d : Nat) (L : a_L) (i : Nat) (v1 : Value) (st : List Value) (h : a_H) (hi : 1024 ≤ i) (hc : a_cat st ≤ 8) : a_run d MJ3_init 3 L (v1 :: .ref i :: st) h = a_cont d MJ3_init (a_bk MJ3_init 3 L st (a_call d MJ2_init [.ref i, v1] h)) := w_callI (as := [.ref i, v1]) dJ3_init_3 rfl rfl rfl hc (a_new0_of hi)
theorem w_J3_init_6 (d : Nat) (L : a_L) (h : a_H) : a_run d MJ3_init 6 L [] h = some (.inl none, h) := w_vret dJ3_init_6 rfl
theorem e_J3_length (d : Nat) (x0 : Nat) (h : a_H) : a_call (d + 1) MJ3_length [.ref x0] h = a_run d MJ3_length 0 [some (.ref x0)] [] h := a_call_run rfl (Nat.le_of_ble_eq_true rfl) rfl
theorem w_J3_length_0 (d : Nat) (x : Nat) (st : List Value) (h : a_H) : a_run d MJ3_length 0 [some (.ref x)] st h = a_run d MJ3_length 1 [some (.ref x)] (.ref x :: st) h := w_ldAn dJ3_length_0 rfl
theorem w_J3_length_1 (d : Nat) (L : a_L) (i : Nat) (st : List Value) (h : a_H) (hk : a_kls h i = some 8) (hc : a_cat st ≤ 8) : a_run d MJ3_length 1 L (.ref i :: st) h = a_cont d MJ3_length (a_bk MJ3_length 1 L st (a_call d MJ2_length [.ref i] h)) := w_callU (as := [.ref i]) dJ3_length_1 rfl rfl rfl hc (a_rcv_of hk rfl)
theorem w_J3_length_4 (d : Nat) (L : a_L) (x : Int32) (h : a_H) : a_run d MJ3_length 4 L [.int x] h = some (.inl (some (.int x)), h) := w_iret dJ3_length_4 (w_retI rfl)
theorem e_J3_setLength (d : Nat) (x0 : Nat) (x1 : Int32) (h : a_H) : a_call (d + 1) MJ3_setLength [.ref x0, .int x1] h = a_run d MJ3_setLength 0 [some (.ref x0), some (.int x1)] [] h := a_call_run rfl (Nat.le_of_ble_eq_true rfl) rfl
theorem w_J3_setLength_0 (d : Nat) (a1 : Option Value) (x : Nat) (st : List Value) (h : a_H) : a_run d MJ3_setLength 0 [some (.ref x), a1] st h = a_run d MJ3_setLength 1 [some (.ref x), a1] (.ref x :: st) h := w_ldAn dJ3_setLength_0 rfl
theorem w_J3_setLength_1 (d : Nat) (a0 : Option Value) (x : Int32) (st : List Value) (h : a_H) : a_run d MJ3_setLength 1 [a0, some (.int x)] st h = a_run d MJ3_setLength 2 [a0, some (.int x)] (.int x :: st) h := w_ldIn dJ3_setLength_1 rfl
theorem w_J3_setLength_2 (d : Nat) (L : a_L) (i : Nat) (v1 : Value) (st : List Value) (h : a_H) (hk : a_kls h i = some 8) (hc : a_cat st ≤ 8) : a_run d MJ3_setLength 2 L (v1 :: .ref i :: st) h = a_cont d MJ3_setLength (a_bk MJ3_setLength 2 L st (a_call d MJ2_setLength [.ref i, v1] h)) := w_callU (as := [.ref i, v1]) dJ3_setLength_2 rfl rfl rfl hc (a_rcv_of hk rfl)
theorem w_J3_setLength_5 (d : Nat) (L : a_L) (h : a_H) : a_run d MJ3_setLength 5 L [] h = some (.inl none, h) := w_vret dJ3_setLength_5 rfl
theorem e_J3_append (d : Nat) (x0 : Nat) (x1 : Nat) (h : a_H) : a_call (d + 1) MJ3_append [.ref x0, .ref x1] h = a_run d MJ3_append 0 [some (.ref x0), some (.ref x1)] [] h := a_call_run rfl (Nat.le_of_ble_eq_true rfl) rfl
theorem w_J3_append_0 (d : Nat) (a1 : Option Value) (x : Nat) (st : List Value) (h : a_H) : a_run d MJ3_append 0 [some (.ref x), a1] st h = a_run d MJ3_append 1 [some (.ref x), a1] (.ref x :: st) h := w_ldAn dJ3_append_0 rfl
theorem w_J3_append_1 (d : Nat) (a0 : Option Value) (x : Nat) (st : List Value) (h : a_H) : a_run d MJ3_append 1 [a0, some (.ref x)] st h = a_run d MJ3_append 2 [a0, some (.ref x)] (.ref x :: st) h := w_ldAn dJ3_append_1 rfl
theorem w_J3_append_1N (d : Nat) (a0 : Option Value) (st : List Value) (h : a_H) : a_run d MJ3_append 1 [a0, some .null] st h = a_run d MJ3_append 2 [a0, some .null] (.null :: st) h := w_ldNn dJ3_append_1 rfl
theorem w_J3_append_2 (d : Nat) (L : a_L) (i : Nat) (v1 : Value) (st : List Value) (h : a_H) (hk : a_kls h i = some 8) (hc : a_cat st ≤ 8) : a_run d MJ3_append 2 L (v1 :: .ref i :: st) h = a_cont d MJ3_append (a_bk MJ3_append 2 L st (a_call d MJ2_append [.ref i, v1] h)) := w_callU (as := [.ref i, v1]) dJ3_append_2 rfl rfl rfl hc (a_rcv_of hk rfl)
theorem w_J3_append_5 (d : Nat) (L : a_L) (x : Nat) (st : List Value) (h : a_H) : a_run d MJ3_append 5 L (.ref x :: st) h = a_run d MJ3_append 6 L st h := w_pop dJ3_append_5
theorem w_J3_append_5I (d : Nat) (L : a_L) (x : Int32) (st : List Value) (h : a_H) : a_run d MJ3_append 5 L (.int x :: st) h = a_run d MJ3_append 6 L st h := w_popI dJ3_append_5
theorem w_J3_append_6 (d : Nat) (a1 : Option Value) (x : Nat) (st : List Value) (h : a_H) : a_run d MJ3_append 6 [some (.ref x), a1] st h = a_run d MJ3_append 7 [some (.ref x), a1] (.ref x :: st) h := w_ldAn dJ3_append_6 rfl
theorem w_J3_append_7 (d : Nat) (L : a_L) (x : Nat) (h : a_H) : a_run d MJ3_append 7 L [.ref x] h = some (.inl (some (.ref x)), h) := w_aret dJ3_append_7 rfl
theorem w_J3_append_7N (d : Nat) (L : a_L) (h : a_H) : a_run d MJ3_append 7 L [.null] h = some (.inl (some .null), h) := w_aretN dJ3_append_7 rfl
theorem e_J3_append_2 (d : Nat) (x0 : Nat) (x1 : Int32) (h : a_H) : a_call (d + 1) MJ3_append_2 [.ref x0, .int x1] h = a_run d MJ3_append_2 0 [some (.ref x0), some (.int x1)] [] h := a_call_run rfl (Nat.le_of_ble_eq_true rfl) rfl
theorem w_J3_append_2_0 (d : Nat) (a1 : Option Value) (x : Nat) (st : List Value) (h : a_H) : a_run d MJ3_append_2 0 [some (.ref x), a1] st h = a_run d MJ3_append_2 1 [some (.ref x), a1] (.ref x :: st) h := w_ldAn dJ3_append_2_0 rfl
theorem w_J3_append_2_1 (d : Nat) (a0 : Option Value) (x : Int32) (st : List Value) (h : a_H) : a_run d MJ3_append_2 1 [a0, some (.int x)] st h = a_run d MJ3_append_2 2 [a0, some (.int x)] (.int x :: st) h := w_ldIn dJ3_append_2_1 rfl
theorem w_J3_append_2_2 (d : Nat) (L : a_L) (i : Nat) (v1 : Value) (st : List Value) (h : a_H) (hk : a_kls h i = some 8) (hc : a_cat st ≤ 8) : a_run d MJ3_append_2 2 L (v1 :: .ref i :: st) h = a_cont d MJ3_append_2 (a_bk MJ3_append_2 2 L st (a_call d MJ2_append_2 [.ref i, v1] h)) := w_callU (as := [.ref i, v1]) dJ3_append_2_2 rfl rfl rfl hc (a_rcv_of hk rfl)
theorem w_J3_append_2_5 (d : Nat) (L : a_L) (x : Nat) (st : List Value) (h : a_H) : a_run d MJ3_append_2 5 L (.ref x :: st) h = a_run d MJ3_append_2 6 L st h := w_pop dJ3_append_2_5
theorem w_J3_append_2_5I (d : Nat) (L : a_L) (x : Int32) (st : List Value) (h : a_H) : a_run d MJ3_append_2 5 L (.int x :: st) h = a_run d MJ3_append_2 6 L st h := w_popI dJ3_append_2_5
theorem w_J3_append_2_6 (d : Nat) (a1 : Option Value) (x : Nat) (st : List Value) (h : a_H) : a_run d MJ3_append_2 6 [some (.ref x), a1] st h = a_run d MJ3_append_2 7 [some (.ref x), a1] (.ref x :: st) h := w_ldAn dJ3_append_2_6 rfl
theorem w_J3_append_2_7 (d : Nat) (L : a_L) (x : Nat) (h : a_H) : a_run d MJ3_append_2 7 L [.ref x] h = some (.inl (some (.ref x)), h) := w_aret dJ3_append_2_7 rfl
theorem w_J3_append_2_7N (d : Nat) (L : a_L) (h : a_H) : a_run d MJ3_append_2 7 L [.null] h = some (.inl (some .null), h) := w_aretN dJ3_append_2_7 rfl
theorem e_J3_toString (d : Nat) (x0 : Nat) (h : a_H) : a_call (d + 1) MJ3_toString [.ref x0] h = a_run d MJ3_toString 0 [some (.ref x0)] [] h := a_call_run rfl (Nat.le_of_ble_eq_true rfl) rfl
theorem w_J3_toString_3 (d : Nat) (L : a_L) (x : Nat) (st : List Value) (h : a_H) : a_run d MJ3_toString 3 L (.ref x :: st) h = a_run d MJ3_toString 4 L (.ref x :: .ref x :: st) h := w_dup dJ3_toString_3
theorem w_J3_toString_3I (d : Nat) (L : a_L) (x : Int32) (st : List Value) (h : a_H) : a_run d MJ3_toString 3 L (.int x :: st) h = a_run d MJ3_toString 4 L (.int x :: .int x :: st) h := w_dupI dJ3_toString_3
theorem w_J3_toString_4 (d : Nat) (x : Nat) (st : List Value) (h : a_H) : a_run d MJ3_toString 4 [some (.ref x)] st h = a_run d MJ3_toString 5 [some (.ref x)] (.ref x :: st) h := w_ldAn dJ3_toString_4 rfl
theorem w_J3_toString_5 (d : Nat) (L : a_L) (i : Nat) (v1 : Value) (st : List Value) (h : a_H) (hi : 1024 ≤ i) (hc : a_cat st ≤ 8) : a_run d MJ3_toString 5 L (v1 :: .ref i :: st) h = a_cont d MJ3_toString (a_bk MJ3_toString 5 L st (a_call d MJ4_init [.ref i, v1] h)) := w_callI (as := [.ref i, v1]) dJ3_toString_5 rfl rfl rfl hc (a_new0_of hi)
theorem w_J3_toString_8 (d : Nat) (L : a_L) (x : Nat) (h : a_H) : a_run d MJ3_toString 8 L [.ref x] h = some (.inl (some (.ref x)), h) := w_aret dJ3_toString_8 rfl
theorem w_J3_toString_8N (d : Nat) (L : a_L) (h : a_H) : a_run d MJ3_toString 8 L [.null] h = some (.inl (some .null), h) := w_aretN dJ3_toString_8 rfl
theorem e_J3_append_3 (d : Nat) (x0 : Nat) (x1 : Int32) (h : a_H) : a_call (d + 1) MJ3_append_3 [.ref x0, .int x1] h = a_run d MJ3_append_3 0 [some (.ref x0), some (.int x1)] [] h := a_call_run rfl (Nat.le_of_ble_eq_true rfl) rfl
theorem w_J3_append_3_0 (d : Nat) (a1 : Option Value) (x : Nat) (st : List Value) (h : a_H) : a_run d MJ3_append_3 0 [some (.ref x), a1] st h = a_run d MJ3_append_3 1 [some (.ref x), a1] (.ref x :: st) h := w_ldAn dJ3_append_3_0 rfl
theorem w_J3_append_3_1 (d : Nat) (a0 : Option Value) (x : Int32) (st : List Value) (h : a_H) : a_run d MJ3_append_3 1 [a0, some (.int x)] st h = a_run d MJ3_append_3 2 [a0, some (.int x)] (.int x :: st) h := w_ldIn dJ3_append_3_1 rfl
theorem w_J3_append_3_2 (d : Nat) (L : a_L) (i : Nat) (v1 : Value) (st : List Value) (h : a_H) (hk : a_kls h i = some 8) (hc : a_cat st ≤ 8) : a_run d MJ3_append_3 2 L (v1 :: .ref i :: st) h = a_cont d MJ3_append_3 (a_bk MJ3_append_3 2 L st (a_call d MJ2_append_3 [.ref i, v1] h)) := w_callU (as := [.ref i, v1]) dJ3_append_3_2 rfl rfl rfl hc (a_rcv_of hk rfl)
theorem w_J3_append_3_5 (d : Nat) (L : a_L) (x : Nat) (st : List Value) (h : a_H) : a_run d MJ3_append_3 5 L (.ref x :: st) h = a_run d MJ3_append_3 6 L st h := w_pop dJ3_append_3_5
theorem w_J3_append_3_5I (d : Nat) (L : a_L) (x : Int32) (st : List Value) (h : a_H) : a_run d MJ3_append_3 5 L (.int x :: st) h = a_run d MJ3_append_3 6 L st h := w_popI dJ3_append_3_5
theorem w_J3_append_3_6 (d : Nat) (a1 : Option Value) (x : Nat) (st : List Value) (h : a_H) : a_run d MJ3_append_3 6 [some (.ref x), a1] st h = a_run d MJ3_append_3 7 [some (.ref x), a1] (.ref x :: st) h := w_ldAn dJ3_append_3_6 rfl
theorem w_J3_append_3_7 (d : Nat) (L : a_L) (x : Nat) (h : a_H) : a_run d MJ3_append_3 7 L [.ref x] h = some (.inl (some (.ref x)), h) := w_aret dJ3_append_3_7 rfl
theorem w_J3_append_3_7N (d : Nat) (L : a_L) (h : a_H) : a_run d MJ3_append_3 7 L [.null] h = some (.inl (some .null), h) := w_aretN dJ3_append_3_7 rfl
theorem e_J3_charAt (d : Nat) (x0 : Nat) (x1 : Int32) (h : a_H) : a_call (d + 1) MJ3_charAt [.ref x0, .int x1] h = a_run d MJ3_charAt 0 [some (.ref x0), some (.int x1)] [] h := a_call_run rfl (Nat.le_of_ble_eq_true rfl) rfl
theorem w_J3_charAt_0 (d : Nat) (a1 : Option Value) (x : Nat) (st : List Value) (h : a_H) : a_run d MJ3_charAt 0 [some (.ref x), a1] st h = a_run d MJ3_charAt 1 [some (.ref x), a1] (.ref x :: st) h := w_ldAn dJ3_charAt_0 rfl
theorem w_J3_charAt_1 (d : Nat) (a0 : Option Value) (x : Int32) (st : List Value) (h : a_H) : a_run d MJ3_charAt 1 [a0, some (.int x)] st h = a_run d MJ3_charAt 2 [a0, some (.int x)] (.int x :: st) h := w_ldIn dJ3_charAt_1 rfl
theorem w_J3_charAt_2 (d : Nat) (L : a_L) (i : Nat) (v1 : Value) (st : List Value) (h : a_H) (hk : a_kls h i = some 8) (hc : a_cat st ≤ 8) : a_run d MJ3_charAt 2 L (v1 :: .ref i :: st) h = a_cont d MJ3_charAt (a_bk MJ3_charAt 2 L st (a_call d MJ2_charAt [.ref i, v1] h)) := w_callU (as := [.ref i, v1]) dJ3_charAt_2 rfl rfl rfl hc (a_rcv_of hk rfl)
theorem w_J3_charAt_5 (d : Nat) (L : a_L) (x : Int32) (h : a_H) (hx : a_retI MJ3_charAt x = true) : a_run d MJ3_charAt 5 L [.int x] h = some (.inl (some (.int x)), h) := w_iret dJ3_charAt_5 hx
