set_option maxRecDepth 100000
set_option maxRecDepth 100000
theorem dJ0_init_0 : decode cJ0_init 0 = .ok (.aload_n 0, 1) := by decide +kernel
theorem dJ0_init_1 : decode cJ0_init 1 = .ok (.invokespecial 1, 3) := by decide +kernel
theorem dJ0_init_4 : decode cJ0_init 4 = .ok (.return_, 1) := by decide +kernel
theorem e_J0_init (d : Nat) (x0 : Nat) (h : a_H) : a_call (d + 1) MJ0_init [.ref x0] h = a_run d MJ0_init 0 [some (.ref x0)] [] h := a_call_run rfl (Nat.le_of_ble_eq_true rfl) rfl
theorem w_J0_init_0 (d : Nat) (x : Nat) (st : List Value) (h : a_H) : a_run d MJ0_init 0 [some (.ref x)] st h = a_run d MJ0_init 1 [some (.ref x)] (.ref x :: st) h := w_ldAn dJ0_init_0 rfl
theorem w_J0_init_1 (d : Nat) (L : a_L) (i : Nat) (st : List Value) (h : a_H) (hi : 1024 ≤ i) (hc : a_cat st ≤ 8) : a_run d MJ0_init 1 L (.ref i :: st) h = a_run d MJ0_init 4 L st h := w_obj dJ0_init_1 rfl hi hc
theorem w_J0_init_4 (d : Nat) (L : a_L) (h : a_H) : a_run d MJ0_init 4 L [] h = some (.inl none, h) := w_vret dJ0_init_4 rfl
set_option maxRecDepth 100000
def dkwJ2_init_1 : List UInt8 := [167, 0, 16, 42, 27, 184, 0, 26, 181, 0, 15, 42, 4, 181, 0, 22, 177]
abbrev dktJ2_init_1 : List UInt8 := dkwJ2_init_1 ++ []
def dkwJ2_init_0 : List UInt8 := [42, 183, 0, 3, 178, 0, 18, 153, 0, 18, 42, 27, 188, 8, 181, 0, 15, 42, 3, 181, 0, 22]
abbrev dktJ2_init_0 : List UInt8 := dkwJ2_init_0 ++ dktJ2_init_1
theorem dksJ2_init_0 : cJ2_init.data.toList.drop 0 = dktJ2_init_0 := by decide +kernel
theorem dksJ2_init_1 : cJ2_init.data.toList.drop 22 = dktJ2_init_1 := dk_seg dksJ2_init_0 22 rfl rfl
theorem dJ2_init_0 : decode cJ2_init 0 = .ok (.aload_n 0, 1) := dk_42 (dk_at dksJ2_init_0 0 rfl rfl)
theorem dJ2_init_1 : decode cJ2_init 1 = .ok (.invokespecial 3, 3) := dk_183 0 3 (dk_at dksJ2_init_0 1 rfl rfl)
theorem dJ2_init_4 : decode cJ2_init 4 = .ok (.getstatic 18, 3) := dk_178 0 18 (dk_at dksJ2_init_0 4 rfl rfl)
theorem dJ2_init_7 : decode cJ2_init 7 = .ok (.ifCond .eq 18, 3) := dk_153 0 18 (dk_at dksJ2_init_0 7 rfl rfl)
theorem dJ2_init_10 : decode cJ2_init 10 = .ok (.aload_n 0, 1) := dk_42 (dk_at dksJ2_init_0 10 rfl rfl)
theorem dJ2_init_11 : decode cJ2_init 11 = .ok (.iload_n 1, 1) := dk_27 (dk_at dksJ2_init_0 11 rfl rfl)
theorem dJ2_init_12 : decode cJ2_init 12 = .ok (.newarray .byte, 2) := dk_188_8 (dk_at dksJ2_init_0 12 rfl rfl)
theorem dJ2_init_14 : decode cJ2_init 14 = .ok (.putfield 15, 3) := dk_181 0 15 (dk_at dksJ2_init_0 14 rfl rfl)
theorem dJ2_init_17 : decode cJ2_init 17 = .ok (.aload_n 0, 1) := dk_42 (dk_at dksJ2_init_0 17 rfl rfl)
theorem dJ2_init_18 : decode cJ2_init 18 = .ok (.iconst 0, 1) := dk_3 (dk_at dksJ2_init_0 18 rfl rfl)
theorem dJ2_init_19 : decode cJ2_init 19 = .ok (.putfield 22, 3) := dk_181 0 22 (dk_at dksJ2_init_0 19 rfl rfl)
theorem dJ2_init_22 : decode cJ2_init 22 = .ok (.goto 16, 3) := dk_167 0 16 (dk_at dksJ2_init_1 0 rfl rfl)
theorem dJ2_init_25 : decode cJ2_init 25 = .ok (.aload_n 0, 1) := dk_42 (dk_at dksJ2_init_1 3 rfl rfl)
theorem dJ2_init_26 : decode cJ2_init 26 = .ok (.iload_n 1, 1) := dk_27 (dk_at dksJ2_init_1 4 rfl rfl)
theorem dJ2_init_27 : decode cJ2_init 27 = .ok (.invokestatic 26, 3) := dk_184 0 26 (dk_at dksJ2_init_1 5 rfl rfl)
theorem dJ2_init_30 : decode cJ2_init 30 = .ok (.putfield 15, 3) := dk_181 0 15 (dk_at dksJ2_init_1 8 rfl rfl)
theorem dJ2_init_33 : decode cJ2_init 33 = .ok (.aload_n 0, 1) := dk_42 (dk_at dksJ2_init_1 11 rfl rfl)
theorem dJ2_init_34 : decode cJ2_init 34 = .ok (.iconst 1, 1) := dk_4 (dk_at dksJ2_init_1 12 rfl rfl)
theorem dJ2_init_35 : decode cJ2_init 35 = .ok (.putfield 22, 3) := dk_181 0 22 (dk_at dksJ2_init_1 13 rfl rfl)
theorem dJ2_init_38 : decode cJ2_init 38 = .ok (.return_, 1) := dk_177 (dk_at dksJ2_init_1 16 rfl rfl)
theorem dJ2_length_0 : decode cJ2_length 0 = .ok (.aload_n 0, 1) := by decide +kernel
theorem dJ2_length_1 : decode cJ2_length 1 = .ok (.getfield 79, 3) := by decide +kernel
theorem dJ2_length_4 : decode cJ2_length 4 = .ok (.ireturn, 1) := by decide +kernel
def dkwJ2_setLength_3 : List UInt8 := [164, 0, 8, 42, 4, 181, 0, 73, 42, 27, 181, 0, 79, 177]
abbrev dktJ2_setLength_3 : List UInt8 := dkwJ2_setLength_3 ++ []
def dkwJ2_setLength_2 : List UInt8 := [167, 0, 31, 42, 180, 0, 15, 42, 180, 0, 79, 27, 184, 0, 137, 167, 0, 16, 42, 180, 0, 79, 27]
abbrev dktJ2_setLength_2 : List UInt8 := dkwJ2_setLength_2 ++ dktJ2_setLength_3
def dkwJ2_setLength_1 : List UInt8 := [162, 0, 40, 42, 182, 0, 83, 153, 0, 18, 42, 180, 0, 15, 42, 180, 0, 79, 27, 184, 0, 133]
abbrev dktJ2_setLength_1 : List UInt8 := dkwJ2_setLength_1 ++ dktJ2_setLength_2
def dkwJ2_setLength_0 : List UInt8 := [27, 156, 0, 12, 187, 0, 129, 89, 27, 183, 0, 131, 191, 42, 27, 182, 0, 100, 42, 180, 0, 79, 27]
abbrev dktJ2_setLength_0 : List UInt8 := dkwJ2_setLength_0 ++ dktJ2_setLength_1
theorem dksJ2_setLength_0 : cJ2_setLength.data.toList.drop 0 = dktJ2_setLength_0 := by decide +kernel
theorem dksJ2_setLength_1 : cJ2_setLength.data.toList.drop 23 = dktJ2_setLength_1 := dk_seg dksJ2_setLength_0 23 rfl rfl
theorem dksJ2_setLength_2 : cJ2_setLength.data.toList.drop 45 = dktJ2_setLength_2 := dk_seg dksJ2_setLength_1 22 rfl rfl
theorem dksJ2_setLength_3 : cJ2_setLength.data.toList.drop 68 = dktJ2_setLength_3 := dk_seg dksJ2_setLength_2 23 rfl rfl
theorem dJ2_setLength_0 : decode cJ2_setLength 0 = .ok (.iload_n 1, 1) := dk_27 (dk_at dksJ2_setLength_0 0 rfl rfl)
theorem dJ2_setLength_1 : decode cJ2_setLength 1 = .ok (.ifCond .ge 12, 3) := dk_156 0 12 (dk_at dksJ2_setLength_0 1 rfl rfl)
theorem dJ2_setLength_4 : decode cJ2_setLength 4 = .ok (.new 129, 3) := dk_187 0 129 (dk_at dksJ2_setLength_0 4 rfl rfl)
theorem dJ2_setLength_7 : decode cJ2_setLength 7 = .ok (.dup, 1) := dk_89 (dk_at dksJ2_setLength_0 7 rfl rfl)
theorem dJ2_setLength_8 : decode cJ2_setLength 8 = .ok (.iload_n 1, 1) := dk_27 (dk_at dksJ2_setLength_0 8 rfl rfl)
theorem dJ2_setLength_9 : decode cJ2_setLength 9 = .ok (.invokespecial 131, 3) := dk_183 0 131 (dk_at dksJ2_setLength_0 9 rfl rfl)
theorem dJ2_setLength_12 : decode cJ2_setLength 12 = .ok (.athrow, 1) := dk_191 (dk_at dksJ2_setLength_0 12 rfl rfl)
theorem dJ2_setLength_13 : decode cJ2_setLength 13 = .ok (.aload_n 0, 1) := dk_42 (dk_at dksJ2_setLength_0 13 rfl rfl)
theorem dJ2_setLength_14 : decode cJ2_setLength 14 = .ok (.iload_n 1, 1) := dk_27 (dk_at dksJ2_setLength_0 14 rfl rfl)
theorem dJ2_setLength_15 : decode cJ2_setLength 15 = .ok (.invokevirtual 100, 3) := dk_182 0 100 (dk_at dksJ2_setLength_0 15 rfl rfl)
theorem dJ2_setLength_18 : decode cJ2_setLength 18 = .ok (.aload_n 0, 1) := dk_42 (dk_at dksJ2_setLength_0 18 rfl rfl)
theorem dJ2_setLength_19 : decode cJ2_setLength 19 = .ok (.getfield 79, 3) := dk_180 0 79 (dk_at dksJ2_setLength_0 19 rfl rfl)
theorem dJ2_setLength_22 : decode cJ2_setLength 22 = .ok (.iload_n 1, 1) := dk_27 (dk_at dksJ2_setLength_0 22 rfl rfl)
theorem dJ2_setLength_23 : decode cJ2_setLength 23 = .ok (.if_icmp .ge 40, 3) := dk_162 0 40 (dk_at dksJ2_setLength_1 0 rfl rfl)
theorem dJ2_setLength_26 : decode cJ2_setLength 26 = .ok (.aload_n 0, 1) := dk_42 (dk_at dksJ2_setLength_1 3 rfl rfl)
theorem dJ2_setLength_27 : decode cJ2_setLength 27 = .ok (.invokevirtual 83, 3) := dk_182 0 83 (dk_at dksJ2_setLength_1 4 rfl rfl)
theorem dJ2_setLength_30 : decode cJ2_setLength 30 = .ok (.ifCond .eq 18, 3) := dk_153 0 18 (dk_at dksJ2_setLength_1 7 rfl rfl)
theorem dJ2_setLength_33 : decode cJ2_setLength 33 = .ok (.aload_n 0, 1) := dk_42 (dk_at dksJ2_setLength_1 10 rfl rfl)
theorem dJ2_setLength_34 : decode cJ2_setLength 34 = .ok (.getfield 15, 3) := dk_180 0 15 (dk_at dksJ2_setLength_1 11 rfl rfl)
theorem dJ2_setLength_37 : decode cJ2_setLength 37 = .ok (.aload_n 0, 1) := dk_42 (dk_at dksJ2_setLength_1 14 rfl rfl)
theorem dJ2_setLength_38 : decode cJ2_setLength 38 = .ok (.getfield 79, 3) := dk_180 0 79 (dk_at dksJ2_setLength_1 15 rfl rfl)
theorem dJ2_setLength_41 : decode cJ2_setLength 41 = .ok (.iload_n 1, 1) := dk_27 (dk_at dksJ2_setLength_1 18 rfl rfl)
theorem dJ2_setLength_42 : decode cJ2_setLength 42 = .ok (.invokestatic 133, 3) := dk_184 0 133 (dk_at dksJ2_setLength_1 19 rfl rfl)
theorem dJ2_setLength_45 : decode cJ2_setLength 45 = .ok (.goto 31, 3) := dk_167 0 31 (dk_at dksJ2_setLength_2 0 rfl rfl)
theorem dJ2_setLength_48 : decode cJ2_setLength 48 = .ok (.aload_n 0, 1) := dk_42 (dk_at dksJ2_setLength_2 3 rfl rfl)
theorem dJ2_setLength_49 : decode cJ2_setLength 49 = .ok (.getfield 15, 3) := dk_180 0 15 (dk_at dksJ2_setLength_2 4 rfl rfl)
theorem dJ2_setLength_52 : decode cJ2_setLength 52 = .ok (.aload_n 0, 1) := dk_42 (dk_at dksJ2_setLength_2 7 rfl rfl)
theorem dJ2_setLength_53 : decode cJ2_setLength 53 = .ok (.getfield 79, 3) := dk_180 0 79 (dk_at dksJ2_setLength_2 8 rfl rfl)
theorem dJ2_setLength_56 : decode cJ2_setLength 56 = .ok (.iload_n 1, 1) := dk_27 (dk_at dksJ2_setLength_2 11 rfl rfl)
theorem dJ2_setLength_57 : decode cJ2_setLength 57 = .ok (.invokestatic 137, 3) := dk_184 0 137 (dk_at dksJ2_setLength_2 12 rfl rfl)
theorem dJ2_setLength_60 : decode cJ2_setLength 60 = .ok (.goto 16, 3) := dk_167 0 16 (dk_at dksJ2_setLength_2 15 rfl rfl)
theorem dJ2_setLength_63 : decode cJ2_setLength 63 = .ok (.aload_n 0, 1) := dk_42 (dk_at dksJ2_setLength_2 18 rfl rfl)
theorem dJ2_setLength_64 : decode cJ2_setLength 64 = .ok (.getfield 79, 3) := dk_180 0 79 (dk_at dksJ2_setLength_2 19 rfl rfl)
theorem dJ2_setLength_67 : decode cJ2_setLength 67 = .ok (.iload_n 1, 1) := dk_27 (dk_at dksJ2_setLength_2 22 rfl rfl)
theorem dJ2_setLength_68 : decode cJ2_setLength 68 = .ok (.if_icmp .le 8, 3) := dk_164 0 8 (dk_at dksJ2_setLength_3 0 rfl rfl)
theorem dJ2_setLength_71 : decode cJ2_setLength 71 = .ok (.aload_n 0, 1) := dk_42 (dk_at dksJ2_setLength_3 3 rfl rfl)
theorem dJ2_setLength_72 : decode cJ2_setLength 72 = .ok (.iconst 1, 1) := dk_4 (dk_at dksJ2_setLength_3 4 rfl rfl)
theorem dJ2_setLength_73 : decode cJ2_setLength 73 = .ok (.putfield 73, 3) := dk_181 0 73 (dk_at dksJ2_setLength_3 5 rfl rfl)
theorem dJ2_setLength_76 : decode cJ2_setLength 76 = .ok (.aload_n 0, 1) := dk_42 (dk_at dksJ2_setLength_3 8 rfl rfl)
theorem dJ2_setLength_77 : decode cJ2_setLength 77 = .ok (.iload_n 1, 1) := dk_27 (dk_at dksJ2_setLength_3 9 rfl rfl)
theorem dJ2_setLength_78 : decode cJ2_setLength 78 = .ok (.putfield 79, 3) := dk_181 0 79 (dk_at dksJ2_setLength_3 10 rfl rfl)
theorem dJ2_setLength_81 : decode cJ2_setLength 81 = .ok (.return_, 1) := dk_177 (dk_at dksJ2_setLength_3 13 rfl rfl)
def dkwJ2_ensureCapacityInternal_1 : List UInt8 := [182, 0, 104, 42, 180, 0, 22, 120, 184, 0, 108, 181, 0, 15, 177]
abbrev dktJ2_ensureCapacityInternal_1 : List UInt8 := dkwJ2_ensureCapacityInternal_1 ++ []
def dkwJ2_ensureCapacityInternal_0 : List UInt8 := [42, 180, 0, 15, 190, 42, 180, 0, 22, 122, 61, 27, 28, 100, 158, 0, 24, 42, 42, 180, 0, 15, 42, 27]
abbrev dktJ2_ensureCapacityInternal_0 : List UInt8 := dkwJ2_ensureCapacityInternal_0 ++ dktJ2_ensureCapacityInternal_1
theorem dksJ2_ensureCapacityInternal_0 : cJ2_ensureCapacityInternal.data.toList.drop 0 = dktJ2_ensureCapacityInternal_0 := by decide +kernel
theorem dksJ2_ensureCapacityInternal_1 : cJ2_ensureCapacityInternal.data.toList.drop 24 = dktJ2_ensureCapacityInternal_1 := dk_seg dksJ2_ensureCapacityInternal_0 24 rfl rfl
theorem dJ2_ensureCapacityInternal_0 : decode cJ2_ensureCapacityInternal 0 = .ok (.aload_n 0, 1) := dk_42 (dk_at dksJ2_ensureCapacityInternal_0 0 rfl rfl)
theorem dJ2_ensureCapacityInternal_1 : decode cJ2_ensureCapacityInternal 1 = .ok (.getfield 15, 3) := dk_180 0 15 (dk_at dksJ2_ensureCapacityInternal_0 1 rfl rfl)
theorem dJ2_ensureCapacityInternal_4 : decode cJ2_ensureCapacityInternal 4 = .ok (.arraylength, 1) := dk_190 (dk_at dksJ2_ensureCapacityInternal_0 4 rfl rfl)
theorem dJ2_ensureCapacityInternal_5 : decode cJ2_ensureCapacityInternal 5 = .ok (.aload_n 0, 1) := dk_42 (dk_at dksJ2_ensureCapacityInternal_0 5 rfl rfl)
theorem dJ2_ensureCapacityInternal_6 : decode cJ2_ensureCapacityInternal 6 = .ok (.getfield 22, 3) := dk_180 0 22 (dk_at dksJ2_ensureCapacityInternal_0 6 rfl rfl)
theorem dJ2_ensureCapacityInternal_9 : decode cJ2_ensureCapacityInternal 9 = .ok (.ishr, 1) := dk_122 (dk_at dksJ2_ensureCapacityInternal_0 9 rfl rfl)
theorem dJ2_ensureCapacityInternal_10 : decode cJ2_ensureCapacityInternal 10 = .ok (.istore_n 2, 1) := dk_61 (dk_at dksJ2_ensureCapacityInternal_0 10 rfl rfl)
theorem dJ2_ensureCapacityInternal_11 : decode cJ2_ensureCapacityInternal 11 = .ok (.iload_n 1, 1) := dk_27 (dk_at dksJ2_ensureCapacityInternal_0 11 rfl rfl)
theorem dJ2_ensureCapacityInternal_12 : decode cJ2_ensureCapacityInternal 12 = .ok (.iload_n 2, 1) := dk_28 (dk_at dksJ2_ensureCapacityInternal_0 12 rfl rfl)
theorem dJ2_ensureCapacityInternal_13 : decode cJ2_ensureCapacityInternal 13 = .ok (.isub, 1) := dk_100 (dk_at dksJ2_ensureCapacityInternal_0 13 rfl rfl)
theorem dJ2_ensureCapacityInternal_14 : decode cJ2_ensureCapacityInternal 14 = .ok (.ifCond .le 24, 3) := dk_158 0 24 (dk_at dksJ2_ensureCapacityInternal_0 14 rfl rfl)
theorem dJ2_ensureCapacityInternal_17 : decode cJ2_ensureCapacityInternal 17 = .ok (.aload_n 0, 1) := dk_42 (dk_at dksJ2_ensureCapacityInternal_0 17 rfl rfl)
theorem dJ2_ensureCapacityInternal_18 : decode cJ2_ensureCapacityInternal 18 = .ok (.aload_n 0, 1) := dk_42 (dk_at dksJ2_ensureCapacityInternal_0 18 rfl rfl)
theorem dJ2_ensureCapacityInternal_19 : decode cJ2_ensureCapacityInternal 19 = .ok (.getfield 15, 3) := dk_180 0 15 (dk_at dksJ2_ensureCapacityInternal_0 19 rfl rfl)
theorem dJ2_ensureCapacityInternal_22 : decode cJ2_ensureCapacityInternal 22 = .ok (.aload_n 0, 1) := dk_42 (dk_at dksJ2_ensureCapacityInternal_0 22 rfl rfl)
theorem dJ2_ensureCapacityInternal_23 : decode cJ2_ensureCapacityInternal 23 = .ok (.iload_n 1, 1) := dk_27 (dk_at dksJ2_ensureCapacityInternal_0 23 rfl rfl)
theorem dJ2_ensureCapacityInternal_24 : decode cJ2_ensureCapacityInternal 24 = .ok (.invokevirtual 104, 3) := dk_182 0 104 (dk_at dksJ2_ensureCapacityInternal_1 0 rfl rfl)
theorem dJ2_ensureCapacityInternal_27 : decode cJ2_ensureCapacityInternal 27 = .ok (.aload_n 0, 1) := dk_42 (dk_at dksJ2_ensureCapacityInternal_1 3 rfl rfl)
theorem dJ2_ensureCapacityInternal_28 : decode cJ2_ensureCapacityInternal 28 = .ok (.getfield 22, 3) := dk_180 0 22 (dk_at dksJ2_ensureCapacityInternal_1 4 rfl rfl)
theorem dJ2_ensureCapacityInternal_31 : decode cJ2_ensureCapacityInternal 31 = .ok (.ishl, 1) := dk_120 (dk_at dksJ2_ensureCapacityInternal_1 7 rfl rfl)
theorem dJ2_ensureCapacityInternal_32 : decode cJ2_ensureCapacityInternal 32 = .ok (.invokestatic 108, 3) := dk_184 0 108 (dk_at dksJ2_ensureCapacityInternal_1 8 rfl rfl)
theorem dJ2_ensureCapacityInternal_35 : decode cJ2_ensureCapacityInternal 35 = .ok (.putfield 15, 3) := dk_181 0 15 (dk_at dksJ2_ensureCapacityInternal_1 11 rfl rfl)
theorem dJ2_ensureCapacityInternal_38 : decode cJ2_ensureCapacityInternal 38 = .ok (.return_, 1) := dk_177 (dk_at dksJ2_ensureCapacityInternal_1 14 rfl rfl)
def dkwJ2_newCapacity_2 : List UInt8 := [183, 0, 124, 191, 21, 5, 42, 180, 0, 22, 122, 172]
abbrev dktJ2_newCapacity_2 : List UInt8 := dkwJ2_newCapacity_2 ++ []
def dkwJ2_newCapacity_1 : List UInt8 := [180, 0, 22, 120, 96, 184, 0, 114, 54, 5, 21, 5, 18, 39, 160, 0, 13, 187, 0, 120, 89, 18, 122]
abbrev dktJ2_newCapacity_1 : List UInt8 := dkwJ2_newCapacity_1 ++ dktJ2_newCapacity_2
def dkwJ2_newCapacity_0 : List UInt8 := [42, 180, 0, 15, 190, 61, 27, 42, 180, 0, 22, 120, 62, 29, 28, 100, 54, 4, 28, 21, 4, 28, 5, 42]
abbrev dktJ2_newCapacity_0 : List UInt8 := dkwJ2_newCapacity_0 ++ dktJ2_newCapacity_1
theorem dksJ2_newCapacity_0 : cJ2_newCapacity.data.toList.drop 0 = dktJ2_newCapacity_0 := by decide +kernel
theorem dksJ2_newCapacity_1 : cJ2_newCapacity.data.toList.drop 24 = dktJ2_newCapacity_1 := dk_seg dksJ2_newCapacity_0 24 rfl rfl
theorem dksJ2_newCapacity_2 : cJ2_newCapacity.data.toList.drop 47 = dktJ2_newCapacity_2 := dk_seg dksJ2_newCapacity_1 23 rfl rfl
theorem dJ2_newCapacity_0 : decode cJ2_newCapacity 0 = .ok (.aload_n 0, 1) := dk_42 (dk_at dksJ2_newCapacity_0 0 rfl rfl)
theorem dJ2_newCapacity_1 : decode cJ2_newCapacity 1 = .ok (.getfield 15, 3) := dk_180 0 15 (dk_at dksJ2_newCapacity_0 1 rfl rfl)
theorem dJ2_newCapacity_4 : decode cJ2_newCapacity 4 = .ok (.arraylength, 1) := dk_190 (dk_at dksJ2_newCapacity_0 4 rfl rfl)
theorem dJ2_newCapacity_5 : decode cJ2_newCapacity 5 = .ok (.istore_n 2, 1) := dk_61 (dk_at dksJ2_newCapacity_0 5 rfl rfl)
theorem dJ2_newCapacity_6 : decode cJ2_newCapacity 6 = .ok (.iload_n 1, 1) := dk_27 (dk_at dksJ2_newCapacity_0 6 rfl rfl)
theorem dJ2_newCapacity_7 : decode cJ2_newCapacity 7 = .ok (.aload_n 0, 1) := dk_42 (dk_at dksJ2_newCapacity_0 7 rfl rfl)
theorem dJ2_newCapacity_8 : decode cJ2_newCapacity 8 = .ok (.getfield 22, 3) := dk_180 0 22 (dk_at dksJ2_newCapacity_0 8 rfl rfl)
theorem dJ2_newCapacity_11 : decode cJ2_newCapacity 11 = .ok (.ishl, 1) := dk_120 (dk_at dksJ2_newCapacity_0 11 rfl rfl)
theorem dJ2_newCapacity_12 : decode cJ2_newCapacity 12 = .ok (.istore_n 3, 1) := dk_62 (dk_at dksJ2_newCapacity_0 12 rfl rfl)
theorem dJ2_newCapacity_13 : decode cJ2_newCapacity 13 = .ok (.iload_n 3, 1) := dk_29 (dk_at dksJ2_newCapacity_0 13 rfl rfl)
theorem dJ2_newCapacity_14 : decode cJ2_newCapacity 14 = .ok (.iload_n 2, 1) := dk_28 (dk_at dksJ2_newCapacity_0 14 rfl rfl)
theorem dJ2_newCapacity_15 : decode cJ2_newCapacity 15 = .ok (.isub, 1) := dk_100 (dk_at dksJ2_newCapacity_0 15 rfl rfl)
theorem dJ2_newCapacity_16 : decode cJ2_newCapacity 16 = .ok (.istore 4, 2) := dk_54 4 (dk_at dksJ2_newCapacity_0 16 rfl rfl)
theorem dJ2_newCapacity_18 : decode cJ2_newCapacity 18 = .ok (.iload_n 2, 1) := dk_28 (dk_at dksJ2_newCapacity_0 18 rfl rfl)
theorem dJ2_newCapacity_19 : decode cJ2_newCapacity 19 = .ok (.iload 4, 2) := dk_21 4 (dk_at dksJ2_newCapacity_0 19 rfl rfl)
theorem dJ2_newCapacity_21 : decode cJ2_newCapacity 21 = .ok (.iload_n 2, 1) := dk_28 (dk_at dksJ2_newCapacity_0 21 rfl rfl)
theorem dJ2_newCapacity_22 : decode cJ2_newCapacity 22 = .ok (.iconst 2, 1) := dk_5 (dk_at dksJ2_newCapacity_0 22 rfl rfl)
theorem dJ2_newCapacity_23 : decode cJ2_newCapacity 23 = .ok (.aload_n 0, 1) := dk_42 (dk_at dksJ2_newCapacity_0 23 rfl rfl)
theorem dJ2_newCapacity_24 : decode cJ2_newCapacity 24 = .ok (.getfield 22, 3) := dk_180 0 22 (dk_at dksJ2_newCapacity_1 0 rfl rfl)
theorem dJ2_newCapacity_27 : decode cJ2_newCapacity 27 = .ok (.ishl, 1) := dk_120 (dk_at dksJ2_newCapacity_1 3 rfl rfl)
theorem dJ2_newCapacity_28 : decode cJ2_newCapacity 28 = .ok (.iadd, 1) := dk_96 (dk_at dksJ2_newCapacity_1 4 rfl rfl)
theorem dJ2_newCapacity_29 : decode cJ2_newCapacity 29 = .ok (.invokestatic 114, 3) := dk_184 0 114 (dk_at dksJ2_newCapacity_1 5 rfl rfl)
theorem dJ2_newCapacity_32 : decode cJ2_newCapacity 32 = .ok (.istore 5, 2) := dk_54 5 (dk_at dksJ2_newCapacity_1 8 rfl rfl)
theorem dJ2_newCapacity_34 : decode cJ2_newCapacity 34 = .ok (.iload 5, 2) := dk_21 5 (dk_at dksJ2_newCapacity_1 10 rfl rfl)
theorem dJ2_newCapacity_36 : decode cJ2_newCapacity 36 = .ok (.ldc 39, 2) := dk_18 39 (dk_at dksJ2_newCapacity_1 12 rfl rfl)
theorem dJ2_newCapacity_38 : decode cJ2_newCapacity 38 = .ok (.if_icmp .ne 13, 3) := dk_160 0 13 (dk_at dksJ2_newCapacity_1 14 rfl rfl)
theorem dJ2_newCapacity_41 : decode cJ2_newCapacity 41 = .ok (.new 120, 3) := dk_187 0 120 (dk_at dksJ2_newCapacity_1 17 rfl rfl)
theorem dJ2_newCapacity_44 : decode cJ2_newCapacity 44 = .ok (.dup, 1) := dk_89 (dk_at dksJ2_newCapacity_1 20 rfl rfl)
theorem dJ2_newCapacity_45 : decode cJ2_newCapacity 45 = .ok (.ldc 122, 2) := dk_18 122 (dk_at dksJ2_newCapacity_1 21 rfl rfl)
theorem dJ2_newCapacity_47 : decode cJ2_newCapacity 47 = .ok (.invokespecial 124, 3) := dk_183 0 124 (dk_at dksJ2_newCapacity_2 0 rfl rfl)
theorem dJ2_newCapacity_50 : decode cJ2_newCapacity 50 = .ok (.athrow, 1) := dk_191 (dk_at dksJ2_newCapacity_2 3 rfl rfl)
theorem dJ2_newCapacity_51 : decode cJ2_newCapacity 51 = .ok (.iload 5, 2) := dk_21 5 (dk_at dksJ2_newCapacity_2 4 rfl rfl)
theorem dJ2_newCapacity_53 : decode cJ2_newCapacity 53 = .ok (.aload_n 0, 1) := dk_42 (dk_at dksJ2_newCapacity_2 6 rfl rfl)
theorem dJ2_newCapacity_54 : decode cJ2_newCapacity 54 = .ok (.getfield 22, 3) := dk_180 0 22 (dk_at dksJ2_newCapacity_2 7 rfl rfl)
theorem dJ2_newCapacity_57 : decode cJ2_newCapacity 57 = .ok (.ishr, 1) := dk_122 (dk_at dksJ2_newCapacity_2 10 rfl rfl)
theorem dJ2_newCapacity_58 : decode cJ2_newCapacity 58 = .ok (.ireturn, 1) := dk_172 (dk_at dksJ2_newCapacity_2 11 rfl rfl)
def dkwJ2_isLatin1_0 : List UInt8 := [178, 0, 18, 153, 0, 14, 42, 180, 0, 22, 154, 0, 7, 4, 167, 0, 4, 3, 172]
abbrev dktJ2_isLatin1_0 : List UInt8 := dkwJ2_isLatin1_0 ++ []
theorem dksJ2_isLatin1_0 : cJ2_isLatin1.data.toList.drop 0 = dktJ2_isLatin1_0 := by decide +kernel
theorem dJ2_isLatin1_0 : decode cJ2_isLatin1 0 = .ok (.getstatic 18, 3) := dk_178 0 18 (dk_at dksJ2_isLatin1_0 0 rfl rfl)
theorem dJ2_isLatin1_3 : decode cJ2_isLatin1 3 = .ok (.ifCond .eq 14, 3) := dk_153 0 14 (dk_at dksJ2_isLatin1_0 3 rfl rfl)
theorem dJ2_isLatin1_6 : decode cJ2_isLatin1 6 = .ok (.aload_n 0, 1) := dk_42 (dk_at dksJ2_isLatin1_0 6 rfl rfl)
theorem dJ2_isLatin1_7 : decode cJ2_isLatin1 7 = .ok (.getfield 22, 3) := dk_180 0 22 (dk_at dksJ2_isLatin1_0 7 rfl rfl)
theorem dJ2_isLatin1_10 : decode cJ2_isLatin1 10 = .ok (.ifCond .ne 7, 3) := dk_154 0 7 (dk_at dksJ2_isLatin1_0 10 rfl rfl)
theorem dJ2_isLatin1_13 : decode cJ2_isLatin1 13 = .ok (.iconst 1, 1) := dk_4 (dk_at dksJ2_isLatin1_0 13 rfl rfl)
theorem dJ2_isLatin1_14 : decode cJ2_isLatin1 14 = .ok (.goto 4, 3) := dk_167 0 4 (dk_at dksJ2_isLatin1_0 14 rfl rfl)
theorem dJ2_isLatin1_17 : decode cJ2_isLatin1 17 = .ok (.iconst 0, 1) := dk_3 (dk_at dksJ2_isLatin1_0 17 rfl rfl)
theorem dJ2_isLatin1_18 : decode cJ2_isLatin1 18 = .ok (.ireturn, 1) := dk_172 (dk_at dksJ2_isLatin1_0 18 rfl rfl)
def dkwJ2_append_1 : List UInt8 := [42, 42, 180, 0, 79, 43, 182, 0, 208, 42, 89, 180, 0, 79, 28, 96, 181, 0, 79, 42, 176]
abbrev dktJ2_append_1 : List UInt8 := dkwJ2_append_1 ++ []
def dkwJ2_append_0 : List UInt8 := [43, 199, 0, 8, 42, 182, 0, 204, 176, 43, 182, 0, 32, 61, 42, 42, 180, 0, 79, 28, 96, 182, 0, 100]
abbrev dktJ2_append_0 : List UInt8 := dkwJ2_append_0 ++ dktJ2_append_1
theorem dksJ2_append_0 : cJ2_append.data.toList.drop 0 = dktJ2_append_0 := by decide +kernel
theorem dksJ2_append_1 : cJ2_append.data.toList.drop 24 = dktJ2_append_1 := dk_seg dksJ2_append_0 24 rfl rfl
theorem dJ2_append_0 : decode cJ2_append 0 = .ok (.aload_n 1, 1) := dk_43 (dk_at dksJ2_append_0 0 rfl rfl)
theorem dJ2_append_1 : decode cJ2_append 1 = .ok (.ifnonnull 8, 3) := dk_199 0 8 (dk_at dksJ2_append_0 1 rfl rfl)
theorem dJ2_append_4 : decode cJ2_append 4 = .ok (.aload_n 0, 1) := dk_42 (dk_at dksJ2_append_0 4 rfl rfl)
theorem dJ2_append_5 : decode cJ2_append 5 = .ok (.invokevirtual 204, 3) := dk_182 0 204 (dk_at dksJ2_append_0 5 rfl rfl)
theorem dJ2_append_8 : decode cJ2_append 8 = .ok (.areturn, 1) := dk_176 (dk_at dksJ2_append_0 8 rfl rfl)
theorem dJ2_append_9 : decode cJ2_append 9 = .ok (.aload_n 1, 1) := dk_43 (dk_at dksJ2_append_0 9 rfl rfl)
theorem dJ2_append_10 : decode cJ2_append 10 = .ok (.invokevirtual 32, 3) := dk_182 0 32 (dk_at dksJ2_append_0 10 rfl rfl)
theorem dJ2_append_13 : decode cJ2_append 13 = .ok (.istore_n 2, 1) := dk_61 (dk_at dksJ2_append_0 13 rfl rfl)
theorem dJ2_append_14 : decode cJ2_append 14 = .ok (.aload_n 0, 1) := dk_42 (dk_at dksJ2_append_0 14 rfl rfl)
theorem dJ2_append_15 : decode cJ2_append 15 = .ok (.aload_n 0, 1) := dk_42 (dk_at dksJ2_append_0 15 rfl rfl)
theorem dJ2_append_16 : decode cJ2_append 16 = .ok (.getfield 79, 3) := dk_180 0 79 (dk_at dksJ2_append_0 16 rfl rfl)
theorem dJ2_append_19 : decode cJ2_append 19 = .ok (.iload_n 2, 1) := dk_28 (dk_at dksJ2_append_0 19 rfl rfl)
theorem dJ2_append_20 : decode cJ2_append 20 = .ok (.iadd, 1) := dk_96 (dk_at dksJ2_append_0 20 rfl rfl)
theorem dJ2_append_21 : decode cJ2_append 21 = .ok (.invokevirtual 100, 3) := dk_182 0 100 (dk_at dksJ2_append_0 21 rfl rfl)
theorem dJ2_append_24 : decode cJ2_append 24 = .ok (.aload_n 0, 1) := dk_42 (dk_at dksJ2_append_1 0 rfl rfl)
theorem dJ2_append_25 : decode cJ2_append 25 = .ok (.aload_n 0, 1) := dk_42 (dk_at dksJ2_append_1 1 rfl rfl)
theorem dJ2_append_26 : decode cJ2_append 26 = .ok (.getfield 79, 3) := dk_180 0 79 (dk_at dksJ2_append_1 2 rfl rfl)
theorem dJ2_append_29 : decode cJ2_append 29 = .ok (.aload_n 1, 1) := dk_43 (dk_at dksJ2_append_1 5 rfl rfl)
theorem dJ2_append_30 : decode cJ2_append 30 = .ok (.invokevirtual 208, 3) := dk_182 0 208 (dk_at dksJ2_append_1 6 rfl rfl)
theorem dJ2_append_33 : decode cJ2_append 33 = .ok (.aload_n 0, 1) := dk_42 (dk_at dksJ2_append_1 9 rfl rfl)
theorem dJ2_append_34 : decode cJ2_append 34 = .ok (.dup, 1) := dk_89 (dk_at dksJ2_append_1 10 rfl rfl)
theorem dJ2_append_35 : decode cJ2_append 35 = .ok (.getfield 79, 3) := dk_180 0 79 (dk_at dksJ2_append_1 11 rfl rfl)
theorem dJ2_append_38 : decode cJ2_append 38 = .ok (.iload_n 2, 1) := dk_28 (dk_at dksJ2_append_1 14 rfl rfl)
theorem dJ2_append_39 : decode cJ2_append 39 = .ok (.iadd, 1) := dk_96 (dk_at dksJ2_append_1 15 rfl rfl)
theorem dJ2_append_40 : decode cJ2_append 40 = .ok (.putfield 79, 3) := dk_181 0 79 (dk_at dksJ2_append_1 16 rfl rfl)
theorem dJ2_append_43 : decode cJ2_append 43 = .ok (.aload_n 0, 1) := dk_42 (dk_at dksJ2_append_1 19 rfl rfl)
theorem dJ2_append_44 : decode cJ2_append 44 = .ok (.areturn, 1) := dk_176 (dk_at dksJ2_append_1 20 rfl rfl)
def dkwJ2_appendNull_3 : List UInt8 := [184, 0, 226, 60, 42, 27, 181, 0, 79, 42, 176]
abbrev dktJ2_appendNull_3 : List UInt8 := dkwJ2_appendNull_3 ++ []
def dkwJ2_appendNull_2 : List UInt8 := [16, 108, 84, 44, 27, 132, 1, 1, 16, 108, 84, 167, 0, 17, 44, 27, 16, 110, 16, 117, 16, 108, 16, 108]
abbrev dktJ2_appendNull_2 : List UInt8 := dkwJ2_appendNull_2 ++ dktJ2_appendNull_3
def dkwJ2_appendNull_1 : List UInt8 := [153, 0, 38, 44, 27, 132, 1, 1, 16, 110, 84, 44, 27, 132, 1, 1, 16, 117, 84, 44, 27, 132, 1, 1]
abbrev dktJ2_appendNull_1 : List UInt8 := dkwJ2_appendNull_1 ++ dktJ2_appendNull_2
def dkwJ2_appendNull_0 : List UInt8 := [42, 42, 180, 0, 79, 7, 96, 182, 0, 100, 42, 180, 0, 79, 60, 42, 180, 0, 15, 77, 42, 182, 0, 83]
abbrev dktJ2_appendNull_0 : List UInt8 := dkwJ2_appendNull_0 ++ dktJ2_appendNull_1
theorem dksJ2_appendNull_0 : cJ2_appendNull.data.toList.drop 0 = dktJ2_appendNull_0 := by decide +kernel
theorem dksJ2_appendNull_1 : cJ2_appendNull.data.toList.drop 24 = dktJ2_appendNull_1 := dk_seg dksJ2_appendNull_0 24 rfl rfl
theorem dksJ2_appendNull_2 : cJ2_appendNull.data.toList.drop 48 = dktJ2_appendNull_2 := dk_seg dksJ2_appendNull_1 24 rfl rfl
theorem dksJ2_appendNull_3 : cJ2_appendNull.data.toList.drop 72 = dktJ2_appendNull_3 := dk_seg dksJ2_appendNull_2 24 rfl rfl
theorem dJ2_appendNull_0 : decode cJ2_appendNull 0 = .ok (.aload_n 0, 1) := dk_42 (dk_at dksJ2_appendNull_0 0 rfl rfl)
theorem dJ2_appendNull_1 : decode cJ2_appendNull 1 = .ok (.aload_n 0, 1) := dk_42 (dk_at dksJ2_appendNull_0 1 rfl rfl)
theorem dJ2_appendNull_2 : decode cJ2_appendNull 2 = .ok (.getfield 79, 3) := dk_180 0 79 (dk_at dksJ2_appendNull_0 2 rfl rfl)
theorem dJ2_appendNull_5 : decode cJ2_appendNull 5 = .ok (.iconst 4, 1) := dk_7 (dk_at dksJ2_appendNull_0 5 rfl rfl)
theorem dJ2_appendNull_6 : decode cJ2_appendNull 6 = .ok (.iadd, 1) := dk_96 (dk_at dksJ2_appendNull_0 6 rfl rfl)
theorem dJ2_appendNull_7 : decode cJ2_appendNull 7 = .ok (.invokevirtual 100, 3) := dk_182 0 100 (dk_at dksJ2_appendNull_0 7 rfl rfl)
theorem dJ2_appendNull_10 : decode cJ2_appendNull 10 = .ok (.aload_n 0, 1) := dk_42 (dk_at dksJ2_appendNull_0 10 rfl rfl)
theorem dJ2_appendNull_11 : decode cJ2_appendNull 11 = .ok (.getfield 79, 3) := dk_180 0 79 (dk_at dksJ2_appendNull_0 11 rfl rfl)
theorem dJ2_appendNull_14 : decode cJ2_appendNull 14 = .ok (.istore_n 1, 1) := dk_60 (dk_at dksJ2_appendNull_0 14 rfl rfl)
theorem dJ2_appendNull_15 : decode cJ2_appendNull 15 = .ok (.aload_n 0, 1) := dk_42 (dk_at dksJ2_appendNull_0 15 rfl rfl)
theorem dJ2_appendNull_16 : decode cJ2_appendNull 16 = .ok (.getfield 15, 3) := dk_180 0 15 (dk_at dksJ2_appendNull_0 16 rfl rfl)
theorem dJ2_appendNull_19 : decode cJ2_appendNull 19 = .ok (.astore_n 2, 1) := dk_77 (dk_at dksJ2_appendNull_0 19 rfl rfl)
theorem dJ2_appendNull_20 : decode cJ2_appendNull 20 = .ok (.aload_n 0, 1) := dk_42 (dk_at dksJ2_appendNull_0 20 rfl rfl)
theorem dJ2_appendNull_21 : decode cJ2_appendNull 21 = .ok (.invokevirtual 83, 3) := dk_182 0 83 (dk_at dksJ2_appendNull_0 21 rfl rfl)
theorem dJ2_appendNull_24 : decode cJ2_appendNull 24 = .ok (.ifCond .eq 38, 3) := dk_153 0 38 (dk_at dksJ2_appendNull_1 0 rfl rfl)
theorem dJ2_appendNull_27 : decode cJ2_appendNull 27 = .ok (.aload_n 2, 1) := dk_44 (dk_at dksJ2_appendNull_1 3 rfl rfl)
theorem dJ2_appendNull_28 : decode cJ2_appendNull 28 = .ok (.iload_n 1, 1) := dk_27 (dk_at dksJ2_appendNull_1 4 rfl rfl)
theorem dJ2_appendNull_29 : decode cJ2_appendNull 29 = .ok (.iinc 1 1, 3) := dk_132 1 1 (dk_at dksJ2_appendNull_1 5 rfl rfl)
theorem dJ2_appendNull_32 : decode cJ2_appendNull 32 = .ok (.bipush 110, 2) := dk_16 110 (dk_at dksJ2_appendNull_1 8 rfl rfl)
theorem dJ2_appendNull_34 : decode cJ2_appendNull 34 = .ok (.bastore, 1) := dk_84 (dk_at dksJ2_appendNull_1 10 rfl rfl)
theorem dJ2_appendNull_35 : decode cJ2_appendNull 35 = .ok (.aload_n 2, 1) := dk_44 (dk_at dksJ2_appendNull_1 11 rfl rfl)
theorem dJ2_appendNull_36 : decode cJ2_appendNull 36 = .ok (.iload_n 1, 1) := dk_27 (dk_at dksJ2_appendNull_1 12 rfl rfl)
theorem dJ2_appendNull_37 : decode cJ2_appendNull 37 = .ok (.iinc 1 1, 3) := dk_132 1 1 (dk_at dksJ2_appendNull_1 13 rfl rfl)
theorem dJ2_appendNull_40 : decode cJ2_appendNull 40 = .ok (.bipush 117, 2) := dk_16 117 (dk_at dksJ2_appendNull_1 16 rfl rfl)
theorem dJ2_appendNull_42 : decode cJ2_appendNull 42 = .ok (.bastore, 1) := dk_84 (dk_at dksJ2_appendNull_1 18 rfl rfl)
theorem dJ2_appendNull_43 : decode cJ2_appendNull 43 = .ok (.aload_n 2, 1) := dk_44 (dk_at dksJ2_appendNull_1 19 rfl rfl)
theorem dJ2_appendNull_44 : decode cJ2_appendNull 44 = .ok (.iload_n 1, 1) := dk_27 (dk_at dksJ2_appendNull_1 20 rfl rfl)
theorem dJ2_appendNull_45 : decode cJ2_appendNull 45 = .ok (.iinc 1 1, 3) := dk_132 1 1 (dk_at dksJ2_appendNull_1 21 rfl rfl)
theorem dJ2_appendNull_48 : decode cJ2_appendNull 48 = .ok (.bipush 108, 2) := dk_16 108 (dk_at dksJ2_appendNull_2 0 rfl rfl)
theorem dJ2_appendNull_50 : decode cJ2_appendNull 50 = .ok (.bastore, 1) := dk_84 (dk_at dksJ2_appendNull_2 2 rfl rfl)
theorem dJ2_appendNull_51 : decode cJ2_appendNull 51 = .ok (.aload_n 2, 1) := dk_44 (dk_at dksJ2_appendNull_2 3 rfl rfl)
theorem dJ2_appendNull_52 : decode cJ2_appendNull 52 = .ok (.iload_n 1, 1) := dk_27 (dk_at dksJ2_appendNull_2 4 rfl rfl)
theorem dJ2_appendNull_53 : decode cJ2_appendNull 53 = .ok (.iinc 1 1, 3) := dk_132 1 1 (dk_at dksJ2_appendNull_2 5 rfl rfl)
theorem dJ2_appendNull_56 : decode cJ2_appendNull 56 = .ok (.bipush 108, 2) := dk_16 108 (dk_at dksJ2_appendNull_2 8 rfl rfl)
theorem dJ2_appendNull_58 : decode cJ2_appendNull 58 = .ok (.bastore, 1) := dk_84 (dk_at dksJ2_appendNull_2 10 rfl rfl)
theorem dJ2_appendNull_59 : decode cJ2_appendNull 59 = .ok (.goto 17, 3) := dk_167 0 17 (dk_at dksJ2_appendNull_2 11 rfl rfl)
theorem dJ2_appendNull_62 : decode cJ2_appendNull 62 = .ok (.aload_n 2, 1) := dk_44 (dk_at dksJ2_appendNull_2 14 rfl rfl)
theorem dJ2_appendNull_63 : decode cJ2_appendNull 63 = .ok (.iload_n 1, 1) := dk_27 (dk_at dksJ2_appendNull_2 15 rfl rfl)
theorem dJ2_appendNull_64 : decode cJ2_appendNull 64 = .ok (.bipush 110, 2) := dk_16 110 (dk_at dksJ2_appendNull_2 16 rfl rfl)
theorem dJ2_appendNull_66 : decode cJ2_appendNull 66 = .ok (.bipush 117, 2) := dk_16 117 (dk_at dksJ2_appendNull_2 18 rfl rfl)
theorem dJ2_appendNull_68 : decode cJ2_appendNull 68 = .ok (.bipush 108, 2) := dk_16 108 (dk_at dksJ2_appendNull_2 20 rfl rfl)
theorem dJ2_appendNull_70 : decode cJ2_appendNull 70 = .ok (.bipush 108, 2) := dk_16 108 (dk_at dksJ2_appendNull_2 22 rfl rfl)
theorem dJ2_appendNull_72 : decode cJ2_appendNull 72 = .ok (.invokestatic 226, 3) := dk_184 0 226 (dk_at dksJ2_appendNull_3 0 rfl rfl)
theorem dJ2_appendNull_75 : decode cJ2_appendNull 75 = .ok (.istore_n 1, 1) := dk_60 (dk_at dksJ2_appendNull_3 3 rfl rfl)
theorem dJ2_appendNull_76 : decode cJ2_appendNull 76 = .ok (.aload_n 0, 1) := dk_42 (dk_at dksJ2_appendNull_3 4 rfl rfl)
theorem dJ2_appendNull_77 : decode cJ2_appendNull 77 = .ok (.iload_n 1, 1) := dk_27 (dk_at dksJ2_appendNull_3 5 rfl rfl)
theorem dJ2_appendNull_78 : decode cJ2_appendNull 78 = .ok (.putfield 79, 3) := dk_181 0 79 (dk_at dksJ2_appendNull_3 6 rfl rfl)
theorem dJ2_appendNull_81 : decode cJ2_appendNull 81 = .ok (.aload_n 0, 1) := dk_42 (dk_at dksJ2_appendNull_3 9 rfl rfl)
theorem dJ2_appendNull_82 : decode cJ2_appendNull 82 = .ok (.areturn, 1) := dk_176 (dk_at dksJ2_appendNull_3 10 rfl rfl)
def dkwJ2_putStringAt_0 : List UInt8 := [42, 44, 182, 1, 141, 44, 42, 180, 0, 15, 27, 42, 180, 0, 22, 182, 1, 143, 177]
abbrev dktJ2_putStringAt_0 : List UInt8 := dkwJ2_putStringAt_0 ++ []
theorem dksJ2_putStringAt_0 : cJ2_putStringAt.data.toList.drop 0 = dktJ2_putStringAt_0 := by decide +kernel
theorem dJ2_putStringAt_0 : decode cJ2_putStringAt 0 = .ok (.aload_n 0, 1) := dk_42 (dk_at dksJ2_putStringAt_0 0 rfl rfl)
theorem dJ2_putStringAt_1 : decode cJ2_putStringAt 1 = .ok (.aload_n 2, 1) := dk_44 (dk_at dksJ2_putStringAt_0 1 rfl rfl)
theorem dJ2_putStringAt_2 : decode cJ2_putStringAt 2 = .ok (.invokevirtual 397, 3) := dk_182 1 141 (dk_at dksJ2_putStringAt_0 2 rfl rfl)
theorem dJ2_putStringAt_5 : decode cJ2_putStringAt 5 = .ok (.aload_n 2, 1) := dk_44 (dk_at dksJ2_putStringAt_0 5 rfl rfl)
theorem dJ2_putStringAt_6 : decode cJ2_putStringAt 6 = .ok (.aload_n 0, 1) := dk_42 (dk_at dksJ2_putStringAt_0 6 rfl rfl)
theorem dJ2_putStringAt_7 : decode cJ2_putStringAt 7 = .ok (.getfield 15, 3) := dk_180 0 15 (dk_at dksJ2_putStringAt_0 7 rfl rfl)
theorem dJ2_putStringAt_10 : decode cJ2_putStringAt 10 = .ok (.iload_n 1, 1) := dk_27 (dk_at dksJ2_putStringAt_0 10 rfl rfl)
theorem dJ2_putStringAt_11 : decode cJ2_putStringAt 11 = .ok (.aload_n 0, 1) := dk_42 (dk_at dksJ2_putStringAt_0 11 rfl rfl)
theorem dJ2_putStringAt_12 : decode cJ2_putStringAt 12 = .ok (.getfield 22, 3) := dk_180 0 22 (dk_at dksJ2_putStringAt_0 12 rfl rfl)
theorem dJ2_putStringAt_15 : decode cJ2_putStringAt 15 = .ok (.invokevirtual 399, 3) := dk_182 1 143 (dk_at dksJ2_putStringAt_0 15 rfl rfl)
theorem dJ2_putStringAt_18 : decode cJ2_putStringAt 18 = .ok (.return_, 1) := dk_177 (dk_at dksJ2_putStringAt_0 18 rfl rfl)
def dkwJ2_inflateIfNeededFor_0 : List UInt8 := [178, 0, 18, 153, 0, 18, 42, 180, 0, 22, 43, 182, 0, 40, 159, 0, 7, 42, 182, 0, 195, 177]
abbrev dktJ2_inflateIfNeededFor_0 : List UInt8 := dkwJ2_inflateIfNeededFor_0 ++ []
theorem dksJ2_inflateIfNeededFor_0 : cJ2_inflateIfNeededFor.data.toList.drop 0 = dktJ2_inflateIfNeededFor_0 := by decide +kernel
theorem dJ2_inflateIfNeededFor_0 : decode cJ2_inflateIfNeededFor 0 = .ok (.getstatic 18, 3) := dk_178 0 18 (dk_at dksJ2_inflateIfNeededFor_0 0 rfl rfl)
theorem dJ2_inflateIfNeededFor_3 : decode cJ2_inflateIfNeededFor 3 = .ok (.ifCond .eq 18, 3) := dk_153 0 18 (dk_at dksJ2_inflateIfNeededFor_0 3 rfl rfl)
theorem dJ2_inflateIfNeededFor_6 : decode cJ2_inflateIfNeededFor 6 = .ok (.aload_n 0, 1) := dk_42 (dk_at dksJ2_inflateIfNeededFor_0 6 rfl rfl)
theorem dJ2_inflateIfNeededFor_7 : decode cJ2_inflateIfNeededFor 7 = .ok (.getfield 22, 3) := dk_180 0 22 (dk_at dksJ2_inflateIfNeededFor_0 7 rfl rfl)
theorem dJ2_inflateIfNeededFor_10 : decode cJ2_inflateIfNeededFor 10 = .ok (.aload_n 1, 1) := dk_43 (dk_at dksJ2_inflateIfNeededFor_0 10 rfl rfl)
theorem dJ2_inflateIfNeededFor_11 : decode cJ2_inflateIfNeededFor 11 = .ok (.invokevirtual 40, 3) := dk_182 0 40 (dk_at dksJ2_inflateIfNeededFor_0 11 rfl rfl)
theorem dJ2_inflateIfNeededFor_14 : decode cJ2_inflateIfNeededFor 14 = .ok (.if_icmp .eq 7, 3) := dk_159 0 7 (dk_at dksJ2_inflateIfNeededFor_0 14 rfl rfl)
theorem dJ2_inflateIfNeededFor_17 : decode cJ2_inflateIfNeededFor 17 = .ok (.aload_n 0, 1) := dk_42 (dk_at dksJ2_inflateIfNeededFor_0 17 rfl rfl)
theorem dJ2_inflateIfNeededFor_18 : decode cJ2_inflateIfNeededFor 18 = .ok (.invokevirtual 195, 3) := dk_182 0 195 (dk_at dksJ2_inflateIfNeededFor_0 18 rfl rfl)
theorem dJ2_inflateIfNeededFor_21 : decode cJ2_inflateIfNeededFor 21 = .ok (.return_, 1) := dk_177 (dk_at dksJ2_inflateIfNeededFor_0 21 rfl rfl)
def dkwJ2_inflate_1 : List UInt8 := [42, 180, 0, 79, 184, 0, 125, 42, 43, 181, 0, 15, 42, 4, 181, 0, 22, 177]
abbrev dktJ2_inflate_1 : List UInt8 := dkwJ2_inflate_1 ++ []
def dkwJ2_inflate_0 : List UInt8 := [42, 182, 0, 83, 154, 0, 4, 177, 42, 180, 0, 15, 190, 184, 0, 26, 76, 42, 180, 0, 15, 3, 43, 3]
abbrev dktJ2_inflate_0 : List UInt8 := dkwJ2_inflate_0 ++ dktJ2_inflate_1
theorem dksJ2_inflate_0 : cJ2_inflate.data.toList.drop 0 = dktJ2_inflate_0 := by decide +kernel
theorem dksJ2_inflate_1 : cJ2_inflate.data.toList.drop 24 = dktJ2_inflate_1 := dk_seg dksJ2_inflate_0 24 rfl rfl
theorem dJ2_inflate_0 : decode cJ2_inflate 0 = .ok (.aload_n 0, 1) := dk_42 (dk_at dksJ2_inflate_0 0 rfl rfl)
theorem dJ2_inflate_1 : decode cJ2_inflate 1 = .ok (.invokevirtual 83, 3) := dk_182 0 83 (dk_at dksJ2_inflate_0 1 rfl rfl)
theorem dJ2_inflate_4 : decode cJ2_inflate 4 = .ok (.ifCond .ne 4, 3) := dk_154 0 4 (dk_at dksJ2_inflate_0 4 rfl rfl)
theorem dJ2_inflate_7 : decode cJ2_inflate 7 = .ok (.return_, 1) := dk_177 (dk_at dksJ2_inflate_0 7 rfl rfl)
theorem dJ2_inflate_8 : decode cJ2_inflate 8 = .ok (.aload_n 0, 1) := dk_42 (dk_at dksJ2_inflate_0 8 rfl rfl)
theorem dJ2_inflate_9 : decode cJ2_inflate 9 = .ok (.getfield 15, 3) := dk_180 0 15 (dk_at dksJ2_inflate_0 9 rfl rfl)
theorem dJ2_inflate_12 : decode cJ2_inflate 12 = .ok (.arraylength, 1) := dk_190 (dk_at dksJ2_inflate_0 12 rfl rfl)
theorem dJ2_inflate_13 : decode cJ2_inflate 13 = .ok (.invokestatic 26, 3) := dk_184 0 26 (dk_at dksJ2_inflate_0 13 rfl rfl)
theorem dJ2_inflate_16 : decode cJ2_inflate 16 = .ok (.astore_n 1, 1) := dk_76 (dk_at dksJ2_inflate_0 16 rfl rfl)
theorem dJ2_inflate_17 : decode cJ2_inflate 17 = .ok (.aload_n 0, 1) := dk_42 (dk_at dksJ2_inflate_0 17 rfl rfl)
theorem dJ2_inflate_18 : decode cJ2_inflate 18 = .ok (.getfield 15, 3) := dk_180 0 15 (dk_at dksJ2_inflate_0 18 rfl rfl)
theorem dJ2_inflate_21 : decode cJ2_inflate 21 = .ok (.iconst 0, 1) := dk_3 (dk_at dksJ2_inflate_0 21 rfl rfl)
theorem dJ2_inflate_22 : decode cJ2_inflate 22 = .ok (.aload_n 1, 1) := dk_43 (dk_at dksJ2_inflate_0 22 rfl rfl)
theorem dJ2_inflate_23 : decode cJ2_inflate 23 = .ok (.iconst 0, 1) := dk_3 (dk_at dksJ2_inflate_0 23 rfl rfl)
theorem dJ2_inflate_24 : decode cJ2_inflate 24 = .ok (.aload_n 0, 1) := dk_42 (dk_at dksJ2_inflate_1 0 rfl rfl)
theorem dJ2_inflate_25 : decode cJ2_inflate 25 = .ok (.getfield 79, 3) := dk_180 0 79 (dk_at dksJ2_inflate_1 1 rfl rfl)
theorem dJ2_inflate_28 : decode cJ2_inflate 28 = .ok (.invokestatic 125, 3) := dk_184 0 125 (dk_at dksJ2_inflate_1 4 rfl rfl)
theorem dJ2_inflate_31 : decode cJ2_inflate 31 = .ok (.aload_n 0, 1) := dk_42 (dk_at dksJ2_inflate_1 7 rfl rfl)
theorem dJ2_inflate_32 : decode cJ2_inflate 32 = .ok (.aload_n 1, 1) := dk_43 (dk_at dksJ2_inflate_1 8 rfl rfl)
theorem dJ2_inflate_33 : decode cJ2_inflate 33 = .ok (.putfield 15, 3) := dk_181 0 15 (dk_at dksJ2_inflate_1 9 rfl rfl)
theorem dJ2_inflate_36 : decode cJ2_inflate 36 = .ok (.aload_n 0, 1) := dk_42 (dk_at dksJ2_inflate_1 12 rfl rfl)
theorem dJ2_inflate_37 : decode cJ2_inflate 37 = .ok (.iconst 1, 1) := dk_4 (dk_at dksJ2_inflate_1 13 rfl rfl)
theorem dJ2_inflate_38 : decode cJ2_inflate 38 = .ok (.putfield 22, 3) := dk_181 0 22 (dk_at dksJ2_inflate_1 14 rfl rfl)
theorem dJ2_inflate_41 : decode cJ2_inflate 41 = .ok (.return_, 1) := dk_177 (dk_at dksJ2_inflate_1 17 rfl rfl)
def dkwJ2_append_2_2 : List UInt8 := [42, 29, 181, 0, 79, 42, 176]
abbrev dktJ2_append_2_2 : List UInt8 := dkwJ2_append_2_2 ++ []
def dkwJ2_append_2_1 : List UInt8 := [27, 29, 42, 180, 0, 15, 184, 0, 248, 87, 167, 0, 14, 27, 28, 29, 42, 180, 0, 15, 184, 0, 251, 87]
abbrev dktJ2_append_2_1 : List UInt8 := dkwJ2_append_2_1 ++ dktJ2_append_2_2
def dkwJ2_append_2_0 : List UInt8 := [42, 180, 0, 79, 61, 28, 27, 184, 0, 245, 96, 62, 42, 29, 182, 0, 100, 42, 182, 0, 83, 153, 0, 16]
abbrev dktJ2_append_2_0 : List UInt8 := dkwJ2_append_2_0 ++ dktJ2_append_2_1
theorem dksJ2_append_2_0 : cJ2_append_2.data.toList.drop 0 = dktJ2_append_2_0 := by decide +kernel
theorem dksJ2_append_2_1 : cJ2_append_2.data.toList.drop 24 = dktJ2_append_2_1 := dk_seg dksJ2_append_2_0 24 rfl rfl
theorem dksJ2_append_2_2 : cJ2_append_2.data.toList.drop 48 = dktJ2_append_2_2 := dk_seg dksJ2_append_2_1 24 rfl rfl
theorem dJ2_append_2_0 : decode cJ2_append_2 0 = .ok (.aload_n 0, 1) := dk_42 (dk_at dksJ2_append_2_0 0 rfl rfl)
theorem dJ2_append_2_1 : decode cJ2_append_2 1 = .ok (.getfield 79, 3) := dk_180 0 79 (dk_at dksJ2_append_2_0 1 rfl rfl)
theorem dJ2_append_2_4 : decode cJ2_append_2 4 = .ok (.istore_n 2, 1) := dk_61 (dk_at dksJ2_append_2_0 4 rfl rfl)
theorem dJ2_append_2_5 : decode cJ2_append_2 5 = .ok (.iload_n 2, 1) := dk_28 (dk_at dksJ2_append_2_0 5 rfl rfl)
theorem dJ2_append_2_6 : decode cJ2_append_2 6 = .ok (.iload_n 1, 1) := dk_27 (dk_at dksJ2_append_2_0 6 rfl rfl)
theorem dJ2_append_2_7 : decode cJ2_append_2 7 = .ok (.invokestatic 245, 3) := dk_184 0 245 (dk_at dksJ2_append_2_0 7 rfl rfl)
theorem dJ2_append_2_10 : decode cJ2_append_2 10 = .ok (.iadd, 1) := dk_96 (dk_at dksJ2_append_2_0 10 rfl rfl)
theorem dJ2_append_2_11 : decode cJ2_append_2 11 = .ok (.istore_n 3, 1) := dk_62 (dk_at dksJ2_append_2_0 11 rfl rfl)
theorem dJ2_append_2_12 : decode cJ2_append_2 12 = .ok (.aload_n 0, 1) := dk_42 (dk_at dksJ2_append_2_0 12 rfl rfl)
theorem dJ2_append_2_13 : decode cJ2_append_2 13 = .ok (.iload_n 3, 1) := dk_29 (dk_at dksJ2_append_2_0 13 rfl rfl)
theorem dJ2_append_2_14 : decode cJ2_append_2 14 = .ok (.invokevirtual 100, 3) := dk_182 0 100 (dk_at dksJ2_append_2_0 14 rfl rfl)
theorem dJ2_append_2_17 : decode cJ2_append_2 17 = .ok (.aload_n 0, 1) := dk_42 (dk_at dksJ2_append_2_0 17 rfl rfl)
theorem dJ2_append_2_18 : decode cJ2_append_2 18 = .ok (.invokevirtual 83, 3) := dk_182 0 83 (dk_at dksJ2_append_2_0 18 rfl rfl)
theorem dJ2_append_2_21 : decode cJ2_append_2 21 = .ok (.ifCond .eq 16, 3) := dk_153 0 16 (dk_at dksJ2_append_2_0 21 rfl rfl)
theorem dJ2_append_2_24 : decode cJ2_append_2 24 = .ok (.iload_n 1, 1) := dk_27 (dk_at dksJ2_append_2_1 0 rfl rfl)
theorem dJ2_append_2_25 : decode cJ2_append_2 25 = .ok (.iload_n 3, 1) := dk_29 (dk_at dksJ2_append_2_1 1 rfl rfl)
theorem dJ2_append_2_26 : decode cJ2_append_2 26 = .ok (.aload_n 0, 1) := dk_42 (dk_at dksJ2_append_2_1 2 rfl rfl)
theorem dJ2_append_2_27 : decode cJ2_append_2 27 = .ok (.getfield 15, 3) := dk_180 0 15 (dk_at dksJ2_append_2_1 3 rfl rfl)
theorem dJ2_append_2_30 : decode cJ2_append_2 30 = .ok (.invokestatic 248, 3) := dk_184 0 248 (dk_at dksJ2_append_2_1 6 rfl rfl)
theorem dJ2_append_2_33 : decode cJ2_append_2 33 = .ok (.pop, 1) := dk_87 (dk_at dksJ2_append_2_1 9 rfl rfl)
theorem dJ2_append_2_34 : decode cJ2_append_2 34 = .ok (.goto 14, 3) := dk_167 0 14 (dk_at dksJ2_append_2_1 10 rfl rfl)
theorem dJ2_append_2_37 : decode cJ2_append_2 37 = .ok (.iload_n 1, 1) := dk_27 (dk_at dksJ2_append_2_1 13 rfl rfl)
theorem dJ2_append_2_38 : decode cJ2_append_2 38 = .ok (.iload_n 2, 1) := dk_28 (dk_at dksJ2_append_2_1 14 rfl rfl)
theorem dJ2_append_2_39 : decode cJ2_append_2 39 = .ok (.iload_n 3, 1) := dk_29 (dk_at dksJ2_append_2_1 15 rfl rfl)
theorem dJ2_append_2_40 : decode cJ2_append_2 40 = .ok (.aload_n 0, 1) := dk_42 (dk_at dksJ2_append_2_1 16 rfl rfl)
theorem dJ2_append_2_41 : decode cJ2_append_2 41 = .ok (.getfield 15, 3) := dk_180 0 15 (dk_at dksJ2_append_2_1 17 rfl rfl)
theorem dJ2_append_2_44 : decode cJ2_append_2 44 = .ok (.invokestatic 251, 3) := dk_184 0 251 (dk_at dksJ2_append_2_1 20 rfl rfl)
theorem dJ2_append_2_47 : decode cJ2_append_2 47 = .ok (.pop, 1) := dk_87 (dk_at dksJ2_append_2_1 23 rfl rfl)
theorem dJ2_append_2_48 : decode cJ2_append_2 48 = .ok (.aload_n 0, 1) := dk_42 (dk_at dksJ2_append_2_2 0 rfl rfl)
theorem dJ2_append_2_49 : decode cJ2_append_2 49 = .ok (.iload_n 3, 1) := dk_29 (dk_at dksJ2_append_2_2 1 rfl rfl)
theorem dJ2_append_2_50 : decode cJ2_append_2 50 = .ok (.putfield 79, 3) := dk_181 0 79 (dk_at dksJ2_append_2_2 2 rfl rfl)
theorem dJ2_append_2_53 : decode cJ2_append_2 53 = .ok (.aload_n 0, 1) := dk_42 (dk_at dksJ2_append_2_2 5 rfl rfl)
theorem dJ2_append_2_54 : decode cJ2_append_2 54 = .ok (.areturn, 1) := dk_176 (dk_at dksJ2_append_2_2 6 rfl rfl)
theorem dJ2_getValue_0 : decode cJ2_getValue 0 = .ok (.aload_n 0, 1) := by decide +kernel
theorem dJ2_getValue_1 : decode cJ2_getValue 1 = .ok (.getfield 15, 3) := by decide +kernel
theorem dJ2_getValue_4 : decode cJ2_getValue 4 = .ok (.areturn, 1) := by decide +kernel
def dkwJ2_append_3_3 : List UInt8 := [181, 0, 79, 27, 184, 0, 197, 42, 176]
abbrev dktJ2_append_3_3 : List UInt8 := dkwJ2_append_3_3 ++ []
def dkwJ2_append_3_2 : List UInt8 := [182, 0, 83, 153, 0, 7, 42, 182, 0, 195, 42, 180, 0, 15, 42, 89, 180, 0, 79, 90, 4, 96]
abbrev dktJ2_append_3_2 : List UInt8 := dkwJ2_append_3_2 ++ dktJ2_append_3_3
def dkwJ2_append_3_1 : List UInt8 := [42, 180, 0, 15, 42, 89, 180, 0, 79, 90, 4, 96, 181, 0, 79, 27, 145, 84, 167, 0, 33, 42]
abbrev dktJ2_append_3_1 : List UInt8 := dkwJ2_append_3_1 ++ dktJ2_append_3_2
def dkwJ2_append_3_0 : List UInt8 := [42, 42, 180, 0, 79, 4, 96, 182, 0, 100, 42, 182, 0, 83, 153, 0, 31, 27, 184, 0, 191, 153, 0, 24]
abbrev dktJ2_append_3_0 : List UInt8 := dkwJ2_append_3_0 ++ dktJ2_append_3_1
theorem dksJ2_append_3_0 : cJ2_append_3.data.toList.drop 0 = dktJ2_append_3_0 := by decide +kernel
theorem dksJ2_append_3_1 : cJ2_append_3.data.toList.drop 24 = dktJ2_append_3_1 := dk_seg dksJ2_append_3_0 24 rfl rfl
theorem dksJ2_append_3_2 : cJ2_append_3.data.toList.drop 46 = dktJ2_append_3_2 := dk_seg dksJ2_append_3_1 22 rfl rfl
theorem dksJ2_append_3_3 : cJ2_append_3.data.toList.drop 68 = dktJ2_append_3_3 := dk_seg dksJ2_append_3_2 22 rfl rfl
theorem dJ2_append_3_0 : decode cJ2_append_3 0 = .ok (.aload_n 0, 1) := dk_42 (dk_at dksJ2_append_3_0 0 rfl rfl)
theorem dJ2_append_3_1 : decode cJ2_append_3 1 = .ok (.aload_n 0, 1) := dk_42 (dk_at dksJ2_append_3_0 1 rfl rfl)
theorem dJ2_append_3_2 : decode cJ2_append_3 2 = .ok (.getfield 79, 3) := dk_180 0 79 (dk_at dksJ2_append_3_0 2 rfl rfl)
theorem dJ2_append_3_5 : decode cJ2_append_3 5 = .ok (.iconst 1, 1) := dk_4 (dk_at dksJ2_append_3_0 5 rfl rfl)
theorem dJ2_append_3_6 : decode cJ2_append_3 6 = .ok (.iadd, 1) := dk_96 (dk_at dksJ2_append_3_0 6 rfl rfl)
theorem dJ2_append_3_7 : decode cJ2_append_3 7 = .ok (.invokevirtual 100, 3) := dk_182 0 100 (dk_at dksJ2_append_3_0 7 rfl rfl)
theorem dJ2_append_3_10 : decode cJ2_append_3 10 = .ok (.aload_n 0, 1) := dk_42 (dk_at dksJ2_append_3_0 10 rfl rfl)
theorem dJ2_append_3_11 : decode cJ2_append_3 11 = .ok (.invokevirtual 83, 3) := dk_182 0 83 (dk_at dksJ2_append_3_0 11 rfl rfl)
theorem dJ2_append_3_14 : decode cJ2_append_3 14 = .ok (.ifCond .eq 31, 3) := dk_153 0 31 (dk_at dksJ2_append_3_0 14 rfl rfl)
theorem dJ2_append_3_17 : decode cJ2_append_3 17 = .ok (.iload_n 1, 1) := dk_27 (dk_at dksJ2_append_3_0 17 rfl rfl)
theorem dJ2_append_3_18 : decode cJ2_append_3 18 = .ok (.invokestatic 191, 3) := dk_184 0 191 (dk_at dksJ2_append_3_0 18 rfl rfl)
theorem dJ2_append_3_21 : decode cJ2_append_3 21 = .ok (.ifCond .eq 24, 3) := dk_153 0 24 (dk_at dksJ2_append_3_0 21 rfl rfl)
theorem dJ2_append_3_24 : decode cJ2_append_3 24 = .ok (.aload_n 0, 1) := dk_42 (dk_at dksJ2_append_3_1 0 rfl rfl)
theorem dJ2_append_3_25 : decode cJ2_append_3 25 = .ok (.getfield 15, 3) := dk_180 0 15 (dk_at dksJ2_append_3_1 1 rfl rfl)
theorem dJ2_append_3_28 : decode cJ2_append_3 28 = .ok (.aload_n 0, 1) := dk_42 (dk_at dksJ2_append_3_1 4 rfl rfl)
theorem dJ2_append_3_29 : decode cJ2_append_3 29 = .ok (.dup, 1) := dk_89 (dk_at dksJ2_append_3_1 5 rfl rfl)
theorem dJ2_append_3_30 : decode cJ2_append_3 30 = .ok (.getfield 79, 3) := dk_180 0 79 (dk_at dksJ2_append_3_1 6 rfl rfl)
theorem dJ2_append_3_33 : decode cJ2_append_3 33 = .ok (.dup_x1, 1) := dk_90 (dk_at dksJ2_append_3_1 9 rfl rfl)
theorem dJ2_append_3_34 : decode cJ2_append_3 34 = .ok (.iconst 1, 1) := dk_4 (dk_at dksJ2_append_3_1 10 rfl rfl)
theorem dJ2_append_3_35 : decode cJ2_append_3 35 = .ok (.iadd, 1) := dk_96 (dk_at dksJ2_append_3_1 11 rfl rfl)
theorem dJ2_append_3_36 : decode cJ2_append_3 36 = .ok (.putfield 79, 3) := dk_181 0 79 (dk_at dksJ2_append_3_1 12 rfl rfl)
theorem dJ2_append_3_39 : decode cJ2_append_3 39 = .ok (.iload_n 1, 1) := dk_27 (dk_at dksJ2_append_3_1 15 rfl rfl)
theorem dJ2_append_3_40 : decode cJ2_append_3 40 = .ok (.i2b, 1) := dk_145 (dk_at dksJ2_append_3_1 16 rfl rfl)
theorem dJ2_append_3_41 : decode cJ2_append_3 41 = .ok (.bastore, 1) := dk_84 (dk_at dksJ2_append_3_1 17 rfl rfl)
theorem dJ2_append_3_42 : decode cJ2_append_3 42 = .ok (.goto 33, 3) := dk_167 0 33 (dk_at dksJ2_append_3_1 18 rfl rfl)
theorem dJ2_append_3_45 : decode cJ2_append_3 45 = .ok (.aload_n 0, 1) := dk_42 (dk_at dksJ2_append_3_1 21 rfl rfl)
theorem dJ2_append_3_46 : decode cJ2_append_3 46 = .ok (.invokevirtual 83, 3) := dk_182 0 83 (dk_at dksJ2_append_3_2 0 rfl rfl)
theorem dJ2_append_3_49 : decode cJ2_append_3 49 = .ok (.ifCond .eq 7, 3) := dk_153 0 7 (dk_at dksJ2_append_3_2 3 rfl rfl)
theorem dJ2_append_3_52 : decode cJ2_append_3 52 = .ok (.aload_n 0, 1) := dk_42 (dk_at dksJ2_append_3_2 6 rfl rfl)
theorem dJ2_append_3_53 : decode cJ2_append_3 53 = .ok (.invokevirtual 195, 3) := dk_182 0 195 (dk_at dksJ2_append_3_2 7 rfl rfl)
theorem dJ2_append_3_56 : decode cJ2_append_3 56 = .ok (.aload_n 0, 1) := dk_42 (dk_at dksJ2_append_3_2 10 rfl rfl)
theorem dJ2_append_3_57 : decode cJ2_append_3 57 = .ok (.getfield 15, 3) := dk_180 0 15 (dk_at dksJ2_append_3_2 11 rfl rfl)
theorem dJ2_append_3_60 : decode cJ2_append_3 60 = .ok (.aload_n 0, 1) := dk_42 (dk_at dksJ2_append_3_2 14 rfl rfl)
theorem dJ2_append_3_61 : decode cJ2_append_3 61 = .ok (.dup, 1) := dk_89 (dk_at dksJ2_append_3_2 15 rfl rfl)
theorem dJ2_append_3_62 : decode cJ2_append_3 62 = .ok (.getfield 79, 3) := dk_180 0 79 (dk_at dksJ2_append_3_2 16 rfl rfl)
theorem dJ2_append_3_65 : decode cJ2_append_3 65 = .ok (.dup_x1, 1) := dk_90 (dk_at dksJ2_append_3_2 19 rfl rfl)
theorem dJ2_append_3_66 : decode cJ2_append_3 66 = .ok (.iconst 1, 1) := dk_4 (dk_at dksJ2_append_3_2 20 rfl rfl)
theorem dJ2_append_3_67 : decode cJ2_append_3 67 = .ok (.iadd, 1) := dk_96 (dk_at dksJ2_append_3_2 21 rfl rfl)
theorem dJ2_append_3_68 : decode cJ2_append_3 68 = .ok (.putfield 79, 3) := dk_181 0 79 (dk_at dksJ2_append_3_3 0 rfl rfl)
theorem dJ2_append_3_71 : decode cJ2_append_3 71 = .ok (.iload_n 1, 1) := dk_27 (dk_at dksJ2_append_3_3 3 rfl rfl)
theorem dJ2_append_3_72 : decode cJ2_append_3 72 = .ok (.invokestatic 197, 3) := dk_184 0 197 (dk_at dksJ2_append_3_3 4 rfl rfl)
theorem dJ2_append_3_75 : decode cJ2_append_3 75 = .ok (.aload_n 0, 1) := dk_42 (dk_at dksJ2_append_3_3 7 rfl rfl)
theorem dJ2_append_3_76 : decode cJ2_append_3 76 = .ok (.areturn, 1) := dk_176 (dk_at dksJ2_append_3_3 8 rfl rfl)
def dkwJ2_charAt_1 : List UInt8 := [21, 4, 184, 0, 144, 28, 154, 0, 12, 45, 27, 51, 17, 0, 255, 126, 146, 172, 45, 27, 184, 0, 148, 172]
abbrev dktJ2_charAt_1 : List UInt8 := dkwJ2_charAt_1 ++ []
def dkwJ2_charAt_0 : List UInt8 := [42, 180, 0, 22, 61, 42, 180, 0, 15, 78, 42, 180, 0, 79, 45, 190, 28, 122, 184, 0, 138, 54, 4, 27]
abbrev dktJ2_charAt_0 : List UInt8 := dkwJ2_charAt_0 ++ dktJ2_charAt_1
theorem dksJ2_charAt_0 : cJ2_charAt.data.toList.drop 0 = dktJ2_charAt_0 := by decide +kernel
theorem dksJ2_charAt_1 : cJ2_charAt.data.toList.drop 24 = dktJ2_charAt_1 := dk_seg dksJ2_charAt_0 24 rfl rfl
theorem dJ2_charAt_0 : decode cJ2_charAt 0 = .ok (.aload_n 0, 1) := dk_42 (dk_at dksJ2_charAt_0 0 rfl rfl)
theorem dJ2_charAt_1 : decode cJ2_charAt 1 = .ok (.getfield 22, 3) := dk_180 0 22 (dk_at dksJ2_charAt_0 1 rfl rfl)
theorem dJ2_charAt_4 : decode cJ2_charAt 4 = .ok (.istore_n 2, 1) := dk_61 (dk_at dksJ2_charAt_0 4 rfl rfl)
theorem dJ2_charAt_5 : decode cJ2_charAt 5 = .ok (.aload_n 0, 1) := dk_42 (dk_at dksJ2_charAt_0 5 rfl rfl)
theorem dJ2_charAt_6 : decode cJ2_charAt 6 = .ok (.getfield 15, 3) := dk_180 0 15 (dk_at dksJ2_charAt_0 6 rfl rfl)
theorem dJ2_charAt_9 : decode cJ2_charAt 9 = .ok (.astore_n 3, 1) := dk_78 (dk_at dksJ2_charAt_0 9 rfl rfl)
theorem dJ2_charAt_10 : decode cJ2_charAt 10 = .ok (.aload_n 0, 1) := dk_42 (dk_at dksJ2_charAt_0 10 rfl rfl)
theorem dJ2_charAt_11 : decode cJ2_charAt 11 = .ok (.getfield 79, 3) := dk_180 0 79 (dk_at dksJ2_charAt_0 11 rfl rfl)
theorem dJ2_charAt_14 : decode cJ2_charAt 14 = .ok (.aload_n 3, 1) := dk_45 (dk_at dksJ2_charAt_0 14 rfl rfl)
theorem dJ2_charAt_15 : decode cJ2_charAt 15 = .ok (.arraylength, 1) := dk_190 (dk_at dksJ2_charAt_0 15 rfl rfl)
theorem dJ2_charAt_16 : decode cJ2_charAt 16 = .ok (.iload_n 2, 1) := dk_28 (dk_at dksJ2_charAt_0 16 rfl rfl)
theorem dJ2_charAt_17 : decode cJ2_charAt 17 = .ok (.ishr, 1) := dk_122 (dk_at dksJ2_charAt_0 17 rfl rfl)
theorem dJ2_charAt_18 : decode cJ2_charAt 18 = .ok (.invokestatic 138, 3) := dk_184 0 138 (dk_at dksJ2_charAt_0 18 rfl rfl)
theorem dJ2_charAt_21 : decode cJ2_charAt 21 = .ok (.istore 4, 2) := dk_54 4 (dk_at dksJ2_charAt_0 21 rfl rfl)
theorem dJ2_charAt_23 : decode cJ2_charAt 23 = .ok (.iload_n 1, 1) := dk_27 (dk_at dksJ2_charAt_0 23 rfl rfl)
theorem dJ2_charAt_24 : decode cJ2_charAt 24 = .ok (.iload 4, 2) := dk_21 4 (dk_at dksJ2_charAt_1 0 rfl rfl)
theorem dJ2_charAt_26 : decode cJ2_charAt 26 = .ok (.invokestatic 144, 3) := dk_184 0 144 (dk_at dksJ2_charAt_1 2 rfl rfl)
theorem dJ2_charAt_29 : decode cJ2_charAt 29 = .ok (.iload_n 2, 1) := dk_28 (dk_at dksJ2_charAt_1 5 rfl rfl)
theorem dJ2_charAt_30 : decode cJ2_charAt 30 = .ok (.ifCond .ne 12, 3) := dk_154 0 12 (dk_at dksJ2_charAt_1 6 rfl rfl)
theorem dJ2_charAt_33 : decode cJ2_charAt 33 = .ok (.aload_n 3, 1) := dk_45 (dk_at dksJ2_charAt_1 9 rfl rfl)
theorem dJ2_charAt_34 : decode cJ2_charAt 34 = .ok (.iload_n 1, 1) := dk_27 (dk_at dksJ2_charAt_1 10 rfl rfl)
theorem dJ2_charAt_35 : decode cJ2_charAt 35 = .ok (.baload, 1) := dk_51 (dk_at dksJ2_charAt_1 11 rfl rfl)
theorem dJ2_charAt_36 : decode cJ2_charAt 36 = .ok (.sipush 255, 3) := dk_17 0 255 (dk_at dksJ2_charAt_1 12 rfl rfl)
theorem dJ2_charAt_39 : decode cJ2_charAt 39 = .ok (.iand, 1) := dk_126 (dk_at dksJ2_charAt_1 15 rfl rfl)
theorem dJ2_charAt_40 : decode cJ2_charAt 40 = .ok (.i2c, 1) := dk_146 (dk_at dksJ2_charAt_1 16 rfl rfl)
theorem dJ2_charAt_41 : decode cJ2_charAt 41 = .ok (.ireturn, 1) := dk_172 (dk_at dksJ2_charAt_1 17 rfl rfl)
theorem dJ2_charAt_42 : decode cJ2_charAt 42 = .ok (.aload_n 3, 1) := dk_45 (dk_at dksJ2_charAt_1 18 rfl rfl)
theorem dJ2_charAt_43 : decode cJ2_charAt 43 = .ok (.iload_n 1, 1) := dk_27 (dk_at dksJ2_charAt_1 19 rfl rfl)
theorem dJ2_charAt_44 : decode cJ2_charAt 44 = .ok (.invokestatic 148, 3) := dk_184 0 148 (dk_at dksJ2_charAt_1 20 rfl rfl)
theorem dJ2_charAt_47 : decode cJ2_charAt 47 = .ok (.ireturn, 1) := dk_172 (dk_at dksJ2_charAt_1 23 rfl rfl)
theorem e_J2_init (d : Nat) (x0 : Nat) (x1 : Int32) (h : a_H) : a_call (d + 1) MJ2_init [.ref x0, .int x1] h = a_run d MJ2_init 0 [some (.ref x0), some (.int x1)] [] h := a_call_run rfl (Nat.le_of_ble_eq_true rfl) rfl
theorem w_J2_init_0 (d : Nat) (a1 : Option Value) (x : Nat) (st : List Value) (h : a_H) : a_run d MJ2_init 0 [some (.ref x), a1] st h = a_run d MJ2_init 1 [some (.ref x), a1] (.ref x :: st) h := w_ldAn dJ2_init_0 rfl
theorem w_J2_init_1 (d : Nat) (L : a_L) (i : Nat) (st : List Value) (h : a_H) (hi : 1024 ≤ i) (hc : a_cat st ≤ 8) : a_run d MJ2_init 1 L (.ref i :: st) h = a_run d MJ2_init 4 L st h := w_obj dJ2_init_1 rfl hi hc
theorem w_J2_init_4 (d : Nat) (L : a_L) (st : List Value) (h : a_H) : a_run d MJ2_init 4 L st h = a_run d MJ2_init 7 L (.int 1 :: st) h := w_gst dJ2_init_4 rfl
theorem w_J2_init_7 (d : Nat) (L : a_L) (x : Int32) (st : List Value) (h : a_H) : a_run d MJ2_init 7 L (.int x :: st) h = if x = 0 then a_run d MJ2_init 25 L st h else a_run d MJ2_init 10 L st h := w_if_eq dJ2_init_7 rfl
theorem w_J2_init_10 (d : Nat) (a1 : Option Value) (x : Nat) (st : List Value) (h : a_H) : a_run d MJ2_init 10 [some (.ref x), a1] st h = a_run d MJ2_init 11 [some (.ref x), a1] (.ref x :: st) h := w_ldAn dJ2_init_10 rfl
theorem w_J2_init_11 (d : Nat) (a0 : Option Value) (x : Int32) (st : List Value) (h : a_H) : a_run d MJ2_init 11 [a0, some (.int x)] st h = a_run d MJ2_init 12 [a0, some (.int x)] (.int x :: st) h := w_ldIn dJ2_init_11 rfl
theorem w_J2_init_12 (d : Nat) (L : a_L) (x : Int32) (st : List Value) (h : a_H) : a_run d MJ2_init 12 L (.int x :: st) h = (a_newa h (newarray.typeOf .byte) x).bind fun q => a_run d MJ2_init 14 L (.ref q.1 :: st) q.2 := w_newa dJ2_init_12
theorem w_J2_init_14 (d : Nat) (L : a_L) (x : Nat) (i : Nat) (st : List Value) (h : a_H) : a_run d MJ2_init 14 L (.ref x :: .ref i :: st) h = (a_pf h i 0 [8] (.ref x)).bind fun h' => a_run d MJ2_init 17 L st h' := w_putf dJ2_init_14 rfl rfl (Or.inl rfl) rfl rfl
theorem w_J2_init_14N (d : Nat) (L : a_L) (i : Nat) (st : List Value) (h : a_H) : a_run d MJ2_init 14 L (.null :: .ref i :: st) h = (a_pf h i 0 [8] (.null)).bind fun h' => a_run d MJ2_init 17 L st h' := w_putf dJ2_init_14 rfl rfl (Or.inl rfl) rfl rfl
theorem w_J2_init_17 (d : Nat) (a1 : Option Value) (x : Nat) (st : List Value) (h : a_H) : a_run d MJ2_init 17 [some (.ref x), a1] st h = a_run d MJ2_init 18 [some (.ref x), a1] (.ref x :: st) h := w_ldAn dJ2_init_17 rfl
theorem w_J2_init_18 (d : Nat) (L : a_L) (st : List Value) (h : a_H) : a_run d MJ2_init 18 L st h = a_run d MJ2_init 19 L (.int (nI 0) :: st) h := w_iconst dJ2_init_18 rfl
theorem w_J2_init_19 (d : Nat) (L : a_L) (x : Int32) (i : Nat) (st : List Value) (h : a_H) (hn : narrow .byte (.int x) = .int x) (hf : fits .byte (.int x) = true) : a_run d MJ2_init 19 L (.int x :: .ref i :: st) h = (a_pf h i 1 [8] (.int x)).bind fun h' => a_run d MJ2_init 22 L st h' := w_putf dJ2_init_19 rfl rfl (Or.inl rfl) hn hf
theorem w_J2_init_22 (d : Nat) (L : a_L) (st : List Value) (h : a_H) : a_run d MJ2_init 22 L st h = a_run d MJ2_init 38 L st h := w_goto dJ2_init_22 rfl
theorem w_J2_init_25 (d : Nat) (a1 : Option Value) (x : Nat) (st : List Value) (h : a_H) : a_run d MJ2_init 25 [some (.ref x), a1] st h = a_run d MJ2_init 26 [some (.ref x), a1] (.ref x :: st) h := w_ldAn dJ2_init_25 rfl
theorem w_J2_init_26 (d : Nat) (a0 : Option Value) (x : Int32) (st : List Value) (h : a_H) : a_run d MJ2_init 26 [a0, some (.int x)] st h = a_run d MJ2_init 27 [a0, some (.int x)] (.int x :: st) h := w_ldIn dJ2_init_26 rfl
theorem w_J2_init_27 (d : Nat) (L : a_L) (v0 : Value) (st : List Value) (h : a_H) (hc : a_cat st ≤ 8) : a_run d MJ2_init 27 L (v0 :: st) h = a_cont d MJ2_init (a_bk MJ2_init 27 L st (a_call d MJ5_newBytesFor [v0] h)) := w_callS (as := [v0]) dJ2_init_27 rfl rfl rfl hc
theorem w_J2_init_30 (d : Nat) (L : a_L) (x : Nat) (i : Nat) (st : List Value) (h : a_H) : a_run d MJ2_init 30 L (.ref x :: .ref i :: st) h = (a_pf h i 0 [8] (.ref x)).bind fun h' => a_run d MJ2_init 33 L st h' := w_putf dJ2_init_30 rfl rfl (Or.inl rfl) rfl rfl
theorem w_J2_init_30N (d : Nat) (L : a_L) (i : Nat) (st : List Value) (h : a_H) : a_run d MJ2_init 30 L (.null :: .ref i :: st) h = (a_pf h i 0 [8] (.null)).bind fun h' => a_run d MJ2_init 33 L st h' := w_putf dJ2_init_30 rfl rfl (Or.inl rfl) rfl rfl
theorem w_J2_init_33 (d : Nat) (a1 : Option Value) (x : Nat) (st : List Value) (h : a_H) : a_run d MJ2_init 33 [some (.ref x), a1] st h = a_run d MJ2_init 34 [some (.ref x), a1] (.ref x :: st) h := w_ldAn dJ2_init_33 rfl
theorem w_J2_init_34 (d : Nat) (L : a_L) (st : List Value) (h : a_H) : a_run d MJ2_init 34 L st h = a_run d MJ2_init 35 L (.int (nI 1) :: st) h := w_iconst dJ2_init_34 rfl
theorem w_J2_init_35 (d : Nat) (L : a_L) (x : Int32) (i : Nat) (st : List Value) (h : a_H) (hn : narrow .byte (.int x) = .int x) (hf : fits .byte (.int x) = true) : a_run d MJ2_init 35 L (.int x :: .ref i :: st) h = (a_pf h i 1 [8] (.int x)).bind fun h' => a_run d MJ2_init 38 L st h' := w_putf dJ2_init_35 rfl rfl (Or.inl rfl) hn hf
theorem w_J2_init_38 (d : Nat) (L : a_L) (h : a_H) : a_run d MJ2_init 38 L [] h = some (.inl none, h) := w_vret dJ2_init_38 rfl
theorem e_J2_length (d : Nat) (x0 : Nat) (h : a_H) : a_call (d + 1) MJ2_length [.ref x0] h = a_run d MJ2_length 0 [some (.ref x0)] [] h := a_call_run rfl (Nat.le_of_ble_eq_true rfl) rfl
theorem w_J2_length_0 (d : Nat) (x : Nat) (st : List Value) (h : a_H) : a_run d MJ2_length 0 [some (.ref x)] st h = a_run d MJ2_length 1 [some (.ref x)] (.ref x :: st) h := w_ldAn dJ2_length_0 rfl
theorem w_J2_length_1 (d : Nat) (L : a_L) (i : Nat) (st : List Value) (h : a_H) : a_run d MJ2_length 1 L (.ref i :: st) h = (a_gf h i 3 [8]).bind fun v => a_run d MJ2_length 4 L (v :: st) h := w_getf dJ2_length_1 rfl
theorem w_J2_length_4 (d : Nat) (L : a_L) (x : Int32) (h : a_H) : a_run d MJ2_length 4 L [.int x] h = some (.inl (some (.int x)), h) := w_iret dJ2_length_4 (w_retI rfl)
theorem e_J2_setLength (d : Nat) (x0 : Nat) (x1 : Int32) (h : a_H) : a_call (d + 1) MJ2_setLength [.ref x0, .int x1] h = a_run d MJ2_setLength 0 [some (.ref x0), some (.int x1)] [] h := a_call_run rfl (Nat.le_of_ble_eq_true rfl) rfl
theorem w_J2_setLength_0 (d : Nat) (a0 : Option Value) (x : Int32) (st : List Value) (h : a_H) : a_run d MJ2_setLength 0 [a0, some (.int x)] st h = a_run d MJ2_setLength 1 [a0, some (.int x)] (.int x :: st) h := w_ldIn dJ2_setLength_0 rfl
theorem w_J2_setLength_1 (d : Nat) (L : a_L) (x : Int32) (st : List Value) (h : a_H) : a_run d MJ2_setLength 1 L (.int x :: st) h = if x < 0 then a_run d MJ2_setLength 4 L st h else a_run d MJ2_setLength 13 L st h := w_if_ge dJ2_setLength_1 rfl
theorem w_J2_setLength_7 (d : Nat) (L : a_L) (x : Nat) (st : List Value) (h : a_H) : a_run d MJ2_setLength 7 L (.ref x :: st) h = a_run d MJ2_setLength 8 L (.ref x :: .ref x :: st) h := w_dup dJ2_setLength_7
theorem w_J2_setLength_7I (d : Nat) (L : a_L) (x : Int32) (st : List Value) (h : a_H) : a_run d MJ2_setLength 7 L (.int x :: st) h = a_run d MJ2_setLength 8 L (.int x :: .int x :: st) h := w_dupI dJ2_setLength_7
theorem w_J2_setLength_8 (d : Nat) (a0 : Option Value) (x : Int32) (st : List Value) (h : a_H) : a_run d MJ2_setLength 8 [a0, some (.int x)] st h = a_run d MJ2_setLength 9 [a0, some (.int x)] (.int x :: st) h := w_ldIn dJ2_setLength_8 rfl
theorem w_J2_setLength_12 (d : Nat) (L : a_L) (x : Nat) (st : List Value) (h : a_H) : a_run d MJ2_setLength 12 L (.ref x :: st) h = a_cont d MJ2_setLength (a_thr MJ2_setLength 12 L x h) := w_athrow dJ2_setLength_12
theorem w_J2_setLength_13 (d : Nat) (a1 : Option Value) (x : Nat) (st : List Value) (h : a_H) : a_run d MJ2_setLength 13 [some (.ref x), a1] st h = a_run d MJ2_setLength 14 [some (.ref x), a1] (.ref x :: st) h := w_ldAn dJ2_setLength_13 rfl
theorem w_J2_setLength_14 (d : Nat) (a0 : Option Value) (x : Int32) (st : List Value) (h : a_H) : a_run d MJ2_setLength 14 [a0, some (.int x)] st h = a_run d MJ2_setLength 15 [a0, some (.int x)] (.int x :: st) h := w_ldIn dJ2_setLength_14 rfl
theorem w_J2_setLength_15 (d : Nat) (L : a_L) (i : Nat) (v1 : Value) (st : List Value) (h : a_H) (hk : a_kls h i = some 8) (hc : a_cat st ≤ 8) : a_run d MJ2_setLength 15 L (v1 :: .ref i :: st) h = a_cont d MJ2_setLength (a_bk MJ2_setLength 15 L st (a_call d MJ2_ensureCapacityInternal [.ref i, v1] h)) := w_callP (as := [.ref i, v1]) dJ2_setLength_15 rfl rfl rfl hc (a_rcv_of hk rfl)
theorem w_J2_setLength_18 (d : Nat) (a1 : Option Value) (x : Nat) (st : List Value) (h : a_H) : a_run d MJ2_setLength 18 [some (.ref x), a1] st h = a_run d MJ2_setLength 19 [some (.ref x), a1] (.ref x :: st) h := w_ldAn dJ2_setLength_18 rfl
theorem w_J2_setLength_19 (d : Nat) (L : a_L) (i : Nat) (st : List Value) (h : a_H) : a_run d MJ2_setLength 19 L (.ref i :: st) h = (a_gf h i 3 [8]).bind fun v => a_run d MJ2_setLength 22 L (v :: st) h := w_getf dJ2_setLength_19 rfl
theorem w_J2_setLength_22 (d : Nat) (a0 : Option Value) (x : Int32) (st : List Value) (h : a_H) : a_run d MJ2_setLength 22 [a0, some (.int x)] st h = a_run d MJ2_setLength 23 [a0, some (.int x)] (.int x :: st) h := w_ldIn dJ2_setLength_22 rfl
theorem w_J2_setLength_23 (d : Nat) (L : a_L) (x y : Int32) (st : List Value) (h : a_H) : a_run d MJ2_setLength 23 L (.int y :: .int x :: st) h = if x < y then a_run d MJ2_setLength 26 L st h else a_run d MJ2_setLength 63 L st h := w_icmp_ge dJ2_setLength_23 rfl
theorem w_J2_setLength_26 (d : Nat) (a1 : Option Value) (x : Nat) (st : List Value) (h : a_H) : a_run d MJ2_setLength 26 [some (.ref x), a1] st h = a_run d MJ2_setLength 27 [some (.ref x), a1] (.ref x :: st) h := w_ldAn dJ2_setLength_26 rfl
theorem w_J2_setLength_27 (d : Nat) (L : a_L) (i : Nat) (st : List Value) (h : a_H) (hk : a_kls h i = some 8) (hc : a_cat st ≤ 8) : a_run d MJ2_setLength 27 L (.ref i :: st) h = a_cont d MJ2_setLength (a_bk MJ2_setLength 27 L st (a_call d MJ2_isLatin1 [.ref i] h)) := w_callV (as := [.ref i]) dJ2_setLength_27 rfl rfl rfl hc (a_rcv_of hk rfl)
theorem w_J2_setLength_30 (d : Nat) (L : a_L) (x : Int32) (st : List Value) (h : a_H) : a_run d MJ2_setLength 30 L (.int x :: st) h = if x = 0 then a_run d MJ2_setLength 48 L st h else a_run d MJ2_setLength 33 L st h := w_if_eq dJ2_setLength_30 rfl
theorem w_J2_setLength_33 (d : Nat) (a1 : Option Value) (x : Nat) (st : List Value) (h : a_H) : a_run d MJ2_setLength 33 [some (.ref x), a1] st h = a_run d MJ2_setLength 34 [some (.ref x), a1] (.ref x :: st) h := w_ldAn dJ2_setLength_33 rfl
theorem w_J2_setLength_34 (d : Nat) (L : a_L) (i : Nat) (st : List Value) (h : a_H) : a_run d MJ2_setLength 34 L (.ref i :: st) h = (a_gf h i 0 [8]).bind fun v => a_run d MJ2_setLength 37 L (v :: st) h := w_getf dJ2_setLength_34 rfl
theorem w_J2_setLength_37 (d : Nat) (a1 : Option Value) (x : Nat) (st : List Value) (h : a_H) : a_run d MJ2_setLength 37 [some (.ref x), a1] st h = a_run d MJ2_setLength 38 [some (.ref x), a1] (.ref x :: st) h := w_ldAn dJ2_setLength_37 rfl
theorem w_J2_setLength_38 (d : Nat) (L : a_L) (i : Nat) (st : List Value) (h : a_H) : a_run d MJ2_setLength 38 L (.ref i :: st) h = (a_gf h i 3 [8]).bind fun v => a_run d MJ2_setLength 41 L (v :: st) h := w_getf dJ2_setLength_38 rfl
theorem w_J2_setLength_41 (d : Nat) (a0 : Option Value) (x : Int32) (st : List Value) (h : a_H) : a_run d MJ2_setLength 41 [a0, some (.int x)] st h = a_run d MJ2_setLength 42 [a0, some (.int x)] (.int x :: st) h := w_ldIn dJ2_setLength_41 rfl
theorem w_J2_setLength_42 (d : Nat) (L : a_L) (v0 v1 v2 : Value) (st : List Value) (h : a_H) (hc : a_cat st ≤ 8) : a_run d MJ2_setLength 42 L (v2 :: v1 :: v0 :: st) h = a_cont d MJ2_setLength (a_bk MJ2_setLength 42 L st (a_call d MJ17_fillNull [v0, v1, v2] h)) := w_callS (as := [v0, v1, v2]) dJ2_setLength_42 rfl rfl rfl hc
theorem w_J2_setLength_45 (d : Nat) (L : a_L) (st : List Value) (h : a_H) : a_run d MJ2_setLength 45 L st h = a_run d MJ2_setLength 76 L st h := w_goto dJ2_setLength_45 rfl
theorem w_J2_setLength_48 (d : Nat) (a1 : Option Value) (x : Nat) (st : List Value) (h : a_H) : a_run d MJ2_setLength 48 [some (.ref x), a1] st h = a_run d MJ2_setLength 49 [some (.ref x), a1] (.ref x :: st) h := w_ldAn dJ2_setLength_48 rfl
theorem w_J2_setLength_49 (d : Nat) (L : a_L) (i : Nat) (st : List Value) (h : a_H) : a_run d MJ2_setLength 49 L (.ref i :: st) h = (a_gf h i 0 [8]).bind fun v => a_run d MJ2_setLength 52 L (v :: st) h := w_getf dJ2_setLength_49 rfl
theorem w_J2_setLength_52 (d : Nat) (a1 : Option Value) (x : Nat) (st : List Value) (h : a_H) : a_run d MJ2_setLength 52 [some (.ref x), a1] st h = a_run d MJ2_setLength 53 [some (.ref x), a1] (.ref x :: st) h := w_ldAn dJ2_setLength_52 rfl
theorem w_J2_setLength_53 (d : Nat) (L : a_L) (i : Nat) (st : List Value) (h : a_H) : a_run d MJ2_setLength 53 L (.ref i :: st) h = (a_gf h i 3 [8]).bind fun v => a_run d MJ2_setLength 56 L (v :: st) h := w_getf dJ2_setLength_53 rfl
theorem w_J2_setLength_56 (d : Nat) (a0 : Option Value) (x : Int32) (st : List Value) (h : a_H) : a_run d MJ2_setLength 56 [a0, some (.int x)] st h = a_run d MJ2_setLength 57 [a0, some (.int x)] (.int x :: st) h := w_ldIn dJ2_setLength_56 rfl
theorem w_J2_setLength_57 (d : Nat) (L : a_L) (v0 v1 v2 : Value) (st : List Value) (h : a_H) (hc : a_cat st ≤ 8) : a_run d MJ2_setLength 57 L (v2 :: v1 :: v0 :: st) h = a_cont d MJ2_setLength (a_bk MJ2_setLength 57 L st (a_call d MJ5_fillNull [v0, v1, v2] h)) := w_callS (as := [v0, v1, v2]) dJ2_setLength_57 rfl rfl rfl hc
theorem w_J2_setLength_60 (d : Nat) (L : a_L) (st : List Value) (h : a_H) : a_run d MJ2_setLength 60 L st h = a_run d MJ2_setLength 76 L st h := w_goto dJ2_setLength_60 rfl
theorem w_J2_setLength_63 (d : Nat) (a1 : Option Value) (x : Nat) (st : List Value) (h : a_H) : a_run d MJ2_setLength 63 [some (.ref x), a1] st h = a_run d MJ2_setLength 64 [some (.ref x), a1] (.ref x :: st) h := w_ldAn dJ2_setLength_63 rfl
theorem w_J2_setLength_64 (d : Nat) (L : a_L) (i : Nat) (st : List Value) (h : a_H) : a_run d MJ2_setLength 64 L (.ref i :: st) h = (a_gf h i 3 [8]).bind fun v => a_run d MJ2_setLength 67 L (v :: st) h := w_getf dJ2_setLength_64 rfl
theorem w_J2_setLength_67 (d : Nat) (a0 : Option Value) (x : Int32) (st : List Value) (h : a_H) : a_run d MJ2_setLength 67 [a0, some (.int x)] st h = a_run d MJ2_setLength 68 [a0, some (.int x)] (.int x :: st) h := w_ldIn dJ2_setLength_67 rfl
theorem w_J2_setLength_68 (d : Nat) (L : a_L) (x y : Int32) (st : List Value) (h : a_H) : a_run d MJ2_setLength 68 L (.int y :: .int x :: st) h = if y < x then a_run d MJ2_setLength 71 L st h else a_run d MJ2_setLength 76 L st h := w_icmp_le dJ2_setLength_68 rfl
theorem w_J2_setLength_71 (d : Nat) (a1 : Option Value) (x : Nat) (st : List Value) (h : a_H) : a_run d MJ2_setLength 71 [some (.ref x), a1] st h = a_run d MJ2_setLength 72 [some (.ref x), a1] (.ref x :: st) h := w_ldAn dJ2_setLength_71 rfl
theorem w_J2_setLength_72 (d : Nat) (L : a_L) (st : List Value) (h : a_H) : a_run d MJ2_setLength 72 L st h = a_run d MJ2_setLength 73 L (.int (nI 1) :: st) h := w_iconst dJ2_setLength_72 rfl
theorem w_J2_setLength_73 (d : Nat) (L : a_L) (x : Int32) (i : Nat) (st : List Value) (h : a_H) (hn : narrow .boolean (.int x) = .int x) (hf : fits .boolean (.int x) = true) : a_run d MJ2_setLength 73 L (.int x :: .ref i :: st) h = (a_pf h i 2 [8] (.int x)).bind fun h' => a_run d MJ2_setLength 76 L st h' := w_putf dJ2_setLength_73 rfl rfl (Or.inl rfl) hn hf
theorem w_J2_setLength_76 (d : Nat) (a1 : Option Value) (x : Nat) (st : List Value) (h : a_H) : a_run d MJ2_setLength 76 [some (.ref x), a1] st h = a_run d MJ2_setLength 77 [some (.ref x), a1] (.ref x :: st) h := w_ldAn dJ2_setLength_76 rfl
theorem w_J2_setLength_77 (d : Nat) (a0 : Option Value) (x : Int32) (st : List Value) (h : a_H) : a_run d MJ2_setLength 77 [a0, some (.int x)] st h = a_run d MJ2_setLength 78 [a0, some (.int x)] (.int x :: st) h := w_ldIn dJ2_setLength_77 rfl
theorem w_J2_setLength_78 (d : Nat) (L : a_L) (x : Int32) (i : Nat) (st : List Value) (h : a_H) : a_run d MJ2_setLength 78 L (.int x :: .ref i :: st) h = (a_pf h i 3 [8] (.int x)).bind fun h' => a_run d MJ2_setLength 81 L st h' := w_putf dJ2_setLength_78 rfl rfl (Or.inl rfl) rfl rfl
theorem w_J2_setLength_81 (d : Nat) (L : a_L) (h : a_H) : a_run d MJ2_setLength 81 L [] h = some (.inl none, h) := w_vret dJ2_setLength_81 rfl
theorem e_J2_ensureCapacityInternal (d : Nat) (x0 : Nat) (x1 : Int32) (h : a_H) : a_call (d + 1) MJ2_ensureCapacityInternal [.ref x0, .int x1] h = a_run d MJ2_ensureCapacityInternal 0 [some (.ref x0), some (.int x1), none] [] h := a_call_run rfl (Nat.le_of_ble_eq_true rfl) rfl
theorem w_J2_ensureCapacityInternal_0 (d : Nat) (a1 a2 : Option Value) (x : Nat) (st : List Value) (h : a_H) : a_run d MJ2_ensureCapacityInternal 0 [some (.ref x), a1, a2] st h = a_run d MJ2_ensureCapacityInternal 1 [some (.ref x), a1, a2] (.ref x :: st) h := w_ldAn dJ2_ensureCapacityInternal_0 rfl
theorem w_J2_ensureCapacityInternal_1 (d : Nat) (L : a_L) (i : Nat) (st : List Value) (h : a_H) : a_run d MJ2_ensureCapacityInternal 1 L (.ref i :: st) h = (a_gf h i 0 [8]).bind fun v => a_run d MJ2_ensureCapacityInternal 4 L (v :: st) h := w_getf dJ2_ensureCapacityInternal_1 rfl
theorem w_J2_ensureCapacityInternal_4 (d : Nat) (L : a_L) (i : Nat) (st : List Value) (h : a_H) : a_run d MJ2_ensureCapacityInternal 4 L (.ref i :: st) h = (a_len h i).bind fun v => a_run d MJ2_ensureCapacityInternal 5 L (v :: st) h := w_alen dJ2_ensureCapacityInternal_4
theorem w_J2_ensureCapacityInternal_5 (d : Nat) (a1 a2 : Option Value) (x : Nat) (st : List Value) (h : a_H) : a_run d MJ2_ensureCapacityInternal 5 [some (.ref x), a1, a2] st h = a_run d MJ2_ensureCapacityInternal 6 [some (.ref x), a1, a2] (.ref x :: st) h := w_ldAn dJ2_ensureCapacityInternal_5 rfl
theorem w_J2_ensureCapacityInternal_6 (d : Nat) (L : a_L) (i : Nat) (st : List Value) (h : a_H) : a_run d MJ2_ensureCapacityInternal 6 L (.ref i :: st) h = (a_gf h i 1 [8]).bind fun v => a_run d MJ2_ensureCapacityInternal 9 L (v :: st) h := w_getf dJ2_ensureCapacityInternal_6 rfl
theorem w_J2_ensureCapacityInternal_9 (d : Nat) (L : a_L) (x y : Int32) (st : List Value) (h : a_H) : a_run d MJ2_ensureCapacityInternal 9 L (.int y :: .int x :: st) h = a_run d MJ2_ensureCapacityInternal 10 L (.int (x >>> (y &&& 31)) :: st) h := w_ishr dJ2_ensureCapacityInternal_9
theorem w_J2_ensureCapacityInternal_10 (d : Nat) (a0 a1 a2 : Option Value) (x : Int32) (st : List Value) (h : a_H) : a_run d MJ2_ensureCapacityInternal 10 [a0, a1, a2] (.int x :: st) h = a_run d MJ2_ensureCapacityInternal 11 [a0, a1, some (.int x)] st h := w_stIn dJ2_ensureCapacityInternal_10 (Nat.le_of_ble_eq_true rfl) rfl
theorem w_J2_ensureCapacityInternal_11 (d : Nat) (a0 a2 : Option Value) (x : Int32) (st : List Value) (h : a_H) : a_run d MJ2_ensureCapacityInternal 11 [a0, some (.int x), a2] st h = a_run d MJ2_ensureCapacityInternal 12 [a0, some (.int x), a2] (.int x :: st) h := w_ldIn dJ2_ensureCapacityInternal_11 rfl
theorem w_J2_ensureCapacityInternal_12 (d : Nat) (a0 a1 : Option Value) (x : Int32) (st : List Value) (h : a_H) : a_run d MJ2_ensureCapacityInternal 12 [a0, a1, some (.int x)] st h = a_run d MJ2_ensureCapacityInternal 13 [a0, a1, some (.int x)] (.int x :: st) h := w_ldIn dJ2_ensureCapacityInternal_12 rfl
theorem w_J2_ensureCapacityInternal_13 (d : Nat) (L : a_L) (x y : Int32) (st : List Value) (h : a_H) : a_run d MJ2_ensureCapacityInternal 13 L (.int y :: .int x :: st) h = a_run d MJ2_ensureCapacityInternal 14 L (.int (x - y) :: st) h := w_isub dJ2_ensureCapacityInternal_13
theorem w_J2_ensureCapacityInternal_14 (d : Nat) (L : a_L) (x : Int32) (st : List Value) (h : a_H) : a_run d MJ2_ensureCapacityInternal 14 L (.int x :: st) h = if 0 < x then a_run d MJ2_ensureCapacityInternal 17 L st h else a_run d MJ2_ensureCapacityInternal 38 L st h := w_if_le dJ2_ensureCapacityInternal_14 rfl
theorem w_J2_ensureCapacityInternal_17 (d : Nat) (a1 a2 : Option Value) (x : Nat) (st : List Value) (h : a_H) : a_run d MJ2_ensureCapacityInternal 17 [some (.ref x), a1, a2] st h = a_run d MJ2_ensureCapacityInternal 18 [some (.ref x), a1, a2] (.ref x :: st) h := w_ldAn dJ2_ensureCapacityInternal_17 rfl
theorem w_J2_ensureCapacityInternal_18 (d : Nat) (a1 a2 : Option Value) (x : Nat) (st : List Value) (h : a_H) : a_run d MJ2_ensureCapacityInternal 18 [some (.ref x), a1, a2] st h = a_run d MJ2_ensureCapacityInternal 19 [some (.ref x), a1, a2] (.ref x :: st) h := w_ldAn dJ2_ensureCapacityInternal_18 rfl
theorem w_J2_ensureCapacityInternal_19 (d : Nat) (L : a_L) (i : Nat) (st : List Value) (h : a_H) : a_run d MJ2_ensureCapacityInternal 19 L (.ref i :: st) h = (a_gf h i 0 [8]).bind fun v => a_run d MJ2_ensureCapacityInternal 22 L (v :: st) h := w_getf dJ2_ensureCapacityInternal_19 rfl
theorem w_J2_ensureCapacityInternal_22 (d : Nat) (a1 a2 : Option Value) (x : Nat) (st : List Value) (h : a_H) : a_run d MJ2_ensureCapacityInternal 22 [some (.ref x), a1, a2] st h = a_run d MJ2_ensureCapacityInternal 23 [some (.ref x), a1, a2] (.ref x :: st) h := w_ldAn dJ2_ensureCapacityInternal_22 rfl
theorem w_J2_ensureCapacityInternal_23 (d : Nat) (a0 a2 : Option Value) (x : Int32) (st : List Value) (h : a_H) : a_run d MJ2_ensureCapacityInternal 23 [a0, some (.int x), a2] st h = a_run d MJ2_ensureCapacityInternal 24 [a0, some (.int x), a2] (.int x :: st) h := w_ldIn dJ2_ensureCapacityInternal_23 rfl
theorem w_J2_ensureCapacityInternal_24 (d : Nat) (L : a_L) (i : Nat) (v1 : Value) (st : List Value) (h : a_H) (hk : a_kls h i = some 8) (hc : a_cat st ≤ 8) : a_run d MJ2_ensureCapacityInternal 24 L (v1 :: .ref i :: st) h = a_cont d MJ2_ensureCapacityInternal (a_bk MJ2_ensureCapacityInternal 24 L st (a_call d MJ2_newCapacity [.ref i, v1] h)) := w_callP (as := [.ref i, v1]) dJ2_ensureCapacityInternal_24 rfl rfl rfl hc (a_rcv_of hk rfl)
theorem w_J2_ensureCapacityInternal_27 (d : Nat) (a1 a2 : Option Value) (x : Nat) (st : List Value) (h : a_H) : a_run d MJ2_ensureCapacityInternal 27 [some (.ref x), a1, a2] st h = a_run d MJ2_ensureCapacityInternal 28 [some (.ref x), a1, a2] (.ref x :: st) h := w_ldAn dJ2_ensureCapacityInternal_27 rfl
theorem w_J2_ensureCapacityInternal_28 (d : Nat) (L : a_L) (i : Nat) (st : List Value) (h : a_H) : a_run d MJ2_ensureCapacityInternal 28 L (.ref i :: st) h = (a_gf h i 1 [8]).bind fun v => a_run d MJ2_ensureCapacityInternal 31 L (v :: st) h := w_getf dJ2_ensureCapacityInternal_28 rfl
theorem w_J2_ensureCapacityInternal_31 (d : Nat) (L : a_L) (x y : Int32) (st : List Value) (h : a_H) : a_run d MJ2_ensureCapacityInternal 31 L (.int y :: .int x :: st) h = a_run d MJ2_ensureCapacityInternal 32 L (.int (x <<< (y &&& 31)) :: st) h := w_ishl dJ2_ensureCapacityInternal_31
theorem w_J2_ensureCapacityInternal_32 (d : Nat) (L : a_L) (v0 v1 : Value) (st : List Value) (h : a_H) (hc : a_cat st ≤ 8) : a_run d MJ2_ensureCapacityInternal 32 L (v1 :: v0 :: st) h = a_cont d MJ2_ensureCapacityInternal (a_bk MJ2_ensureCapacityInternal 32 L st (a_call d MJ13_copyOf_3 [v0, v1] h)) := w_callS (as := [v0, v1]) dJ2_ensureCapacityInternal_32 rfl rfl rfl hc
theorem w_J2_ensureCapacityInternal_35 (d : Nat) (L : a_L) (x : Nat) (i : Nat) (st : List Value) (h : a_H) : a_run d MJ2_ensureCapacityInternal 35 L (.ref x :: .ref i :: st) h = (a_pf h i 0 [8] (.ref x)).bind fun h' => a_run d MJ2_ensureCapacityInternal 38 L st h' := w_putf dJ2_ensureCapacityInternal_35 rfl rfl (Or.inl rfl) rfl rfl
theorem w_J2_ensureCapacityInternal_35N (d : Nat) (L : a_L) (i : Nat) (st : List Value) (h : a_H) : a_run d MJ2_ensureCapacityInternal 35 L (.null :: .ref i :: st) h = (a_pf h i 0 [8] (.null)).bind fun h' => a_run d MJ2_ensureCapacityInternal 38 L st h' := w_putf dJ2_ensureCapacityInternal_35 rfl rfl (Or.inl rfl) rfl rfl
theorem w_J2_ensureCapacityInternal_38 (d : Nat) (L : a_L) (h : a_H) : a_run d MJ2_ensureCapacityInternal 38 L [] h = some (.inl none, h) := w_vret dJ2_ensureCapacityInternal_38 rfl
theorem e_J2_newCapacity (d : Nat) (x0 : Nat) (x1 : Int32) (h : a_H) : a_call (d + 1) MJ2_newCapacity [.ref x0, .int x1] h = a_run d MJ2_newCapacity 0 [some (.ref x0), some (.int x1), none, none, none, none] [] h := a_call_run rfl (Nat.le_of_ble_eq_true rfl) rfl
theorem w_J2_newCapacity_0 (d : Nat) (a1 a2 a3 a4 a5 : Option Value) (x : Nat) (st : List Value) (h : a_H) : a_run d MJ2_newCapacity 0 [some (.ref x), a1, a2, a3, a4, a5] st h = a_run d MJ2_newCapacity 1 [some (.ref x), a1, a2, a3, a4, a5] (.ref x :: st) h := w_ldAn dJ2_newCapacity_0 rfl
theorem w_J2_newCapacity_1 (d : Nat) (L : a_L) (i : Nat) (st : List Value) (h : a_H) : a_run d MJ2_newCapacity 1 L (.ref i :: st) h = (a_gf h i 0 [8]).bind fun v => a_run d MJ2_newCapacity 4 L (v :: st) h := w_getf dJ2_newCapacity_1 rfl
theorem w_J2_newCapacity_4 (d : Nat) (L : a_L) (i : Nat) (st : List Value) (h : a_H) : a_run d MJ2_newCapacity 4 L (.ref i :: st) h = (a_len h i).bind fun v => a_run d MJ2_newCapacity 5 L (v :: st) h := w_alen dJ2_newCapacity_4
theorem w_J2_newCapacity_5 (d : Nat) (a0 a1 a2 a3 a4 a5 : Option Value) (x : Int32) (st : List Value) (h : a_H) : a_run d MJ2_newCapacity 5 [a0, a1, a2, a3, a4, a5] (.int x :: st) h = a_run d MJ2_newCapacity 6 [a0, a1, some (.int x), a3, a4, a5] st h := w_stIn dJ2_newCapacity_5 (Nat.le_of_ble_eq_true rfl) rfl
theorem w_J2_newCapacity_6 (d : Nat) (a0 a2 a3 a4 a5 : Option Value) (x : Int32) (st : List Value) (h : a_H) : a_run d MJ2_newCapacity 6 [a0, some (.int x), a2, a3, a4, a5] st h = a_run d MJ2_newCapacity 7 [a0, some (.int x), a2, a3, a4, a5] (.int x :: st) h := w_ldIn dJ2_newCapacity_6 rfl
theorem w_J2_newCapacity_7 (d : Nat) (a1 a2 a3 a4 a5 : Option Value) (x : Nat) (st : List Value) (h : a_H) : a_run d MJ2_newCapacity 7 [some (.ref x), a1, a2, a3, a4, a5] st h = a_run d MJ2_newCapacity 8 [some (.ref x), a1, a2, a3, a4, a5] (.ref x :: st) h := w_ldAn dJ2_newCapacity_7 rfl
theorem w_J2_newCapacity_8 (d : Nat) (L : a_L) (i : Nat) (st : List Value) (h : a_H) : a_run d MJ2_newCapacity 8 L (.ref i :: st) h = (a_gf h i 1 [8]).bind fun v => a_run d MJ2_newCapacity 11 L (v :: st) h := w_getf dJ2_newCapacity_8 rfl
theorem w_J2_newCapacity_11 (d : Nat) (L : a_L) (x y : Int32) (st : List Value) (h : a_H) : a_run d MJ2_newCapacity 11 L (.int y :: .int x :: st) h = a_run d MJ2_newCapacity 12 L (.int (x <<< (y &&& 31)) :: st) h := w_ishl dJ2_newCapacity_11
theorem w_J2_newCapacity_12 (d : Nat) (a0 a1 a2 a3 a4 a5 : Option Value) (x : Int32) (st : List Value) (h : a_H) : a_run d MJ2_newCapacity 12 [a0, a1, a2, a3, a4, a5] (.int x :: st) h = a_run d MJ2_newCapacity 13 [a0, a1, a2, some (.int x), a4, a5] st h := w_stIn dJ2_newCapacity_12 (Nat.le_of_ble_eq_true rfl) rfl
theorem w_J2_newCapacity_13 (d : Nat) (a0 a1 a2 a4 a5 : Option Value) (x : Int32) (st : List Value) (h : a_H) : a_run d MJ2_newCapacity 13 [a0, a1, a2, some (.int x), a4, a5] st h = a_run d MJ2_newCapacity 14 [a0, a1, a2, some (.int x), a4, a5] (.int x :: st) h := w_ldIn dJ2_newCapacity_13 rfl
theorem w_J2_newCapacity_14 (d : Nat) (a0 a1 a3 a4 a5 : Option Value) (x : Int32) (st : List Value) (h : a_H) : a_run d MJ2_newCapacity 14 [a0, a1, some (.int x), a3, a4, a5] st h = a_run d MJ2_newCapacity 15 [a0, a1, some (.int x), a3, a4, a5] (.int x :: st) h := w_ldIn dJ2_newCapacity_14 rfl
theorem w_J2_newCapacity_15 (d : Nat) (L : a_L) (x y : Int32) (st : List Value) (h : a_H) : a_run d MJ2_newCapacity 15 L (.int y :: .int x :: st) h = a_run d MJ2_newCapacity 16 L (.int (x - y) :: st) h := w_isub dJ2_newCapacity_15
theorem w_J2_newCapacity_16 (d : Nat) (a0 a1 a2 a3 a4 a5 : Option Value) (x : Int32) (st : List Value) (h : a_H) : a_run d MJ2_newCapacity 16 [a0, a1, a2, a3, a4, a5] (.int x :: st) h = a_run d MJ2_newCapacity 18 [a0, a1, a2, a3, some (.int x), a5] st h := w_stI dJ2_newCapacity_16 (Nat.le_of_ble_eq_true rfl) rfl
theorem w_J2_newCapacity_18 (d : Nat) (a0 a1 a3 a4 a5 : Option Value) (x : Int32) (st : List Value) (h : a_H) : a_run d MJ2_newCapacity 18 [a0, a1, some (.int x), a3, a4, a5] st h = a_run d MJ2_newCapacity 19 [a0, a1, some (.int x), a3, a4, a5] (.int x :: st) h := w_ldIn dJ2_newCapacity_18 rfl
theorem w_J2_newCapacity_19 (d : Nat) (a0 a1 a2 a3 a5 : Option Value) (x : Int32) (st : List Value) (h : a_H) : a_run d MJ2_newCapacity 19 [a0, a1, a2, a3, some (.int x), a5] st h = a_run d MJ2_newCapacity 21 [a0, a1, a2, a3, some (.int x), a5] (.int x :: st) h := w_ldI dJ2_newCapacity_19 rfl
theorem w_J2_newCapacity_21 (d : Nat) (a0 a1 a3 a4 a5 : Option Value) (x : Int32) (st : List Value) (h : a_H) : a_run d MJ2_newCapacity 21 [a0, a1, some (.int x), a3, a4, a5] st h = a_run d MJ2_newCapacity 22 [a0, a1, some (.int x), a3, a4, a5] (.int x :: st) h := w_ldIn dJ2_newCapacity_21 rfl
theorem w_J2_newCapacity_22 (d : Nat) (L : a_L) (st : List Value) (h : a_H) : a_run d MJ2_newCapacity 22 L st h = a_run d MJ2_newCapacity 23 L (.int (nI 2) :: st) h := w_iconst dJ2_newCapacity_22 rfl
theorem w_J2_newCapacity_23 (d : Nat) (a1 a2 a3 a4 a5 : Option Value) (x : Nat) (st : List Value) (h : a_H) : a_run d MJ2_newCapacity 23 [some (.ref x), a1, a2, a3, a4, a5] st h = a_run d MJ2_newCapacity 24 [some (.ref x), a1, a2, a3, a4, a5] (.ref x :: st) h := w_ldAn dJ2_newCapacity_23 rfl
theorem w_J2_newCapacity_24 (d : Nat) (L : a_L) (i : Nat) (st : List Value) (h : a_H) : a_run d MJ2_newCapacity 24 L (.ref i :: st) h = (a_gf h i 1 [8]).bind fun v => a_run d MJ2_newCapacity 27 L (v :: st) h := w_getf dJ2_newCapacity_24 rfl
theorem w_J2_newCapacity_27 (d : Nat) (L : a_L) (x y : Int32) (st : List Value) (h : a_H) : a_run d MJ2_newCapacity 27 L (.int y :: .int x :: st) h = a_run d MJ2_newCapacity 28 L (.int (x <<< (y &&& 31)) :: st) h := w_ishl dJ2_newCapacity_27
theorem w_J2_newCapacity_28 (d : Nat) (L : a_L) (x y : Int32) (st : List Value) (h : a_H) : a_run d MJ2_newCapacity 28 L (.int y :: .int x :: st) h = a_run d MJ2_newCapacity 29 L (.int (x + y) :: st) h := w_iadd dJ2_newCapacity_28
theorem w_J2_newCapacity_29 (d : Nat) (L : a_L) (v0 v1 v2 : Value) (st : List Value) (h : a_H) (hc : a_cat st ≤ 8) : a_run d MJ2_newCapacity 29 L (v2 :: v1 :: v0 :: st) h = a_cont d MJ2_newCapacity (a_bk MJ2_newCapacity 29 L st (a_call d MJ16_newLength [v0, v1, v2] h)) := w_callS (as := [v0, v1, v2]) dJ2_newCapacity_29 rfl rfl rfl hc
theorem w_J2_newCapacity_32 (d : Nat) (a0 a1 a2 a3 a4 a5 : Option Value) (x : Int32) (st : List Value) (h : a_H) : a_run d MJ2_newCapacity 32 [a0, a1, a2, a3, a4, a5] (.int x :: st) h = a_run d MJ2_newCapacity 34 [a0, a1, a2, a3, a4, some (.int x)] st h := w_stI dJ2_newCapacity_32 (Nat.le_of_ble_eq_true rfl) rfl
theorem w_J2_newCapacity_34 (d : Nat) (a0 a1 a2 a3 a4 : Option Value) (x : Int32) (st : List Value) (h : a_H) : a_run d MJ2_newCapacity 34 [a0, a1, a2, a3, a4, some (.int x)] st h = a_run d MJ2_newCapacity 36 [a0, a1, a2, a3, a4, some (.int x)] (.int x :: st) h := w_ldI dJ2_newCapacity_34 rfl
theorem w_J2_newCapacity_36 (d : Nat) (L : a_L) (st : List Value) (h : a_H) : a_run d MJ2_newCapacity 36 L st h = a_run d MJ2_newCapacity 38 L (.int (nI 2147483647) :: st) h := w_ldc dJ2_newCapacity_36 rfl
theorem w_J2_newCapacity_38 (d : Nat) (L : a_L) (x y : Int32) (st : List Value) (h : a_H) : a_run d MJ2_newCapacity 38 L (.int y :: .int x :: st) h = if x = y then a_run d MJ2_newCapacity 41 L st h else a_run d MJ2_newCapacity 51 L st h := w_icmp_ne dJ2_newCapacity_38 rfl
theorem w_J2_newCapacity_44 (d : Nat) (L : a_L) (x : Nat) (st : List Value) (h : a_H) : a_run d MJ2_newCapacity 44 L (.ref x :: st) h = a_run d MJ2_newCapacity 45 L (.ref x :: .ref x :: st) h := w_dup dJ2_newCapacity_44
theorem w_J2_newCapacity_44I (d : Nat) (L : a_L) (x : Int32) (st : List Value) (h : a_H) : a_run d MJ2_newCapacity 44 L (.int x :: st) h = a_run d MJ2_newCapacity 45 L (.int x :: .int x :: st) h := w_dupI dJ2_newCapacity_44
theorem w_J2_newCapacity_50 (d : Nat) (L : a_L) (x : Nat) (st : List Value) (h : a_H) : a_run d MJ2_newCapacity 50 L (.ref x :: st) h = a_cont d MJ2_newCapacity (a_thr MJ2_newCapacity 50 L x h) := w_athrow dJ2_newCapacity_50
theorem w_J2_newCapacity_51 (d : Nat) (a0 a1 a2 a3 a4 : Option Value) (x : Int32) (st : List Value) (h : a_H) : a_run d MJ2_newCapacity 51 [a0, a1, a2, a3, a4, some (.int x)] st h = a_run d MJ2_newCapacity 53 [a0, a1, a2, a3, a4, some (.int x)] (.int x :: st) h := w_ldI dJ2_newCapacity_51 rfl
theorem w_J2_newCapacity_53 (d : Nat) (a1 a2 a3 a4 a5 : Option Value) (x : Nat) (st : List Value) (h : a_H) : a_run d MJ2_newCapacity 53 [some (.ref x), a1, a2, a3, a4, a5] st h = a_run d MJ2_newCapacity 54 [some (.ref x), a1, a2, a3, a4, a5] (.ref x :: st) h := w_ldAn dJ2_newCapacity_53 rfl
theorem w_J2_newCapacity_54 (d : Nat) (L : a_L) (i : Nat) (st : List Value) (h : a_H) : a_run d MJ2_newCapacity 54 L (.ref i :: st) h = (a_gf h i 1 [8]).bind fun v => a_run d MJ2_newCapacity 57 L (v :: st) h := w_getf dJ2_newCapacity_54 rfl
theorem w_J2_newCapacity_57 (d : Nat) (L : a_L) (x y : Int32) (st : List Value) (h : a_H) : a_run d MJ2_newCapacity 57 L (.int y :: .int x :: st) h = a_run d MJ2_newCapacity 58 L (.int (x >>> (y &&& 31)) :: st) h := w_ishr dJ2_newCapacity_57
theorem w_J2_newCapacity_58 (d : Nat) (L : a_L) (x : Int32) (h : a_H) : a_run d MJ2_newCapacity 58 L [.int x] h = some (.inl (some (.int x)), h) := w_iret dJ2_newCapacity_58 (w_retI rfl)
theorem e_J2_isLatin1 (d : Nat) (x0 : Nat) (h : a_H) : a_call (d + 1) MJ2_isLatin1 [.ref x0] h = a_run d MJ2_isLatin1 0 [some (.ref x0)] [] h := a_call_run rfl (Nat.le_of_ble_eq_true rfl) rfl
theorem w_J2_isLatin1_0 (d : Nat) (L : a_L) (st : List Value) (h : a_H) : a_run d MJ2_isLatin1 0 L st h = a_run d MJ2_isLatin1 3 L (.int 1 :: st) h := w_gst dJ2_isLatin1_0 rfl
theorem w_J2_isLatin1_3 (d : Nat) (L : a_L) (x : Int32) (st : List Value) (h : a_H) : a_run d MJ2_isLatin1 3 L (.int x :: st) h = if x = 0 then a_run d MJ2_isLatin1 17 L st h else a_run d MJ2_isLatin1 6 L st h := w_if_eq dJ2_isLatin1_3 rfl
theorem w_J2_isLatin1_6 (d : Nat) (x : Nat) (st : List Value) (h : a_H) : a_run d MJ2_isLatin1 6 [some (.ref x)] st h = a_run d MJ2_isLatin1 7 [some (.ref x)] (.ref x :: st) h := w_ldAn dJ2_isLatin1_6 rfl
theorem w_J2_isLatin1_7 (d : Nat) (L : a_L) (i : Nat) (st : List Value) (h : a_H) : a_run d MJ2_isLatin1 7 L (.ref i :: st) h = (a_gf h i 1 [8]).bind fun v => a_run d MJ2_isLatin1 10 L (v :: st) h := w_getf dJ2_isLatin1_7 rfl
theorem w_J2_isLatin1_10 (d : Nat) (L : a_L) (x : Int32) (st : List Value) (h : a_H) : a_run d MJ2_isLatin1 10 L (.int x :: st) h = if x = 0 then a_run d MJ2_isLatin1 13 L st h else a_run d MJ2_isLatin1 17 L st h := w_if_ne dJ2_isLatin1_10 rfl
theorem w_J2_isLatin1_13 (d : Nat) (L : a_L) (st : List Value) (h : a_H) : a_run d MJ2_isLatin1 13 L st h = a_run d MJ2_isLatin1 14 L (.int (nI 1) :: st) h := w_iconst dJ2_isLatin1_13 rfl
theorem w_J2_isLatin1_14 (d : Nat) (L : a_L) (st : List Value) (h : a_H) : a_run d MJ2_isLatin1 14 L st h = a_run d MJ2_isLatin1 18 L st h := w_goto dJ2_isLatin1_14 rfl
theorem w_J2_isLatin1_17 (d : Nat) (L : a_L) (st : List Value) (h : a_H) : a_run d MJ2_isLatin1 17 L st h = a_run d MJ2_isLatin1 18 L (.int (nI 0) :: st) h := w_iconst dJ2_isLatin1_17 rfl
theorem w_J2_isLatin1_18 (d : Nat) (L : a_L) (x : Int32) (h : a_H) (hx : x = 0 ∨ x = 1) : a_run d MJ2_isLatin1 18 L [.int x] h = some (.inl (some (.int x)), h) := w_iret dJ2_isLatin1_18 (w_retZ rfl hx)
theorem e_J2_append (d : Nat) (x0 : Nat) (x1 : Nat) (h : a_H) : a_call (d + 1) MJ2_append [.ref x0, .ref x1] h = a_run d MJ2_append 0 [some (.ref x0), some (.ref x1), none] [] h := a_call_run rfl (Nat.le_of_ble_eq_true rfl) rfl
theorem w_J2_append_0 (d : Nat) (a0 a2 : Option Value) (x : Nat) (st : List Value) (h : a_H) : a_run d MJ2_append 0 [a0, some (.ref x), a2] st h = a_run d MJ2_append 1 [a0, some (.ref x), a2] (.ref x :: st) h := w_ldAn dJ2_append_0 rfl
theorem w_J2_append_0N (d : Nat) (a0 a2 : Option Value) (st : List Value) (h : a_H) : a_run d MJ2_append 0 [a0, some .null, a2] st h = a_run d MJ2_append 1 [a0, some .null, a2] (.null :: st) h := w_ldNn dJ2_append_0 rfl
theorem w_J2_append_1 (d : Nat) (L : a_L) (x : Nat) (st : List Value) (h : a_H) (hx : x < 600 ∨ 1024 ≤ x) : a_run d MJ2_append 1 L (.ref x :: st) h = a_run d MJ2_append 9 L st h := w_ifnonnull_r dJ2_append_1 rfl hx
theorem w_J2_append_1N (d : Nat) (L : a_L) (st : List Value) (h : a_H) : a_run d MJ2_append 1 L (.null :: st) h = a_run d MJ2_append 4 L st h := w_ifnonnull_n (tgt := 9) dJ2_append_1 rfl
theorem w_J2_append_4 (d : Nat) (a1 a2 : Option Value) (x : Nat) (st : List Value) (h : a_H) : a_run d MJ2_append 4 [some (.ref x), a1, a2] st h = a_run d MJ2_append 5 [some (.ref x), a1, a2] (.ref x :: st) h := w_ldAn dJ2_append_4 rfl
theorem w_J2_append_8 (d : Nat) (L : a_L) (x : Nat) (h : a_H) : a_run d MJ2_append 8 L [.ref x] h = some (.inl (some (.ref x)), h) := w_aret dJ2_append_8 rfl
theorem w_J2_append_8N (d : Nat) (L : a_L) (h : a_H) : a_run d MJ2_append 8 L [.null] h = some (.inl (some .null), h) := w_aretN dJ2_append_8 rfl
theorem w_J2_append_9 (d : Nat) (a0 a2 : Option Value) (x : Nat) (st : List Value) (h : a_H) : a_run d MJ2_append 9 [a0, some (.ref x), a2] st h = a_run d MJ2_append 10 [a0, some (.ref x), a2] (.ref x :: st) h := w_ldAn dJ2_append_9 rfl
theorem w_J2_append_9N (d : Nat) (a0 a2 : Option Value) (st : List Value) (h : a_H) : a_run d MJ2_append 9 [a0, some .null, a2] st h = a_run d MJ2_append 10 [a0, some .null, a2] (.null :: st) h := w_ldNn dJ2_append_9 rfl
theorem w_J2_append_10 (d : Nat) (L : a_L) (i : Nat) (st : List Value) (h : a_H) (hk : a_kls h i = some 15) (hc : a_cat st ≤ 8) : a_run d MJ2_append 10 L (.ref i :: st) h = a_cont d MJ2_append (a_bk MJ2_append 10 L st (a_call d MJ4_length [.ref i] h)) := w_callV (as := [.ref i]) dJ2_append_10 rfl rfl rfl hc (a_rcv_of hk rfl)
theorem w_J2_append_13 (d : Nat) (a0 a1 a2 : Option Value) (x : Int32) (st : List Value) (h : a_H) : a_run d MJ2_append 13 [a0, a1, a2] (.int x :: st) h = a_run d MJ2_append 14 [a0, a1, some (.int x)] st h := w_stIn dJ2_append_13 (Nat.le_of_ble_eq_true rfl) rfl
theorem w_J2_append_14 (d : Nat) (a1 a2 : Option Value) (x : Nat) (st : List Value) (h : a_H) : a_run d MJ2_append 14 [some (.ref x), a1, a2] st h = a_run d MJ2_append 15 [some (.ref x), a1, a2] (.ref x :: st) h := w_ldAn dJ2_append_14 rfl
theorem w_J2_append_15 (d : Nat) (a1 a2 : Option Value) (x : Nat) (st : List Value) (h : a_H) : a_run d MJ2_append 15 [some (.ref x), a1, a2] st h = a_run d MJ2_append 16 [some (.ref x), a1, a2] (.ref x :: st) h := w_ldAn dJ2_append_15 rfl
theorem w_J2_append_16 (d : Nat) (L : a_L) (i : Nat) (st : List Value) (h : a_H) : a_run d MJ2_append 16 L (.ref i :: st) h = (a_gf h i 3 [8]).bind fun v => a_run d MJ2_append 19 L (v :: st) h := w_getf dJ2_append_16 rfl
theorem w_J2_append_19 (d : Nat) (a0 a1 : Option Value) (x : Int32) (st : List Value) (h : a_H) : a_run d MJ2_append 19 [a0, a1, some (.int x)] st h = a_run d MJ2_append 20 [a0, a1, some (.int x)] (.int x :: st) h := w_ldIn dJ2_append_19 rfl
theorem w_J2_append_20 (d : Nat) (L : a_L) (x y : Int32) (st : List Value) (h : a_H) : a_run d MJ2_append 20 L (.int y :: .int x :: st) h = a_run d MJ2_append 21 L (.int (x + y) :: st) h := w_iadd dJ2_append_20
theorem w_J2_append_21 (d : Nat) (L : a_L) (i : Nat) (v1 : Value) (st : List Value) (h : a_H) (hk : a_kls h i = some 8) (hc : a_cat st ≤ 8) : a_run d MJ2_append 21 L (v1 :: .ref i :: st) h = a_cont d MJ2_append (a_bk MJ2_append 21 L st (a_call d MJ2_ensureCapacityInternal [.ref i, v1] h)) := w_callP (as := [.ref i, v1]) dJ2_append_21 rfl rfl rfl hc (a_rcv_of hk rfl)
theorem w_J2_append_24 (d : Nat) (a1 a2 : Option Value) (x : Nat) (st : List Value) (h : a_H) : a_run d MJ2_append 24 [some (.ref x), a1, a2] st h = a_run d MJ2_append 25 [some (.ref x), a1, a2] (.ref x :: st) h := w_ldAn dJ2_append_24 rfl
theorem w_J2_append_25 (d : Nat) (a1 a2 : Option Value) (x : Nat) (st : List Value) (h : a_H) : a_run d MJ2_append 25 [some (.ref x), a1, a2] st h = a_run d MJ2_append 26 [some (.ref x), a1, a2] (.ref x :: st) h := w_ldAn dJ2_append_25 rfl
theorem w_J2_append_26 (d : Nat) (L : a_L) (i : Nat) (st : List Value) (h : a_H) : a_run d MJ2_append 26 L (.ref i :: st) h = (a_gf h i 3 [8]).bind fun v => a_run d MJ2_append 29 L (v :: st) h := w_getf dJ2_append_26 rfl
theorem w_J2_append_29 (d : Nat) (a0 a2 : Option Value) (x : Nat) (st : List Value) (h : a_H) : a_run d MJ2_append 29 [a0, some (.ref x), a2] st h = a_run d MJ2_append 30 [a0, some (.ref x), a2] (.ref x :: st) h := w_ldAn dJ2_append_29 rfl
theorem w_J2_append_29N (d : Nat) (a0 a2 : Option Value) (st : List Value) (h : a_H) : a_run d MJ2_append 29 [a0, some .null, a2] st h = a_run d MJ2_append 30 [a0, some .null, a2] (.null :: st) h := w_ldNn dJ2_append_29 rfl
theorem w_J2_append_33 (d : Nat) (a1 a2 : Option Value) (x : Nat) (st : List Value) (h : a_H) : a_run d MJ2_append 33 [some (.ref x), a1, a2] st h = a_run d MJ2_append 34 [some (.ref x), a1, a2] (.ref x :: st) h := w_ldAn dJ2_append_33 rfl
theorem w_J2_append_34 (d : Nat) (L : a_L) (x : Nat) (st : List Value) (h : a_H) : a_run d MJ2_append 34 L (.ref x :: st) h = a_run d MJ2_append 35 L (.ref x :: .ref x :: st) h := w_dup dJ2_append_34
theorem w_J2_append_34I (d : Nat) (L : a_L) (x : Int32) (st : List Value) (h : a_H) : a_run d MJ2_append 34 L (.int x :: st) h = a_run d MJ2_append 35 L (.int x :: .int x :: st) h := w_dupI dJ2_append_34
theorem w_J2_append_35 (d : Nat) (L : a_L) (i : Nat) (st : List Value) (h : a_H) : a_run d MJ2_append 35 L (.ref i :: st) h = (a_gf h i 3 [8]).bind fun v => a_run d MJ2_append 38 L (v :: st) h := w_getf dJ2_append_35 rfl
theorem w_J2_append_38 (d : Nat) (a0 a1 : Option Value) (x : Int32) (st : List Value) (h : a_H) : a_run d MJ2_append 38 [a0, a1, some (.int x)] st h = a_run d MJ2_append 39 [a0, a1, some (.int x)] (.int x :: st) h := w_ldIn dJ2_append_38 rfl
theorem w_J2_append_39 (d : Nat) (L : a_L) (x y : Int32) (st : List Value) (h : a_H) : a_run d MJ2_append 39 L (.int y :: .int x :: st) h = a_run d MJ2_append 40 L (.int (x + y) :: st) h := w_iadd dJ2_append_39
theorem w_J2_append_40 (d : Nat) (L : a_L) (x : Int32) (i : Nat) (st : List Value) (h : a_H) : a_run d MJ2_append 40 L (.int x :: .ref i :: st) h = (a_pf h i 3 [8] (.int x)).bind fun h' => a_run d MJ2_append 43 L st h' := w_putf dJ2_append_40 rfl rfl (Or.inl rfl) rfl rfl
theorem w_J2_append_43 (d : Nat) (a1 a2 : Option Value) (x : Nat) (st : List Value) (h : a_H) : a_run d MJ2_append 43 [some (.ref x), a1, a2] st h = a_run d MJ2_append 44 [some (.ref x), a1, a2] (.ref x :: st) h := w_ldAn dJ2_append_43 rfl
theorem w_J2_append_44 (d : Nat) (L : a_L) (x : Nat) (h : a_H) : a_run d MJ2_append 44 L [.ref x] h = some (.inl (some (.ref x)), h) := w_aret dJ2_append_44 rfl
theorem w_J2_append_44N (d : Nat) (L : a_L) (h : a_H) : a_run d MJ2_append 44 L [.null] h = some (.inl (some .null), h) := w_aretN dJ2_append_44 rfl
theorem e_J2_appendNull (d : Nat) (x0 : Nat) (h : a_H) : a_call (d + 1) MJ2_appendNull [.ref x0] h = a_run d MJ2_appendNull 0 [some (.ref x0), none, none] [] h := a_call_run rfl (Nat.le_of_ble_eq_true rfl) rfl
theorem w_J2_appendNull_0 (d : Nat) (a1 a2 : Option Value) (x : Nat) (st : List Value) (h : a_H) : a_run d MJ2_appendNull 0 [some (.ref x), a1, a2] st h = a_run d MJ2_appendNull 1 [some (.ref x), a1, a2] (.ref x :: st) h := w_ldAn dJ2_appendNull_0 rfl
theorem w_J2_appendNull_1 (d : Nat) (a1 a2 : Option Value) (x : Nat) (st : List Value) (h : a_H) : a_run d MJ2_appendNull 1 [some (.ref x), a1, a2] st h = a_run d MJ2_appendNull 2 [some (.ref x), a1, a2] (.ref x :: st) h := w_ldAn dJ2_appendNull_1 rfl
theorem w_J2_appendNull_2 (d : Nat) (L : a_L) (i : Nat) (st : List Value) (h : a_H) : a_run d MJ2_appendNull 2 L (.ref i :: st) h = (a_gf h i 3 [8]).bind fun v => a_run d MJ2_appendNull 5 L (v :: st) h := w_getf dJ2_appendNull_2 rfl
theorem w_J2_appendNull_5 (d : Nat) (L : a_L) (st : List Value) (h : a_H) : a_run d MJ2_appendNull 5 L st h = a_run d MJ2_appendNull 6 L (.int (nI 4) :: st) h := w_iconst dJ2_appendNull_5 rfl
theorem w_J2_appendNull_6 (d : Nat) (L : a_L) (x y : Int32) (st : List Value) (h : a_H) : a_run d MJ2_appendNull 6 L (.int y :: .int x :: st) h = a_run d MJ2_appendNull 7 L (.int (x + y) :: st) h := w_iadd dJ2_appendNull_6
theorem w_J2_appendNull_7 (d : Nat) (L : a_L) (i : Nat) (v1 : Value) (st : List Value) (h : a_H) (hk : a_kls h i = some 8) (hc : a_cat st ≤ 8) : a_run d MJ2_appendNull 7 L (v1 :: .ref i :: st) h = a_cont d MJ2_appendNull (a_bk MJ2_appendNull 7 L st (a_call d MJ2_ensureCapacityInternal [.ref i, v1] h)) := w_callP (as := [.ref i, v1]) dJ2_appendNull_7 rfl rfl rfl hc (a_rcv_of hk rfl)
theorem w_J2_appendNull_10 (d : Nat) (a1 a2 : Option Value) (x : Nat) (st : List Value) (h : a_H) : a_run d MJ2_appendNull 10 [some (.ref x), a1, a2] st h = a_run d MJ2_appendNull 11 [some (.ref x), a1, a2] (.ref x :: st) h := w_ldAn dJ2_appendNull_10 rfl
theorem w_J2_appendNull_11 (d : Nat) (L : a_L) (i : Nat) (st : List Value) (h : a_H) : a_run d MJ2_appendNull 11 L (.ref i :: st) h = (a_gf h i 3 [8]).bind fun v => a_run d MJ2_appendNull 14 L (v :: st) h := w_getf dJ2_appendNull_11 rfl
theorem w_J2_appendNull_14 (d : Nat) (a0 a1 a2 : Option Value) (x : Int32) (st : List Value) (h : a_H) : a_run d MJ2_appendNull 14 [a0, a1, a2] (.int x :: st) h = a_run d MJ2_appendNull 15 [a0, some (.int x), a2] st h := w_stIn dJ2_appendNull_14 (Nat.le_of_ble_eq_true rfl) rfl
theorem w_J2_appendNull_15 (d : Nat) (a1 a2 : Option Value) (x : Nat) (st : List Value) (h : a_H) : a_run d MJ2_appendNull 15 [some (.ref x), a1, a2] st h = a_run d MJ2_appendNull 16 [some (.ref x), a1, a2] (.ref x :: st) h := w_ldAn dJ2_appendNull_15 rfl
theorem w_J2_appendNull_16 (d : Nat) (L : a_L) (i : Nat) (st : List Value) (h : a_H) : a_run d MJ2_appendNull 16 L (.ref i :: st) h = (a_gf h i 0 [8]).bind fun v => a_run d MJ2_appendNull 19 L (v :: st) h := w_getf dJ2_appendNull_16 rfl
theorem w_J2_appendNull_19 (d : Nat) (a0 a1 a2 : Option Value) (x : Nat) (st : List Value) (h : a_H) : a_run d MJ2_appendNull 19 [a0, a1, a2] (.ref x :: st) h = a_run d MJ2_appendNull 20 [a0, a1, some (.ref x)] st h := w_stAn dJ2_appendNull_19 (Nat.le_of_ble_eq_true rfl) rfl
theorem w_J2_appendNull_19N (d : Nat) (a0 a1 a2 : Option Value) (st : List Value) (h : a_H) : a_run d MJ2_appendNull 19 [a0, a1, a2] (.null :: st) h = a_run d MJ2_appendNull 20 [a0, a1, some .null] st h := w_stNn dJ2_appendNull_19 (Nat.le_of_ble_eq_true rfl) rfl
theorem w_J2_appendNull_20 (d : Nat) (a1 a2 : Option Value) (x : Nat) (st : List Value) (h : a_H) : a_run d MJ2_appendNull 20 [some (.ref x), a1, a2] st h = a_run d MJ2_appendNull 21 [some (.ref x), a1, a2] (.ref x :: st) h := w_ldAn dJ2_appendNull_20 rfl
theorem w_J2_appendNull_21 (d : Nat) (L : a_L) (i : Nat) (st : List Value) (h : a_H) (hk : a_kls h i = some 8) (hc : a_cat st ≤ 8) : a_run d MJ2_appendNull 21 L (.ref i :: st) h = a_cont d MJ2_appendNull (a_bk MJ2_appendNull 21 L st (a_call d MJ2_isLatin1 [.ref i] h)) := w_callV (as := [.ref i]) dJ2_appendNull_21 rfl rfl rfl hc (a_rcv_of hk rfl)
theorem w_J2_appendNull_24 (d : Nat) (L : a_L) (x : Int32) (st : List Value) (h : a_H) : a_run d MJ2_appendNull 24 L (.int x :: st) h = if x = 0 then a_run d MJ2_appendNull 62 L st h else a_run d MJ2_appendNull 27 L st h := w_if_eq dJ2_appendNull_24 rfl
theorem w_J2_appendNull_27 (d : Nat) (a0 a1 : Option Value) (x : Nat) (st : List Value) (h : a_H) : a_run d MJ2_appendNull 27 [a0, a1, some (.ref x)] st h = a_run d MJ2_appendNull 28 [a0, a1, some (.ref x)] (.ref x :: st) h := w_ldAn dJ2_appendNull_27 rfl
theorem w_J2_appendNull_27N (d : Nat) (a0 a1 : Option Value) (st : List Value) (h : a_H) : a_run d MJ2_appendNull 27 [a0, a1, some .null] st h = a_run d MJ2_appendNull 28 [a0, a1, some .null] (.null :: st) h := w_ldNn dJ2_appendNull_27 rfl
theorem w_J2_appendNull_28 (d : Nat) (a0 a2 : Option Value) (x : Int32) (st : List Value) (h : a_H) : a_run d MJ2_appendNull 28 [a0, some (.int x), a2] st h = a_run d MJ2_appendNull 29 [a0, some (.int x), a2] (.int x :: st) h := w_ldIn dJ2_appendNull_28 rfl
theorem w_J2_appendNull_29 (d : Nat) (a0 a2 : Option Value) (x : Int32) (st : List Value) (h : a_H) : a_run d MJ2_appendNull 29 [a0, some (.int x), a2] st h = a_run d MJ2_appendNull 32 [a0, some (.int (x + nI 1)), a2] st h := w_incL dJ2_appendNull_29 rfl rfl rfl
theorem w_J2_appendNull_32 (d : Nat) (L : a_L) (st : List Value) (h : a_H) : a_run d MJ2_appendNull 32 L st h = a_run d MJ2_appendNull 34 L (.int (nI 110) :: st) h := w_bipush dJ2_appendNull_32 rfl
theorem w_J2_appendNull_34 (d : Nat) (L : a_L) (x y : Int32) (i : Nat) (st : List Value) (h : a_H) : a_run d MJ2_appendNull 34 L (.int y :: .int x :: .ref i :: st) h = (a_wri h i a_bz x y).bind fun h' => a_run d MJ2_appendNull 35 L st h' := w_bast dJ2_appendNull_34
theorem w_J2_appendNull_35 (d : Nat) (a0 a1 : Option Value) (x : Nat) (st : List Value) (h : a_H) : a_run d MJ2_appendNull 35 [a0, a1, some (.ref x)] st h = a_run d MJ2_appendNull 36 [a0, a1, some (.ref x)] (.ref x :: st) h := w_ldAn dJ2_appendNull_35 rfl
theorem w_J2_appendNull_35N (d : Nat) (a0 a1 : Option Value) (st : List Value) (h : a_H) : a_run d MJ2_appendNull 35 [a0, a1, some .null] st h = a_run d MJ2_appendNull 36 [a0, a1, some .null] (.null :: st) h := w_ldNn dJ2_appendNull_35 rfl
theorem w_J2_appendNull_36 (d : Nat) (a0 a2 : Option Value) (x : Int32) (st : List Value) (h : a_H) : a_run d MJ2_appendNull 36 [a0, some (.int x), a2] st h = a_run d MJ2_appendNull 37 [a0, some (.int x), a2] (.int x :: st) h := w_ldIn dJ2_appendNull_36 rfl
theorem w_J2_appendNull_37 (d : Nat) (a0 a2 : Option Value) (x : Int32) (st : List Value) (h : a_H) : a_run d MJ2_appendNull 37 [a0, some (.int x), a2] st h = a_run d MJ2_appendNull 40 [a0, some (.int (x + nI 1)), a2] st h := w_incL dJ2_appendNull_37 rfl rfl rfl
theorem w_J2_appendNull_40 (d : Nat) (L : a_L) (st : List Value) (h : a_H) : a_run d MJ2_appendNull 40 L st h = a_run d MJ2_appendNull 42 L (.int (nI 117) :: st) h := w_bipush dJ2_appendNull_40 rfl
theorem w_J2_appendNull_42 (d : Nat) (L : a_L) (x y : Int32) (i : Nat) (st : List Value) (h : a_H) : a_run d MJ2_appendNull 42 L (.int y :: .int x :: .ref i :: st) h = (a_wri h i a_bz x y).bind fun h' => a_run d MJ2_appendNull 43 L st h' := w_bast dJ2_appendNull_42
theorem w_J2_appendNull_43 (d : Nat) (a0 a1 : Option Value) (x : Nat) (st : List Value) (h : a_H) : a_run d MJ2_appendNull 43 [a0, a1, some (.ref x)] st h = a_run d MJ2_appendNull 44 [a0, a1, some (.ref x)] (.ref x :: st) h := w_ldAn dJ2_appendNull_43 rfl
theorem w_J2_appendNull_43N (d : Nat) (a0 a1 : Option Value) (st : List Value) (h : a_H) : a_run d MJ2_appendNull 43 [a0, a1, some .null] st h = a_run d MJ2_appendNull 44 [a0, a1, some .null] (.null :: st) h := w_ldNn dJ2_appendNull_43 rfl
theorem w_J2_appendNull_44 (d : Nat) (a0 a2 : Option Value) (x : Int32) (st : List Value) (h : a_H) : a_run d MJ2_appendNull 44 [a0, some (.int x), a2] st h = a_run d MJ2_appendNull 45 [a0, some (.int x), a2] (.int x :: st) h := w_ldIn dJ2_appendNull_44 rfl
theorem w_J2_appendNull_45 (d : Nat) (a0 a2 : Option Value) (x : Int32) (st : List Value) (h : a_H) : a_run d MJ2_appendNull 45 [a0, some (.int x), a2] st h = a_run d MJ2_appendNull 48 [a0, some (.int (x + nI 1)), a2] st h := w_incL dJ2_appendNull_45 rfl rfl rfl
theorem w_J2_appendNull_48 (d : Nat) (L : a_L) (st : List Value) (h : a_H) : a_run d MJ2_appendNull 48 L st h = a_run d MJ2_appendNull 50 L (.int (nI 108) :: st) h := w_bipush dJ2_appendNull_48 rfl
theorem w_J2_appendNull_50 (d : Nat) (L : a_L) (x y : Int32) (i : Nat) (st : List Value) (h : a_H) : a_run d MJ2_appendNull 50 L (.int y :: .int x :: .ref i :: st) h = (a_wri h i a_bz x y).bind fun h' => a_run d MJ2_appendNull 51 L st h' := w_bast dJ2_appendNull_50
theorem w_J2_appendNull_51 (d : Nat) (a0 a1 : Option Value) (x : Nat) (st : List Value) (h : a_H) : a_run d MJ2_appendNull 51 [a0, a1, some (.ref x)] st h = a_run d MJ2_appendNull 52 [a0, a1, some (.ref x)] (.ref x :: st) h := w_ldAn dJ2_appendNull_51 rfl
theorem w_J2_appendNull_51N (d : Nat) (a0 a1 : Option Value) (st : List Value) (h : a_H) : a_run d MJ2_appendNull 51 [a0, a1, some .null] st h = a_run d MJ2_appendNull 52 [a0, a1, some .null] (.null :: st) h := w_ldNn dJ2_appendNull_51 rfl
theorem w_J2_appendNull_52 (d : Nat) (a0 a2 : Option Value) (x : Int32) (st : List Value) (h : a_H) : a_run d MJ2_appendNull 52 [a0, some (.int x), a2] st h = a_run d MJ2_appendNull 53 [a0, some (.int x), a2] (.int x :: st) h := w_ldIn dJ2_appendNull_52 rfl
theorem w_J2_appendNull_53 (d : Nat) (a0 a2 : Option Value) (x : Int32) (st : List Value) (h : a_H) : a_run d MJ2_appendNull 53 [a0, some (.int x), a2] st h = a_run d MJ2_appendNull 56 [a0, some (.int (x + nI 1)), a2] st h := w_incL dJ2_appendNull_53 rfl rfl rfl
theorem w_J2_appendNull_56 (d : Nat) (L : a_L) (st : List Value) (h : a_H) : a_run d MJ2_appendNull 56 L st h = a_run d MJ2_appendNull 58 L (.int (nI 108) :: st) h := w_bipush dJ2_appendNull_56 rfl
theorem w_J2_appendNull_58 (d : Nat) (L : a_L) (x y : Int32) (i : Nat) (st : List Value) (h : a_H) : a_run d MJ2_appendNull 58 L (.int y :: .int x :: .ref i :: st) h = (a_wri h i a_bz x y).bind fun h' => a_run d MJ2_appendNull 59 L st h' := w_bast dJ2_appendNull_58
theorem w_J2_appendNull_59 (d : Nat) (L : a_L) (st : List Value) (h : a_H) : a_run d MJ2_appendNull 59 L st h = a_run d MJ2_appendNull 76 L st h := w_goto dJ2_appendNull_59 rfl
theorem w_J2_appendNull_62 (d : Nat) (a0 a1 : Option Value) (x : Nat) (st : List Value) (h : a_H) : a_run d MJ2_appendNull 62 [a0, a1, some (.ref x)] st h = a_run d MJ2_appendNull 63 [a0, a1, some (.ref x)] (.ref x :: st) h := w_ldAn dJ2_appendNull_62 rfl
theorem w_J2_appendNull_62N (d : Nat) (a0 a1 : Option Value) (st : List Value) (h : a_H) : a_run d MJ2_appendNull 62 [a0, a1, some .null] st h = a_run d MJ2_appendNull 63 [a0, a1, some .null] (.null :: st) h := w_ldNn dJ2_appendNull_62 rfl
theorem w_J2_appendNull_63 (d : Nat) (a0 a2 : Option Value) (x : Int32) (st : List Value) (h : a_H) : a_run d MJ2_appendNull 63 [a0, some (.int x), a2] st h = a_run d MJ2_appendNull 64 [a0, some (.int x), a2] (.int x :: st) h := w_ldIn dJ2_appendNull_63 rfl
theorem w_J2_appendNull_64 (d : Nat) (L : a_L) (st : List Value) (h : a_H) : a_run d MJ2_appendNull 64 L st h = a_run d MJ2_appendNull 66 L (.int (nI 110) :: st) h := w_bipush dJ2_appendNull_64 rfl
theorem w_J2_appendNull_66 (d : Nat) (L : a_L) (st : List Value) (h : a_H) : a_run d MJ2_appendNull 66 L st h = a_run d MJ2_appendNull 68 L (.int (nI 117) :: st) h := w_bipush dJ2_appendNull_66 rfl
theorem w_J2_appendNull_68 (d : Nat) (L : a_L) (st : List Value) (h : a_H) : a_run d MJ2_appendNull 68 L st h = a_run d MJ2_appendNull 70 L (.int (nI 108) :: st) h := w_bipush dJ2_appendNull_68 rfl
theorem w_J2_appendNull_70 (d : Nat) (L : a_L) (st : List Value) (h : a_H) : a_run d MJ2_appendNull 70 L st h = a_run d MJ2_appendNull 72 L (.int (nI 108) :: st) h := w_bipush dJ2_appendNull_70 rfl
theorem w_J2_appendNull_72 (d : Nat) (L : a_L) (v0 v1 v2 v3 v4 v5 : Value) (st : List Value) (h : a_H) (hc : a_cat st ≤ 8) : a_run d MJ2_appendNull 72 L (v5 :: v4 :: v3 :: v2 :: v1 :: v0 :: st) h = a_cont d MJ2_appendNull (a_bk MJ2_appendNull 72 L st (a_call d MJ5_putCharsAt [v0, v1, v2, v3, v4, v5] h)) := w_callS (as := [v0, v1, v2, v3, v4, v5]) dJ2_appendNull_72 rfl rfl rfl hc
theorem w_J2_appendNull_75 (d : Nat) (a0 a1 a2 : Option Value) (x : Int32) (st : List Value) (h : a_H) : a_run d MJ2_appendNull 75 [a0, a1, a2] (.int x :: st) h = a_run d MJ2_appendNull 76 [a0, some (.int x), a2] st h := w_stIn dJ2_appendNull_75 (Nat.le_of_ble_eq_true rfl) rfl
theorem w_J2_appendNull_76 (d : Nat) (a1 a2 : Option Value) (x : Nat) (st : List Value) (h : a_H) : a_run d MJ2_appendNull 76 [some (.ref x), a1, a2] st h = a_run d MJ2_appendNull 77 [some (.ref x), a1, a2] (.ref x :: st) h := w_ldAn dJ2_appendNull_76 rfl
theorem w_J2_appendNull_77 (d : Nat) (a0 a2 : Option Value) (x : Int32) (st : List Value) (h : a_H) : a_run d MJ2_appendNull 77 [a0, some (.int x), a2] st h = a_run d MJ2_appendNull 78 [a0, some (.int x), a2] (.int x :: st) h := w_ldIn dJ2_appendNull_77 rfl
theorem w_J2_appendNull_78 (d : Nat) (L : a_L) (x : Int32) (i : Nat) (st : List Value) (h : a_H) : a_run d MJ2_appendNull 78 L (.int x :: .ref i :: st) h = (a_pf h i 3 [8] (.int x)).bind fun h' => a_run d MJ2_appendNull 81 L st h' := w_putf dJ2_appendNull_78 rfl rfl (Or.inl rfl) rfl rfl
theorem w_J2_appendNull_81 (d : Nat) (a1 a2 : Option Value) (x : Nat) (st : List Value) (h : a_H) : a_run d MJ2_appendNull 81 [some (.ref x), a1, a2] st h = a_run d MJ2_appendNull 82 [some (.ref x), a1, a2] (.ref x :: st) h := w_ldAn dJ2_appendNull_81 rfl
theorem w_J2_appendNull_82 (d : Nat) (L : a_L) (x : Nat) (h : a_H) : a_run d MJ2_appendNull 82 L [.ref x] h = some (.inl (some (.ref x)), h) := w_aret dJ2_appendNull_82 rfl
theorem w_J2_appendNull_82N (d : Nat) (L : a_L) (h : a_H) : a_run d MJ2_appendNull 82 L [.null] h = some (.inl (some .null), h) := w_aretN dJ2_appendNull_82 rfl
theorem e_J2_putStringAt (d : Nat) (x0 : Nat) (x1 : Int32) (x2 : Nat) (h : a_H) : a_call (d + 1) MJ2_putStringAt [.ref x0, .int x1, .ref x2] h = a_run d MJ2_putStringAt 0 [some (.ref x0), some (.int x1), some (.ref x2)] [] h := a_call_run rfl (Nat.le_of_ble_eq_true rfl) rfl
theorem w_J2_putStringAt_0 (d : Nat) (a1 a2 : Option Value) (x : Nat) (st : List Value) (h : a_H) : a_run d MJ2_putStringAt 0 [some (.ref x), a1, a2] st h = a_run d MJ2_putStringAt 1 [some (.ref x), a1, a2] (.ref x :: st) h := w_ldAn dJ2_putStringAt_0 rfl
theorem w_J2_putStringAt_1 (d : Nat) (a0 a1 : Option Value) (x : Nat) (st : List Value) (h : a_H) : a_run d MJ2_putStringAt 1 [a0, a1, some (.ref x)] st h = a_run d MJ2_putStringAt 2 [a0, a1, some (.ref x)] (.ref x :: st) h := w_ldAn dJ2_putStringAt_1 rfl
theorem w_J2_putStringAt_1N (d : Nat) (a0 a1 : Option Value) (st : List Value) (h : a_H) : a_run d MJ2_putStringAt 1 [a0, a1, some .null] st h = a_run d MJ2_putStringAt 2 [a0, a1, some .null] (.null :: st) h := w_ldNn dJ2_putStringAt_1 rfl
theorem w_J2_putStringAt_5 (d : Nat) (a0 a1 : Option Value) (x : Nat) (st : List Value) (h : a_H) : a_run d MJ2_putStringAt 5 [a0, a1, some (.ref x)] st h = a_run d MJ2_putStringAt 6 [a0, a1, some (.ref x)] (.ref x :: st) h := w_ldAn dJ2_putStringAt_5 rfl
theorem w_J2_putStringAt_5N (d : Nat) (a0 a1 : Option Value) (st : List Value) (h : a_H) : a_run d MJ2_putStringAt 5 [a0, a1, some .null] st h = a_run d MJ2_putStringAt 6 [a0, a1, some .null] (.null :: st) h := w_ldNn dJ2_putStringAt_5 rfl
theorem w_J2_putStringAt_6 (d : Nat) (a1 a2 : Option Value) (x : Nat) (st : List Value) (h : a_H) : a_run d MJ2_putStringAt 6 [some (.ref x), a1, a2] st h = a_run d MJ2_putStringAt 7 [some (.ref x), a1, a2] (.ref x :: st) h := w_ldAn dJ2_putStringAt_6 rfl
theorem w_J2_putStringAt_7 (d : Nat) (L : a_L) (i : Nat) (st : List Value) (h : a_H) : a_run d MJ2_putStringAt 7 L (.ref i :: st) h = (a_gf h i 0 [8]).bind fun v => a_run d MJ2_putStringAt 10 L (v :: st) h := w_getf dJ2_putStringAt_7 rfl
theorem w_J2_putStringAt_10 (d : Nat) (a0 a2 : Option Value) (x : Int32) (st : List Value) (h : a_H) : a_run d MJ2_putStringAt 10 [a0, some (.int x), a2] st h = a_run d MJ2_putStringAt 11 [a0, some (.int x), a2] (.int x :: st) h := w_ldIn dJ2_putStringAt_10 rfl
theorem w_J2_putStringAt_11 (d : Nat) (a1 a2 : Option Value) (x : Nat) (st : List Value) (h : a_H) : a_run d MJ2_putStringAt 11 [some (.ref x), a1, a2] st h = a_run d MJ2_putStringAt 12 [some (.ref x), a1, a2] (.ref x :: st) h := w_ldAn dJ2_putStringAt_11 rfl
theorem w_J2_putStringAt_12 (d : Nat) (L : a_L) (i : Nat) (st : List Value) (h : a_H) : a_run d MJ2_putStringAt 12 L (.ref i :: st) h = (a_gf h i 1 [8]).bind fun v => a_run d MJ2_putStringAt 15 L (v :: st) h := w_getf dJ2_putStringAt_12 rfl
theorem w_J2_putStringAt_15 (d : Nat) (L : a_L) (i : Nat) (v1 v2 v3 : Value) (st : List Value) (h : a_H) (hk : a_kls h i = some 15) (hc : a_cat st ≤ 8) : a_run d MJ2_putStringAt 15 L (v3 :: v2 :: v1 :: .ref i :: st) h = a_cont d MJ2_putStringAt (a_bk MJ2_putStringAt 15 L st (a_call d MJ4_getBytes [.ref i, v1, v2, v3] h)) := w_callV (as := [.ref i, v1, v2, v3]) dJ2_putStringAt_15 rfl rfl rfl hc (a_rcv_of hk rfl)
theorem w_J2_putStringAt_18 (d : Nat) (L : a_L) (h : a_H) : a_run d MJ2_putStringAt 18 L [] h = some (.inl none, h) := w_vret dJ2_putStringAt_18 rfl
theorem e_J2_inflateIfNeededFor (d : Nat) (x0 : Nat) (x1 : Nat) (h : a_H) : a_call (d + 1) MJ2_inflateIfNeededFor [.ref x0, .ref x1] h = a_run d MJ2_inflateIfNeededFor 0 [some (.ref x0), some (.ref x1)] [] h := a_call_run rfl (Nat.le_of_ble_eq_true rfl) rfl
theorem w_J2_inflateIfNeededFor_0 (d : Nat) (L : a_L) (st : List Value) (h : a_H) : a_run d MJ2_inflateIfNeededFor 0 L st h = a_run d MJ2_inflateIfNeededFor 3 L (.int 1 :: st) h := w_gst dJ2_inflateIfNeededFor_0 rfl
theorem w_J2_inflateIfNeededFor_3 (d : Nat) (L : a_L) (x : Int32) (st : List Value) (h : a_H) : a_run d MJ2_inflateIfNeededFor 3 L (.int x :: st) h = if x = 0 then a_run d MJ2_inflateIfNeededFor 21 L st h else a_run d MJ2_inflateIfNeededFor 6 L st h := w_if_eq dJ2_inflateIfNeededFor_3 rfl
theorem w_J2_inflateIfNeededFor_6 (d : Nat) (a1 : Option Value) (x : Nat) (st : List Value) (h : a_H) : a_run d MJ2_inflateIfNeededFor 6 [some (.ref x), a1] st h = a_run d MJ2_inflateIfNeededFor 7 [some (.ref x), a1] (.ref x :: st) h := w_ldAn dJ2_inflateIfNeededFor_6 rfl
theorem w_J2_inflateIfNeededFor_7 (d : Nat) (L : a_L) (i : Nat) (st : List Value) (h : a_H) : a_run d MJ2_inflateIfNeededFor 7 L (.ref i :: st) h = (a_gf h i 1 [8]).bind fun v => a_run d MJ2_inflateIfNeededFor 10 L (v :: st) h := w_getf dJ2_inflateIfNeededFor_7 rfl
theorem w_J2_inflateIfNeededFor_10 (d : Nat) (a0 : Option Value) (x : Nat) (st : List Value) (h : a_H) : a_run d MJ2_inflateIfNeededFor 10 [a0, some (.ref x)] st h = a_run d MJ2_inflateIfNeededFor 11 [a0, some (.ref x)] (.ref x :: st) h := w_ldAn dJ2_inflateIfNeededFor_10 rfl
theorem w_J2_inflateIfNeededFor_10N (d : Nat) (a0 : Option Value) (st : List Value) (h : a_H) : a_run d MJ2_inflateIfNeededFor 10 [a0, some .null] st h = a_run d MJ2_inflateIfNeededFor 11 [a0, some .null] (.null :: st) h := w_ldNn dJ2_inflateIfNeededFor_10 rfl
theorem w_J2_inflateIfNeededFor_11 (d : Nat) (L : a_L) (i : Nat) (st : List Value) (h : a_H) (hk : a_kls h i = some 15) (hc : a_cat st ≤ 8) : a_run d MJ2_inflateIfNeededFor 11 L (.ref i :: st) h = a_cont d MJ2_inflateIfNeededFor (a_bk MJ2_inflateIfNeededFor 11 L st (a_call d MJ4_coder [.ref i] h)) := w_callV (as := [.ref i]) dJ2_inflateIfNeededFor_11 rfl rfl rfl hc (a_rcv_of hk rfl)
theorem w_J2_inflateIfNeededFor_14 (d : Nat) (L : a_L) (x y : Int32) (st : List Value) (h : a_H) : a_run d MJ2_inflateIfNeededFor 14 L (.int y :: .int x :: st) h = if x = y then a_run d MJ2_inflateIfNeededFor 21 L st h else a_run d MJ2_inflateIfNeededFor 17 L st h := w_icmp_eq dJ2_inflateIfNeededFor_14 rfl
theorem w_J2_inflateIfNeededFor_17 (d : Nat) (a1 : Option Value) (x : Nat) (st : List Value) (h : a_H) : a_run d MJ2_inflateIfNeededFor 17 [some (.ref x), a1] st h = a_run d MJ2_inflateIfNeededFor 18 [some (.ref x), a1] (.ref x :: st) h := w_ldAn dJ2_inflateIfNeededFor_17 rfl
theorem w_J2_inflateIfNeededFor_21 (d : Nat) (L : a_L) (h : a_H) : a_run d MJ2_inflateIfNeededFor 21 L [] h = some (.inl none, h) := w_vret dJ2_inflateIfNeededFor_21 rfl
theorem e_J2_inflate (d : Nat) (x0 : Nat) (h : a_H) : a_call (d + 1) MJ2_inflate [.ref x0] h = a_run d MJ2_inflate 0 [some (.ref x0), none] [] h := a_call_run rfl (Nat.le_of_ble_eq_true rfl) rfl
theorem w_J2_inflate_0 (d : Nat) (a1 : Option Value) (x : Nat) (st : List Value) (h : a_H) : a_run d MJ2_inflate 0 [some (.ref x), a1] st h = a_run d MJ2_inflate 1 [some (.ref x), a1] (.ref x :: st) h := w_ldAn dJ2_inflate_0 rfl
theorem w_J2_inflate_1 (d : Nat) (L : a_L) (i : Nat) (st : List Value) (h : a_H) (hk : a_kls h i = some 8) (hc : a_cat st ≤ 8) : a_run d MJ2_inflate 1 L (.ref i :: st) h = a_cont d MJ2_inflate (a_bk MJ2_inflate 1 L st (a_call d MJ2_isLatin1 [.ref i] h)) := w_callV (as := [.ref i]) dJ2_inflate_1 rfl rfl rfl hc (a_rcv_of hk rfl)
theorem w_J2_inflate_4 (d : Nat) (L : a_L) (x : Int32) (st : List Value) (h : a_H) : a_run d MJ2_inflate 4 L (.int x :: st) h = if x = 0 then a_run d MJ2_inflate 7 L st h else a_run d MJ2_inflate 8 L st h := w_if_ne dJ2_inflate_4 rfl
theorem w_J2_inflate_7 (d : Nat) (L : a_L) (h : a_H) : a_run d MJ2_inflate 7 L [] h = some (.inl none, h) := w_vret dJ2_inflate_7 rfl
theorem w_J2_inflate_8 (d : Nat) (a1 : Option Value) (x : Nat) (st : List Value) (h : a_H) : a_run d MJ2_inflate 8 [some (.ref x), a1] st h = a_run d MJ2_inflate 9 [some (.ref x), a1] (.ref x :: st) h := w_ldAn dJ2_inflate_8 rfl
theorem w_J2_inflate_9 (d : Nat) (L : a_L) (i : Nat) (st : List Value) (h : a_H) : a_run d MJ2_inflate 9 L (.ref i :: st) h = (a_gf h i 0 [8]).bind fun v => a_run d MJ2_inflate 12 L (v :: st) h := w_getf dJ2_inflate_9 rfl
theorem w_J2_inflate_12 (d : Nat) (L : a_L) (i : Nat) (st : List Value) (h : a_H) : a_run d MJ2_inflate 12 L (.ref i :: st) h = (a_len h i).bind fun v => a_run d MJ2_inflate 13 L (v :: st) h := w_alen dJ2_inflate_12
theorem w_J2_inflate_13 (d : Nat) (L : a_L) (v0 : Value) (st : List Value) (h : a_H) (hc : a_cat st ≤ 8) : a_run d MJ2_inflate 13 L (v0 :: st) h = a_cont d MJ2_inflate (a_bk MJ2_inflate 13 L st (a_call d MJ5_newBytesFor [v0] h)) := w_callS (as := [v0]) dJ2_inflate_13 rfl rfl rfl hc
theorem w_J2_inflate_16 (d : Nat) (a0 a1 : Option Value) (x : Nat) (st : List Value) (h : a_H) : a_run d MJ2_inflate 16 [a0, a1] (.ref x :: st) h = a_run d MJ2_inflate 17 [a0, some (.ref x)] st h := w_stAn dJ2_inflate_16 (Nat.le_of_ble_eq_true rfl) rfl
theorem w_J2_inflate_16N (d : Nat) (a0 a1 : Option Value) (st : List Value) (h : a_H) : a_run d MJ2_inflate 16 [a0, a1] (.null :: st) h = a_run d MJ2_inflate 17 [a0, some .null] st h := w_stNn dJ2_inflate_16 (Nat.le_of_ble_eq_true rfl) rfl
theorem w_J2_inflate_17 (d : Nat) (a1 : Option Value) (x : Nat) (st : List Value) (h : a_H) : a_run d MJ2_inflate 17 [some (.ref x), a1] st h = a_run d MJ2_inflate 18 [some (.ref x), a1] (.ref x :: st) h := w_ldAn dJ2_inflate_17 rfl
theorem w_J2_inflate_18 (d : Nat) (L : a_L) (i : Nat) (st : List Value) (h : a_H) : a_run d MJ2_inflate 18 L (.ref i :: st) h = (a_gf h i 0 [8]).bind fun v => a_run d MJ2_inflate 21 L (v :: st) h := w_getf dJ2_inflate_18 rfl
theorem w_J2_inflate_21 (d : Nat) (L : a_L) (st : List Value) (h : a_H) : a_run d MJ2_inflate 21 L st h = a_run d MJ2_inflate 22 L (.int (nI 0) :: st) h := w_iconst dJ2_inflate_21 rfl
theorem w_J2_inflate_22 (d : Nat) (a0 : Option Value) (x : Nat) (st : List Value) (h : a_H) : a_run d MJ2_inflate 22 [a0, some (.ref x)] st h = a_run d MJ2_inflate 23 [a0, some (.ref x)] (.ref x :: st) h := w_ldAn dJ2_inflate_22 rfl
theorem w_J2_inflate_22N (d : Nat) (a0 : Option Value) (st : List Value) (h : a_H) : a_run d MJ2_inflate 22 [a0, some .null] st h = a_run d MJ2_inflate 23 [a0, some .null] (.null :: st) h := w_ldNn dJ2_inflate_22 rfl
theorem w_J2_inflate_23 (d : Nat) (L : a_L) (st : List Value) (h : a_H) : a_run d MJ2_inflate 23 L st h = a_run d MJ2_inflate 24 L (.int (nI 0) :: st) h := w_iconst dJ2_inflate_23 rfl
theorem w_J2_inflate_24 (d : Nat) (a1 : Option Value) (x : Nat) (st : List Value) (h : a_H) : a_run d MJ2_inflate 24 [some (.ref x), a1] st h = a_run d MJ2_inflate 25 [some (.ref x), a1] (.ref x :: st) h := w_ldAn dJ2_inflate_24 rfl
theorem w_J2_inflate_25 (d : Nat) (L : a_L) (i : Nat) (st : List Value) (h : a_H) : a_run d MJ2_inflate 25 L (.ref i :: st) h = (a_gf h i 3 [8]).bind fun v => a_run d MJ2_inflate 28 L (v :: st) h := w_getf dJ2_inflate_25 rfl
theorem w_J2_inflate_28 (d : Nat) (L : a_L) (v0 v1 v2 v3 v4 : Value) (st : List Value) (h : a_H) (hc : a_cat st ≤ 8) : a_run d MJ2_inflate 28 L (v4 :: v3 :: v2 :: v1 :: v0 :: st) h = a_cont d MJ2_inflate (a_bk MJ2_inflate 28 L st (a_call d MJ17_inflate [v0, v1, v2, v3, v4] h)) := w_callS (as := [v0, v1, v2, v3, v4]) dJ2_inflate_28 rfl rfl rfl hc
theorem w_J2_inflate_31 (d : Nat) (a1 : Option Value) (x : Nat) (st : List Value) (h : a_H) : a_run d MJ2_inflate 31 [some (.ref x), a1] st h = a_run d MJ2_inflate 32 [some (.ref x), a1] (.ref x :: st) h := w_ldAn dJ2_inflate_31 rfl
theorem w_J2_inflate_32 (d : Nat) (a0 : Option Value) (x : Nat) (st : List Value) (h : a_H) : a_run d MJ2_inflate 32 [a0, some (.ref x)] st h = a_run d MJ2_inflate 33 [a0, some (.ref x)] (.ref x :: st) h := w_ldAn dJ2_inflate_32 rfl
theorem w_J2_inflate_32N (d : Nat) (a0 : Option Value) (st : List Value) (h : a_H) : a_run d MJ2_inflate 32 [a0, some .null] st h = a_run d MJ2_inflate 33 [a0, some .null] (.null :: st) h := w_ldNn dJ2_inflate_32 rfl
theorem w_J2_inflate_33 (d : Nat) (L : a_L) (x : Nat) (i : Nat) (st : List Value) (h : a_H) : a_run d MJ2_inflate 33 L (.ref x :: .ref i :: st) h = (a_pf h i 0 [8] (.ref x)).bind fun h' => a_run d MJ2_inflate 36 L st h' := w_putf dJ2_inflate_33 rfl rfl (Or.inl rfl) rfl rfl
theorem w_J2_inflate_33N (d : Nat) (L : a_L) (i : Nat) (st : List Value) (h : a_H) : a_run d MJ2_inflate 33 L (.null :: .ref i :: st) h = (a_pf h i 0 [8] (.null)).bind fun h' => a_run d MJ2_inflate 36 L st h' := w_putf dJ2_inflate_33 rfl rfl (Or.inl rfl) rfl rfl
theorem w_J2_inflate_36 (d : Nat) (a1 : Option Value) (x : Nat) (st : List Value) (h : a_H) : a_run d MJ2_inflate 36 [some (.ref x), a1] st h = a_run d MJ2_inflate 37 [some (.ref x), a1] (.ref x :: st) h := w_ldAn dJ2_inflate_36 rfl
theorem w_J2_inflate_37 (d : Nat) (L : a_L) (st : List Value) (h : a_H) : a_run d MJ2_inflate 37 L st h = a_run d MJ2_inflate 38 L (.int (nI 1) :: st) h := w_iconst dJ2_inflate_37 rfl
theorem w_J2_inflate_38 (d : Nat) (L : a_L) (x : Int32) (i : Nat) (st : List Value) (h : a_H) (hn : narrow .byte (.int x) = .int x) (hf : fits .byte (.int x) = true) : a_run d MJ2_inflate 38 L (.int x :: .ref i :: st) h = (a_pf h i 1 [8] (.int x)).bind fun h' => a_run d MJ2_inflate 41 L st h' := w_putf dJ2_inflate_38 rfl rfl (Or.inl rfl) hn hf
theorem w_J2_inflate_41 (d : Nat) (L : a_L) (h : a_H) : a_run d MJ2_inflate 41 L [] h = some (.inl none, h) := w_vret dJ2_inflate_41 rfl
theorem e_J2_append_2 (d : Nat) (x0 : Nat) (x1 : Int32) (h : a_H) : a_call (d + 1) MJ2_append_2 [.ref x0, .int x1] h = a_run d MJ2_append_2 0 [some (.ref x0), some (.int x1), none, none] [] h := a_call_run rfl (Nat.le_of_ble_eq_true rfl) rfl
theorem w_J2_append_2_0 (d : Nat) (a1 a2 a3 : Option Value) (x : Nat) (st : List Value) (h : a_H) : a_run d MJ2_append_2 0 [some (.ref x), a1, a2, a3] st h = a_run d MJ2_append_2 1 [some (.ref x), a1, a2, a3] (.ref x :: st) h := w_ldAn dJ2_append_2_0 rfl
theorem w_J2_append_2_1 (d : Nat) (L : a_L) (i : Nat) (st : List Value) (h : a_H) : a_run d MJ2_append_2 1 L (.ref i :: st) h = (a_gf h i 3 [8]).bind fun v => a_run d MJ2_append_2 4 L (v :: st) h := w_getf dJ2_append_2_1 rfl
theorem w_J2_append_2_4 (d : Nat) (a0 a1 a2 a3 : Option Value) (x : Int32) (st : List Value) (h : a_H) : a_run d MJ2_append_2 4 [a0, a1, a2, a3] (.int x :: st) h = a_run d MJ2_append_2 5 [a0, a1, some (.int x), a3] st h := w_stIn dJ2_append_2_4 (Nat.le_of_ble_eq_true rfl) rfl
theorem w_J2_append_2_5 (d : Nat) (a0 a1 a3 : Option Value) (x : Int32) (st : List Value) (h : a_H) : a_run d MJ2_append_2 5 [a0, a1, some (.int x), a3] st h = a_run d MJ2_append_2 6 [a0, a1, some (.int x), a3] (.int x :: st) h := w_ldIn dJ2_append_2_5 rfl
theorem w_J2_append_2_6 (d : Nat) (a0 a2 a3 : Option Value) (x : Int32) (st : List Value) (h : a_H) : a_run d MJ2_append_2 6 [a0, some (.int x), a2, a3] st h = a_run d MJ2_append_2 7 [a0, some (.int x), a2, a3] (.int x :: st) h := w_ldIn dJ2_append_2_6 rfl
theorem w_J2_append_2_7 (d : Nat) (L : a_L) (v0 : Value) (st : List Value) (h : a_H) (hc : a_cat st ≤ 8) : a_run d MJ2_append_2 7 L (v0 :: st) h = a_cont d MJ2_append_2 (a_bk MJ2_append_2 7 L st (a_call d MJ10_stringSize [v0] h)) := w_callS (as := [v0]) dJ2_append_2_7 rfl rfl rfl hc
theorem w_J2_append_2_10 (d : Nat) (L : a_L) (x y : Int32) (st : List Value) (h : a_H) : a_run d MJ2_append_2 10 L (.int y :: .int x :: st) h = a_run d MJ2_append_2 11 L (.int (x + y) :: st) h := w_iadd dJ2_append_2_10
theorem w_J2_append_2_11 (d : Nat) (a0 a1 a2 a3 : Option Value) (x : Int32) (st : List Value) (h : a_H) : a_run d MJ2_append_2 11 [a0, a1, a2, a3] (.int x :: st) h = a_run d MJ2_append_2 12 [a0, a1, a2, some (.int x)] st h := w_stIn dJ2_append_2_11 (Nat.le_of_ble_eq_true rfl) rfl
theorem w_J2_append_2_12 (d : Nat) (a1 a2 a3 : Option Value) (x : Nat) (st : List Value) (h : a_H) : a_run d MJ2_append_2 12 [some (.ref x), a1, a2, a3] st h = a_run d MJ2_append_2 13 [some (.ref x), a1, a2, a3] (.ref x :: st) h := w_ldAn dJ2_append_2_12 rfl
theorem w_J2_append_2_13 (d : Nat) (a0 a1 a2 : Option Value) (x : Int32) (st : List Value) (h : a_H) : a_run d MJ2_append_2 13 [a0, a1, a2, some (.int x)] st h = a_run d MJ2_append_2 14 [a0, a1, a2, some (.int x)] (.int x :: st) h := w_ldIn dJ2_append_2_13 rfl
theorem w_J2_append_2_14 (d : Nat) (L : a_L) (i : Nat) (v1 : Value) (st : List Value) (h : a_H) (hk : a_kls h i = some 8) (hc : a_cat st ≤ 8) : a_run d MJ2_append_2 14 L (v1 :: .ref i :: st) h = a_cont d MJ2_append_2 (a_bk MJ2_append_2 14 L st (a_call d MJ2_ensureCapacityInternal [.ref i, v1] h)) := w_callP (as := [.ref i, v1]) dJ2_append_2_14 rfl rfl rfl hc (a_rcv_of hk rfl)
theorem w_J2_append_2_17 (d : Nat) (a1 a2 a3 : Option Value) (x : Nat) (st : List Value) (h : a_H) : a_run d MJ2_append_2 17 [some (.ref x), a1, a2, a3] st h = a_run d MJ2_append_2 18 [some (.ref x), a1, a2, a3] (.ref x :: st) h := w_ldAn dJ2_append_2_17 rfl
theorem w_J2_append_2_18 (d : Nat) (L : a_L) (i : Nat) (st : List Value) (h : a_H) (hk : a_kls h i = some 8) (hc : a_cat st ≤ 8) : a_run d MJ2_append_2 18 L (.ref i :: st) h = a_cont d MJ2_append_2 (a_bk MJ2_append_2 18 L st (a_call d MJ2_isLatin1 [.ref i] h)) := w_callV (as := [.ref i]) dJ2_append_2_18 rfl rfl rfl hc (a_rcv_of hk rfl)
theorem w_J2_append_2_21 (d : Nat) (L : a_L) (x : Int32) (st : List Value) (h : a_H) : a_run d MJ2_append_2 21 L (.int x :: st) h = if x = 0 then a_run d MJ2_append_2 37 L st h else a_run d MJ2_append_2 24 L st h := w_if_eq dJ2_append_2_21 rfl
theorem w_J2_append_2_24 (d : Nat) (a0 a2 a3 : Option Value) (x : Int32) (st : List Value) (h : a_H) : a_run d MJ2_append_2 24 [a0, some (.int x), a2, a3] st h = a_run d MJ2_append_2 25 [a0, some (.int x), a2, a3] (.int x :: st) h := w_ldIn dJ2_append_2_24 rfl
theorem w_J2_append_2_25 (d : Nat) (a0 a1 a2 : Option Value) (x : Int32) (st : List Value) (h : a_H) : a_run d MJ2_append_2 25 [a0, a1, a2, some (.int x)] st h = a_run d MJ2_append_2 26 [a0, a1, a2, some (.int x)] (.int x :: st) h := w_ldIn dJ2_append_2_25 rfl
theorem w_J2_append_2_26 (d : Nat) (a1 a2 a3 : Option Value) (x : Nat) (st : List Value) (h : a_H) : a_run d MJ2_append_2 26 [some (.ref x), a1, a2, a3] st h = a_run d MJ2_append_2 27 [some (.ref x), a1, a2, a3] (.ref x :: st) h := w_ldAn dJ2_append_2_26 rfl
theorem w_J2_append_2_27 (d : Nat) (L : a_L) (i : Nat) (st : List Value) (h : a_H) : a_run d MJ2_append_2 27 L (.ref i :: st) h = (a_gf h i 0 [8]).bind fun v => a_run d MJ2_append_2 30 L (v :: st) h := w_getf dJ2_append_2_27 rfl
theorem w_J2_append_2_30 (d : Nat) (L : a_L) (v0 v1 v2 : Value) (st : List Value) (h : a_H) (hc : a_cat st ≤ 8) : a_run d MJ2_append_2 30 L (v2 :: v1 :: v0 :: st) h = a_cont d MJ2_append_2 (a_bk MJ2_append_2 30 L st (a_call d MJ10_getChars [v0, v1, v2] h)) := w_callS (as := [v0, v1, v2]) dJ2_append_2_30 rfl rfl rfl hc
theorem w_J2_append_2_33 (d : Nat) (L : a_L) (x : Nat) (st : List Value) (h : a_H) : a_run d MJ2_append_2 33 L (.ref x :: st) h = a_run d MJ2_append_2 34 L st h := w_pop dJ2_append_2_33
theorem w_J2_append_2_33I (d : Nat) (L : a_L) (x : Int32) (st : List Value) (h : a_H) : a_run d MJ2_append_2 33 L (.int x :: st) h = a_run d MJ2_append_2 34 L st h := w_popI dJ2_append_2_33
theorem w_J2_append_2_34 (d : Nat) (L : a_L) (st : List Value) (h : a_H) : a_run d MJ2_append_2 34 L st h = a_run d MJ2_append_2 48 L st h := w_goto dJ2_append_2_34 rfl
theorem w_J2_append_2_37 (d : Nat) (a0 a2 a3 : Option Value) (x : Int32) (st : List Value) (h : a_H) : a_run d MJ2_append_2 37 [a0, some (.int x), a2, a3] st h = a_run d MJ2_append_2 38 [a0, some (.int x), a2, a3] (.int x :: st) h := w_ldIn dJ2_append_2_37 rfl
theorem w_J2_append_2_38 (d : Nat) (a0 a1 a3 : Option Value) (x : Int32) (st : List Value) (h : a_H) : a_run d MJ2_append_2 38 [a0, a1, some (.int x), a3] st h = a_run d MJ2_append_2 39 [a0, a1, some (.int x), a3] (.int x :: st) h := w_ldIn dJ2_append_2_38 rfl
theorem w_J2_append_2_39 (d : Nat) (a0 a1 a2 : Option Value) (x : Int32) (st : List Value) (h : a_H) : a_run d MJ2_append_2 39 [a0, a1, a2, some (.int x)] st h = a_run d MJ2_append_2 40 [a0, a1, a2, some (.int x)] (.int x :: st) h := w_ldIn dJ2_append_2_39 rfl
theorem w_J2_append_2_40 (d : Nat) (a1 a2 a3 : Option Value) (x : Nat) (st : List Value) (h : a_H) : a_run d MJ2_append_2 40 [some (.ref x), a1, a2, a3] st h = a_run d MJ2_append_2 41 [some (.ref x), a1, a2, a3] (.ref x :: st) h := w_ldAn dJ2_append_2_40 rfl
theorem w_J2_append_2_41 (d : Nat) (L : a_L) (i : Nat) (st : List Value) (h : a_H) : a_run d MJ2_append_2 41 L (.ref i :: st) h = (a_gf h i 0 [8]).bind fun v => a_run d MJ2_append_2 44 L (v :: st) h := w_getf dJ2_append_2_41 rfl
theorem w_J2_append_2_44 (d : Nat) (L : a_L) (v0 v1 v2 v3 : Value) (st : List Value) (h : a_H) (hc : a_cat st ≤ 8) : a_run d MJ2_append_2 44 L (v3 :: v2 :: v1 :: v0 :: st) h = a_cont d MJ2_append_2 (a_bk MJ2_append_2 44 L st (a_call d MJ5_getChars [v0, v1, v2, v3] h)) := w_callS (as := [v0, v1, v2, v3]) dJ2_append_2_44 rfl rfl rfl hc
theorem w_J2_append_2_47 (d : Nat) (L : a_L) (x : Nat) (st : List Value) (h : a_H) : a_run d MJ2_append_2 47 L (.ref x :: st) h = a_run d MJ2_append_2 48 L st h := w_pop dJ2_append_2_47
theorem w_J2_append_2_47I (d : Nat) (L : a_L) (x : Int32) (st : List Value) (h : a_H) : a_run d MJ2_append_2 47 L (.int x :: st) h = a_run d MJ2_append_2 48 L st h := w_popI dJ2_append_2_47
theorem w_J2_append_2_48 (d : Nat) (a1 a2 a3 : Option Value) (x : Nat) (st : List Value) (h : a_H) : a_run d MJ2_append_2 48 [some (.ref x), a1, a2, a3] st h = a_run d MJ2_append_2 49 [some (.ref x), a1, a2, a3] (.ref x :: st) h := w_ldAn dJ2_append_2_48 rfl
theorem w_J2_append_2_49 (d : Nat) (a0 a1 a2 : Option Value) (x : Int32) (st : List Value) (h : a_H) : a_run d MJ2_append_2 49 [a0, a1, a2, some (.int x)] st h = a_run d MJ2_append_2 50 [a0, a1, a2, some (.int x)] (.int x :: st) h := w_ldIn dJ2_append_2_49 rfl
theorem w_J2_append_2_50 (d : Nat) (L : a_L) (x : Int32) (i : Nat) (st : List Value) (h : a_H) : a_run d MJ2_append_2 50 L (.int x :: .ref i :: st) h = (a_pf h i 3 [8] (.int x)).bind fun h' => a_run d MJ2_append_2 53 L st h' := w_putf dJ2_append_2_50 rfl rfl (Or.inl rfl) rfl rfl
theorem w_J2_append_2_53 (d : Nat) (a1 a2 a3 : Option Value) (x : Nat) (st : List Value) (h : a_H) : a_run d MJ2_append_2 53 [some (.ref x), a1, a2, a3] st h = a_run d MJ2_append_2 54 [some (.ref x), a1, a2, a3] (.ref x :: st) h := w_ldAn dJ2_append_2_53 rfl
theorem w_J2_append_2_54 (d : Nat) (L : a_L) (x : Nat) (h : a_H) : a_run d MJ2_append_2 54 L [.ref x] h = some (.inl (some (.ref x)), h) := w_aret dJ2_append_2_54 rfl
theorem w_J2_append_2_54N (d : Nat) (L : a_L) (h : a_H) : a_run d MJ2_append_2 54 L [.null] h = some (.inl (some .null), h) := w_aretN dJ2_append_2_54 rfl
theorem e_J2_getValue (d : Nat) (x0 : Nat) (h : a_H) : a_call (d + 1) MJ2_getValue [.ref x0] h = a_run d MJ2_getValue 0 [some (.ref x0)] [] h := a_call_run rfl (Nat.le_of_ble_eq_true rfl) rfl
theorem w_J2_getValue_0 (d : Nat) (x : Nat) (st : List Value) (h : a_H) : a_run d MJ2_getValue 0 [some (.ref x)] st h = a_run d MJ2_getValue 1 [some (.ref x)] (.ref x :: st) h := w_ldAn dJ2_getValue_0 rfl
theorem w_J2_getValue_1 (d : Nat) (L : a_L) (i : Nat) (st : List Value) (h : a_H) : a_run d MJ2_getValue 1 L (.ref i :: st) h = (a_gf h i 0 [8]).bind fun v => a_run d MJ2_getValue 4 L (v :: st) h := w_getf dJ2_getValue_1 rfl
theorem w_J2_getValue_4 (d : Nat) (L : a_L) (x : Nat) (h : a_H) : a_run d MJ2_getValue 4 L [.ref x] h = some (.inl (some (.ref x)), h) := w_aret dJ2_getValue_4 rfl
theorem w_J2_getValue_4N (d : Nat) (L : a_L) (h : a_H) : a_run d MJ2_getValue 4 L [.null] h = some (.inl (some .null), h) := w_aretN dJ2_getValue_4 rfl
theorem e_J2_append_3 (d : Nat) (x0 : Nat) (x1 : Int32) (h : a_H) : a_call (d + 1) MJ2_append_3 [.ref x0, .int x1] h = a_run d MJ2_append_3 0 [some (.ref x0), some (.int x1)] [] h := a_call_run rfl (Nat.le_of_ble_eq_true rfl) rfl
theorem w_J2_append_3_0 (d : Nat) (a1 : Option Value) (x : Nat) (st : List Value) (h : a_H) : a_run d MJ2_append_3 0 [some (.ref x), a1] st h = a_run d MJ2_append_3 1 [some (.ref x), a1] (.ref x :: st) h := w_ldAn dJ2_append_3_0 rfl
theorem w_J2_append_3_1 (d : Nat) (a1 : Option Value) (x : Nat) (st : List Value) (h : a_H) : a_run d MJ2_append_3 1 [some (.ref x), a1] st h = a_run d MJ2_append_3 2 [some (.ref x), a1] (.ref x :: st) h := w_ldAn dJ2_append_3_1 rfl
theorem w_J2_append_3_2 (d : Nat) (L : a_L) (i : Nat) (st : List Value) (h : a_H) : a_run d MJ2_append_3 2 L (.ref i :: st) h = (a_gf h i 3 [8]).bind fun v => a_run d MJ2_append_3 5 L (v :: st) h := w_getf dJ2_append_3_2 rfl
theorem w_J2_append_3_5 (d : Nat) (L : a_L) (st : List Value) (h : a_H) : a_run d MJ2_append_3 5 L st h = a_run d MJ2_append_3 6 L (.int (nI 1) :: st) h := w_iconst dJ2_append_3_5 rfl
theorem w_J2_append_3_6 (d : Nat) (L : a_L) (x y : Int32) (st : List Value) (h : a_H) : a_run d MJ2_append_3 6 L (.int y :: .int x :: st) h = a_run d MJ2_append_3 7 L (.int (x + y) :: st) h := w_iadd dJ2_append_3_6
theorem w_J2_append_3_7 (d : Nat) (L : a_L) (i : Nat) (v1 : Value) (st : List Value) (h : a_H) (hk : a_kls h i = some 8) (hc : a_cat st ≤ 8) : a_run d MJ2_append_3 7 L (v1 :: .ref i :: st) h = a_cont d MJ2_append_3 (a_bk MJ2_append_3 7 L st (a_call d MJ2_ensureCapacityInternal [.ref i, v1] h)) := w_callP (as := [.ref i, v1]) dJ2_append_3_7 rfl rfl rfl hc (a_rcv_of hk rfl)
theorem w_J2_append_3_10 (d : Nat) (a1 : Option Value) (x : Nat) (st : List Value) (h : a_H) : a_run d MJ2_append_3 10 [some (.ref x), a1] st h = a_run d MJ2_append_3 11 [some (.ref x), a1] (.ref x :: st) h := w_ldAn dJ2_append_3_10 rfl
theorem w_J2_append_3_11 (d : Nat) (L : a_L) (i : Nat) (st : List Value) (h : a_H) (hk : a_kls h i = some 8) (hc : a_cat st ≤ 8) : a_run d MJ2_append_3 11 L (.ref i :: st) h = a_cont d MJ2_append_3 (a_bk MJ2_append_3 11 L st (a_call d MJ2_isLatin1 [.ref i] h)) := w_callV (as := [.ref i]) dJ2_append_3_11 rfl rfl rfl hc (a_rcv_of hk rfl)
theorem w_J2_append_3_14 (d : Nat) (L : a_L) (x : Int32) (st : List Value) (h : a_H) : a_run d MJ2_append_3 14 L (.int x :: st) h = if x = 0 then a_run d MJ2_append_3 45 L st h else a_run d MJ2_append_3 17 L st h := w_if_eq dJ2_append_3_14 rfl
theorem w_J2_append_3_17 (d : Nat) (a0 : Option Value) (x : Int32) (st : List Value) (h : a_H) : a_run d MJ2_append_3 17 [a0, some (.int x)] st h = a_run d MJ2_append_3 18 [a0, some (.int x)] (.int x :: st) h := w_ldIn dJ2_append_3_17 rfl
theorem w_J2_append_3_18 (d : Nat) (L : a_L) (v0 : Value) (st : List Value) (h : a_H) (hc : a_cat st ≤ 8) : a_run d MJ2_append_3 18 L (v0 :: st) h = a_cont d MJ2_append_3 (a_bk MJ2_append_3 18 L st (a_call d MJ17_canEncode [v0] h)) := w_callS (as := [v0]) dJ2_append_3_18 rfl rfl rfl hc
theorem w_J2_append_3_21 (d : Nat) (L : a_L) (x : Int32) (st : List Value) (h : a_H) : a_run d MJ2_append_3 21 L (.int x :: st) h = if x = 0 then a_run d MJ2_append_3 45 L st h else a_run d MJ2_append_3 24 L st h := w_if_eq dJ2_append_3_21 rfl
theorem w_J2_append_3_24 (d : Nat) (a1 : Option Value) (x : Nat) (st : List Value) (h : a_H) : a_run d MJ2_append_3 24 [some (.ref x), a1] st h = a_run d MJ2_append_3 25 [some (.ref x), a1] (.ref x :: st) h := w_ldAn dJ2_append_3_24 rfl
theorem w_J2_append_3_25 (d : Nat) (L : a_L) (i : Nat) (st : List Value) (h : a_H) : a_run d MJ2_append_3 25 L (.ref i :: st) h = (a_gf h i 0 [8]).bind fun v => a_run d MJ2_append_3 28 L (v :: st) h := w_getf dJ2_append_3_25 rfl
theorem w_J2_append_3_28 (d : Nat) (a1 : Option Value) (x : Nat) (st : List Value) (h : a_H) : a_run d MJ2_append_3 28 [some (.ref x), a1] st h = a_run d MJ2_append_3 29 [some (.ref x), a1] (.ref x :: st) h := w_ldAn dJ2_append_3_28 rfl
theorem w_J2_append_3_29 (d : Nat) (L : a_L) (x : Nat) (st : List Value) (h : a_H) : a_run d MJ2_append_3 29 L (.ref x :: st) h = a_run d MJ2_append_3 30 L (.ref x :: .ref x :: st) h := w_dup dJ2_append_3_29
theorem w_J2_append_3_29I (d : Nat) (L : a_L) (x : Int32) (st : List Value) (h : a_H) : a_run d MJ2_append_3 29 L (.int x :: st) h = a_run d MJ2_append_3 30 L (.int x :: .int x :: st) h := w_dupI dJ2_append_3_29
theorem w_J2_append_3_30 (d : Nat) (L : a_L) (i : Nat) (st : List Value) (h : a_H) : a_run d MJ2_append_3 30 L (.ref i :: st) h = (a_gf h i 3 [8]).bind fun v => a_run d MJ2_append_3 33 L (v :: st) h := w_getf dJ2_append_3_30 rfl
theorem w_J2_append_3_33 (d : Nat) (L : a_L) (x : Int32) (y : Nat) (st : List Value) (h : a_H) : a_run d MJ2_append_3 33 L (.int x :: .ref y :: st) h = a_run d MJ2_append_3 34 L (.int x :: .ref y :: .int x :: st) h := w_dupx dJ2_append_3_33
theorem w_J2_append_3_33R (d : Nat) (L : a_L) (x y : Nat) (st : List Value) (h : a_H) : a_run d MJ2_append_3 33 L (.ref x :: .ref y :: st) h = a_run d MJ2_append_3 34 L (.ref x :: .ref y :: .ref x :: st) h := w_dupxR dJ2_append_3_33
theorem w_J2_append_3_34 (d : Nat) (L : a_L) (st : List Value) (h : a_H) : a_run d MJ2_append_3 34 L st h = a_run d MJ2_append_3 35 L (.int (nI 1) :: st) h := w_iconst dJ2_append_3_34 rfl
theorem w_J2_append_3_35 (d : Nat) (L : a_L) (x y : Int32) (st : List Value) (h : a_H) : a_run d MJ2_append_3 35 L (.int y :: .int x :: st) h = a_run d MJ2_append_3 36 L (.int (x + y) :: st) h := w_iadd dJ2_append_3_35
theorem w_J2_append_3_36 (d : Nat) (L : a_L) (x : Int32) (i : Nat) (st : List Value) (h : a_H) : a_run d MJ2_append_3 36 L (.int x :: .ref i :: st) h = (a_pf h i 3 [8] (.int x)).bind fun h' => a_run d MJ2_append_3 39 L st h' := w_putf dJ2_append_3_36 rfl rfl (Or.inl rfl) rfl rfl
theorem w_J2_append_3_39 (d : Nat) (a0 : Option Value) (x : Int32) (st : List Value) (h : a_H) : a_run d MJ2_append_3 39 [a0, some (.int x)] st h = a_run d MJ2_append_3 40 [a0, some (.int x)] (.int x :: st) h := w_ldIn dJ2_append_3_39 rfl
theorem w_J2_append_3_40 (d : Nat) (L : a_L) (x : Int32) (st : List Value) (h : a_H) : a_run d MJ2_append_3 40 L (.int x :: st) h = a_run d MJ2_append_3 41 L (.int x.toInt8.toInt32 :: st) h := w_i2b dJ2_append_3_40
theorem w_J2_append_3_41 (d : Nat) (L : a_L) (x y : Int32) (i : Nat) (st : List Value) (h : a_H) : a_run d MJ2_append_3 41 L (.int y :: .int x :: .ref i :: st) h = (a_wri h i a_bz x y).bind fun h' => a_run d MJ2_append_3 42 L st h' := w_bast dJ2_append_3_41
theorem w_J2_append_3_42 (d : Nat) (L : a_L) (st : List Value) (h : a_H) : a_run d MJ2_append_3 42 L st h = a_run d MJ2_append_3 75 L st h := w_goto dJ2_append_3_42 rfl
theorem w_J2_append_3_45 (d : Nat) (a1 : Option Value) (x : Nat) (st : List Value) (h : a_H) : a_run d MJ2_append_3 45 [some (.ref x), a1] st h = a_run d MJ2_append_3 46 [some (.ref x), a1] (.ref x :: st) h := w_ldAn dJ2_append_3_45 rfl
theorem w_J2_append_3_46 (d : Nat) (L : a_L) (i : Nat) (st : List Value) (h : a_H) (hk : a_kls h i = some 8) (hc : a_cat st ≤ 8) : a_run d MJ2_append_3 46 L (.ref i :: st) h = a_cont d MJ2_append_3 (a_bk MJ2_append_3 46 L st (a_call d MJ2_isLatin1 [.ref i] h)) := w_callV (as := [.ref i]) dJ2_append_3_46 rfl rfl rfl hc (a_rcv_of hk rfl)
theorem w_J2_append_3_49 (d : Nat) (L : a_L) (x : Int32) (st : List Value) (h : a_H) : a_run d MJ2_append_3 49 L (.int x :: st) h = if x = 0 then a_run d MJ2_append_3 56 L st h else a_run d MJ2_append_3 52 L st h := w_if_eq dJ2_append_3_49 rfl
theorem w_J2_append_3_52 (d : Nat) (a1 : Option Value) (x : Nat) (st : List Value) (h : a_H) : a_run d MJ2_append_3 52 [some (.ref x), a1] st h = a_run d MJ2_append_3 53 [some (.ref x), a1] (.ref x :: st) h := w_ldAn dJ2_append_3_52 rfl
theorem w_J2_append_3_56 (d : Nat) (a1 : Option Value) (x : Nat) (st : List Value) (h : a_H) : a_run d MJ2_append_3 56 [some (.ref x), a1] st h = a_run d MJ2_append_3 57 [some (.ref x), a1] (.ref x :: st) h := w_ldAn dJ2_append_3_56 rfl
theorem w_J2_append_3_57 (d : Nat) (L : a_L) (i : Nat) (st : List Value) (h : a_H) : a_run d MJ2_append_3 57 L (.ref i :: st) h = (a_gf h i 0 [8]).bind fun v => a_run d MJ2_append_3 60 L (v :: st) h := w_getf dJ2_append_3_57 rfl
theorem w_J2_append_3_60 (d : Nat) (a1 : Option Value) (x : Nat) (st : List Value) (h : a_H) : a_run d MJ2_append_3 60 [some (.ref x), a1] st h = a_run d MJ2_append_3 61 [some (.ref x), a1] (.ref x :: st) h := w_ldAn dJ2_append_3_60 rfl
theorem w_J2_append_3_61 (d : Nat) (L : a_L) (x : Nat) (st : List Value) (h : a_H) : a_run d MJ2_append_3 61 L (.ref x :: st) h = a_run d MJ2_append_3 62 L (.ref x :: .ref x :: st) h := w_dup dJ2_append_3_61
theorem w_J2_append_3_61I (d : Nat) (L : a_L) (x : Int32) (st : List Value) (h : a_H) : a_run d MJ2_append_3 61 L (.int x :: st) h = a_run d MJ2_append_3 62 L (.int x :: .int x :: st) h := w_dupI dJ2_append_3_61
theorem w_J2_append_3_62 (d : Nat) (L : a_L) (i : Nat) (st : List Value) (h : a_H) : a_run d MJ2_append_3 62 L (.ref i :: st) h = (a_gf h i 3 [8]).bind fun v => a_run d MJ2_append_3 65 L (v :: st) h := w_getf dJ2_append_3_62 rfl
theorem w_J2_append_3_65 (d : Nat) (L : a_L) (x : Int32) (y : Nat) (st : List Value) (h : a_H) : a_run d MJ2_append_3 65 L (.int x :: .ref y :: st) h = a_run d MJ2_append_3 66 L (.int x :: .ref y :: .int x :: st) h := w_dupx dJ2_append_3_65
theorem w_J2_append_3_65R (d : Nat) (L : a_L) (x y : Nat) (st : List Value) (h : a_H) : a_run d MJ2_append_3 65 L (.ref x :: .ref y :: st) h = a_run d MJ2_append_3 66 L (.ref x :: .ref y :: .ref x :: st) h := w_dupxR dJ2_append_3_65
theorem w_J2_append_3_66 (d : Nat) (L : a_L) (st : List Value) (h : a_H) : a_run d MJ2_append_3 66 L st h = a_run d MJ2_append_3 67 L (.int (nI 1) :: st) h := w_iconst dJ2_append_3_66 rfl
theorem w_J2_append_3_67 (d : Nat) (L : a_L) (x y : Int32) (st : List Value) (h : a_H) : a_run d MJ2_append_3 67 L (.int y :: .int x :: st) h = a_run d MJ2_append_3 68 L (.int (x + y) :: st) h := w_iadd dJ2_append_3_67
theorem w_J2_append_3_68 (d : Nat) (L : a_L) (x : Int32) (i : Nat) (st : List Value) (h : a_H) : a_run d MJ2_append_3 68 L (.int x :: .ref i :: st) h = (a_pf h i 3 [8] (.int x)).bind fun h' => a_run d MJ2_append_3 71 L st h' := w_putf dJ2_append_3_68 rfl rfl (Or.inl rfl) rfl rfl
theorem w_J2_append_3_71 (d : Nat) (a0 : Option Value) (x : Int32) (st : List Value) (h : a_H) : a_run d MJ2_append_3 71 [a0, some (.int x)] st h = a_run d MJ2_append_3 72 [a0, some (.int x)] (.int x :: st) h := w_ldIn dJ2_append_3_71 rfl
theorem w_J2_append_3_72 (d : Nat) (L : a_L) (v0 v1 v2 : Value) (st : List Value) (h : a_H) (hc : a_cat st ≤ 8) : a_run d MJ2_append_3 72 L (v2 :: v1 :: v0 :: st) h = a_cont d MJ2_append_3 (a_bk MJ2_append_3 72 L st (a_call d MJ5_putCharSB [v0, v1, v2] h)) := w_callS (as := [v0, v1, v2]) dJ2_append_3_72 rfl rfl rfl hc
theorem w_J2_append_3_75 (d : Nat) (a1 : Option Value) (x : Nat) (st : List Value) (h : a_H) : a_run d MJ2_append_3 75 [some (.ref x), a1] st h = a_run d MJ2_append_3 76 [some (.ref x), a1] (.ref x :: st) h := w_ldAn dJ2_append_3_75 rfl
theorem w_J2_append_3_76 (d : Nat) (L : a_L) (x : Nat) (h : a_H) : a_run d MJ2_append_3 76 L [.ref x] h = some (.inl (some (.ref x)), h) := w_aret dJ2_append_3_76 rfl
theorem w_J2_append_3_76N (d : Nat) (L : a_L) (h : a_H) : a_run d MJ2_append_3 76 L [.null] h = some (.inl (some .null), h) := w_aretN dJ2_append_3_76 rfl
theorem e_J2_charAt (d : Nat) (x0 : Nat) (x1 : Int32) (h : a_H) : a_call (d + 1) MJ2_charAt [.ref x0, .int x1] h = a_run d MJ2_charAt 0 [some (.ref x0), some (.int x1), none, none, none] [] h := a_call_run rfl (Nat.le_of_ble_eq_true rfl) rfl
theorem w_J2_charAt_0 (d : Nat) (a1 a2 a3 a4 : Option Value) (x : Nat) (st : List Value) (h : a_H) : a_run d MJ2_charAt 0 [some (.ref x), a1, a2, a3, a4] st h = a_run d MJ2_charAt 1 [some (.ref x), a1, a2, a3, a4] (.ref x :: st) h := w_ldAn dJ2_charAt_0 rfl
theorem w_J2_charAt_1 (d : Nat) (L : a_L) (i : Nat) (st : List Value) (h : a_H) : a_run d MJ2_charAt 1 L (.ref i :: st) h = (a_gf h i 1 [8]).bind fun v => a_run d MJ2_charAt 4 L (v :: st) h := w_getf dJ2_charAt_1 rfl
theorem w_J2_charAt_4 (d : Nat) (a0 a1 a2 a3 a4 : Option Value) (x : Int32) (st : List Value) (h : a_H) : a_run d MJ2_charAt 4 [a0, a1, a2, a3, a4] (.int x :: st) h = a_run d MJ2_charAt 5 [a0, a1, some (.int x), a3, a4] st h := w_stIn dJ2_charAt_4 (Nat.le_of_ble_eq_true rfl) rfl
theorem w_J2_charAt_5 (d : Nat) (a1 a2 a3 a4 : Option Value) (x : Nat) (st : List Value) (h : a_H) : a_run d MJ2_charAt 5 [some (.ref x), a1, a2, a3, a4] st h = a_run d MJ2_charAt 6 [some (.ref x), a1, a2, a3, a4] (.ref x :: st) h := w_ldAn dJ2_charAt_5 rfl
theorem w_J2_charAt_6 (d : Nat) (L : a_L) (i : Nat) (st : List Value) (h : a_H) : a_run d MJ2_charAt 6 L (.ref i :: st) h = (a_gf h i 0 [8]).bind fun v => a_run d MJ2_charAt 9 L (v :: st) h := w_getf dJ2_charAt_6 rfl
theorem w_J2_charAt_9 (d : Nat) (a0 a1 a2 a3 a4 : Option Value) (x : Nat) (st : List Value) (h : a_H) : a_run d MJ2_charAt 9 [a0, a1, a2, a3, a4] (.ref x :: st) h = a_run d MJ2_charAt 10 [a0, a1, a2, some (.ref x), a4] st h := w_stAn dJ2_charAt_9 (Nat.le_of_ble_eq_true rfl) rfl
theorem w_J2_charAt_9N (d : Nat) (a0 a1 a2 a3 a4 : Option Value) (st : List Value) (h : a_H) : a_run d MJ2_charAt 9 [a0, a1, a2, a3, a4] (.null :: st) h = a_run d MJ2_charAt 10 [a0, a1, a2, some .null, a4] st h := w_stNn dJ2_charAt_9 (Nat.le_of_ble_eq_true rfl) rfl
theorem w_J2_charAt_10 (d : Nat) (a1 a2 a3 a4 : Option Value) (x : Nat) (st : List Value) (h : a_H) : a_run d MJ2_charAt 10 [some (.ref x), a1, a2, a3, a4] st h = a_run d MJ2_charAt 11 [some (.ref x), a1, a2, a3, a4] (.ref x :: st) h := w_ldAn dJ2_charAt_10 rfl
theorem w_J2_charAt_11 (d : Nat) (L : a_L) (i : Nat) (st : List Value) (h : a_H) : a_run d MJ2_charAt 11 L (.ref i :: st) h = (a_gf h i 3 [8]).bind fun v => a_run d MJ2_charAt 14 L (v :: st) h := w_getf dJ2_charAt_11 rfl
theorem w_J2_charAt_14 (d : Nat) (a0 a1 a2 a4 : Option Value) (x : Nat) (st : List Value) (h : a_H) : a_run d MJ2_charAt 14 [a0, a1, a2, some (.ref x), a4] st h = a_run d MJ2_charAt 15 [a0, a1, a2, some (.ref x), a4] (.ref x :: st) h := w_ldAn dJ2_charAt_14 rfl
theorem w_J2_charAt_14N (d : Nat) (a0 a1 a2 a4 : Option Value) (st : List Value) (h : a_H) : a_run d MJ2_charAt 14 [a0, a1, a2, some .null, a4] st h = a_run d MJ2_charAt 15 [a0, a1, a2, some .null, a4] (.null :: st) h := w_ldNn dJ2_charAt_14 rfl
theorem w_J2_charAt_15 (d : Nat) (L : a_L) (i : Nat) (st : List Value) (h : a_H) : a_run d MJ2_charAt 15 L (.ref i :: st) h = (a_len h i).bind fun v => a_run d MJ2_charAt 16 L (v :: st) h := w_alen dJ2_charAt_15
theorem w_J2_charAt_16 (d : Nat) (a0 a1 a3 a4 : Option Value) (x : Int32) (st : List Value) (h : a_H) : a_run d MJ2_charAt 16 [a0, a1, some (.int x), a3, a4] st h = a_run d MJ2_charAt 17 [a0, a1, some (.int x), a3, a4] (.int x :: st) h := w_ldIn dJ2_charAt_16 rfl
theorem w_J2_charAt_17 (d : Nat) (L : a_L) (x y : Int32) (st : List Value) (h : a_H) : a_run d MJ2_charAt 17 L (.int y :: .int x :: st) h = a_run d MJ2_charAt 18 L (.int (x >>> (y &&& 31)) :: st) h := w_ishr dJ2_charAt_17
theorem w_J2_charAt_18 (d : Nat) (L : a_L) (x y : Int32) (st : List Value) (h : a_H) (hc : a_cat st ≤ 8) : a_run d MJ2_charAt 18 L (.int y :: .int x :: st) h = a_run d MJ2_charAt 21 L (.int (if y < x then y else x) :: st) h := w_min dJ2_charAt_18 rfl hc
theorem w_J2_charAt_21 (d : Nat) (a0 a1 a2 a3 a4 : Option Value) (x : Int32) (st : List Value) (h : a_H) : a_run d MJ2_charAt 21 [a0, a1, a2, a3, a4] (.int x :: st) h = a_run d MJ2_charAt 23 [a0, a1, a2, a3, some (.int x)] st h := w_stI dJ2_charAt_21 (Nat.le_of_ble_eq_true rfl) rfl
theorem w_J2_charAt_23 (d : Nat) (a0 a2 a3 a4 : Option Value) (x : Int32) (st : List Value) (h : a_H) : a_run d MJ2_charAt 23 [a0, some (.int x), a2, a3, a4] st h = a_run d MJ2_charAt 24 [a0, some (.int x), a2, a3, a4] (.int x :: st) h := w_ldIn dJ2_charAt_23 rfl
theorem w_J2_charAt_24 (d : Nat) (a0 a1 a2 a3 : Option Value) (x : Int32) (st : List Value) (h : a_H) : a_run d MJ2_charAt 24 [a0, a1, a2, a3, some (.int x)] st h = a_run d MJ2_charAt 26 [a0, a1, a2, a3, some (.int x)] (.int x :: st) h := w_ldI dJ2_charAt_24 rfl
theorem w_J2_charAt_26 (d : Nat) (L : a_L) (v0 v1 : Value) (st : List Value) (h : a_H) (hc : a_cat st ≤ 8) : a_run d MJ2_charAt 26 L (v1 :: v0 :: st) h = a_cont d MJ2_charAt (a_bk MJ2_charAt 26 L st (a_call d MJ4_checkIndex [v0, v1] h)) := w_callS (as := [v0, v1]) dJ2_charAt_26 rfl rfl rfl hc
theorem w_J2_charAt_29 (d : Nat) (a0 a1 a3 a4 : Option Value) (x : Int32) (st : List Value) (h : a_H) : a_run d MJ2_charAt 29 [a0, a1, some (.int x), a3, a4] st h = a_run d MJ2_charAt 30 [a0, a1, some (.int x), a3, a4] (.int x :: st) h := w_ldIn dJ2_charAt_29 rfl
theorem w_J2_charAt_30 (d : Nat) (L : a_L) (x : Int32) (st : List Value) (h : a_H) : a_run d MJ2_charAt 30 L (.int x :: st) h = if x = 0 then a_run d MJ2_charAt 33 L st h else a_run d MJ2_charAt 42 L st h := w_if_ne dJ2_charAt_30 rfl
theorem w_J2_charAt_33 (d : Nat) (a0 a1 a2 a4 : Option Value) (x : Nat) (st : List Value) (h : a_H) : a_run d MJ2_charAt 33 [a0, a1, a2, some (.ref x), a4] st h = a_run d MJ2_charAt 34 [a0, a1, a2, some (.ref x), a4] (.ref x :: st) h := w_ldAn dJ2_charAt_33 rfl
theorem w_J2_charAt_33N (d : Nat) (a0 a1 a2 a4 : Option Value) (st : List Value) (h : a_H) : a_run d MJ2_charAt 33 [a0, a1, a2, some .null, a4] st h = a_run d MJ2_charAt 34 [a0, a1, a2, some .null, a4] (.null :: st) h := w_ldNn dJ2_charAt_33 rfl
theorem w_J2_charAt_34 (d : Nat) (a0 a2 a3 a4 : Option Value) (x : Int32) (st : List Value) (h : a_H) : a_run d MJ2_charAt 34 [a0, some (.int x), a2, a3, a4] st h = a_run d MJ2_charAt 35 [a0, some (.int x), a2, a3, a4] (.int x :: st) h := w_ldIn dJ2_charAt_34 rfl
theorem w_J2_charAt_35 (d : Nat) (L : a_L) (x : Int32) (i : Nat) (st : List Value) (h : a_H) : a_run d MJ2_charAt 35 L (.int x :: .ref i :: st) h = (a_rdi h i a_bz x).bind fun v => a_run d MJ2_charAt 36 L (v :: st) h := w_bald dJ2_charAt_35
theorem w_J2_charAt_36 (d : Nat) (L : a_L) (st : List Value) (h : a_H) : a_run d MJ2_charAt 36 L st h = a_run d MJ2_charAt 39 L (.int (nI 255) :: st) h := w_sipush dJ2_charAt_36 rfl
theorem w_J2_charAt_39 (d : Nat) (L : a_L) (x y : Int32) (st : List Value) (h : a_H) : a_run d MJ2_charAt 39 L (.int y :: .int x :: st) h = a_run d MJ2_charAt 40 L (.int (x &&& y) :: st) h := w_iand dJ2_charAt_39
theorem w_J2_charAt_40 (d : Nat) (L : a_L) (x : Int32) (st : List Value) (h : a_H) : a_run d MJ2_charAt 40 L (.int x :: st) h = a_run d MJ2_charAt 41 L (.int (x.toUInt32 % 65536).toInt32 :: st) h := w_i2c dJ2_charAt_40
theorem w_J2_charAt_41 (d : Nat) (L : a_L) (x : Int32) (h : a_H) (hx : a_retI MJ2_charAt x = true) : a_run d MJ2_charAt 41 L [.int x] h = some (.inl (some (.int x)), h) := w_iret dJ2_charAt_41 hx
theorem w_J2_charAt_42 (d : Nat) (a0 a1 a2 a4 : Option Value) (x : Nat) (st : List Value) (h : a_H) : a_run d MJ2_charAt 42 [a0, a1, a2, some (.ref x), a4] st h = a_run d MJ2_charAt 43 [a0, a1, a2, some (.ref x), a4] (.ref x :: st) h := w_ldAn dJ2_charAt_42 rfl
theorem w_J2_charAt_42N (d : Nat) (a0 a1 a2 a4 : Option Value) (st : List Value) (h : a_H) : a_run d MJ2_charAt 42 [a0, a1, a2, some .null, a4] st h = a_run d MJ2_charAt 43 [a0, a1, a2, some .null, a4] (.null :: st) h := w_ldNn dJ2_charAt_42 rfl
theorem w_J2_charAt_43 (d : Nat) (a0 a2 a3 a4 : Option Value) (x : Int32) (st : List Value) (h : a_H) : a_run d MJ2_charAt 43 [a0, some (.int x), a2, a3, a4] st h = a_run d MJ2_charAt 44 [a0, some (.int x), a2, a3, a4] (.int x :: st) h := w_ldIn dJ2_charAt_43 rfl
theorem w_J2_charAt_44 (d : Nat) (L : a_L) (v0 v1 : Value) (st : List Value) (h : a_H) (hc : a_cat st ≤ 8) : a_run d MJ2_charAt 44 L (v1 :: v0 :: st) h = a_cont d MJ2_charAt (a_bk MJ2_charAt 44 L st (a_call d MJ5_getChar [v0, v1] h)) := w_callS (as := [v0, v1]) dJ2_charAt_44 rfl rfl rfl hc
theorem w_J2_charAt_47 (d : Nat) (L : a_L) (x : Int32) (h : a_H) (hx : a_retI MJ2_charAt x = true) : a_run d MJ2_charAt 47 L [.int x] h = some (.inl (some (.int x)), h) := w_iret dJ2_charAt_47 hx
set_option maxRecDepth 100000
def dkwJ6_init_1 : List UInt8 := [182, 0, 27, 87, 177]
abbrev dktJ6_init_1 : List UInt8 := dkwJ6_init_1 ++ []
def dkwJ6_init_0 : List UInt8 := [42, 183, 0, 1, 42, 42, 181, 0, 7, 42, 178, 0, 13, 181, 0, 17, 42, 178, 0, 20, 181, 0, 24, 42]
abbrev dktJ6_init_0 : List UInt8 := dkwJ6_init_0 ++ dktJ6_init_1
theorem dksJ6_init_0 : cJ6_init.data.toList.drop 0 = dktJ6_init_0 := by decide +kernel
theorem dksJ6_init_1 : cJ6_init.data.toList.drop 24 = dktJ6_init_1 := dk_seg dksJ6_init_0 24 rfl rfl
theorem dJ6_init_0 : decode cJ6_init 0 = .ok (.aload_n 0, 1) := dk_42 (dk_at dksJ6_init_0 0 rfl rfl)
theorem dJ6_init_1 : decode cJ6_init 1 = .ok (.invokespecial 1, 3) := dk_183 0 1 (dk_at dksJ6_init_0 1 rfl rfl)
theorem dJ6_init_4 : decode cJ6_init 4 = .ok (.aload_n 0, 1) := dk_42 (dk_at dksJ6_init_0 4 rfl rfl)
theorem dJ6_init_5 : decode cJ6_init 5 = .ok (.aload_n 0, 1) := dk_42 (dk_at dksJ6_init_0 5 rfl rfl)
theorem dJ6_init_6 : decode cJ6_init 6 = .ok (.putfield 7, 3) := dk_181 0 7 (dk_at dksJ6_init_0 6 rfl rfl)
theorem dJ6_init_9 : decode cJ6_init 9 = .ok (.aload_n 0, 1) := dk_42 (dk_at dksJ6_init_0 9 rfl rfl)
theorem dJ6_init_10 : decode cJ6_init 10 = .ok (.getstatic 13, 3) := dk_178 0 13 (dk_at dksJ6_init_0 10 rfl rfl)
theorem dJ6_init_13 : decode cJ6_init 13 = .ok (.putfield 17, 3) := dk_181 0 17 (dk_at dksJ6_init_0 13 rfl rfl)
theorem dJ6_init_16 : decode cJ6_init 16 = .ok (.aload_n 0, 1) := dk_42 (dk_at dksJ6_init_0 16 rfl rfl)
theorem dJ6_init_17 : decode cJ6_init 17 = .ok (.getstatic 20, 3) := dk_178 0 20 (dk_at dksJ6_init_0 17 rfl rfl)
theorem dJ6_init_20 : decode cJ6_init 20 = .ok (.putfield 24, 3) := dk_181 0 24 (dk_at dksJ6_init_0 20 rfl rfl)
theorem dJ6_init_23 : decode cJ6_init 23 = .ok (.aload_n 0, 1) := dk_42 (dk_at dksJ6_init_0 23 rfl rfl)
theorem dJ6_init_24 : decode cJ6_init 24 = .ok (.invokevirtual 27, 3) := dk_182 0 27 (dk_at dksJ6_init_1 0 rfl rfl)
theorem dJ6_init_27 : decode cJ6_init 27 = .ok (.pop, 1) := dk_87 (dk_at dksJ6_init_1 3 rfl rfl)
theorem dJ6_init_28 : decode cJ6_init 28 = .ok (.return_, 1) := dk_177 (dk_at dksJ6_init_1 4 rfl rfl)
def dkwJ6_init_2_1 : List UInt8 := [182, 0, 27, 87, 42, 43, 181, 0, 31, 177]
abbrev dktJ6_init_2_1 : List UInt8 := dkwJ6_init_2_1 ++ []
def dkwJ6_init_2_0 : List UInt8 := [42, 183, 0, 1, 42, 42, 181, 0, 7, 42, 178, 0, 13, 181, 0, 17, 42, 178, 0, 20, 181, 0, 24, 42]
abbrev dktJ6_init_2_0 : List UInt8 := dkwJ6_init_2_0 ++ dktJ6_init_2_1
theorem dksJ6_init_2_0 : cJ6_init_2.data.toList.drop 0 = dktJ6_init_2_0 := by decide +kernel
theorem dksJ6_init_2_1 : cJ6_init_2.data.toList.drop 24 = dktJ6_init_2_1 := dk_seg dksJ6_init_2_0 24 rfl rfl
theorem dJ6_init_2_0 : decode cJ6_init_2 0 = .ok (.aload_n 0, 1) := dk_42 (dk_at dksJ6_init_2_0 0 rfl rfl)
theorem dJ6_init_2_1 : decode cJ6_init_2 1 = .ok (.invokespecial 1, 3) := dk_183 0 1 (dk_at dksJ6_init_2_0 1 rfl rfl)
theorem dJ6_init_2_4 : decode cJ6_init_2 4 = .ok (.aload_n 0, 1) := dk_42 (dk_at dksJ6_init_2_0 4 rfl rfl)
theorem dJ6_init_2_5 : decode cJ6_init_2 5 = .ok (.aload_n 0, 1) := dk_42 (dk_at dksJ6_init_2_0 5 rfl rfl)
theorem dJ6_init_2_6 : decode cJ6_init_2 6 = .ok (.putfield 7, 3) := dk_181 0 7 (dk_at dksJ6_init_2_0 6 rfl rfl)
theorem dJ6_init_2_9 : decode cJ6_init_2 9 = .ok (.aload_n 0, 1) := dk_42 (dk_at dksJ6_init_2_0 9 rfl rfl)
theorem dJ6_init_2_10 : decode cJ6_init_2 10 = .ok (.getstatic 13, 3) := dk_178 0 13 (dk_at dksJ6_init_2_0 10 rfl rfl)
theorem dJ6_init_2_13 : decode cJ6_init_2 13 = .ok (.putfield 17, 3) := dk_181 0 17 (dk_at dksJ6_init_2_0 13 rfl rfl)
theorem dJ6_init_2_16 : decode cJ6_init_2 16 = .ok (.aload_n 0, 1) := dk_42 (dk_at dksJ6_init_2_0 16 rfl rfl)
theorem dJ6_init_2_17 : decode cJ6_init_2 17 = .ok (.getstatic 20, 3) := dk_178 0 20 (dk_at dksJ6_init_2_0 17 rfl rfl)
theorem dJ6_init_2_20 : decode cJ6_init_2 20 = .ok (.putfield 24, 3) := dk_181 0 24 (dk_at dksJ6_init_2_0 20 rfl rfl)
theorem dJ6_init_2_23 : decode cJ6_init_2 23 = .ok (.aload_n 0, 1) := dk_42 (dk_at dksJ6_init_2_0 23 rfl rfl)
theorem dJ6_init_2_24 : decode cJ6_init_2 24 = .ok (.invokevirtual 27, 3) := dk_182 0 27 (dk_at dksJ6_init_2_1 0 rfl rfl)
theorem dJ6_init_2_27 : decode cJ6_init_2 27 = .ok (.pop, 1) := dk_87 (dk_at dksJ6_init_2_1 3 rfl rfl)
theorem dJ6_init_2_28 : decode cJ6_init_2 28 = .ok (.aload_n 0, 1) := dk_42 (dk_at dksJ6_init_2_1 4 rfl rfl)
theorem dJ6_init_2_29 : decode cJ6_init_2 29 = .ok (.aload_n 1, 1) := dk_43 (dk_at dksJ6_init_2_1 5 rfl rfl)
theorem dJ6_init_2_30 : decode cJ6_init_2 30 = .ok (.putfield 31, 3) := dk_181 0 31 (dk_at dksJ6_init_2_1 6 rfl rfl)
theorem dJ6_init_2_33 : decode cJ6_init_2 33 = .ok (.return_, 1) := dk_177 (dk_at dksJ6_init_2_1 9 rfl rfl)
def dkwJ6_init_3_1 : List UInt8 := [182, 0, 27, 87, 42, 43, 181, 0, 31, 42, 44, 181, 0, 7, 177]
abbrev dktJ6_init_3_1 : List UInt8 := dkwJ6_init_3_1 ++ []
def dkwJ6_init_3_0 : List UInt8 := [42, 183, 0, 1, 42, 42, 181, 0, 7, 42, 178, 0, 13, 181, 0, 17, 42, 178, 0, 20, 181, 0, 24, 42]
abbrev dktJ6_init_3_0 : List UInt8 := dkwJ6_init_3_0 ++ dktJ6_init_3_1
theorem dksJ6_init_3_0 : cJ6_init_3.data.toList.drop 0 = dktJ6_init_3_0 := by decide +kernel
theorem dksJ6_init_3_1 : cJ6_init_3.data.toList.drop 24 = dktJ6_init_3_1 := dk_seg dksJ6_init_3_0 24 rfl rfl
theorem dJ6_init_3_0 : decode cJ6_init_3 0 = .ok (.aload_n 0, 1) := dk_42 (dk_at dksJ6_init_3_0 0 rfl rfl)
theorem dJ6_init_3_1 : decode cJ6_init_3 1 = .ok (.invokespecial 1, 3) := dk_183 0 1 (dk_at dksJ6_init_3_0 1 rfl rfl)
theorem dJ6_init_3_4 : decode cJ6_init_3 4 = .ok (.aload_n 0, 1) := dk_42 (dk_at dksJ6_init_3_0 4 rfl rfl)
theorem dJ6_init_3_5 : decode cJ6_init_3 5 = .ok (.aload_n 0, 1) := dk_42 (dk_at dksJ6_init_3_0 5 rfl rfl)
theorem dJ6_init_3_6 : decode cJ6_init_3 6 = .ok (.putfield 7, 3) := dk_181 0 7 (dk_at dksJ6_init_3_0 6 rfl rfl)
theorem dJ6_init_3_9 : decode cJ6_init_3 9 = .ok (.aload_n 0, 1) := dk_42 (dk_at dksJ6_init_3_0 9 rfl rfl)
theorem dJ6_init_3_10 : decode cJ6_init_3 10 = .ok (.getstatic 13, 3) := dk_178 0 13 (dk_at dksJ6_init_3_0 10 rfl rfl)
theorem dJ6_init_3_13 : decode cJ6_init_3 13 = .ok (.putfield 17, 3) := dk_181 0 17 (dk_at dksJ6_init_3_0 13 rfl rfl)
theorem dJ6_init_3_16 : decode cJ6_init_3 16 = .ok (.aload_n 0, 1) := dk_42 (dk_at dksJ6_init_3_0 16 rfl rfl)
theorem dJ6_init_3_17 : decode cJ6_init_3 17 = .ok (.getstatic 20, 3) := dk_178 0 20 (dk_at dksJ6_init_3_0 17 rfl rfl)
theorem dJ6_init_3_20 : decode cJ6_init_3 20 = .ok (.putfield 24, 3) := dk_181 0 24 (dk_at dksJ6_init_3_0 20 rfl rfl)
theorem dJ6_init_3_23 : decode cJ6_init_3 23 = .ok (.aload_n 0, 1) := dk_42 (dk_at dksJ6_init_3_0 23 rfl rfl)
theorem dJ6_init_3_24 : decode cJ6_init_3 24 = .ok (.invokevirtual 27, 3) := dk_182 0 27 (dk_at dksJ6_init_3_1 0 rfl rfl)
theorem dJ6_init_3_27 : decode cJ6_init_3 27 = .ok (.pop, 1) := dk_87 (dk_at dksJ6_init_3_1 3 rfl rfl)
theorem dJ6_init_3_28 : decode cJ6_init_3 28 = .ok (.aload_n 0, 1) := dk_42 (dk_at dksJ6_init_3_1 4 rfl rfl)
theorem dJ6_init_3_29 : decode cJ6_init_3 29 = .ok (.aload_n 1, 1) := dk_43 (dk_at dksJ6_init_3_1 5 rfl rfl)
theorem dJ6_init_3_30 : decode cJ6_init_3 30 = .ok (.putfield 31, 3) := dk_181 0 31 (dk_at dksJ6_init_3_1 6 rfl rfl)
theorem dJ6_init_3_33 : decode cJ6_init_3 33 = .ok (.aload_n 0, 1) := dk_42 (dk_at dksJ6_init_3_1 9 rfl rfl)
theorem dJ6_init_3_34 : decode cJ6_init_3 34 = .ok (.aload_n 2, 1) := dk_44 (dk_at dksJ6_init_3_1 10 rfl rfl)
theorem dJ6_init_3_35 : decode cJ6_init_3 35 = .ok (.putfield 7, 3) := dk_181 0 7 (dk_at dksJ6_init_3_1 11 rfl rfl)
theorem dJ6_init_3_38 : decode cJ6_init_3 38 = .ok (.return_, 1) := dk_177 (dk_at dksJ6_init_3_1 14 rfl rfl)
theorem e_J6_init (d : Nat) (x0 : Nat) (h : a_H) : a_call (d + 1) MJ6_init [.ref x0] h = a_run d MJ6_init 0 [some (.ref x0)] [] h := a_call_run rfl (Nat.le_of_ble_eq_true rfl) rfl
theorem w_J6_init_0 (d : Nat) (x : Nat) (st : List Value) (h : a_H) : a_run d MJ6_init 0 [some (.ref x)] st h = a_run d MJ6_init 1 [some (.ref x)] (.ref x :: st) h := w_ldAn dJ6_init_0 rfl
theorem w_J6_init_1 (d : Nat) (L : a_L) (i : Nat) (st : List Value) (h : a_H) (hi : 1024 ≤ i) (hc : a_cat st ≤ 8) : a_run d MJ6_init 1 L (.ref i :: st) h = a_run d MJ6_init 4 L st h := w_obj dJ6_init_1 rfl hi hc
theorem w_J6_init_4 (d : Nat) (x : Nat) (st : List Value) (h : a_H) : a_run d MJ6_init 4 [some (.ref x)] st h = a_run d MJ6_init 5 [some (.ref x)] (.ref x :: st) h := w_ldAn dJ6_init_4 rfl
theorem w_J6_init_5 (d : Nat) (x : Nat) (st : List Value) (h : a_H) : a_run d MJ6_init 5 [some (.ref x)] st h = a_run d MJ6_init 6 [some (.ref x)] (.ref x :: st) h := w_ldAn dJ6_init_5 rfl
theorem w_J6_init_6 (d : Nat) (L : a_L) (x : Nat) (i : Nat) (st : List Value) (h : a_H) : a_run d MJ6_init 6 L (.ref x :: .ref i :: st) h = (a_pf h i 0 [3, 4, 5, 9, 10, 11] (.ref x)).bind fun h' => a_run d MJ6_init 9 L st h' := w_putf dJ6_init_6 rfl rfl (Or.inl rfl) rfl rfl
theorem w_J6_init_6N (d : Nat) (L : a_L) (i : Nat) (st : List Value) (h : a_H) : a_run d MJ6_init 6 L (.null :: .ref i :: st) h = (a_pf h i 0 [3, 4, 5, 9, 10, 11] (.null)).bind fun h' => a_run d MJ6_init 9 L st h' := w_putf dJ6_init_6 rfl rfl (Or.inl rfl) rfl rfl
theorem w_J6_init_9 (d : Nat) (x : Nat) (st : List Value) (h : a_H) : a_run d MJ6_init 9 [some (.ref x)] st h = a_run d MJ6_init 10 [some (.ref x)] (.ref x :: st) h := w_ldAn dJ6_init_9 rfl
theorem w_J6_init_10 (d : Nat) (L : a_L) (st : List Value) (h : a_H) : a_run d MJ6_init 10 L st h = a_run d MJ6_init 13 L (.ref 600 :: st) h := w_gst dJ6_init_10 rfl
theorem w_J6_init_13 (d : Nat) (L : a_L) (x : Nat) (i : Nat) (st : List Value) (h : a_H) : a_run d MJ6_init 13 L (.ref x :: .ref i :: st) h = (a_pf h i 1 [3, 4, 5, 9, 10, 11] (.ref x)).bind fun h' => a_run d MJ6_init 16 L st h' := w_putf dJ6_init_13 rfl rfl (Or.inl rfl) rfl rfl
theorem w_J6_init_13N (d : Nat) (L : a_L) (i : Nat) (st : List Value) (h : a_H) : a_run d MJ6_init 13 L (.null :: .ref i :: st) h = (a_pf h i 1 [3, 4, 5, 9, 10, 11] (.null)).bind fun h' => a_run d MJ6_init 16 L st h' := w_putf dJ6_init_13 rfl rfl (Or.inl rfl) rfl rfl
theorem w_J6_init_16 (d : Nat) (x : Nat) (st : List Value) (h : a_H) : a_run d MJ6_init 16 [some (.ref x)] st h = a_run d MJ6_init 17 [some (.ref x)] (.ref x :: st) h := w_ldAn dJ6_init_16 rfl
theorem w_J6_init_17 (d : Nat) (L : a_L) (st : List Value) (h : a_H) : a_run d MJ6_init 17 L st h = a_run d MJ6_init 20 L (.ref 601 :: st) h := w_gst dJ6_init_17 rfl
theorem w_J6_init_20 (d : Nat) (L : a_L) (x : Nat) (i : Nat) (st : List Value) (h : a_H) : a_run d MJ6_init 20 L (.ref x :: .ref i :: st) h = (a_pf h i 2 [3, 4, 5, 9, 10, 11] (.ref x)).bind fun h' => a_run d MJ6_init 23 L st h' := w_putf dJ6_init_20 rfl rfl (Or.inl rfl) rfl rfl
theorem w_J6_init_20N (d : Nat) (L : a_L) (i : Nat) (st : List Value) (h : a_H) : a_run d MJ6_init 20 L (.null :: .ref i :: st) h = (a_pf h i 2 [3, 4, 5, 9, 10, 11] (.null)).bind fun h' => a_run d MJ6_init 23 L st h' := w_putf dJ6_init_20 rfl rfl (Or.inl rfl) rfl rfl
theorem w_J6_init_23 (d : Nat) (x : Nat) (st : List Value) (h : a_H) : a_run d MJ6_init 23 [some (.ref x)] st h = a_run d MJ6_init 24 [some (.ref x)] (.ref x :: st) h := w_ldAn dJ6_init_23 rfl
theorem w_J6_init_24 (d : Nat) (L : a_L) (i : Nat) (st : List Value) (h : a_H) (hi : 1024 ≤ i) (hc : a_cat st ≤ 8) (h1 : a_gf h i 1 [3, 4, 5, 9, 10, 11] = some (.ref 600)) (h4 : a_gf h i 4 [3, 4, 5, 9, 10, 11] = some .null) : a_run d MJ6_init 24 L (.ref i :: st) h = a_run d MJ6_init 27 L (.ref i :: st) h := w_fil dJ6_init_24 rfl hi hc h1 h4
theorem w_J6_init_27 (d : Nat) (L : a_L) (x : Nat) (st : List Value) (h : a_H) : a_run d MJ6_init 27 L (.ref x :: st) h = a_run d MJ6_init 28 L st h := w_pop dJ6_init_27
theorem w_J6_init_27I (d : Nat) (L : a_L) (x : Int32) (st : List Value) (h : a_H) : a_run d MJ6_init 27 L (.int x :: st) h = a_run d MJ6_init 28 L st h := w_popI dJ6_init_27
theorem w_J6_init_28 (d : Nat) (L : a_L) (h : a_H) : a_run d MJ6_init 28 L [] h = some (.inl none, h) := w_vret dJ6_init_28 rfl
theorem e_J6_init_2 (d : Nat) (x0 : Nat) (x1 : Nat) (h : a_H) : a_call (d + 1) MJ6_init_2 [.ref x0, .ref x1] h = a_run d MJ6_init_2 0 [some (.ref x0), some (.ref x1)] [] h := a_call_run rfl (Nat.le_of_ble_eq_true rfl) rfl
theorem w_J6_init_2_0 (d : Nat) (a1 : Option Value) (x : Nat) (st : List Value) (h : a_H) : a_run d MJ6_init_2 0 [some (.ref x), a1] st h = a_run d MJ6_init_2 1 [some (.ref x), a1] (.ref x :: st) h := w_ldAn dJ6_init_2_0 rfl
theorem w_J6_init_2_1 (d : Nat) (L : a_L) (i : Nat) (st : List Value) (h : a_H) (hi : 1024 ≤ i) (hc : a_cat st ≤ 8) : a_run d MJ6_init_2 1 L (.ref i :: st) h = a_run d MJ6_init_2 4 L st h := w_obj dJ6_init_2_1 rfl hi hc
theorem w_J6_init_2_4 (d : Nat) (a1 : Option Value) (x : Nat) (st : List Value) (h : a_H) : a_run d MJ6_init_2 4 [some (.ref x), a1] st h = a_run d MJ6_init_2 5 [some (.ref x), a1] (.ref x :: st) h := w_ldAn dJ6_init_2_4 rfl
theorem w_J6_init_2_5 (d : Nat) (a1 : Option Value) (x : Nat) (st : List Value) (h : a_H) : a_run d MJ6_init_2 5 [some (.ref x), a1] st h = a_run d MJ6_init_2 6 [some (.ref x), a1] (.ref x :: st) h := w_ldAn dJ6_init_2_5 rfl
theorem w_J6_init_2_6 (d : Nat) (L : a_L) (x : Nat) (i : Nat) (st : List Value) (h : a_H) : a_run d MJ6_init_2 6 L (.ref x :: .ref i :: st) h = (a_pf h i 0 [3, 4, 5, 9, 10, 11] (.ref x)).bind fun h' => a_run d MJ6_init_2 9 L st h' := w_putf dJ6_init_2_6 rfl rfl (Or.inl rfl) rfl rfl
theorem w_J6_init_2_6N (d : Nat) (L : a_L) (i : Nat) (st : List Value) (h : a_H) : a_run d MJ6_init_2 6 L (.null :: .ref i :: st) h = (a_pf h i 0 [3, 4, 5, 9, 10, 11] (.null)).bind fun h' => a_run d MJ6_init_2 9 L st h' := w_putf dJ6_init_2_6 rfl rfl (Or.inl rfl) rfl rfl
theorem w_J6_init_2_9 (d : Nat) (a1 : Option Value) (x : Nat) (st : List Value) (h : a_H) : a_run d MJ6_init_2 9 [some (.ref x), a1] st h = a_run d MJ6_init_2 10 [some (.ref x), a1] (.ref x :: st) h := w_ldAn dJ6_init_2_9 rfl
theorem w_J6_init_2_10 (d : Nat) (L : a_L) (st : List Value) (h : a_H) : a_run d MJ6_init_2 10 L st h = a_run d MJ6_init_2 13 L (.ref 600 :: st) h := w_gst dJ6_init_2_10 rfl
theorem w_J6_init_2_13 (d : Nat) (L : a_L) (x : Nat) (i : Nat) (st : List Value) (h : a_H) : a_run d MJ6_init_2 13 L (.ref x :: .ref i :: st) h = (a_pf h i 1 [3, 4, 5, 9, 10, 11] (.ref x)).bind fun h' => a_run d MJ6_init_2 16 L st h' := w_putf dJ6_init_2_13 rfl rfl (Or.inl rfl) rfl rfl
theorem w_J6_init_2_13N (d : Nat) (L : a_L) (i : Nat) (st : List Value) (h : a_H) : a_run d MJ6_init_2 13 L (.null :: .ref i :: st) h = (a_pf h i 1 [3, 4, 5, 9, 10, 11] (.null)).bind fun h' => a_run d MJ6_init_2 16 L st h' := w_putf dJ6_init_2_13 rfl rfl (Or.inl rfl) rfl rfl
theorem w_J6_init_2_16 (d : Nat) (a1 : Option Value) (x : Nat) (st : List Value) (h : a_H) : a_run d MJ6_init_2 16 [some (.ref x), a1] st h = a_run d MJ6_init_2 17 [some (.ref x), a1] (.ref x :: st) h := w_ldAn dJ6_init_2_16 rfl
theorem w_J6_init_2_17 (d : Nat) (L : a_L) (st : List Value) (h : a_H) : a_run d MJ6_init_2 17 L st h = a_run d MJ6_init_2 20 L (.ref 601 :: st) h := w_gst dJ6_init_2_17 rfl
theorem w_J6_init_2_20 (d : Nat) (L : a_L) (x : Nat) (i : Nat) (st : List Value) (h : a_H) : a_run d MJ6_init_2 20 L (.ref x :: .ref i :: st) h = (a_pf h i 2 [3, 4, 5, 9, 10, 11] (.ref x)).bind fun h' => a_run d MJ6_init_2 23 L st h' := w_putf dJ6_init_2_20 rfl rfl (Or.inl rfl) rfl rfl
theorem w_J6_init_2_20N (d : Nat) (L : a_L) (i : Nat) (st : List Value) (h : a_H) : a_run d MJ6_init_2 20 L (.null :: .ref i :: st) h = (a_pf h i 2 [3, 4, 5, 9, 10, 11] (.null)).bind fun h' => a_run d MJ6_init_2 23 L st h' := w_putf dJ6_init_2_20 rfl rfl (Or.inl rfl) rfl rfl
theorem w_J6_init_2_23 (d : Nat) (a1 : Option Value) (x : Nat) (st : List Value) (h : a_H) : a_run d MJ6_init_2 23 [some (.ref x), a1] st h = a_run d MJ6_init_2 24 [some (.ref x), a1] (.ref x :: st) h := w_ldAn dJ6_init_2_23 rfl
theorem w_J6_init_2_24 (d : Nat) (L : a_L) (i : Nat) (st : List Value) (h : a_H) (hi : 1024 ≤ i) (hc : a_cat st ≤ 8) (h1 : a_gf h i 1 [3, 4, 5, 9, 10, 11] = some (.ref 600)) (h4 : a_gf h i 4 [3, 4, 5, 9, 10, 11] = some .null) : a_run d MJ6_init_2 24 L (.ref i :: st) h = a_run d MJ6_init_2 27 L (.ref i :: st) h := w_fil dJ6_init_2_24 rfl hi hc h1 h4
theorem w_J6_init_2_27 (d : Nat) (L : a_L) (x : Nat) (st : List Value) (h : a_H) : a_run d MJ6_init_2 27 L (.ref x :: st) h = a_run d MJ6_init_2 28 L st h := w_pop dJ6_init_2_27
theorem w_J6_init_2_27I (d : Nat) (L : a_L) (x : Int32) (st : List Value) (h : a_H) : a_run d MJ6_init_2 27 L (.int x :: st) h = a_run d MJ6_init_2 28 L st h := w_popI dJ6_init_2_27
theorem w_J6_init_2_28 (d : Nat) (a1 : Option Value) (x : Nat) (st : List Value) (h : a_H) : a_run d MJ6_init_2 28 [some (.ref x), a1] st h = a_run d MJ6_init_2 29 [some (.ref x), a1] (.ref x :: st) h := w_ldAn dJ6_init_2_28 rfl
theorem w_J6_init_2_29 (d : Nat) (a0 : Option Value) (x : Nat) (st : List Value) (h : a_H) : a_run d MJ6_init_2 29 [a0, some (.ref x)] st h = a_run d MJ6_init_2 30 [a0, some (.ref x)] (.ref x :: st) h := w_ldAn dJ6_init_2_29 rfl
theorem w_J6_init_2_29N (d : Nat) (a0 : Option Value) (st : List Value) (h : a_H) : a_run d MJ6_init_2 29 [a0, some .null] st h = a_run d MJ6_init_2 30 [a0, some .null] (.null :: st) h := w_ldNn dJ6_init_2_29 rfl
theorem w_J6_init_2_30 (d : Nat) (L : a_L) (x : Nat) (i : Nat) (st : List Value) (h : a_H) : a_run d MJ6_init_2 30 L (.ref x :: .ref i :: st) h = (a_pf h i 3 [3, 4, 5, 9, 10, 11] (.ref x)).bind fun h' => a_run d MJ6_init_2 33 L st h' := w_putf dJ6_init_2_30 rfl rfl (Or.inl rfl) rfl rfl
theorem w_J6_init_2_30N (d : Nat) (L : a_L) (i : Nat) (st : List Value) (h : a_H) : a_run d MJ6_init_2 30 L (.null :: .ref i :: st) h = (a_pf h i 3 [3, 4, 5, 9, 10, 11] (.null)).bind fun h' => a_run d MJ6_init_2 33 L st h' := w_putf dJ6_init_2_30 rfl rfl (Or.inl rfl) rfl rfl
theorem w_J6_init_2_33 (d : Nat) (L : a_L) (h : a_H) : a_run d MJ6_init_2 33 L [] h = some (.inl none, h) := w_vret dJ6_init_2_33 rfl
theorem e_J6_init_3 (d : Nat) (x0 : Nat) (x1 : Nat) (x2 : Nat) (h : a_H) : a_call (d + 1) MJ6_init_3 [.ref x0, .ref x1, .ref x2] h = a_run d MJ6_init_3 0 [some (.ref x0), some (.ref x1), some (.ref x2)] [] h := a_call_run rfl (Nat.le_of_ble_eq_true rfl) rfl
theorem w_J6_init_3_0 (d : Nat) (a1 a2 : Option Value) (x : Nat) (st : List Value) (h : a_H) : a_run d MJ6_init_3 0 [some (.ref x), a1, a2] st h = a_run d MJ6_init_3 1 [some (.ref x), a1, a2] (.ref x :: st) h := w_ldAn dJ6_init_3_0 rfl
theorem w_J6_init_3_1 (d : Nat) (L : a_L) (i : Nat) (st : List Value) (h : a_H) (hi : 1024 ≤ i) (hc : a_cat st ≤ 8) : a_run d MJ6_init_3 1 L (.ref i :: st) h = a_run d MJ6_init_3 4 L st h := w_obj dJ6_init_3_1 rfl hi hc
theorem w_J6_init_3_4 (d : Nat) (a1 a2 : Option Value) (x : Nat) (st : List Value) (h : a_H) : a_run d MJ6_init_3 4 [some (.ref x), a1, a2] st h = a_run d MJ6_init_3 5 [some (.ref x), a1, a2] (.ref x :: st) h := w_ldAn dJ6_init_3_4 rfl
theorem w_J6_init_3_5 (d : Nat) (a1 a2 : Option Value) (x : Nat) (st : List Value) (h : a_H) : a_run d MJ6_init_3 5 [some (.ref x), a1, a2] st h = a_run d MJ6_init_3 6 [some (.ref x), a1, a2] (.ref x :: st) h := w_ldAn dJ6_init_3_5 rfl
theorem w_J6_init_3_6 (d : Nat) (L : a_L) (x : Nat) (i : Nat) (st : List Value) (h : a_H) : a_run d MJ6_init_3 6 L (.ref x :: .ref i :: st) h = (a_pf h i 0 [3, 4, 5, 9, 10, 11] (.ref x)).bind fun h' => a_run d MJ6_init_3 9 L st h' := w_putf dJ6_init_3_6 rfl rfl (Or.inl rfl) rfl rfl
theorem w_J6_init_3_6N (d : Nat) (L : a_L) (i : Nat) (st : List Value) (h : a_H) : a_run d MJ6_init_3 6 L (.null :: .ref i :: st) h = (a_pf h i 0 [3, 4, 5, 9, 10, 11] (.null)).bind fun h' => a_run d MJ6_init_3 9 L st h' := w_putf dJ6_init_3_6 rfl rfl (Or.inl rfl) rfl rfl
theorem w_J6_init_3_9 (d : Nat) (a1 a2 : Option Value) (x : Nat) (st : List Value) (h : a_H) : a_run d MJ6_init_3 9 [some (.ref x), a1, a2] st h = a_run d MJ6_init_3 10 [some (.ref x), a1, a2] (.ref x :: st) h := w_ldAn dJ6_init_3_9 rfl
theorem w_J6_init_3_10 (d : Nat) (L : a_L) (st : List Value) (h : a_H) : a_run d MJ6_init_3 10 L st h = a_run d MJ6_init_3 13 L (.ref 600 :: st) h := w_gst dJ6_init_3_10 rfl
theorem w_J6_init_3_13 (d : Nat) (L : a_L) (x : Nat) (i : Nat) (st : List Value) (h : a_H) : a_run d MJ6_init_3 13 L (.ref x :: .ref i :: st) h = (a_pf h i 1 [3, 4, 5, 9, 10, 11] (.ref x)).bind fun h' => a_run d MJ6_init_3 16 L st h' := w_putf dJ6_init_3_13 rfl rfl (Or.inl rfl) rfl rfl
theorem w_J6_init_3_13N (d : Nat) (L : a_L) (i : Nat) (st : List Value) (h : a_H) : a_run d MJ6_init_3 13 L (.null :: .ref i :: st) h = (a_pf h i 1 [3, 4, 5, 9, 10, 11] (.null)).bind fun h' => a_run d MJ6_init_3 16 L st h' := w_putf dJ6_init_3_13 rfl rfl (Or.inl rfl) rfl rfl
theorem w_J6_init_3_16 (d : Nat) (a1 a2 : Option Value) (x : Nat) (st : List Value) (h : a_H) : a_run d MJ6_init_3 16 [some (.ref x), a1, a2] st h = a_run d MJ6_init_3 17 [some (.ref x), a1, a2] (.ref x :: st) h := w_ldAn dJ6_init_3_16 rfl
theorem w_J6_init_3_17 (d : Nat) (L : a_L) (st : List Value) (h : a_H) : a_run d MJ6_init_3 17 L st h = a_run d MJ6_init_3 20 L (.ref 601 :: st) h := w_gst dJ6_init_3_17 rfl
theorem w_J6_init_3_20 (d : Nat) (L : a_L) (x : Nat) (i : Nat) (st : List Value) (h : a_H) : a_run d MJ6_init_3 20 L (.ref x :: .ref i :: st) h = (a_pf h i 2 [3, 4, 5, 9, 10, 11] (.ref x)).bind fun h' => a_run d MJ6_init_3 23 L st h' := w_putf dJ6_init_3_20 rfl rfl (Or.inl rfl) rfl rfl
theorem w_J6_init_3_20N (d : Nat) (L : a_L) (i : Nat) (st : List Value) (h : a_H) : a_run d MJ6_init_3 20 L (.null :: .ref i :: st) h = (a_pf h i 2 [3, 4, 5, 9, 10, 11] (.null)).bind fun h' => a_run d MJ6_init_3 23 L st h' := w_putf dJ6_init_3_20 rfl rfl (Or.inl rfl) rfl rfl
theorem w_J6_init_3_23 (d : Nat) (a1 a2 : Option Value) (x : Nat) (st : List Value) (h : a_H) : a_run d MJ6_init_3 23 [some (.ref x), a1, a2] st h = a_run d MJ6_init_3 24 [some (.ref x), a1, a2] (.ref x :: st) h := w_ldAn dJ6_init_3_23 rfl
theorem w_J6_init_3_24 (d : Nat) (L : a_L) (i : Nat) (st : List Value) (h : a_H) (hi : 1024 ≤ i) (hc : a_cat st ≤ 8) (h1 : a_gf h i 1 [3, 4, 5, 9, 10, 11] = some (.ref 600)) (h4 : a_gf h i 4 [3, 4, 5, 9, 10, 11] = some .null) : a_run d MJ6_init_3 24 L (.ref i :: st) h = a_run d MJ6_init_3 27 L (.ref i :: st) h := w_fil dJ6_init_3_24 rfl hi hc h1 h4
theorem w_J6_init_3_27 (d : Nat) (L : a_L) (x : Nat) (st : List Value) (h : a_H) : a_run d MJ6_init_3 27 L (.ref x :: st) h = a_run d MJ6_init_3 28 L st h := w_pop dJ6_init_3_27
theorem w_J6_init_3_27I (d : Nat) (L : a_L) (x : Int32) (st : List Value) (h : a_H) : a_run d MJ6_init_3 27 L (.int x :: st) h = a_run d MJ6_init_3 28 L st h := w_popI dJ6_init_3_27
theorem w_J6_init_3_28 (d : Nat) (a1 a2 : Option Value) (x : Nat) (st : List Value) (h : a_H) : a_run d MJ6_init_3 28 [some (.ref x), a1, a2] st h = a_run d MJ6_init_3 29 [some (.ref x), a1, a2] (.ref x :: st) h := w_ldAn dJ6_init_3_28 rfl
theorem w_J6_init_3_29 (d : Nat) (a0 a2 : Option Value) (x : Nat) (st : List Value) (h : a_H) : a_run d MJ6_init_3 29 [a0, some (.ref x), a2] st h = a_run d MJ6_init_3 30 [a0, some (.ref x), a2] (.ref x :: st) h := w_ldAn dJ6_init_3_29 rfl
theorem w_J6_init_3_29N (d : Nat) (a0 a2 : Option Value) (st : List Value) (h : a_H) : a_run d MJ6_init_3 29 [a0, some .null, a2] st h = a_run d MJ6_init_3 30 [a0, some .null, a2] (.null :: st) h := w_ldNn dJ6_init_3_29 rfl
theorem w_J6_init_3_30 (d : Nat) (L : a_L) (x : Nat) (i : Nat) (st : List Value) (h : a_H) : a_run d MJ6_init_3 30 L (.ref x :: .ref i :: st) h = (a_pf h i 3 [3, 4, 5, 9, 10, 11] (.ref x)).bind fun h' => a_run d MJ6_init_3 33 L st h' := w_putf dJ6_init_3_30 rfl rfl (Or.inl rfl) rfl rfl
theorem w_J6_init_3_30N (d : Nat) (L : a_L) (i : Nat) (st : List Value) (h : a_H) : a_run d MJ6_init_3 30 L (.null :: .ref i :: st) h = (a_pf h i 3 [3, 4, 5, 9, 10, 11] (.null)).bind fun h' => a_run d MJ6_init_3 33 L st h' := w_putf dJ6_init_3_30 rfl rfl (Or.inl rfl) rfl rfl
theorem w_J6_init_3_33 (d : Nat) (a1 a2 : Option Value) (x : Nat) (st : List Value) (h : a_H) : a_run d MJ6_init_3 33 [some (.ref x), a1, a2] st h = a_run d MJ6_init_3 34 [some (.ref x), a1, a2] (.ref x :: st) h := w_ldAn dJ6_init_3_33 rfl
theorem w_J6_init_3_34 (d : Nat) (a0 a1 : Option Value) (x : Nat) (st : List Value) (h : a_H) : a_run d MJ6_init_3 34 [a0, a1, some (.ref x)] st h = a_run d MJ6_init_3 35 [a0, a1, some (.ref x)] (.ref x :: st) h := w_ldAn dJ6_init_3_34 rfl
theorem w_J6_init_3_34N (d : Nat) (a0 a1 : Option Value) (st : List Value) (h : a_H) : a_run d MJ6_init_3 34 [a0, a1, some .null] st h = a_run d MJ6_init_3 35 [a0, a1, some .null] (.null :: st) h := w_ldNn dJ6_init_3_34 rfl
theorem w_J6_init_3_35 (d : Nat) (L : a_L) (x : Nat) (i : Nat) (st : List Value) (h : a_H) : a_run d MJ6_init_3 35 L (.ref x :: .ref i :: st) h = (a_pf h i 0 [3, 4, 5, 9, 10, 11] (.ref x)).bind fun h' => a_run d MJ6_init_3 38 L st h' := w_putf dJ6_init_3_35 rfl rfl (Or.inl rfl) rfl rfl
theorem w_J6_init_3_35N (d : Nat) (L : a_L) (i : Nat) (st : List Value) (h : a_H) : a_run d MJ6_init_3 35 L (.null :: .ref i :: st) h = (a_pf h i 0 [3, 4, 5, 9, 10, 11] (.null)).bind fun h' => a_run d MJ6_init_3 38 L st h' := w_putf dJ6_init_3_35 rfl rfl (Or.inl rfl) rfl rfl
theorem w_J6_init_3_38 (d : Nat) (L : a_L) (h : a_H) : a_run d MJ6_init_3 38 L [] h = some (.inl none, h) := w_vret dJ6_init_3_38 rfl
set_option maxRecDepth 100000
def dkwJ7_init_0 : List UInt8 := [42, 43, 183, 0, 7, 177]
abbrev dktJ7_init_0 : List UInt8 := dkwJ7_init_0 ++ []
theorem dksJ7_init_0 : cJ7_init.data.toList.drop 0 = dktJ7_init_0 := by decide +kernel
theorem dJ7_init_0 : decode cJ7_init 0 = .ok (.aload_n 0, 1) := dk_42 (dk_at dksJ7_init_0 0 rfl rfl)
theorem dJ7_init_1 : decode cJ7_init 1 = .ok (.aload_n 1, 1) := dk_43 (dk_at dksJ7_init_0 1 rfl rfl)
theorem dJ7_init_2 : decode cJ7_init 2 = .ok (.invokespecial 7, 3) := dk_183 0 7 (dk_at dksJ7_init_0 2 rfl rfl)
theorem dJ7_init_5 : decode cJ7_init 5 = .ok (.return_, 1) := dk_177 (dk_at dksJ7_init_0 5 rfl rfl)
def dkwJ7_init_2_0 : List UInt8 := [42, 43, 44, 183, 0, 10, 177]
abbrev dktJ7_init_2_0 : List UInt8 := dkwJ7_init_2_0 ++ []
theorem dksJ7_init_2_0 : cJ7_init_2.data.toList.drop 0 = dktJ7_init_2_0 := by decide +kernel
theorem dJ7_init_2_0 : decode cJ7_init_2 0 = .ok (.aload_n 0, 1) := dk_42 (dk_at dksJ7_init_2_0 0 rfl rfl)
theorem dJ7_init_2_1 : decode cJ7_init_2 1 = .ok (.aload_n 1, 1) := dk_43 (dk_at dksJ7_init_2_0 1 rfl rfl)
theorem dJ7_init_2_2 : decode cJ7_init_2 2 = .ok (.aload_n 2, 1) := dk_44 (dk_at dksJ7_init_2_0 2 rfl rfl)
theorem dJ7_init_2_3 : decode cJ7_init_2 3 = .ok (.invokespecial 10, 3) := dk_183 0 10 (dk_at dksJ7_init_2_0 3 rfl rfl)
theorem dJ7_init_2_6 : decode cJ7_init_2 6 = .ok (.return_, 1) := dk_177 (dk_at dksJ7_init_2_0 6 rfl rfl)
theorem dJ7_init_3_0 : decode cJ7_init_3 0 = .ok (.aload_n 0, 1) := by decide +kernel
theorem dJ7_init_3_1 : decode cJ7_init_3 1 = .ok (.invokespecial 1, 3) := by decide +kernel
theorem dJ7_init_3_4 : decode cJ7_init_3 4 = .ok (.return_, 1) := by decide +kernel
theorem e_J7_init (d : Nat) (x0 : Nat) (x1 : Nat) (h : a_H) : a_call (d + 1) MJ7_init [.ref x0, .ref x1] h = a_run d MJ7_init 0 [some (.ref x0), some (.ref x1)] [] h := a_call_run rfl (Nat.le_of_ble_eq_true rfl) rfl
theorem w_J7_init_0 (d : Nat) (a1 : Option Value) (x : Nat) (st : List Value) (h : a_H) : a_run d MJ7_init 0 [some (.ref x), a1] st h = a_run d MJ7_init 1 [some (.ref x), a1] (.ref x :: st) h := w_ldAn dJ7_init_0 rfl
theorem w_J7_init_1 (d : Nat) (a0 : Option Value) (x : Nat) (st : List Value) (h : a_H) : a_run d MJ7_init 1 [a0, some (.ref x)] st h = a_run d MJ7_init 2 [a0, some (.ref x)] (.ref x :: st) h := w_ldAn dJ7_init_1 rfl
theorem w_J7_init_1N (d : Nat) (a0 : Option Value) (st : List Value) (h : a_H) : a_run d MJ7_init 1 [a0, some .null] st h = a_run d MJ7_init 2 [a0, some .null] (.null :: st) h := w_ldNn dJ7_init_1 rfl
theorem w_J7_init_2 (d : Nat) (L : a_L) (i : Nat) (v1 : Value) (st : List Value) (h : a_H) (hi : 1024 ≤ i) (hc : a_cat st ≤ 8) : a_run d MJ7_init 2 L (v1 :: .ref i :: st) h = a_cont d MJ7_init (a_bk MJ7_init 2 L st (a_call d MJ6_init_2 [.ref i, v1] h)) := w_callI (as := [.ref i, v1]) dJ7_init_2 rfl rfl rfl hc (a_new0_of hi)
theorem w_J7_init_5 (d : Nat) (L : a_L) (h : a_H) : a_run d MJ7_init 5 L [] h = some (.inl none, h) := w_vret dJ7_init_5 rfl
theorem e_J7_init_2 (d : Nat) (x0 : Nat) (x1 : Nat) (x2 : Nat) (h : a_H) : a_call (d + 1) MJ7_init_2 [.ref x0, .ref x1, .ref x2] h = a_run d MJ7_init_2 0 [some (.ref x0), some (.ref x1), some (.ref x2)] [] h := a_call_run rfl (Nat.le_of_ble_eq_true rfl) rfl
theorem w_J7_init_2_0 (d : Nat) (a1 a2 : Option Value) (x : Nat) (st : List Value) (h : a_H) : a_run d MJ7_init_2 0 [some (.ref x), a1, a2] st h = a_run d MJ7_init_2 1 [some (.ref x), a1, a2] (.ref x :: st) h := w_ldAn dJ7_init_2_0 rfl
theorem w_J7_init_2_1 (d : Nat) (a0 a2 : Option Value) (x : Nat) (st : List Value) (h : a_H) : a_run d MJ7_init_2 1 [a0, some (.ref x), a2] st h = a_run d MJ7_init_2 2 [a0, some (.ref x), a2] (.ref x :: st) h := w_ldAn dJ7_init_2_1 rfl
theorem w_J7_init_2_1N (d : Nat) (a0 a2 : Option Value) (st : List Value) (h : a_H) : a_run d MJ7_init_2 1 [a0, some .null, a2] st h = a_run d MJ7_init_2 2 [a0, some .null, a2] (.null :: st) h := w_ldNn dJ7_init_2_1 rfl
theorem w_J7_init_2_2 (d : Nat) (a0 a1 : Option Value) (x : Nat) (st : List Value) (h : a_H) : a_run d MJ7_init_2 2 [a0, a1, some (.ref x)] st h = a_run d MJ7_init_2 3 [a0, a1, some (.ref x)] (.ref x :: st) h := w_ldAn dJ7_init_2_2 rfl
theorem w_J7_init_2_2N (d : Nat) (a0 a1 : Option Value) (st : List Value) (h : a_H) : a_run d MJ7_init_2 2 [a0, a1, some .null] st h = a_run d MJ7_init_2 3 [a0, a1, some .null] (.null :: st) h := w_ldNn dJ7_init_2_2 rfl
theorem w_J7_init_2_3 (d : Nat) (L : a_L) (i : Nat) (v1 v2 : Value) (st : List Value) (h : a_H) (hi : 1024 ≤ i) (hc : a_cat st ≤ 8) : a_run d MJ7_init_2 3 L (v2 :: v1 :: .ref i :: st) h = a_cont d MJ7_init_2 (a_bk MJ7_init_2 3 L st (a_call d MJ6_init_3 [.ref i, v1, v2] h)) := w_callI (as := [.ref i, v1, v2]) dJ7_init_2_3 rfl rfl rfl hc (a_new0_of hi)
theorem w_J7_init_2_6 (d : Nat) (L : a_L) (h : a_H) : a_run d MJ7_init_2 6 L [] h = some (.inl none, h) := w_vret dJ7_init_2_6 rfl
theorem e_J7_init_3 (d : Nat) (x0 : Nat) (h : a_H) : a_call (d + 1) MJ7_init_3 [.ref x0] h = a_run d MJ7_init_3 0 [some (.ref x0)] [] h := a_call_run rfl (Nat.le_of_ble_eq_true rfl) rfl
theorem w_J7_init_3_0 (d : Nat) (x : Nat) (st : List Value) (h : a_H) : a_run d MJ7_init_3 0 [some (.ref x)] st h = a_run d MJ7_init_3 1 [some (.ref x)] (.ref x :: st) h := w_ldAn dJ7_init_3_0 rfl
theorem w_J7_init_3_1 (d : Nat) (L : a_L) (i : Nat) (st : List Value) (h : a_H) (hi : 1024 ≤ i) (hc : a_cat st ≤ 8) : a_run d MJ7_init_3 1 L (.ref i :: st) h = a_cont d MJ7_init_3 (a_bk MJ7_init_3 1 L st (a_call d MJ6_init [.ref i] h)) := w_callI (as := [.ref i]) dJ7_init_3_1 rfl rfl rfl hc (a_new0_of hi)
theorem w_J7_init_3_4 (d : Nat) (L : a_L) (h : a_H) : a_run d MJ7_init_3 4 L [] h = some (.inl none, h) := w_vret dJ7_init_3_4 rfl
set_option maxRecDepth 100000
def dkwJ11_init_0 : List UInt8 := [42, 43, 183, 0, 7, 177]
abbrev dktJ11_init_0 : List UInt8 := dkwJ11_init_0 ++ []
theorem dksJ11_init_0 : cJ11_init.data.toList.drop 0 = dktJ11_init_0 := by decide +kernel
theorem dJ11_init_0 : decode cJ11_init 0 = .ok (.aload_n 0, 1) := dk_42 (dk_at dksJ11_init_0 0 rfl rfl)
theorem dJ11_init_1 : decode cJ11_init 1 = .ok (.aload_n 1, 1) := dk_43 (dk_at dksJ11_init_0 1 rfl rfl)
theorem dJ11_init_2 : decode cJ11_init 2 = .ok (.invokespecial 7, 3) := dk_183 0 7 (dk_at dksJ11_init_0 2 rfl rfl)
theorem dJ11_init_5 : decode cJ11_init 5 = .ok (.return_, 1) := dk_177 (dk_at dksJ11_init_0 5 rfl rfl)
theorem dJ11_init_2_0 : decode cJ11_init_2 0 = .ok (.aload_n 0, 1) := by decide +kernel
theorem dJ11_init_2_1 : decode cJ11_init_2 1 = .ok (.invokespecial 1, 3) := by decide +kernel
theorem dJ11_init_2_4 : decode cJ11_init_2 4 = .ok (.return_, 1) := by decide +kernel
def dkwJ11_init_3_0 : List UInt8 := [42, 43, 44, 183, 0, 10, 177]
abbrev dktJ11_init_3_0 : List UInt8 := dkwJ11_init_3_0 ++ []
theorem dksJ11_init_3_0 : cJ11_init_3.data.toList.drop 0 = dktJ11_init_3_0 := by decide +kernel
theorem dJ11_init_3_0 : decode cJ11_init_3 0 = .ok (.aload_n 0, 1) := dk_42 (dk_at dksJ11_init_3_0 0 rfl rfl)
theorem dJ11_init_3_1 : decode cJ11_init_3 1 = .ok (.aload_n 1, 1) := dk_43 (dk_at dksJ11_init_3_0 1 rfl rfl)
theorem dJ11_init_3_2 : decode cJ11_init_3 2 = .ok (.aload_n 2, 1) := dk_44 (dk_at dksJ11_init_3_0 2 rfl rfl)
theorem dJ11_init_3_3 : decode cJ11_init_3 3 = .ok (.invokespecial 10, 3) := dk_183 0 10 (dk_at dksJ11_init_3_0 3 rfl rfl)
theorem dJ11_init_3_6 : decode cJ11_init_3 6 = .ok (.return_, 1) := dk_177 (dk_at dksJ11_init_3_0 6 rfl rfl)
theorem e_J11_init (d : Nat) (x0 : Nat) (x1 : Nat) (h : a_H) : a_call (d + 1) MJ11_init [.ref x0, .ref x1] h = a_run d MJ11_init 0 [some (.ref x0), some (.ref x1)] [] h := a_call_run rfl (Nat.le_of_ble_eq_true rfl) rfl
theorem w_J11_init_0 (d : Nat) (a1 : Option Value) (x : Nat) (st : List Value) (h : a_H) : a_run d MJ11_init 0 [some (.ref x), a1] st h = a_run d MJ11_init 1 [some (.ref x), a1] (.ref x :: st) h := w_ldAn dJ11_init_0 rfl
theorem w_J11_init_1 (d : Nat) (a0 : Option Value) (x : Nat) (st : List Value) (h : a_H) : a_run d MJ11_init 1 [a0, some (.ref x)] st h = a_run d MJ11_init 2 [a0, some (.ref x)] (.ref x :: st) h := w_ldAn dJ11_init_1 rfl
theorem w_J11_init_1N (d : Nat) (a0 : Option Value) (st : List Value) (h : a_H) : a_run d MJ11_init 1 [a0, some .null] st h = a_run d MJ11_init 2 [a0, some .null] (.null :: st) h := w_ldNn dJ11_init_1 rfl
theorem w_J11_init_2 (d : Nat) (L : a_L) (i : Nat) (v1 : Value) (st : List Value) (h : a_H) (hi : 1024 ≤ i) (hc : a_cat st ≤ 8) : a_run d MJ11_init 2 L (v1 :: .ref i :: st) h = a_cont d MJ11_init (a_bk MJ11_init 2 L st (a_call d MJ7_init [.ref i, v1] h)) := w_callI (as := [.ref i, v1]) dJ11_init_2 rfl rfl rfl hc (a_new0_of hi)
theorem w_J11_init_5 (d : Nat) (L : a_L) (h : a_H) : a_run d MJ11_init 5 L [] h = some (.inl none, h) := w_vret dJ11_init_5 rfl
theorem e_J11_init_2 (d : Nat) (x0 : Nat) (h : a_H) : a_call (d + 1) MJ11_init_2 [.ref x0] h = a_run d MJ11_init_2 0 [some (.ref x0)] [] h := a_call_run rfl (Nat.le_of_ble_eq_true rfl) rfl
theorem w_J11_init_2_0 (d : Nat) (x : Nat) (st : List Value) (h : a_H) : a_run d MJ11_init_2 0 [some (.ref x)] st h = a_run d MJ11_init_2 1 [some (.ref x)] (.ref x :: st) h := w_ldAn dJ11_init_2_0 rfl
theorem w_J11_init_2_1 (d : Nat) (L : a_L) (i : Nat) (st : List Value) (h : a_H) (hi : 1024 ≤ i) (hc : a_cat st ≤ 8) : a_run d MJ11_init_2 1 L (.ref i :: st) h = a_cont d MJ11_init_2 (a_bk MJ11_init_2 1 L st (a_call d MJ7_init_3 [.ref i] h)) := w_callI (as := [.ref i]) dJ11_init_2_1 rfl rfl rfl hc (a_new0_of hi)
theorem w_J11_init_2_4 (d : Nat) (L : a_L) (h : a_H) : a_run d MJ11_init_2 4 L [] h = some (.inl none, h) := w_vret dJ11_init_2_4 rfl
theorem e_J11_init_3 (d : Nat) (x0 : Nat) (x1 : Nat) (x2 : Nat) (h : a_H) : a_call (d + 1) MJ11_init_3 [.ref x0, .ref x1, .ref x2] h = a_run d MJ11_init_3 0 [some (.ref x0), some (.ref x1), some (.ref x2)] [] h := a_call_run rfl (Nat.le_of_ble_eq_true rfl) rfl
theorem w_J11_init_3_0 (d : Nat) (a1 a2 : Option Value) (x : Nat) (st : List Value) (h : a_H) : a_run d MJ11_init_3 0 [some (.ref x), a1, a2] st h = a_run d MJ11_init_3 1 [some (.ref x), a1, a2] (.ref x :: st) h := w_ldAn dJ11_init_3_0 rfl
theorem w_J11_init_3_1 (d : Nat) (a0 a2 : Option Value) (x : Nat) (st : List Value) (h : a_H) : a_run d MJ11_init_3 1 [a0, some (.ref x), a2] st h = a_run d MJ11_init_3 2 [a0, some (.ref x), a2] (.ref x :: st) h := w_ldAn dJ11_init_3_1 rfl
theorem w_J11_init_3_1N (d : Nat) (a0 a2 : Option Value) (st : List Value) (h : a_H) : a_run d MJ11_init_3 1 [a0, some .null, a2] st h = a_run d MJ11_init_3 2 [a0, some .null, a2] (.null :: st) h := w_ldNn dJ11_init_3_1 rfl
theorem w_J11_init_3_2 (d : Nat) (a0 a1 : Option Value) (x : Nat) (st : List Value) (h : a_H) : a_run d MJ11_init_3 2 [a0, a1, some (.ref x)] st h = a_run d MJ11_init_3 3 [a0, a1, some (.ref x)] (.ref x :: st) h := w_ldAn dJ11_init_3_2 rfl
theorem w_J11_init_3_2N (d : Nat) (a0 a1 : Option Value) (st : List Value) (h : a_H) : a_run d MJ11_init_3 2 [a0, a1, some .null] st h = a_run d MJ11_init_3 3 [a0, a1, some .null] (.null :: st) h := w_ldNn dJ11_init_3_2 rfl
theorem w_J11_init_3_3 (d : Nat) (L : a_L) (i : Nat) (v1 v2 : Value) (st : List Value) (h : a_H) (hi : 1024 ≤ i) (hc : a_cat st ≤ 8) : a_run d MJ11_init_3 3 L (v2 :: v1 :: .ref i :: st) h = a_cont d MJ11_init_3 (a_bk MJ11_init_3 3 L st (a_call d MJ7_init_2 [.ref i, v1, v2] h)) := w_callI (as := [.ref i, v1, v2]) dJ11_init_3_3 rfl rfl rfl hc (a_new0_of hi)
theorem w_J11_init_3_6 (d : Nat) (L : a_L) (h : a_H) : a_run d MJ11_init_3 6 L [] h = some (.inl none, h) := w_vret dJ11_init_3_6 rfl
set_option maxRecDepth 100000
def dkwJ12_init_0 : List UInt8 := [42, 43, 183, 0, 7, 177]
abbrev dktJ12_init_0 : List UInt8 := dkwJ12_init_0 ++ []
theorem dksJ12_init_0 : cJ12_init.data.toList.drop 0 = dktJ12_init_0 := by decide +kernel
theorem dJ12_init_0 : decode cJ12_init 0 = .ok (.aload_n 0, 1) := dk_42 (dk_at dksJ12_init_0 0 rfl rfl)
theorem dJ12_init_1 : decode cJ12_init 1 = .ok (.aload_n 1, 1) := dk_43 (dk_at dksJ12_init_0 1 rfl rfl)
theorem dJ12_init_2 : decode cJ12_init 2 = .ok (.invokespecial 7, 3) := dk_183 0 7 (dk_at dksJ12_init_0 2 rfl rfl)
theorem dJ12_init_5 : decode cJ12_init 5 = .ok (.return_, 1) := dk_177 (dk_at dksJ12_init_0 5 rfl rfl)
def dkwJ12_init_2_0 : List UInt8 := [42, 43, 44, 183, 0, 10, 177]
abbrev dktJ12_init_2_0 : List UInt8 := dkwJ12_init_2_0 ++ []
theorem dksJ12_init_2_0 : cJ12_init_2.data.toList.drop 0 = dktJ12_init_2_0 := by decide +kernel
theorem dJ12_init_2_0 : decode cJ12_init_2 0 = .ok (.aload_n 0, 1) := dk_42 (dk_at dksJ12_init_2_0 0 rfl rfl)
theorem dJ12_init_2_1 : decode cJ12_init_2 1 = .ok (.aload_n 1, 1) := dk_43 (dk_at dksJ12_init_2_0 1 rfl rfl)
theorem dJ12_init_2_2 : decode cJ12_init_2 2 = .ok (.aload_n 2, 1) := dk_44 (dk_at dksJ12_init_2_0 2 rfl rfl)
theorem dJ12_init_2_3 : decode cJ12_init_2 3 = .ok (.invokespecial 10, 3) := dk_183 0 10 (dk_at dksJ12_init_2_0 3 rfl rfl)
theorem dJ12_init_2_6 : decode cJ12_init_2 6 = .ok (.return_, 1) := dk_177 (dk_at dksJ12_init_2_0 6 rfl rfl)
theorem e_J12_init (d : Nat) (x0 : Nat) (x1 : Nat) (h : a_H) : a_call (d + 1) MJ12_init [.ref x0, .ref x1] h = a_run d MJ12_init 0 [some (.ref x0), some (.ref x1)] [] h := a_call_run rfl (Nat.le_of_ble_eq_true rfl) rfl
theorem w_J12_init_0 (d : Nat) (a1 : Option Value) (x : Nat) (st : List Value) (h : a_H) : a_run d MJ12_init 0 [some (.ref x), a1] st h = a_run d MJ12_init 1 [some (.ref x), a1] (.ref x :: st) h := w_ldAn dJ12_init_0 rfl
theorem w_J12_init_1 (d : Nat) (a0 : Option Value) (x : Nat) (st : List Value) (h : a_H) : a_run d MJ12_init 1 [a0, some (.ref x)] st h = a_run d MJ12_init 2 [a0, some (.ref x)] (.ref x :: st) h := w_ldAn dJ12_init_1 rfl
theorem w_J12_init_1N (d : Nat) (a0 : Option Value) (st : List Value) (h : a_H) : a_run d MJ12_init 1 [a0, some .null] st h = a_run d MJ12_init 2 [a0, some .null] (.null :: st) h := w_ldNn dJ12_init_1 rfl
theorem w_J12_init_2 (d : Nat) (L : a_L) (i : Nat) (v1 : Value) (st : List Value) (h : a_H) (hi : 1024 ≤ i) (hc : a_cat st ≤ 8) : a_run d MJ12_init 2 L (v1 :: .ref i :: st) h = a_cont d MJ12_init (a_bk MJ12_init 2 L st (a_call d MJ11_init [.ref i, v1] h)) := w_callI (as := [.ref i, v1]) dJ12_init_2 rfl rfl rfl hc (a_new0_of hi)
theorem w_J12_init_5 (d : Nat) (L : a_L) (h : a_H) : a_run d MJ12_init 5 L [] h = some (.inl none, h) := w_vret dJ12_init_5 rfl
theorem e_J12_init_2 (d : Nat) (x0 : Nat) (x1 : Nat) (x2 : Nat) (h : a_H) : a_call (d + 1) MJ12_init_2 [.ref x0, .ref x1, .ref x2] h = a_run d MJ12_init_2 0 [some (.ref x0), some (.ref x1), some (.ref x2)] [] h := a_call_run rfl (Nat.le_of_ble_eq_true rfl) rfl
theorem w_J12_init_2_0 (d : Nat) (a1 a2 : Option Value) (x : Nat) (st : List Value) (h : a_H) : a_run d MJ12_init_2 0 [some (.ref x), a1, a2] st h = a_run d MJ12_init_2 1 [some (.ref x), a1, a2] (.ref x :: st) h := w_ldAn dJ12_init_2_0 rfl
theorem w_J12_init_2_1 (d : Nat) (a0 a2 : Option Value) (x : Nat) (st : List Value) (h : a_H) : a_run d MJ12_init_2 1 [a0, some (.ref x), a2] st h = a_run d MJ12_init_2 2 [a0, some (.ref x), a2] (.ref x :: st) h := w_ldAn dJ12_init_2_1 rfl
theorem w_J12_init_2_1N (d : Nat) (a0 a2 : Option Value) (st : List Value) (h : a_H) : a_run d MJ12_init_2 1 [a0, some .null, a2] st h = a_run d MJ12_init_2 2 [a0, some .null, a2] (.null :: st) h := w_ldNn dJ12_init_2_1 rfl
theorem w_J12_init_2_2 (d : Nat) (a0 a1 : Option Value) (x : Nat) (st : List Value) (h : a_H) : a_run d MJ12_init_2 2 [a0, a1, some (.ref x)] st h = a_run d MJ12_init_2 3 [a0, a1, some (.ref x)] (.ref x :: st) h := w_ldAn dJ12_init_2_2 rfl
theorem w_J12_init_2_2N (d : Nat) (a0 a1 : Option Value) (st : List Value) (h : a_H) : a_run d MJ12_init_2 2 [a0, a1, some .null] st h = a_run d MJ12_init_2 3 [a0, a1, some .null] (.null :: st) h := w_ldNn dJ12_init_2_2 rfl
theorem w_J12_init_2_3 (d : Nat) (L : a_L) (i : Nat) (v1 v2 : Value) (st : List Value) (h : a_H) (hi : 1024 ≤ i) (hc : a_cat st ≤ 8) : a_run d MJ12_init_2 3 L (v2 :: v1 :: .ref i :: st) h = a_cont d MJ12_init_2 (a_bk MJ12_init_2 3 L st (a_call d MJ11_init_3 [.ref i, v1, v2] h)) := w_callI (as := [.ref i, v1, v2]) dJ12_init_2_3 rfl rfl rfl hc (a_new0_of hi)
theorem w_J12_init_2_6 (d : Nat) (L : a_L) (h : a_H) : a_run d MJ12_init_2 6 L [] h = some (.inl none, h) := w_vret dJ12_init_2_6 rfl
set_option maxRecDepth 100000
def dkwJ13_copyOf_0 : List UInt8 := [42, 27, 42, 182, 0, 86, 184, 1, 44, 176]
abbrev dktJ13_copyOf_0 : List UInt8 := dkwJ13_copyOf_0 ++ []
theorem dksJ13_copyOf_0 : cJ13_copyOf.data.toList.drop 0 = dktJ13_copyOf_0 := by decide +kernel
theorem dJ13_copyOf_0 : decode cJ13_copyOf 0 = .ok (.aload_n 0, 1) := dk_42 (dk_at dksJ13_copyOf_0 0 rfl rfl)
theorem dJ13_copyOf_1 : decode cJ13_copyOf 1 = .ok (.iload_n 1, 1) := dk_27 (dk_at dksJ13_copyOf_0 1 rfl rfl)
theorem dJ13_copyOf_2 : decode cJ13_copyOf 2 = .ok (.aload_n 0, 1) := dk_42 (dk_at dksJ13_copyOf_0 2 rfl rfl)
theorem dJ13_copyOf_3 : decode cJ13_copyOf 3 = .ok (.invokevirtual 86, 3) := dk_182 0 86 (dk_at dksJ13_copyOf_0 3 rfl rfl)
theorem dJ13_copyOf_6 : decode cJ13_copyOf 6 = .ok (.invokestatic 300, 3) := dk_184 1 44 (dk_at dksJ13_copyOf_0 6 rfl rfl)
theorem dJ13_copyOf_9 : decode cJ13_copyOf 9 = .ok (.areturn, 1) := dk_176 (dk_at dksJ13_copyOf_0 9 rfl rfl)
def dkwJ13_copyOf_2_1 : List UInt8 := [78, 42, 3, 45, 3, 42, 190, 27, 184, 1, 48, 184, 0, 150, 45, 176]
abbrev dktJ13_copyOf_2_1 : List UInt8 := dkwJ13_copyOf_2_1 ++ []
def dkwJ13_copyOf_2_0 : List UInt8 := [44, 18, 110, 166, 0, 10, 27, 189, 0, 2, 167, 0, 14, 44, 182, 0, 90, 27, 184, 0, 95, 192, 0, 110]
abbrev dktJ13_copyOf_2_0 : List UInt8 := dkwJ13_copyOf_2_0 ++ dktJ13_copyOf_2_1
theorem dksJ13_copyOf_2_0 : cJ13_copyOf_2.data.toList.drop 0 = dktJ13_copyOf_2_0 := by decide +kernel
theorem dksJ13_copyOf_2_1 : cJ13_copyOf_2.data.toList.drop 24 = dktJ13_copyOf_2_1 := dk_seg dksJ13_copyOf_2_0 24 rfl rfl
theorem dJ13_copyOf_2_0 : decode cJ13_copyOf_2 0 = .ok (.aload_n 2, 1) := dk_44 (dk_at dksJ13_copyOf_2_0 0 rfl rfl)
theorem dJ13_copyOf_2_1 : decode cJ13_copyOf_2 1 = .ok (.ldc 110, 2) := dk_18 110 (dk_at dksJ13_copyOf_2_0 1 rfl rfl)
theorem dJ13_copyOf_2_3 : decode cJ13_copyOf_2 3 = .ok (.if_acmp .ne 10, 3) := dk_166 0 10 (dk_at dksJ13_copyOf_2_0 3 rfl rfl)
theorem dJ13_copyOf_2_6 : decode cJ13_copyOf_2 6 = .ok (.iload_n 1, 1) := dk_27 (dk_at dksJ13_copyOf_2_0 6 rfl rfl)
theorem dJ13_copyOf_2_7 : decode cJ13_copyOf_2 7 = .ok (.anewarray 2, 3) := dk_189 0 2 (dk_at dksJ13_copyOf_2_0 7 rfl rfl)
theorem dJ13_copyOf_2_10 : decode cJ13_copyOf_2 10 = .ok (.goto 14, 3) := dk_167 0 14 (dk_at dksJ13_copyOf_2_0 10 rfl rfl)
theorem dJ13_copyOf_2_13 : decode cJ13_copyOf_2 13 = .ok (.aload_n 2, 1) := dk_44 (dk_at dksJ13_copyOf_2_0 13 rfl rfl)
theorem dJ13_copyOf_2_14 : decode cJ13_copyOf_2 14 = .ok (.invokevirtual 90, 3) := dk_182 0 90 (dk_at dksJ13_copyOf_2_0 14 rfl rfl)
theorem dJ13_copyOf_2_17 : decode cJ13_copyOf_2 17 = .ok (.iload_n 1, 1) := dk_27 (dk_at dksJ13_copyOf_2_0 17 rfl rfl)
theorem dJ13_copyOf_2_18 : decode cJ13_copyOf_2 18 = .ok (.invokestatic 95, 3) := dk_184 0 95 (dk_at dksJ13_copyOf_2_0 18 rfl rfl)
theorem dJ13_copyOf_2_21 : decode cJ13_copyOf_2 21 = .ok (.checkcast 110, 3) := dk_192 0 110 (dk_at dksJ13_copyOf_2_0 21 rfl rfl)
theorem dJ13_copyOf_2_24 : decode cJ13_copyOf_2 24 = .ok (.astore_n 3, 1) := dk_78 (dk_at dksJ13_copyOf_2_1 0 rfl rfl)
theorem dJ13_copyOf_2_25 : decode cJ13_copyOf_2 25 = .ok (.aload_n 0, 1) := dk_42 (dk_at dksJ13_copyOf_2_1 1 rfl rfl)
theorem dJ13_copyOf_2_26 : decode cJ13_copyOf_2 26 = .ok (.iconst 0, 1) := dk_3 (dk_at dksJ13_copyOf_2_1 2 rfl rfl)
theorem dJ13_copyOf_2_27 : decode cJ13_copyOf_2 27 = .ok (.aload_n 3, 1) := dk_45 (dk_at dksJ13_copyOf_2_1 3 rfl rfl)
theorem dJ13_copyOf_2_28 : decode cJ13_copyOf_2 28 = .ok (.iconst 0, 1) := dk_3 (dk_at dksJ13_copyOf_2_1 4 rfl rfl)
theorem dJ13_copyOf_2_29 : decode cJ13_copyOf_2 29 = .ok (.aload_n 0, 1) := dk_42 (dk_at dksJ13_copyOf_2_1 5 rfl rfl)
theorem dJ13_copyOf_2_30 : decode cJ13_copyOf_2 30 = .ok (.arraylength, 1) := dk_190 (dk_at dksJ13_copyOf_2_1 6 rfl rfl)
theorem dJ13_copyOf_2_31 : decode cJ13_copyOf_2 31 = .ok (.iload_n 1, 1) := dk_27 (dk_at dksJ13_copyOf_2_1 7 rfl rfl)
theorem dJ13_copyOf_2_32 : decode cJ13_copyOf_2 32 = .ok (.invokestatic 304, 3) := dk_184 1 48 (dk_at dksJ13_copyOf_2_1 8 rfl rfl)
theorem dJ13_copyOf_2_35 : decode cJ13_copyOf_2 35 = .ok (.invokestatic 150, 3) := dk_184 0 150 (dk_at dksJ13_copyOf_2_1 11 rfl rfl)
theorem dJ13_copyOf_2_38 : decode cJ13_copyOf_2 38 = .ok (.aload_n 3, 1) := dk_45 (dk_at dksJ13_copyOf_2_1 14 rfl rfl)
theorem dJ13_copyOf_2_39 : decode cJ13_copyOf_2 39 = .ok (.areturn, 1) := dk_176 (dk_at dksJ13_copyOf_2_1 15 rfl rfl)
def dkwJ13_copyOf_3_1 : List UInt8 := [27, 184, 1, 48, 184, 0, 150, 44, 176]
abbrev dktJ13_copyOf_3_1 : List UInt8 := dkwJ13_copyOf_3_1 ++ []
def dkwJ13_copyOf_3_0 : List UInt8 := [27, 42, 190, 160, 0, 11, 42, 182, 1, 54, 192, 1, 55, 176, 27, 188, 8, 77, 42, 3, 44, 3, 42, 190]
abbrev dktJ13_copyOf_3_0 : List UInt8 := dkwJ13_copyOf_3_0 ++ dktJ13_copyOf_3_1
theorem dksJ13_copyOf_3_0 : cJ13_copyOf_3.data.toList.drop 0 = dktJ13_copyOf_3_0 := by decide +kernel
theorem dksJ13_copyOf_3_1 : cJ13_copyOf_3.data.toList.drop 24 = dktJ13_copyOf_3_1 := dk_seg dksJ13_copyOf_3_0 24 rfl rfl
theorem dJ13_copyOf_3_0 : decode cJ13_copyOf_3 0 = .ok (.iload_n 1, 1) := dk_27 (dk_at dksJ13_copyOf_3_0 0 rfl rfl)
theorem dJ13_copyOf_3_1 : decode cJ13_copyOf_3 1 = .ok (.aload_n 0, 1) := dk_42 (dk_at dksJ13_copyOf_3_0 1 rfl rfl)
theorem dJ13_copyOf_3_2 : decode cJ13_copyOf_3 2 = .ok (.arraylength, 1) := dk_190 (dk_at dksJ13_copyOf_3_0 2 rfl rfl)
theorem dJ13_copyOf_3_3 : decode cJ13_copyOf_3 3 = .ok (.if_icmp .ne 11, 3) := dk_160 0 11 (dk_at dksJ13_copyOf_3_0 3 rfl rfl)
theorem dJ13_copyOf_3_6 : decode cJ13_copyOf_3 6 = .ok (.aload_n 0, 1) := dk_42 (dk_at dksJ13_copyOf_3_0 6 rfl rfl)
theorem dJ13_copyOf_3_7 : decode cJ13_copyOf_3 7 = .ok (.invokevirtual 310, 3) := dk_182 1 54 (dk_at dksJ13_copyOf_3_0 7 rfl rfl)
theorem dJ13_copyOf_3_10 : decode cJ13_copyOf_3 10 = .ok (.checkcast 311, 3) := dk_192 1 55 (dk_at dksJ13_copyOf_3_0 10 rfl rfl)
theorem dJ13_copyOf_3_13 : decode cJ13_copyOf_3 13 = .ok (.areturn, 1) := dk_176 (dk_at dksJ13_copyOf_3_0 13 rfl rfl)
theorem dJ13_copyOf_3_14 : decode cJ13_copyOf_3 14 = .ok (.iload_n 1, 1) := dk_27 (dk_at dksJ13_copyOf_3_0 14 rfl rfl)
theorem dJ13_copyOf_3_15 : decode cJ13_copyOf_3 15 = .ok (.newarray .byte, 2) := dk_188_8 (dk_at dksJ13_copyOf_3_0 15 rfl rfl)
theorem dJ13_copyOf_3_17 : decode cJ13_copyOf_3 17 = .ok (.astore_n 2, 1) := dk_77 (dk_at dksJ13_copyOf_3_0 17 rfl rfl)
theorem dJ13_copyOf_3_18 : decode cJ13_copyOf_3 18 = .ok (.aload_n 0, 1) := dk_42 (dk_at dksJ13_copyOf_3_0 18 rfl rfl)
theorem dJ13_copyOf_3_19 : decode cJ13_copyOf_3 19 = .ok (.iconst 0, 1) := dk_3 (dk_at dksJ13_copyOf_3_0 19 rfl rfl)
theorem dJ13_copyOf_3_20 : decode cJ13_copyOf_3 20 = .ok (.aload_n 2, 1) := dk_44 (dk_at dksJ13_copyOf_3_0 20 rfl rfl)
theorem dJ13_copyOf_3_21 : decode cJ13_copyOf_3 21 = .ok (.iconst 0, 1) := dk_3 (dk_at dksJ13_copyOf_3_0 21 rfl rfl)
theorem dJ13_copyOf_3_22 : decode cJ13_copyOf_3 22 = .ok (.aload_n 0, 1) := dk_42 (dk_at dksJ13_copyOf_3_0 22 rfl rfl)
theorem dJ13_copyOf_3_23 : decode cJ13_copyOf_3 23 = .ok (.arraylength, 1) := dk_190 (dk_at dksJ13_copyOf_3_0 23 rfl rfl)
theorem dJ13_copyOf_3_24 : decode cJ13_copyOf_3 24 = .ok (.iload_n 1, 1) := dk_27 (dk_at dksJ13_copyOf_3_1 0 rfl rfl)
theorem dJ13_copyOf_3_25 : decode cJ13_copyOf_3 25 = .ok (.invokestatic 304, 3) := dk_184 1 48 (dk_at dksJ13_copyOf_3_1 1 rfl rfl)
theorem dJ13_copyOf_3_28 : decode cJ13_copyOf_3 28 = .ok (.invokestatic 150, 3) := dk_184 0 150 (dk_at dksJ13_copyOf_3_1 4 rfl rfl)
theorem dJ13_copyOf_3_31 : decode cJ13_copyOf_3 31 = .ok (.aload_n 2, 1) := dk_44 (dk_at dksJ13_copyOf_3_1 7 rfl rfl)
theorem dJ13_copyOf_3_32 : decode cJ13_copyOf_3 32 = .ok (.areturn, 1) := dk_176 (dk_at dksJ13_copyOf_3_1 8 rfl rfl)
def dkwJ13_fill_1 : List UInt8 := [167, 255, 242, 177]
abbrev dktJ13_fill_1 : List UInt8 := dkwJ13_fill_1 ++ []
def dkwJ13_fill_0 : List UInt8 := [42, 190, 27, 28, 184, 0, 13, 27, 54, 4, 21, 4, 28, 162, 0, 14, 42, 21, 4, 29, 84, 132, 4, 1]
abbrev dktJ13_fill_0 : List UInt8 := dkwJ13_fill_0 ++ dktJ13_fill_1
theorem dksJ13_fill_0 : cJ13_fill.data.toList.drop 0 = dktJ13_fill_0 := by decide +kernel
theorem dksJ13_fill_1 : cJ13_fill.data.toList.drop 24 = dktJ13_fill_1 := dk_seg dksJ13_fill_0 24 rfl rfl
theorem dJ13_fill_0 : decode cJ13_fill 0 = .ok (.aload_n 0, 1) := dk_42 (dk_at dksJ13_fill_0 0 rfl rfl)
theorem dJ13_fill_1 : decode cJ13_fill 1 = .ok (.arraylength, 1) := dk_190 (dk_at dksJ13_fill_0 1 rfl rfl)
theorem dJ13_fill_2 : decode cJ13_fill 2 = .ok (.iload_n 1, 1) := dk_27 (dk_at dksJ13_fill_0 2 rfl rfl)
theorem dJ13_fill_3 : decode cJ13_fill 3 = .ok (.iload_n 2, 1) := dk_28 (dk_at dksJ13_fill_0 3 rfl rfl)
theorem dJ13_fill_4 : decode cJ13_fill 4 = .ok (.invokestatic 13, 3) := dk_184 0 13 (dk_at dksJ13_fill_0 4 rfl rfl)
theorem dJ13_fill_7 : decode cJ13_fill 7 = .ok (.iload_n 1, 1) := dk_27 (dk_at dksJ13_fill_0 7 rfl rfl)
theorem dJ13_fill_8 : decode cJ13_fill 8 = .ok (.istore 4, 2) := dk_54 4 (dk_at dksJ13_fill_0 8 rfl rfl)
theorem dJ13_fill_10 : decode cJ13_fill 10 = .ok (.iload 4, 2) := dk_21 4 (dk_at dksJ13_fill_0 10 rfl rfl)
theorem dJ13_fill_12 : decode cJ13_fill 12 = .ok (.iload_n 2, 1) := dk_28 (dk_at dksJ13_fill_0 12 rfl rfl)
theorem dJ13_fill_13 : decode cJ13_fill 13 = .ok (.if_icmp .ge 14, 3) := dk_162 0 14 (dk_at dksJ13_fill_0 13 rfl rfl)
theorem dJ13_fill_16 : decode cJ13_fill 16 = .ok (.aload_n 0, 1) := dk_42 (dk_at dksJ13_fill_0 16 rfl rfl)
theorem dJ13_fill_17 : decode cJ13_fill 17 = .ok (.iload 4, 2) := dk_21 4 (dk_at dksJ13_fill_0 17 rfl rfl)
theorem dJ13_fill_19 : decode cJ13_fill 19 = .ok (.iload_n 3, 1) := dk_29 (dk_at dksJ13_fill_0 19 rfl rfl)
theorem dJ13_fill_20 : decode cJ13_fill 20 = .ok (.bastore, 1) := dk_84 (dk_at dksJ13_fill_0 20 rfl rfl)
theorem dJ13_fill_21 : decode cJ13_fill 21 = .ok (.iinc 4 1, 3) := dk_132 4 1 (dk_at dksJ13_fill_0 21 rfl rfl)
theorem dJ13_fill_24 : decode cJ13_fill 24 = .ok (.goto (-14), 3) := dk_167 255 242 (dk_at dksJ13_fill_1 0 rfl rfl)
theorem dJ13_fill_27 : decode cJ13_fill 27 = .ok (.return_, 1) := dk_177 (dk_at dksJ13_fill_1 3 rfl rfl)
def dkwJ13_rangeCheck_3 : List UInt8 := [183, 0, 70, 191, 177]
abbrev dktJ13_rangeCheck_3 : List UInt8 := dkwJ13_rangeCheck_3 ++ []
def dkwJ13_rangeCheck_2 : List UInt8 := [27, 156, 0, 12, 187, 0, 68, 89, 27, 183, 0, 70, 191, 28, 26, 164, 0, 12, 187, 0, 68, 89, 28]
abbrev dktJ13_rangeCheck_2 : List UInt8 := dkwJ13_rangeCheck_2 ++ dktJ13_rangeCheck_3
def dkwJ13_rangeCheck_1 : List UInt8 := [182, 0, 54, 18, 57, 182, 0, 50, 28, 182, 0, 54, 18, 59, 182, 0, 50, 182, 0, 61, 183, 0, 65, 191]
abbrev dktJ13_rangeCheck_1 : List UInt8 := dkwJ13_rangeCheck_1 ++ dktJ13_rangeCheck_2
def dkwJ13_rangeCheck_0 : List UInt8 := [27, 28, 164, 0, 44, 187, 0, 43, 89, 187, 0, 45, 89, 183, 0, 47, 18, 48, 182, 0, 50, 27]
abbrev dktJ13_rangeCheck_0 : List UInt8 := dkwJ13_rangeCheck_0 ++ dktJ13_rangeCheck_1
theorem dksJ13_rangeCheck_0 : cJ13_rangeCheck.data.toList.drop 0 = dktJ13_rangeCheck_0 := by decide +kernel
theorem dksJ13_rangeCheck_1 : cJ13_rangeCheck.data.toList.drop 22 = dktJ13_rangeCheck_1 := dk_seg dksJ13_rangeCheck_0 22 rfl rfl
theorem dksJ13_rangeCheck_2 : cJ13_rangeCheck.data.toList.drop 46 = dktJ13_rangeCheck_2 := dk_seg dksJ13_rangeCheck_1 24 rfl rfl
theorem dksJ13_rangeCheck_3 : cJ13_rangeCheck.data.toList.drop 69 = dktJ13_rangeCheck_3 := dk_seg dksJ13_rangeCheck_2 23 rfl rfl
theorem dJ13_rangeCheck_0 : decode cJ13_rangeCheck 0 = .ok (.iload_n 1, 1) := dk_27 (dk_at dksJ13_rangeCheck_0 0 rfl rfl)
theorem dJ13_rangeCheck_1 : decode cJ13_rangeCheck 1 = .ok (.iload_n 2, 1) := dk_28 (dk_at dksJ13_rangeCheck_0 1 rfl rfl)
theorem dJ13_rangeCheck_2 : decode cJ13_rangeCheck 2 = .ok (.if_icmp .le 44, 3) := dk_164 0 44 (dk_at dksJ13_rangeCheck_0 2 rfl rfl)
theorem dJ13_rangeCheck_5 : decode cJ13_rangeCheck 5 = .ok (.new 43, 3) := dk_187 0 43 (dk_at dksJ13_rangeCheck_0 5 rfl rfl)
theorem dJ13_rangeCheck_8 : decode cJ13_rangeCheck 8 = .ok (.dup, 1) := dk_89 (dk_at dksJ13_rangeCheck_0 8 rfl rfl)
theorem dJ13_rangeCheck_9 : decode cJ13_rangeCheck 9 = .ok (.new 45, 3) := dk_187 0 45 (dk_at dksJ13_rangeCheck_0 9 rfl rfl)
theorem dJ13_rangeCheck_12 : decode cJ13_rangeCheck 12 = .ok (.dup, 1) := dk_89 (dk_at dksJ13_rangeCheck_0 12 rfl rfl)
theorem dJ13_rangeCheck_13 : decode cJ13_rangeCheck 13 = .ok (.invokespecial 47, 3) := dk_183 0 47 (dk_at dksJ13_rangeCheck_0 13 rfl rfl)
theorem dJ13_rangeCheck_16 : decode cJ13_rangeCheck 16 = .ok (.ldc 48, 2) := dk_18 48 (dk_at dksJ13_rangeCheck_0 16 rfl rfl)
theorem dJ13_rangeCheck_18 : decode cJ13_rangeCheck 18 = .ok (.invokevirtual 50, 3) := dk_182 0 50 (dk_at dksJ13_rangeCheck_0 18 rfl rfl)
theorem dJ13_rangeCheck_21 : decode cJ13_rangeCheck 21 = .ok (.iload_n 1, 1) := dk_27 (dk_at dksJ13_rangeCheck_0 21 rfl rfl)
theorem dJ13_rangeCheck_22 : decode cJ13_rangeCheck 22 = .ok (.invokevirtual 54, 3) := dk_182 0 54 (dk_at dksJ13_rangeCheck_1 0 rfl rfl)
theorem dJ13_rangeCheck_25 : decode cJ13_rangeCheck 25 = .ok (.ldc 57, 2) := dk_18 57 (dk_at dksJ13_rangeCheck_1 3 rfl rfl)
theorem dJ13_rangeCheck_27 : decode cJ13_rangeCheck 27 = .ok (.invokevirtual 50, 3) := dk_182 0 50 (dk_at dksJ13_rangeCheck_1 5 rfl rfl)
theorem dJ13_rangeCheck_30 : decode cJ13_rangeCheck 30 = .ok (.iload_n 2, 1) := dk_28 (dk_at dksJ13_rangeCheck_1 8 rfl rfl)
theorem dJ13_rangeCheck_31 : decode cJ13_rangeCheck 31 = .ok (.invokevirtual 54, 3) := dk_182 0 54 (dk_at dksJ13_rangeCheck_1 9 rfl rfl)
theorem dJ13_rangeCheck_34 : decode cJ13_rangeCheck 34 = .ok (.ldc 59, 2) := dk_18 59 (dk_at dksJ13_rangeCheck_1 12 rfl rfl)
theorem dJ13_rangeCheck_36 : decode cJ13_rangeCheck 36 = .ok (.invokevirtual 50, 3) := dk_182 0 50 (dk_at dksJ13_rangeCheck_1 14 rfl rfl)
theorem dJ13_rangeCheck_39 : decode cJ13_rangeCheck 39 = .ok (.invokevirtual 61, 3) := dk_182 0 61 (dk_at dksJ13_rangeCheck_1 17 rfl rfl)
theorem dJ13_rangeCheck_42 : decode cJ13_rangeCheck 42 = .ok (.invokespecial 65, 3) := dk_183 0 65 (dk_at dksJ13_rangeCheck_1 20 rfl rfl)
theorem dJ13_rangeCheck_45 : decode cJ13_rangeCheck 45 = .ok (.athrow, 1) := dk_191 (dk_at dksJ13_rangeCheck_1 23 rfl rfl)
theorem dJ13_rangeCheck_46 : decode cJ13_rangeCheck 46 = .ok (.iload_n 1, 1) := dk_27 (dk_at dksJ13_rangeCheck_2 0 rfl rfl)
theorem dJ13_rangeCheck_47 : decode cJ13_rangeCheck 47 = .ok (.ifCond .ge 12, 3) := dk_156 0 12 (dk_at dksJ13_rangeCheck_2 1 rfl rfl)
theorem dJ13_rangeCheck_50 : decode cJ13_rangeCheck 50 = .ok (.new 68, 3) := dk_187 0 68 (dk_at dksJ13_rangeCheck_2 4 rfl rfl)
theorem dJ13_rangeCheck_53 : decode cJ13_rangeCheck 53 = .ok (.dup, 1) := dk_89 (dk_at dksJ13_rangeCheck_2 7 rfl rfl)
theorem dJ13_rangeCheck_54 : decode cJ13_rangeCheck 54 = .ok (.iload_n 1, 1) := dk_27 (dk_at dksJ13_rangeCheck_2 8 rfl rfl)
theorem dJ13_rangeCheck_55 : decode cJ13_rangeCheck 55 = .ok (.invokespecial 70, 3) := dk_183 0 70 (dk_at dksJ13_rangeCheck_2 9 rfl rfl)
theorem dJ13_rangeCheck_58 : decode cJ13_rangeCheck 58 = .ok (.athrow, 1) := dk_191 (dk_at dksJ13_rangeCheck_2 12 rfl rfl)
theorem dJ13_rangeCheck_59 : decode cJ13_rangeCheck 59 = .ok (.iload_n 2, 1) := dk_28 (dk_at dksJ13_rangeCheck_2 13 rfl rfl)
theorem dJ13_rangeCheck_60 : decode cJ13_rangeCheck 60 = .ok (.iload_n 0, 1) := dk_26 (dk_at dksJ13_rangeCheck_2 14 rfl rfl)
theorem dJ13_rangeCheck_61 : decode cJ13_rangeCheck 61 = .ok (.if_icmp .le 12, 3) := dk_164 0 12 (dk_at dksJ13_rangeCheck_2 15 rfl rfl)
theorem dJ13_rangeCheck_64 : decode cJ13_rangeCheck 64 = .ok (.new 68, 3) := dk_187 0 68 (dk_at dksJ13_rangeCheck_2 18 rfl rfl)
theorem dJ13_rangeCheck_67 : decode cJ13_rangeCheck 67 = .ok (.dup, 1) := dk_89 (dk_at dksJ13_rangeCheck_2 21 rfl rfl)
theorem dJ13_rangeCheck_68 : decode cJ13_rangeCheck 68 = .ok (.iload_n 2, 1) := dk_28 (dk_at dksJ13_rangeCheck_2 22 rfl rfl)
theorem dJ13_rangeCheck_69 : decode cJ13_rangeCheck 69 = .ok (.invokespecial 70, 3) := dk_183 0 70 (dk_at dksJ13_rangeCheck_3 0 rfl rfl)
theorem dJ13_rangeCheck_72 : decode cJ13_rangeCheck 72 = .ok (.athrow, 1) := dk_191 (dk_at dksJ13_rangeCheck_3 3 rfl rfl)
theorem dJ13_rangeCheck_73 : decode cJ13_rangeCheck 73 = .ok (.return_, 1) := dk_177 (dk_at dksJ13_rangeCheck_3 4 rfl rfl)
def dkwJ13_copyOfRange_1 : List UInt8 := [176]
abbrev dktJ13_copyOfRange_1 : List UInt8 := dkwJ13_copyOfRange_1 ++ []
def dkwJ13_copyOfRange_0 : List UInt8 := [27, 154, 0, 9, 28, 42, 190, 159, 0, 10, 42, 27, 28, 184, 1, 83, 176, 42, 182, 1, 54, 192, 1, 55]
abbrev dktJ13_copyOfRange_0 : List UInt8 := dkwJ13_copyOfRange_0 ++ dktJ13_copyOfRange_1
theorem dksJ13_copyOfRange_0 : cJ13_copyOfRange.data.toList.drop 0 = dktJ13_copyOfRange_0 := by decide +kernel
theorem dksJ13_copyOfRange_1 : cJ13_copyOfRange.data.toList.drop 24 = dktJ13_copyOfRange_1 := dk_seg dksJ13_copyOfRange_0 24 rfl rfl
theorem dJ13_copyOfRange_0 : decode cJ13_copyOfRange 0 = .ok (.iload_n 1, 1) := dk_27 (dk_at dksJ13_copyOfRange_0 0 rfl rfl)
theorem dJ13_copyOfRange_1 : decode cJ13_copyOfRange 1 = .ok (.ifCond .ne 9, 3) := dk_154 0 9 (dk_at dksJ13_copyOfRange_0 1 rfl rfl)
theorem dJ13_copyOfRange_4 : decode cJ13_copyOfRange 4 = .ok (.iload_n 2, 1) := dk_28 (dk_at dksJ13_copyOfRange_0 4 rfl rfl)
theorem dJ13_copyOfRange_5 : decode cJ13_copyOfRange 5 = .ok (.aload_n 0, 1) := dk_42 (dk_at dksJ13_copyOfRange_0 5 rfl rfl)
theorem dJ13_copyOfRange_6 : decode cJ13_copyOfRange 6 = .ok (.arraylength, 1) := dk_190 (dk_at dksJ13_copyOfRange_0 6 rfl rfl)
theorem dJ13_copyOfRange_7 : decode cJ13_copyOfRange 7 = .ok (.if_icmp .eq 10, 3) := dk_159 0 10 (dk_at dksJ13_copyOfRange_0 7 rfl rfl)
theorem dJ13_copyOfRange_10 : decode cJ13_copyOfRange 10 = .ok (.aload_n 0, 1) := dk_42 (dk_at dksJ13_copyOfRange_0 10 rfl rfl)
theorem dJ13_copyOfRange_11 : decode cJ13_copyOfRange 11 = .ok (.iload_n 1, 1) := dk_27 (dk_at dksJ13_copyOfRange_0 11 rfl rfl)
theorem dJ13_copyOfRange_12 : decode cJ13_copyOfRange 12 = .ok (.iload_n 2, 1) := dk_28 (dk_at dksJ13_copyOfRange_0 12 rfl rfl)
theorem dJ13_copyOfRange_13 : decode cJ13_copyOfRange 13 = .ok (.invokestatic 339, 3) := dk_184 1 83 (dk_at dksJ13_copyOfRange_0 13 rfl rfl)
theorem dJ13_copyOfRange_16 : decode cJ13_copyOfRange 16 = .ok (.areturn, 1) := dk_176 (dk_at dksJ13_copyOfRange_0 16 rfl rfl)
theorem dJ13_copyOfRange_17 : decode cJ13_copyOfRange 17 = .ok (.aload_n 0, 1) := dk_42 (dk_at dksJ13_copyOfRange_0 17 rfl rfl)
theorem dJ13_copyOfRange_18 : decode cJ13_copyOfRange 18 = .ok (.invokevirtual 310, 3) := dk_182 1 54 (dk_at dksJ13_copyOfRange_0 18 rfl rfl)
theorem dJ13_copyOfRange_21 : decode cJ13_copyOfRange 21 = .ok (.checkcast 311, 3) := dk_192 1 55 (dk_at dksJ13_copyOfRange_0 21 rfl rfl)
theorem dJ13_copyOfRange_24 : decode cJ13_copyOfRange 24 = .ok (.areturn, 1) := dk_176 (dk_at dksJ13_copyOfRange_1 0 rfl rfl)
def dkwJ13_copyOfRangeByte_1 : List UInt8 := [184, 1, 48, 184, 0, 150, 25, 4, 176]
abbrev dktJ13_copyOfRangeByte_1 : List UInt8 := dkwJ13_copyOfRangeByte_1 ++ []
def dkwJ13_copyOfRangeByte_0 : List UInt8 := [27, 28, 184, 1, 87, 28, 27, 100, 62, 29, 188, 8, 58, 4, 42, 27, 25, 4, 3, 42, 190, 27, 100, 29]
abbrev dktJ13_copyOfRangeByte_0 : List UInt8 := dkwJ13_copyOfRangeByte_0 ++ dktJ13_copyOfRangeByte_1
theorem dksJ13_copyOfRangeByte_0 : cJ13_copyOfRangeByte.data.toList.drop 0 = dktJ13_copyOfRangeByte_0 := by decide +kernel
theorem dksJ13_copyOfRangeByte_1 : cJ13_copyOfRangeByte.data.toList.drop 24 = dktJ13_copyOfRangeByte_1 := dk_seg dksJ13_copyOfRangeByte_0 24 rfl rfl
theorem dJ13_copyOfRangeByte_0 : decode cJ13_copyOfRangeByte 0 = .ok (.iload_n 1, 1) := dk_27 (dk_at dksJ13_copyOfRangeByte_0 0 rfl rfl)
theorem dJ13_copyOfRangeByte_1 : decode cJ13_copyOfRangeByte 1 = .ok (.iload_n 2, 1) := dk_28 (dk_at dksJ13_copyOfRangeByte_0 1 rfl rfl)
theorem dJ13_copyOfRangeByte_2 : decode cJ13_copyOfRangeByte 2 = .ok (.invokestatic 343, 3) := dk_184 1 87 (dk_at dksJ13_copyOfRangeByte_0 2 rfl rfl)
theorem dJ13_copyOfRangeByte_5 : decode cJ13_copyOfRangeByte 5 = .ok (.iload_n 2, 1) := dk_28 (dk_at dksJ13_copyOfRangeByte_0 5 rfl rfl)
theorem dJ13_copyOfRangeByte_6 : decode cJ13_copyOfRangeByte 6 = .ok (.iload_n 1, 1) := dk_27 (dk_at dksJ13_copyOfRangeByte_0 6 rfl rfl)
theorem dJ13_copyOfRangeByte_7 : decode cJ13_copyOfRangeByte 7 = .ok (.isub, 1) := dk_100 (dk_at dksJ13_copyOfRangeByte_0 7 rfl rfl)
theorem dJ13_copyOfRangeByte_8 : decode cJ13_copyOfRangeByte 8 = .ok (.istore_n 3, 1) := dk_62 (dk_at dksJ13_copyOfRangeByte_0 8 rfl rfl)
theorem dJ13_copyOfRangeByte_9 : decode cJ13_copyOfRangeByte 9 = .ok (.iload_n 3, 1) := dk_29 (dk_at dksJ13_copyOfRangeByte_0 9 rfl rfl)
theorem dJ13_copyOfRangeByte_10 : decode cJ13_copyOfRangeByte 10 = .ok (.newarray .byte, 2) := dk_188_8 (dk_at dksJ13_copyOfRangeByte_0 10 rfl rfl)
theorem dJ13_copyOfRangeByte_12 : decode cJ13_copyOfRangeByte 12 = .ok (.astore 4, 2) := dk_58 4 (dk_at dksJ13_copyOfRangeByte_0 12 rfl rfl)
theorem dJ13_copyOfRangeByte_14 : decode cJ13_copyOfRangeByte 14 = .ok (.aload_n 0, 1) := dk_42 (dk_at dksJ13_copyOfRangeByte_0 14 rfl rfl)
theorem dJ13_copyOfRangeByte_15 : decode cJ13_copyOfRangeByte 15 = .ok (.iload_n 1, 1) := dk_27 (dk_at dksJ13_copyOfRangeByte_0 15 rfl rfl)
theorem dJ13_copyOfRangeByte_16 : decode cJ13_copyOfRangeByte 16 = .ok (.aload 4, 2) := dk_25 4 (dk_at dksJ13_copyOfRangeByte_0 16 rfl rfl)
theorem dJ13_copyOfRangeByte_18 : decode cJ13_copyOfRangeByte 18 = .ok (.iconst 0, 1) := dk_3 (dk_at dksJ13_copyOfRangeByte_0 18 rfl rfl)
theorem dJ13_copyOfRangeByte_19 : decode cJ13_copyOfRangeByte 19 = .ok (.aload_n 0, 1) := dk_42 (dk_at dksJ13_copyOfRangeByte_0 19 rfl rfl)
theorem dJ13_copyOfRangeByte_20 : decode cJ13_copyOfRangeByte 20 = .ok (.arraylength, 1) := dk_190 (dk_at dksJ13_copyOfRangeByte_0 20 rfl rfl)
theorem dJ13_copyOfRangeByte_21 : decode cJ13_copyOfRangeByte 21 = .ok (.iload_n 1, 1) := dk_27 (dk_at dksJ13_copyOfRangeByte_0 21 rfl rfl)
theorem dJ13_copyOfRangeByte_22 : decode cJ13_copyOfRangeByte 22 = .ok (.isub, 1) := dk_100 (dk_at dksJ13_copyOfRangeByte_0 22 rfl rfl)
theorem dJ13_copyOfRangeByte_23 : decode cJ13_copyOfRangeByte 23 = .ok (.iload_n 3, 1) := dk_29 (dk_at dksJ13_copyOfRangeByte_0 23 rfl rfl)
theorem dJ13_copyOfRangeByte_24 : decode cJ13_copyOfRangeByte 24 = .ok (.invokestatic 304, 3) := dk_184 1 48 (dk_at dksJ13_copyOfRangeByte_1 0 rfl rfl)
theorem dJ13_copyOfRangeByte_27 : decode cJ13_copyOfRangeByte 27 = .ok (.invokestatic 150, 3) := dk_184 0 150 (dk_at dksJ13_copyOfRangeByte_1 3 rfl rfl)
theorem dJ13_copyOfRangeByte_30 : decode cJ13_copyOfRangeByte 30 = .ok (.aload 4, 2) := dk_25 4 (dk_at dksJ13_copyOfRangeByte_1 6 rfl rfl)
theorem dJ13_copyOfRangeByte_32 : decode cJ13_copyOfRangeByte 32 = .ok (.areturn, 1) := dk_176 (dk_at dksJ13_copyOfRangeByte_1 8 rfl rfl)
def dkwJ13_checkLength_1 : List UInt8 := [182, 0, 50, 27, 182, 0, 54, 182, 0, 61, 183, 0, 65, 191, 177]
abbrev dktJ13_checkLength_1 : List UInt8 := dkwJ13_checkLength_1 ++ []
def dkwJ13_checkLength_0 : List UInt8 := [27, 26, 162, 0, 35, 187, 0, 43, 89, 187, 0, 45, 89, 183, 0, 47, 26, 182, 0, 54, 19, 1, 81]
abbrev dktJ13_checkLength_0 : List UInt8 := dkwJ13_checkLength_0 ++ dktJ13_checkLength_1
theorem dksJ13_checkLength_0 : cJ13_checkLength.data.toList.drop 0 = dktJ13_checkLength_0 := by decide +kernel
theorem dksJ13_checkLength_1 : cJ13_checkLength.data.toList.drop 23 = dktJ13_checkLength_1 := dk_seg dksJ13_checkLength_0 23 rfl rfl
theorem dJ13_checkLength_0 : decode cJ13_checkLength 0 = .ok (.iload_n 1, 1) := dk_27 (dk_at dksJ13_checkLength_0 0 rfl rfl)
theorem dJ13_checkLength_1 : decode cJ13_checkLength 1 = .ok (.iload_n 0, 1) := dk_26 (dk_at dksJ13_checkLength_0 1 rfl rfl)
theorem dJ13_checkLength_2 : decode cJ13_checkLength 2 = .ok (.if_icmp .ge 35, 3) := dk_162 0 35 (dk_at dksJ13_checkLength_0 2 rfl rfl)
theorem dJ13_checkLength_5 : decode cJ13_checkLength 5 = .ok (.new 43, 3) := dk_187 0 43 (dk_at dksJ13_checkLength_0 5 rfl rfl)
theorem dJ13_checkLength_8 : decode cJ13_checkLength 8 = .ok (.dup, 1) := dk_89 (dk_at dksJ13_checkLength_0 8 rfl rfl)
theorem dJ13_checkLength_9 : decode cJ13_checkLength 9 = .ok (.new 45, 3) := dk_187 0 45 (dk_at dksJ13_checkLength_0 9 rfl rfl)
theorem dJ13_checkLength_12 : decode cJ13_checkLength 12 = .ok (.dup, 1) := dk_89 (dk_at dksJ13_checkLength_0 12 rfl rfl)
theorem dJ13_checkLength_13 : decode cJ13_checkLength 13 = .ok (.invokespecial 47, 3) := dk_183 0 47 (dk_at dksJ13_checkLength_0 13 rfl rfl)
theorem dJ13_checkLength_16 : decode cJ13_checkLength 16 = .ok (.iload_n 0, 1) := dk_26 (dk_at dksJ13_checkLength_0 16 rfl rfl)
theorem dJ13_checkLength_17 : decode cJ13_checkLength 17 = .ok (.invokevirtual 54, 3) := dk_182 0 54 (dk_at dksJ13_checkLength_0 17 rfl rfl)
theorem dJ13_checkLength_20 : decode cJ13_checkLength 20 = .ok (.ldc_w 337, 3) := dk_19 1 81 (dk_at dksJ13_checkLength_0 20 rfl rfl)
theorem dJ13_checkLength_23 : decode cJ13_checkLength 23 = .ok (.invokevirtual 50, 3) := dk_182 0 50 (dk_at dksJ13_checkLength_1 0 rfl rfl)
theorem dJ13_checkLength_26 : decode cJ13_checkLength 26 = .ok (.iload_n 1, 1) := dk_27 (dk_at dksJ13_checkLength_1 3 rfl rfl)
theorem dJ13_checkLength_27 : decode cJ13_checkLength 27 = .ok (.invokevirtual 54, 3) := dk_182 0 54 (dk_at dksJ13_checkLength_1 4 rfl rfl)
theorem dJ13_checkLength_30 : decode cJ13_checkLength 30 = .ok (.invokevirtual 61, 3) := dk_182 0 61 (dk_at dksJ13_checkLength_1 7 rfl rfl)
theorem dJ13_checkLength_33 : decode cJ13_checkLength 33 = .ok (.invokespecial 65, 3) := dk_183 0 65 (dk_at dksJ13_checkLength_1 10 rfl rfl)
theorem dJ13_checkLength_36 : decode cJ13_checkLength 36 = .ok (.athrow, 1) := dk_191 (dk_at dksJ13_checkLength_1 13 rfl rfl)
theorem dJ13_checkLength_37 : decode cJ13_checkLength 37 = .ok (.return_, 1) := dk_177 (dk_at dksJ13_checkLength_1 14 rfl rfl)
theorem e_J13_copyOf (d : Nat) (x0 : Nat) (x1 : Int32) (h : a_H) : a_call (d + 1) MJ13_copyOf [.ref x0, .int x1] h = a_run d MJ13_copyOf 0 [some (.ref x0), some (.int x1)] [] h := a_call_run rfl (Nat.le_of_ble_eq_true rfl) rfl
theorem w_J13_copyOf_0 (d : Nat) (a1 : Option Value) (x : Nat) (st : List Value) (h : a_H) : a_run d MJ13_copyOf 0 [some (.ref x), a1] st h = a_run d MJ13_copyOf 1 [some (.ref x), a1] (.ref x :: st) h := w_ldAn dJ13_copyOf_0 rfl
theorem w_J13_copyOf_1 (d : Nat) (a0 : Option Value) (x : Int32) (st : List Value) (h : a_H) : a_run d MJ13_copyOf 1 [a0, some (.int x)] st h = a_run d MJ13_copyOf 2 [a0, some (.int x)] (.int x :: st) h := w_ldIn dJ13_copyOf_1 rfl
theorem w_J13_copyOf_2 (d : Nat) (a1 : Option Value) (x : Nat) (st : List Value) (h : a_H) : a_run d MJ13_copyOf 2 [some (.ref x), a1] st h = a_run d MJ13_copyOf 3 [some (.ref x), a1] (.ref x :: st) h := w_ldAn dJ13_copyOf_2 rfl
theorem w_J13_copyOf_6 (d : Nat) (L : a_L) (v0 v1 v2 : Value) (st : List Value) (h : a_H) (hc : a_cat st ≤ 8) : a_run d MJ13_copyOf 6 L (v2 :: v1 :: v0 :: st) h = a_cont d MJ13_copyOf (a_bk MJ13_copyOf 6 L st (a_call d MJ13_copyOf_2 [v0, v1, v2] h)) := w_callS (as := [v0, v1, v2]) dJ13_copyOf_6 rfl rfl rfl hc
theorem w_J13_copyOf_9 (d : Nat) (L : a_L) (x : Nat) (h : a_H) : a_run d MJ13_copyOf 9 L [.ref x] h = some (.inl (some (.ref x)), h) := w_aret dJ13_copyOf_9 rfl
theorem w_J13_copyOf_9N (d : Nat) (L : a_L) (h : a_H) : a_run d MJ13_copyOf 9 L [.null] h = some (.inl (some .null), h) := w_aretN dJ13_copyOf_9 rfl
theorem e_J13_copyOf_2 (d : Nat) (x0 : Nat) (x1 : Int32) (x2 : Nat) (h : a_H) : a_call (d + 1) MJ13_copyOf_2 [.ref x0, .int x1, .ref x2] h = a_run d MJ13_copyOf_2 0 [some (.ref x0), some (.int x1), some (.ref x2), none] [] h := a_call_run rfl (Nat.le_of_ble_eq_true rfl) rfl
theorem w_J13_copyOf_2_0 (d : Nat) (a0 a1 a3 : Option Value) (x : Nat) (st : List Value) (h : a_H) : a_run d MJ13_copyOf_2 0 [a0, a1, some (.ref x), a3] st h = a_run d MJ13_copyOf_2 1 [a0, a1, some (.ref x), a3] (.ref x :: st) h := w_ldAn dJ13_copyOf_2_0 rfl
theorem w_J13_copyOf_2_0N (d : Nat) (a0 a1 a3 : Option Value) (st : List Value) (h : a_H) : a_run d MJ13_copyOf_2 0 [a0, a1, some .null, a3] st h = a_run d MJ13_copyOf_2 1 [a0, a1, some .null, a3] (.null :: st) h := w_ldNn dJ13_copyOf_2_0 rfl
theorem w_J13_copyOf_2_6 (d : Nat) (a0 a2 a3 : Option Value) (x : Int32) (st : List Value) (h : a_H) : a_run d MJ13_copyOf_2 6 [a0, some (.int x), a2, a3] st h = a_run d MJ13_copyOf_2 7 [a0, some (.int x), a2, a3] (.int x :: st) h := w_ldIn dJ13_copyOf_2_6 rfl
theorem w_J13_copyOf_2_7 (d : Nat) (L : a_L) (x : Int32) (st : List Value) (h : a_H) : a_run d MJ13_copyOf_2 7 L (.int x :: st) h = (a_newa h (.object "java/lang/Object") x).bind fun q => a_run d MJ13_copyOf_2 10 L (.ref q.1 :: st) q.2 := w_anew dJ13_copyOf_2_7 rfl
theorem w_J13_copyOf_2_10 (d : Nat) (L : a_L) (st : List Value) (h : a_H) : a_run d MJ13_copyOf_2 10 L st h = a_run d MJ13_copyOf_2 24 L st h := w_goto dJ13_copyOf_2_10 rfl
theorem w_J13_copyOf_2_13 (d : Nat) (a0 a1 a3 : Option Value) (x : Nat) (st : List Value) (h : a_H) : a_run d MJ13_copyOf_2 13 [a0, a1, some (.ref x), a3] st h = a_run d MJ13_copyOf_2 14 [a0, a1, some (.ref x), a3] (.ref x :: st) h := w_ldAn dJ13_copyOf_2_13 rfl
theorem w_J13_copyOf_2_13N (d : Nat) (a0 a1 a3 : Option Value) (st : List Value) (h : a_H) : a_run d MJ13_copyOf_2 13 [a0, a1, some .null, a3] st h = a_run d MJ13_copyOf_2 14 [a0, a1, some .null, a3] (.null :: st) h := w_ldNn dJ13_copyOf_2_13 rfl
theorem w_J13_copyOf_2_17 (d : Nat) (a0 a2 a3 : Option Value) (x : Int32) (st : List Value) (h : a_H) : a_run d MJ13_copyOf_2 17 [a0, some (.int x), a2, a3] st h = a_run d MJ13_copyOf_2 18 [a0, some (.int x), a2, a3] (.int x :: st) h := w_ldIn dJ13_copyOf_2_17 rfl
theorem w_J13_copyOf_2_24 (d : Nat) (a0 a1 a2 a3 : Option Value) (x : Nat) (st : List Value) (h : a_H) : a_run d MJ13_copyOf_2 24 [a0, a1, a2, a3] (.ref x :: st) h = a_run d MJ13_copyOf_2 25 [a0, a1, a2, some (.ref x)] st h := w_stAn dJ13_copyOf_2_24 (Nat.le_of_ble_eq_true rfl) rfl
theorem w_J13_copyOf_2_24N (d : Nat) (a0 a1 a2 a3 : Option Value) (st : List Value) (h : a_H) : a_run d MJ13_copyOf_2 24 [a0, a1, a2, a3] (.null :: st) h = a_run d MJ13_copyOf_2 25 [a0, a1, a2, some .null] st h := w_stNn dJ13_copyOf_2_24 (Nat.le_of_ble_eq_true rfl) rfl
theorem w_J13_copyOf_2_25 (d : Nat) (a1 a2 a3 : Option Value) (x : Nat) (st : List Value) (h : a_H) : a_run d MJ13_copyOf_2 25 [some (.ref x), a1, a2, a3] st h = a_run d MJ13_copyOf_2 26 [some (.ref x), a1, a2, a3] (.ref x :: st) h := w_ldAn dJ13_copyOf_2_25 rfl
theorem w_J13_copyOf_2_26 (d : Nat) (L : a_L) (st : List Value) (h : a_H) : a_run d MJ13_copyOf_2 26 L st h = a_run d MJ13_copyOf_2 27 L (.int (nI 0) :: st) h := w_iconst dJ13_copyOf_2_26 rfl
theorem w_J13_copyOf_2_27 (d : Nat) (a0 a1 a2 : Option Value) (x : Nat) (st : List Value) (h : a_H) : a_run d MJ13_copyOf_2 27 [a0, a1, a2, some (.ref x)] st h = a_run d MJ13_copyOf_2 28 [a0, a1, a2, some (.ref x)] (.ref x :: st) h := w_ldAn dJ13_copyOf_2_27 rfl
theorem w_J13_copyOf_2_27N (d : Nat) (a0 a1 a2 : Option Value) (st : List Value) (h : a_H) : a_run d MJ13_copyOf_2 27 [a0, a1, a2, some .null] st h = a_run d MJ13_copyOf_2 28 [a0, a1, a2, some .null] (.null :: st) h := w_ldNn dJ13_copyOf_2_27 rfl
theorem w_J13_copyOf_2_28 (d : Nat) (L : a_L) (st : List Value) (h : a_H) : a_run d MJ13_copyOf_2 28 L st h = a_run d MJ13_copyOf_2 29 L (.int (nI 0) :: st) h := w_iconst dJ13_copyOf_2_28 rfl
theorem w_J13_copyOf_2_29 (d : Nat) (a1 a2 a3 : Option Value) (x : Nat) (st : List Value) (h : a_H) : a_run d MJ13_copyOf_2 29 [some (.ref x), a1, a2, a3] st h = a_run d MJ13_copyOf_2 30 [some (.ref x), a1, a2, a3] (.ref x :: st) h := w_ldAn dJ13_copyOf_2_29 rfl
theorem w_J13_copyOf_2_30 (d : Nat) (L : a_L) (i : Nat) (st : List Value) (h : a_H) : a_run d MJ13_copyOf_2 30 L (.ref i :: st) h = (a_len h i).bind fun v => a_run d MJ13_copyOf_2 31 L (v :: st) h := w_alen dJ13_copyOf_2_30
theorem w_J13_copyOf_2_31 (d : Nat) (a0 a2 a3 : Option Value) (x : Int32) (st : List Value) (h : a_H) : a_run d MJ13_copyOf_2 31 [a0, some (.int x), a2, a3] st h = a_run d MJ13_copyOf_2 32 [a0, some (.int x), a2, a3] (.int x :: st) h := w_ldIn dJ13_copyOf_2_31 rfl
theorem w_J13_copyOf_2_32 (d : Nat) (L : a_L) (x y : Int32) (st : List Value) (h : a_H) (hc : a_cat st ≤ 8) : a_run d MJ13_copyOf_2 32 L (.int y :: .int x :: st) h = a_run d MJ13_copyOf_2 35 L (.int (if y < x then y else x) :: st) h := w_min dJ13_copyOf_2_32 rfl hc
theorem w_J13_copyOf_2_35 (d : Nat) (L : a_L) (x y z : Int32) (s t : Nat) (st : List Value) (h : a_H) : a_run d MJ13_copyOf_2 35 L (.int z :: .int y :: .ref t :: .int x :: .ref s :: st) h = a_cont d MJ13_copyOf_2 (a_cpy 35 L (.int z :: .int y :: .ref t :: .int x :: .ref s :: st) h) := w_cpy dJ13_copyOf_2_35 rfl
theorem w_J13_copyOf_2_38 (d : Nat) (a0 a1 a2 : Option Value) (x : Nat) (st : List Value) (h : a_H) : a_run d MJ13_copyOf_2 38 [a0, a1, a2, some (.ref x)] st h = a_run d MJ13_copyOf_2 39 [a0, a1, a2, some (.ref x)] (.ref x :: st) h := w_ldAn dJ13_copyOf_2_38 rfl
theorem w_J13_copyOf_2_38N (d : Nat) (a0 a1 a2 : Option Value) (st : List Value) (h : a_H) : a_run d MJ13_copyOf_2 38 [a0, a1, a2, some .null] st h = a_run d MJ13_copyOf_2 39 [a0, a1, a2, some .null] (.null :: st) h := w_ldNn dJ13_copyOf_2_38 rfl
theorem w_J13_copyOf_2_39 (d : Nat) (L : a_L) (x : Nat) (h : a_H) : a_run d MJ13_copyOf_2 39 L [.ref x] h = some (.inl (some (.ref x)), h) := w_aret dJ13_copyOf_2_39 rfl
theorem w_J13_copyOf_2_39N (d : Nat) (L : a_L) (h : a_H) : a_run d MJ13_copyOf_2 39 L [.null] h = some (.inl (some .null), h) := w_aretN dJ13_copyOf_2_39 rfl
theorem e_J13_copyOf_3 (d : Nat) (x0 : Nat) (x1 : Int32) (h : a_H) : a_call (d + 1) MJ13_copyOf_3 [.ref x0, .int x1] h = a_run d MJ13_copyOf_3 0 [some (.ref x0), some (.int x1), none] [] h := a_call_run rfl (Nat.le_of_ble_eq_true rfl) rfl
theorem w_J13_copyOf_3_0 (d : Nat) (a0 a2 : Option Value) (x : Int32) (st : List Value) (h : a_H) : a_run d MJ13_copyOf_3 0 [a0, some (.int x), a2] st h = a_run d MJ13_copyOf_3 1 [a0, some (.int x), a2] (.int x :: st) h := w_ldIn dJ13_copyOf_3_0 rfl
theorem w_J13_copyOf_3_1 (d : Nat) (a1 a2 : Option Value) (x : Nat) (st : List Value) (h : a_H) : a_run d MJ13_copyOf_3 1 [some (.ref x), a1, a2] st h = a_run d MJ13_copyOf_3 2 [some (.ref x), a1, a2] (.ref x :: st) h := w_ldAn dJ13_copyOf_3_1 rfl
theorem w_J13_copyOf_3_2 (d : Nat) (L : a_L) (i : Nat) (st : List Value) (h : a_H) : a_run d MJ13_copyOf_3 2 L (.ref i :: st) h = (a_len h i).bind fun v => a_run d MJ13_copyOf_3 3 L (v :: st) h := w_alen dJ13_copyOf_3_2
theorem w_J13_copyOf_3_3 (d : Nat) (L : a_L) (x y : Int32) (st : List Value) (h : a_H) : a_run d MJ13_copyOf_3 3 L (.int y :: .int x :: st) h = if x = y then a_run d MJ13_copyOf_3 6 L st h else a_run d MJ13_copyOf_3 14 L st h := w_icmp_ne dJ13_copyOf_3_3 rfl
theorem w_J13_copyOf_3_6 (d : Nat) (a1 a2 : Option Value) (x : Nat) (st : List Value) (h : a_H) : a_run d MJ13_copyOf_3 6 [some (.ref x), a1, a2] st h = a_run d MJ13_copyOf_3 7 [some (.ref x), a1, a2] (.ref x :: st) h := w_ldAn dJ13_copyOf_3_6 rfl
theorem w_J13_copyOf_3_13 (d : Nat) (L : a_L) (x : Nat) (h : a_H) : a_run d MJ13_copyOf_3 13 L [.ref x] h = some (.inl (some (.ref x)), h) := w_aret dJ13_copyOf_3_13 rfl
theorem w_J13_copyOf_3_13N (d : Nat) (L : a_L) (h : a_H) : a_run d MJ13_copyOf_3 13 L [.null] h = some (.inl (some .null), h) := w_aretN dJ13_copyOf_3_13 rfl
theorem w_J13_copyOf_3_14 (d : Nat) (a0 a2 : Option Value) (x : Int32) (st : List Value) (h : a_H) : a_run d MJ13_copyOf_3 14 [a0, some (.int x), a2] st h = a_run d MJ13_copyOf_3 15 [a0, some (.int x), a2] (.int x :: st) h := w_ldIn dJ13_copyOf_3_14 rfl
theorem w_J13_copyOf_3_15 (d : Nat) (L : a_L) (x : Int32) (st : List Value) (h : a_H) : a_run d MJ13_copyOf_3 15 L (.int x :: st) h = (a_newa h (newarray.typeOf .byte) x).bind fun q => a_run d MJ13_copyOf_3 17 L (.ref q.1 :: st) q.2 := w_newa dJ13_copyOf_3_15
theorem w_J13_copyOf_3_17 (d : Nat) (a0 a1 a2 : Option Value) (x : Nat) (st : List Value) (h : a_H) : a_run d MJ13_copyOf_3 17 [a0, a1, a2] (.ref x :: st) h = a_run d MJ13_copyOf_3 18 [a0, a1, some (.ref x)] st h := w_stAn dJ13_copyOf_3_17 (Nat.le_of_ble_eq_true rfl) rfl
theorem w_J13_copyOf_3_17N (d : Nat) (a0 a1 a2 : Option Value) (st : List Value) (h : a_H) : a_run d MJ13_copyOf_3 17 [a0, a1, a2] (.null :: st) h = a_run d MJ13_copyOf_3 18 [a0, a1, some .null] st h := w_stNn dJ13_copyOf_3_17 (Nat.le_of_ble_eq_true rfl) rfl
theorem w_J13_copyOf_3_18 (d : Nat) (a1 a2 : Option Value) (x : Nat) (st : List Value) (h : a_H) : a_run d MJ13_copyOf_3 18 [some (.ref x), a1, a2] st h = a_run d MJ13_copyOf_3 19 [some (.ref x), a1, a2] (.ref x :: st) h := w_ldAn dJ13_copyOf_3_18 rfl
theorem w_J13_copyOf_3_19 (d : Nat) (L : a_L) (st : List Value) (h : a_H) : a_run d MJ13_copyOf_3 19 L st h = a_run d MJ13_copyOf_3 20 L (.int (nI 0) :: st) h := w_iconst dJ13_copyOf_3_19 rfl
theorem w_J13_copyOf_3_20 (d : Nat) (a0 a1 : Option Value) (x : Nat) (st : List Value) (h : a_H) : a_run d MJ13_copyOf_3 20 [a0, a1, some (.ref x)] st h = a_run d MJ13_copyOf_3 21 [a0, a1, some (.ref x)] (.ref x :: st) h := w_ldAn dJ13_copyOf_3_20 rfl
theorem w_J13_copyOf_3_20N (d : Nat) (a0 a1 : Option Value) (st : List Value) (h : a_H) : a_run d MJ13_copyOf_3 20 [a0, a1, some .null] st h = a_run d MJ13_copyOf_3 21 [a0, a1, some .null] (.null :: st) h := w_ldNn dJ13_copyOf_3_20 rfl
theorem w_J13_copyOf_3_21 (d : Nat) (L : a_L) (st : List Value) (h : a_H) : a_run d MJ13_copyOf_3 21 L st h = a_run d MJ13_copyOf_3 22 L (.int (nI 0) :: st) h := w_iconst dJ13_copyOf_3_21 rfl
theorem w_J13_copyOf_3_22 (d : Nat) (a1 a2 : Option Value) (x : Nat) (st : List Value) (h : a_H) : a_run d MJ13_copyOf_3 22 [some (.ref x), a1, a2] st h = a_run d MJ13_copyOf_3 23 [some (.ref x), a1, a2] (.ref x :: st) h := w_ldAn dJ13_copyOf_3_22 rfl
theorem w_J13_copyOf_3_23 (d : Nat) (L : a_L) (i : Nat) (st : List Value) (h : a_H) : a_run d MJ13_copyOf_3 23 L (.ref i :: st) h = (a_len h i).bind fun v => a_run d MJ13_copyOf_3 24 L (v :: st) h := w_alen dJ13_copyOf_3_23
theorem w_J13_copyOf_3_24 (d : Nat) (a0 a2 : Option Value) (x : Int32) (st : List Value) (h : a_H) : a_run d MJ13_copyOf_3 24 [a0, some (.int x), a2] st h = a_run d MJ13_copyOf_3 25 [a0, some (.int x), a2] (.int x :: st) h := w_ldIn dJ13_copyOf_3_24 rfl
theorem w_J13_copyOf_3_25 (d : Nat) (L : a_L) (x y : Int32) (st : List Value) (h : a_H) (hc : a_cat st ≤ 8) : a_run d MJ13_copyOf_3 25 L (.int y :: .int x :: st) h = a_run d MJ13_copyOf_3 28 L (.int (if y < x then y else x) :: st) h := w_min dJ13_copyOf_3_25 rfl hc
theorem w_J13_copyOf_3_28 (d : Nat) (L : a_L) (x y z : Int32) (s t : Nat) (st : List Value) (h : a_H) : a_run d MJ13_copyOf_3 28 L (.int z :: .int y :: .ref t :: .int x :: .ref s :: st) h = a_cont d MJ13_copyOf_3 (a_cpy 28 L (.int z :: .int y :: .ref t :: .int x :: .ref s :: st) h) := w_cpy dJ13_copyOf_3_28 rfl
theorem w_J13_copyOf_3_31 (d : Nat) (a0 a1 : Option Value) (x : Nat) (st : List Value) (h : a_H) : a_run d MJ13_copyOf_3 31 [a0, a1, some (.ref x)] st h = a_run d MJ13_copyOf_3 32 [a0, a1, some (.ref x)] (.ref x :: st) h := w_ldAn dJ13_copyOf_3_31 rfl
theorem w_J13_copyOf_3_31N (d : Nat) (a0 a1 : Option Value) (st : List Value) (h : a_H) : a_run d MJ13_copyOf_3 31 [a0, a1, some .null] st h = a_run d MJ13_copyOf_3 32 [a0, a1, some .null] (.null :: st) h := w_ldNn dJ13_copyOf_3_31 rfl
theorem w_J13_copyOf_3_32 (d : Nat) (L : a_L) (x : Nat) (h : a_H) : a_run d MJ13_copyOf_3 32 L [.ref x] h = some (.inl (some (.ref x)), h) := w_aret dJ13_copyOf_3_32 rfl
theorem w_J13_copyOf_3_32N (d : Nat) (L : a_L) (h : a_H) : a_run d MJ13_copyOf_3 32 L [.null] h = some (.inl (some .null), h) := w_aretN dJ13_copyOf_3_32 rfl
theorem e_J13_fill (d : Nat) (x0 : Nat) (x1 : Int32) (x2 : Int32) (x3 : Int32) (h : a_H) : a_call (d + 1) MJ13_fill [.ref x0, .int x1, .int x2, .int x3] h = a_run d MJ13_fill 0 [some (.ref x0), some (.int x1), some (.int x2), some (.int x3), none] [] h := a_call_run rfl (Nat.le_of_ble_eq_true rfl) rfl
theorem w_J13_fill_0 (d : Nat) (a1 a2 a3 a4 : Option Value) (x : Nat) (st : List Value) (h : a_H) : a_run d MJ13_fill 0 [some (.ref x), a1, a2, a3, a4] st h = a_run d MJ13_fill 1 [some (.ref x), a1, a2, a3, a4] (.ref x :: st) h := w_ldAn dJ13_fill_0 rfl
theorem w_J13_fill_1 (d : Nat) (L : a_L) (i : Nat) (st : List Value) (h : a_H) : a_run d MJ13_fill 1 L (.ref i :: st) h = (a_len h i).bind fun v => a_run d MJ13_fill 2 L (v :: st) h := w_alen dJ13_fill_1
theorem w_J13_fill_2 (d : Nat) (a0 a2 a3 a4 : Option Value) (x : Int32) (st : List Value) (h : a_H) : a_run d MJ13_fill 2 [a0, some (.int x), a2, a3, a4] st h = a_run d MJ13_fill 3 [a0, some (.int x), a2, a3, a4] (.int x :: st) h := w_ldIn dJ13_fill_2 rfl
theorem w_J13_fill_3 (d : Nat) (a0 a1 a3 a4 : Option Value) (x : Int32) (st : List Value) (h : a_H) : a_run d MJ13_fill 3 [a0, a1, some (.int x), a3, a4] st h = a_run d MJ13_fill 4 [a0, a1, some (.int x), a3, a4] (.int x :: st) h := w_ldIn dJ13_fill_3 rfl
theorem w_J13_fill_4 (d : Nat) (L : a_L) (v0 v1 v2 : Value) (st : List Value) (h : a_H) (hc : a_cat st ≤ 8) : a_run d MJ13_fill 4 L (v2 :: v1 :: v0 :: st) h = a_cont d MJ13_fill (a_bk MJ13_fill 4 L st (a_call d MJ13_rangeCheck [v0, v1, v2] h)) := w_callS (as := [v0, v1, v2]) dJ13_fill_4 rfl rfl rfl hc
theorem w_J13_fill_7 (d : Nat) (a0 a2 a3 a4 : Option Value) (x : Int32) (st : List Value) (h : a_H) : a_run d MJ13_fill 7 [a0, some (.int x), a2, a3, a4] st h = a_run d MJ13_fill 8 [a0, some (.int x), a2, a3, a4] (.int x :: st) h := w_ldIn dJ13_fill_7 rfl
theorem w_J13_fill_8 (d : Nat) (a0 a1 a2 a3 a4 : Option Value) (x : Int32) (st : List Value) (h : a_H) : a_run d MJ13_fill 8 [a0, a1, a2, a3, a4] (.int x :: st) h = a_run d MJ13_fill 10 [a0, a1, a2, a3, some (.int x)] st h := w_stI dJ13_fill_8 (Nat.le_of_ble_eq_true rfl) rfl
theorem w_J13_fill_10 (d : Nat) (a0 a1 a2 a3 : Option Value) (x : Int32) (st : List Value) (h : a_H) : a_run d MJ13_fill 10 [a0, a1, a2, a3, some (.int x)] st h = a_run d MJ13_fill 12 [a0, a1, a2, a3, some (.int x)] (.int x :: st) h := w_ldI dJ13_fill_10 rfl
theorem w_J13_fill_12 (d : Nat) (a0 a1 a3 a4 : Option Value) (x : Int32) (st : List Value) (h : a_H) : a_run d MJ13_fill 12 [a0, a1, some (.int x), a3, a4] st h = a_run d MJ13_fill 13 [a0, a1, some (.int x), a3, a4] (.int x :: st) h := w_ldIn dJ13_fill_12 rfl
theorem w_J13_fill_13 (d : Nat) (L : a_L) (x y : Int32) (st : List Value) (h : a_H) : a_run d MJ13_fill 13 L (.int y :: .int x :: st) h = if x < y then a_run d MJ13_fill 16 L st h else a_run d MJ13_fill 27 L st h := w_icmp_ge dJ13_fill_13 rfl
theorem w_J13_fill_16 (d : Nat) (a1 a2 a3 a4 : Option Value) (x : Nat) (st : List Value) (h : a_H) : a_run d MJ13_fill 16 [some (.ref x), a1, a2, a3, a4] st h = a_run d MJ13_fill 17 [some (.ref x), a1, a2, a3, a4] (.ref x :: st) h := w_ldAn dJ13_fill_16 rfl
theorem w_J13_fill_17 (d : Nat) (a0 a1 a2 a3 : Option Value) (x : Int32) (st : List Value) (h : a_H) : a_run d MJ13_fill 17 [a0, a1, a2, a3, some (.int x)] st h = a_run d MJ13_fill 19 [a0, a1, a2, a3, some (.int x)] (.int x :: st) h := w_ldI dJ13_fill_17 rfl
theorem w_J13_fill_19 (d : Nat) (a0 a1 a2 a4 : Option Value) (x : Int32) (st : List Value) (h : a_H) : a_run d MJ13_fill 19 [a0, a1, a2, some (.int x), a4] st h = a_run d MJ13_fill 20 [a0, a1, a2, some (.int x), a4] (.int x :: st) h := w_ldIn dJ13_fill_19 rfl
theorem w_J13_fill_20 (d : Nat) (L : a_L) (x y : Int32) (i : Nat) (st : List Value) (h : a_H) : a_run d MJ13_fill 20 L (.int y :: .int x :: .ref i :: st) h = (a_wri h i a_bz x y).bind fun h' => a_run d MJ13_fill 21 L st h' := w_bast dJ13_fill_20
theorem w_J13_fill_21 (d : Nat) (a0 a1 a2 a3 : Option Value) (x : Int32) (st : List Value) (h : a_H) : a_run d MJ13_fill 21 [a0, a1, a2, a3, some (.int x)] st h = a_run d MJ13_fill 24 [a0, a1, a2, a3, some (.int (x + nI 1))] st h := w_incL dJ13_fill_21 rfl rfl rfl
theorem w_J13_fill_24 (d : Nat) (L : a_L) (st : List Value) (h : a_H) : a_run d MJ13_fill 24 L st h = a_run d MJ13_fill 10 L st h := w_goto dJ13_fill_24 rfl
theorem w_J13_fill_27 (d : Nat) (L : a_L) (h : a_H) : a_run d MJ13_fill 27 L [] h = some (.inl none, h) := w_vret dJ13_fill_27 rfl
theorem e_J13_rangeCheck (d : Nat) (x0 : Int32) (x1 : Int32) (x2 : Int32) (h : a_H) : a_call (d + 1) MJ13_rangeCheck [.int x0, .int x1, .int x2] h = a_run d MJ13_rangeCheck 0 [some (.int x0), some (.int x1), some (.int x2)] [] h := a_call_run rfl (Nat.le_of_ble_eq_true rfl) rfl
theorem w_J13_rangeCheck_0 (d : Nat) (a0 a2 : Option Value) (x : Int32) (st : List Value) (h : a_H) : a_run d MJ13_rangeCheck 0 [a0, some (.int x), a2] st h = a_run d MJ13_rangeCheck 1 [a0, some (.int x), a2] (.int x :: st) h := w_ldIn dJ13_rangeCheck_0 rfl
theorem w_J13_rangeCheck_1 (d : Nat) (a0 a1 : Option Value) (x : Int32) (st : List Value) (h : a_H) : a_run d MJ13_rangeCheck 1 [a0, a1, some (.int x)] st h = a_run d MJ13_rangeCheck 2 [a0, a1, some (.int x)] (.int x :: st) h := w_ldIn dJ13_rangeCheck_1 rfl
theorem w_J13_rangeCheck_2 (d : Nat) (L : a_L) (x y : Int32) (st : List Value) (h : a_H) : a_run d MJ13_rangeCheck 2 L (.int y :: .int x :: st) h = if y < x then a_run d MJ13_rangeCheck 5 L st h else a_run d MJ13_rangeCheck 46 L st h := w_icmp_le dJ13_rangeCheck_2 rfl
theorem w_J13_rangeCheck_5 (d : Nat) (L : a_L) (st : List Value) (h : a_H) : a_run d MJ13_rangeCheck 5 L st h = a_run d MJ13_rangeCheck 8 L (.ref h.1 :: st) (a_add h (.inr (11, [.null, .null, .null, .null, .null, .int 0])) 6) := w_new dJ13_rangeCheck_5 rfl rfl
theorem w_J13_rangeCheck_8 (d : Nat) (L : a_L) (x : Nat) (st : List Value) (h : a_H) : a_run d MJ13_rangeCheck 8 L (.ref x :: st) h = a_run d MJ13_rangeCheck 9 L (.ref x :: .ref x :: st) h := w_dup dJ13_rangeCheck_8
theorem w_J13_rangeCheck_8I (d : Nat) (L : a_L) (x : Int32) (st : List Value) (h : a_H) : a_run d MJ13_rangeCheck 8 L (.int x :: st) h = a_run d MJ13_rangeCheck 9 L (.int x :: .int x :: st) h := w_dupI dJ13_rangeCheck_8
theorem w_J13_rangeCheck_9 (d : Nat) (L : a_L) (st : List Value) (h : a_H) : a_run d MJ13_rangeCheck 9 L st h = a_run d MJ13_rangeCheck 12 L (.ref h.1 :: st) (a_add h (.inr (8, [.null, .int 0, .int 0, .int 0])) 4) := w_new dJ13_rangeCheck_9 rfl rfl
theorem w_J13_rangeCheck_12 (d : Nat) (L : a_L) (x : Nat) (st : List Value) (h : a_H) : a_run d MJ13_rangeCheck 12 L (.ref x :: st) h = a_run d MJ13_rangeCheck 13 L (.ref x :: .ref x :: st) h := w_dup dJ13_rangeCheck_12
theorem w_J13_rangeCheck_12I (d : Nat) (L : a_L) (x : Int32) (st : List Value) (h : a_H) : a_run d MJ13_rangeCheck 12 L (.int x :: st) h = a_run d MJ13_rangeCheck 13 L (.int x :: .int x :: st) h := w_dupI dJ13_rangeCheck_12
theorem w_J13_rangeCheck_13 (d : Nat) (L : a_L) (i : Nat) (st : List Value) (h : a_H) (hi : 1024 ≤ i) (hc : a_cat st ≤ 8) : a_run d MJ13_rangeCheck 13 L (.ref i :: st) h = a_cont d MJ13_rangeCheck (a_bk MJ13_rangeCheck 13 L st (a_call d MJ3_init [.ref i] h)) := w_callI (as := [.ref i]) dJ13_rangeCheck_13 rfl rfl rfl hc (a_new0_of hi)
theorem w_J13_rangeCheck_16 (d : Nat) (L : a_L) (st : List Value) (h : a_H) : a_run d MJ13_rangeCheck 16 L st h = a_run d MJ13_rangeCheck 18 L (.ref 701 :: st) h := w_ldc dJ13_rangeCheck_16 rfl
theorem w_J13_rangeCheck_18 (d : Nat) (L : a_L) (i : Nat) (v1 : Value) (st : List Value) (h : a_H) (hk : a_kls h i = some 8) (hc : a_cat st ≤ 8) : a_run d MJ13_rangeCheck 18 L (v1 :: .ref i :: st) h = a_cont d MJ13_rangeCheck (a_bk MJ13_rangeCheck 18 L st (a_call d MJ3_append [.ref i, v1] h)) := w_callV (as := [.ref i, v1]) dJ13_rangeCheck_18 rfl rfl rfl hc (a_rcv_of hk rfl)
theorem w_J13_rangeCheck_21 (d : Nat) (a0 a2 : Option Value) (x : Int32) (st : List Value) (h : a_H) : a_run d MJ13_rangeCheck 21 [a0, some (.int x), a2] st h = a_run d MJ13_rangeCheck 22 [a0, some (.int x), a2] (.int x :: st) h := w_ldIn dJ13_rangeCheck_21 rfl
theorem w_J13_rangeCheck_22 (d : Nat) (L : a_L) (i : Nat) (v1 : Value) (st : List Value) (h : a_H) (hk : a_kls h i = some 8) (hc : a_cat st ≤ 8) : a_run d MJ13_rangeCheck 22 L (v1 :: .ref i :: st) h = a_cont d MJ13_rangeCheck (a_bk MJ13_rangeCheck 22 L st (a_call d MJ3_append_2 [.ref i, v1] h)) := w_callV (as := [.ref i, v1]) dJ13_rangeCheck_22 rfl rfl rfl hc (a_rcv_of hk rfl)
theorem w_J13_rangeCheck_25 (d : Nat) (L : a_L) (st : List Value) (h : a_H) : a_run d MJ13_rangeCheck 25 L st h = a_run d MJ13_rangeCheck 27 L (.ref 702 :: st) h := w_ldc dJ13_rangeCheck_25 rfl
theorem w_J13_rangeCheck_27 (d : Nat) (L : a_L) (i : Nat) (v1 : Value) (st : List Value) (h : a_H) (hk : a_kls h i = some 8) (hc : a_cat st ≤ 8) : a_run d MJ13_rangeCheck 27 L (v1 :: .ref i :: st) h = a_cont d MJ13_rangeCheck (a_bk MJ13_rangeCheck 27 L st (a_call d MJ3_append [.ref i, v1] h)) := w_callV (as := [.ref i, v1]) dJ13_rangeCheck_27 rfl rfl rfl hc (a_rcv_of hk rfl)
theorem w_J13_rangeCheck_30 (d : Nat) (a0 a1 : Option Value) (x : Int32) (st : List Value) (h : a_H) : a_run d MJ13_rangeCheck 30 [a0, a1, some (.int x)] st h = a_run d MJ13_rangeCheck 31 [a0, a1, some (.int x)] (.int x :: st) h := w_ldIn dJ13_rangeCheck_30 rfl
theorem w_J13_rangeCheck_31 (d : Nat) (L : a_L) (i : Nat) (v1 : Value) (st : List Value) (h : a_H) (hk : a_kls h i = some 8) (hc : a_cat st ≤ 8) : a_run d MJ13_rangeCheck 31 L (v1 :: .ref i :: st) h = a_cont d MJ13_rangeCheck (a_bk MJ13_rangeCheck 31 L st (a_call d MJ3_append_2 [.ref i, v1] h)) := w_callV (as := [.ref i, v1]) dJ13_rangeCheck_31 rfl rfl rfl hc (a_rcv_of hk rfl)
theorem w_J13_rangeCheck_34 (d : Nat) (L : a_L) (st : List Value) (h : a_H) : a_run d MJ13_rangeCheck 34 L st h = a_run d MJ13_rangeCheck 36 L (.ref 703 :: st) h := w_ldc dJ13_rangeCheck_34 rfl
theorem w_J13_rangeCheck_36 (d : Nat) (L : a_L) (i : Nat) (v1 : Value) (st : List Value) (h : a_H) (hk : a_kls h i = some 8) (hc : a_cat st ≤ 8) : a_run d MJ13_rangeCheck 36 L (v1 :: .ref i :: st) h = a_cont d MJ13_rangeCheck (a_bk MJ13_rangeCheck 36 L st (a_call d MJ3_append [.ref i, v1] h)) := w_callV (as := [.ref i, v1]) dJ13_rangeCheck_36 rfl rfl rfl hc (a_rcv_of hk rfl)
theorem w_J13_rangeCheck_39 (d : Nat) (L : a_L) (i : Nat) (st : List Value) (h : a_H) (hk : a_kls h i = some 8) (hc : a_cat st ≤ 8) : a_run d MJ13_rangeCheck 39 L (.ref i :: st) h = a_cont d MJ13_rangeCheck (a_bk MJ13_rangeCheck 39 L st (a_call d MJ3_toString [.ref i] h)) := w_callV (as := [.ref i]) dJ13_rangeCheck_39 rfl rfl rfl hc (a_rcv_of hk rfl)
theorem w_J13_rangeCheck_42 (d : Nat) (L : a_L) (i : Nat) (v1 : Value) (st : List Value) (h : a_H) (hi : 1024 ≤ i) (hc : a_cat st ≤ 8) : a_run d MJ13_rangeCheck 42 L (v1 :: .ref i :: st) h = a_cont d MJ13_rangeCheck (a_bk MJ13_rangeCheck 42 L st (a_call d MJ15_init_2 [.ref i, v1] h)) := w_callI (as := [.ref i, v1]) dJ13_rangeCheck_42 rfl rfl rfl hc (a_new0_of hi)
theorem w_J13_rangeCheck_45 (d : Nat) (L : a_L) (x : Nat) (st : List Value) (h : a_H) : a_run d MJ13_rangeCheck 45 L (.ref x :: st) h = a_cont d MJ13_rangeCheck (a_thr MJ13_rangeCheck 45 L x h) := w_athrow dJ13_rangeCheck_45
theorem w_J13_rangeCheck_46 (d : Nat) (a0 a2 : Option Value) (x : Int32) (st : List Value) (h : a_H) : a_run d MJ13_rangeCheck 46 [a0, some (.int x), a2] st h = a_run d MJ13_rangeCheck 47 [a0, some (.int x), a2] (.int x :: st) h := w_ldIn dJ13_rangeCheck_46 rfl
theorem w_J13_rangeCheck_47 (d : Nat) (L : a_L) (x : Int32) (st : List Value) (h : a_H) : a_run d MJ13_rangeCheck 47 L (.int x :: st) h = if x < 0 then a_run d MJ13_rangeCheck 50 L st h else a_run d MJ13_rangeCheck 59 L st h := w_if_ge dJ13_rangeCheck_47 rfl
theorem w_J13_rangeCheck_53 (d : Nat) (L : a_L) (x : Nat) (st : List Value) (h : a_H) : a_run d MJ13_rangeCheck 53 L (.ref x :: st) h = a_run d MJ13_rangeCheck 54 L (.ref x :: .ref x :: st) h := w_dup dJ13_rangeCheck_53
theorem w_J13_rangeCheck_53I (d : Nat) (L : a_L) (x : Int32) (st : List Value) (h : a_H) : a_run d MJ13_rangeCheck 53 L (.int x :: st) h = a_run d MJ13_rangeCheck 54 L (.int x :: .int x :: st) h := w_dupI dJ13_rangeCheck_53
theorem w_J13_rangeCheck_54 (d : Nat) (a0 a2 : Option Value) (x : Int32) (st : List Value) (h : a_H) : a_run d MJ13_rangeCheck 54 [a0, some (.int x), a2] st h = a_run d MJ13_rangeCheck 55 [a0, some (.int x), a2] (.int x :: st) h := w_ldIn dJ13_rangeCheck_54 rfl
theorem w_J13_rangeCheck_58 (d : Nat) (L : a_L) (x : Nat) (st : List Value) (h : a_H) : a_run d MJ13_rangeCheck 58 L (.ref x :: st) h = a_cont d MJ13_rangeCheck (a_thr MJ13_rangeCheck 58 L x h) := w_athrow dJ13_rangeCheck_58
theorem w_J13_rangeCheck_59 (d : Nat) (a0 a1 : Option Value) (x : Int32) (st : List Value) (h : a_H) : a_run d MJ13_rangeCheck 59 [a0, a1, some (.int x)] st h = a_run d MJ13_rangeCheck 60 [a0, a1, some (.int x)] (.int x :: st) h := w_ldIn dJ13_rangeCheck_59 rfl
theorem w_J13_rangeCheck_60 (d : Nat) (a1 a2 : Option Value) (x : Int32) (st : List Value) (h : a_H) : a_run d MJ13_rangeCheck 60 [some (.int x), a1, a2] st h = a_run d MJ13_rangeCheck 61 [some (.int x), a1, a2] (.int x :: st) h := w_ldIn dJ13_rangeCheck_60 rfl
theorem w_J13_rangeCheck_61 (d : Nat) (L : a_L) (x y : Int32) (st : List Value) (h : a_H) : a_run d MJ13_rangeCheck 61 L (.int y :: .int x :: st) h = if y < x then a_run d MJ13_rangeCheck 64 L st h else a_run d MJ13_rangeCheck 73 L st h := w_icmp_le dJ13_rangeCheck_61 rfl
theorem w_J13_rangeCheck_67 (d : Nat) (L : a_L) (x : Nat) (st : List Value) (h : a_H) : a_run d MJ13_rangeCheck 67 L (.ref x :: st) h = a_run d MJ13_rangeCheck 68 L (.ref x :: .ref x :: st) h := w_dup dJ13_rangeCheck_67
theorem w_J13_rangeCheck_67I (d : Nat) (L : a_L) (x : Int32) (st : List Value) (h : a_H) : a_run d MJ13_rangeCheck 67 L (.int x :: st) h = a_run d MJ13_rangeCheck 68 L (.int x :: .int x :: st) h := w_dupI dJ13_rangeCheck_67
theorem w_J13_rangeCheck_68 (d : Nat) (a0 a1 : Option Value) (x : Int32) (st : List Value) (h : a_H) : a_run d MJ13_rangeCheck 68 [a0, a1, some (.int x)] st h = a_run d MJ13_rangeCheck 69 [a0, a1, some (.int x)] (.int x :: st) h := w_ldIn dJ13_rangeCheck_68 rfl
theorem w_J13_rangeCheck_72 (d : Nat) (L : a_L) (x : Nat) (st : List Value) (h : a_H) : a_run d MJ13_rangeCheck 72 L (.ref x :: st) h = a_cont d MJ13_rangeCheck (a_thr MJ13_rangeCheck 72 L x h) := w_athrow dJ13_rangeCheck_72
theorem w_J13_rangeCheck_73 (d : Nat) (L : a_L) (h : a_H) : a_run d MJ13_rangeCheck 73 L [] h = some (.inl none, h) := w_vret dJ13_rangeCheck_73 rfl
theorem e_J13_copyOfRange (d : Nat) (x0 : Nat) (x1 : Int32) (x2 : Int32) (h : a_H) : a_call (d + 1) MJ13_copyOfRange [.ref x0, .int x1, .int x2] h = a_run d MJ13_copyOfRange 0 [some (.ref x0), some (.int x1), some (.int x2)] [] h := a_call_run rfl (Nat.le_of_ble_eq_true rfl) rfl
theorem w_J13_copyOfRange_0 (d : Nat) (a0 a2 : Option Value) (x : Int32) (st : List Value) (h : a_H) : a_run d MJ13_copyOfRange 0 [a0, some (.int x), a2] st h = a_run d MJ13_copyOfRange 1 [a0, some (.int x), a2] (.int x :: st) h := w_ldIn dJ13_copyOfRange_0 rfl
theorem w_J13_copyOfRange_1 (d : Nat) (L : a_L) (x : Int32) (st : List Value) (h : a_H) : a_run d MJ13_copyOfRange 1 L (.int x :: st) h = if x = 0 then a_run d MJ13_copyOfRange 4 L st h else a_run d MJ13_copyOfRange 10 L st h := w_if_ne dJ13_copyOfRange_1 rfl
theorem w_J13_copyOfRange_4 (d : Nat) (a0 a1 : Option Value) (x : Int32) (st : List Value) (h : a_H) : a_run d MJ13_copyOfRange 4 [a0, a1, some (.int x)] st h = a_run d MJ13_copyOfRange 5 [a0, a1, some (.int x)] (.int x :: st) h := w_ldIn dJ13_copyOfRange_4 rfl
theorem w_J13_copyOfRange_5 (d : Nat) (a1 a2 : Option Value) (x : Nat) (st : List Value) (h : a_H) : a_run d MJ13_copyOfRange 5 [some (.ref x), a1, a2] st h = a_run d MJ13_copyOfRange 6 [some (.ref x), a1, a2] (.ref x :: st) h := w_ldAn dJ13_copyOfRange_5 rfl
theorem w_J13_copyOfRange_6 (d : Nat) (L : a_L) (i : Nat) (st : List Value) (h : a_H) : a_run d MJ13_copyOfRange 6 L (.ref i :: st) h = (a_len h i).bind fun v => a_run d MJ13_copyOfRange 7 L (v :: st) h := w_alen dJ13_copyOfRange_6
theorem w_J13_copyOfRange_7 (d : Nat) (L : a_L) (x y : Int32) (st : List Value) (h : a_H) : a_run d MJ13_copyOfRange 7 L (.int y :: .int x :: st) h = if x = y then a_run d MJ13_copyOfRange 17 L st h else a_run d MJ13_copyOfRange 10 L st h := w_icmp_eq dJ13_copyOfRange_7 rfl
theorem w_J13_copyOfRange_10 (d : Nat) (a1 a2 : Option Value) (x : Nat) (st : List Value) (h : a_H) : a_run d MJ13_copyOfRange 10 [some (.ref x), a1, a2] st h = a_run d MJ13_copyOfRange 11 [some (.ref x), a1, a2] (.ref x :: st) h := w_ldAn dJ13_copyOfRange_10 rfl
theorem w_J13_copyOfRange_11 (d : Nat) (a0 a2 : Option Value) (x : Int32) (st : List Value) (h : a_H) : a_run d MJ13_copyOfRange 11 [a0, some (.int x), a2] st h = a_run d MJ13_copyOfRange 12 [a0, some (.int x), a2] (.int x :: st) h := w_ldIn dJ13_copyOfRange_11 rfl
theorem w_J13_copyOfRange_12 (d : Nat) (a0 a1 : Option Value) (x : Int32) (st : List Value) (h : a_H) : a_run d MJ13_copyOfRange 12 [a0, a1, some (.int x)] st h = a_run d MJ13_copyOfRange 13 [a0, a1, some (.int x)] (.int x :: st) h := w_ldIn dJ13_copyOfRange_12 rfl
theorem w_J13_copyOfRange_13 (d : Nat) (L : a_L) (v0 v1 v2 : Value) (st : List Value) (h : a_H) (hc : a_cat st ≤ 8) : a_run d MJ13_copyOfRange 13 L (v2 :: v1 :: v0 :: st) h = a_cont d MJ13_copyOfRange (a_bk MJ13_copyOfRange 13 L st (a_call d MJ13_copyOfRangeByte [v0, v1, v2] h)) := w_callS (as := [v0, v1, v2]) dJ13_copyOfRange_13 rfl rfl rfl hc
theorem w_J13_copyOfRange_16 (d : Nat) (L : a_L) (x : Nat) (h : a_H) : a_run d MJ13_copyOfRange 16 L [.ref x] h = some (.inl (some (.ref x)), h) := w_aret dJ13_copyOfRange_16 rfl
theorem w_J13_copyOfRange_16N (d : Nat) (L : a_L) (h : a_H) : a_run d MJ13_copyOfRange 16 L [.null] h = some (.inl (some .null), h) := w_aretN dJ13_copyOfRange_16 rfl
theorem w_J13_copyOfRange_17 (d : Nat) (a1 a2 : Option Value) (x : Nat) (st : List Value) (h : a_H) : a_run d MJ13_copyOfRange 17 [some (.ref x), a1, a2] st h = a_run d MJ13_copyOfRange 18 [some (.ref x), a1, a2] (.ref x :: st) h := w_ldAn dJ13_copyOfRange_17 rfl
theorem w_J13_copyOfRange_24 (d : Nat) (L : a_L) (x : Nat) (h : a_H) : a_run d MJ13_copyOfRange 24 L [.ref x] h = some (.inl (some (.ref x)), h) := w_aret dJ13_copyOfRange_24 rfl
theorem w_J13_copyOfRange_24N (d : Nat) (L : a_L) (h : a_H) : a_run d MJ13_copyOfRange 24 L [.null] h = some (.inl (some .null), h) := w_aretN dJ13_copyOfRange_24 rfl
theorem e_J13_copyOfRangeByte (d : Nat) (x0 : Nat) (x1 : Int32) (x2 : Int32) (h : a_H) : a_call (d + 1) MJ13_copyOfRangeByte [.ref x0, .int x1, .int x2] h = a_run d MJ13_copyOfRangeByte 0 [some (.ref x0), some (.int x1), some (.int x2), none, none] [] h := a_call_run rfl (Nat.le_of_ble_eq_true rfl) rfl
theorem w_J13_copyOfRangeByte_0 (d : Nat) (a0 a2 a3 a4 : Option Value) (x : Int32) (st : List Value) (h : a_H) : a_run d MJ13_copyOfRangeByte 0 [a0, some (.int x), a2, a3, a4] st h = a_run d MJ13_copyOfRangeByte 1 [a0, some (.int x), a2, a3, a4] (.int x :: st) h := w_ldIn dJ13_copyOfRangeByte_0 rfl
theorem w_J13_copyOfRangeByte_1 (d : Nat) (a0 a1 a3 a4 : Option Value) (x : Int32) (st : List Value) (h : a_H) : a_run d MJ13_copyOfRangeByte 1 [a0, a1, some (.int x), a3, a4] st h = a_run d MJ13_copyOfRangeByte 2 [a0, a1, some (.int x), a3, a4] (.int x :: st) h := w_ldIn dJ13_copyOfRangeByte_1 rfl
theorem w_J13_copyOfRangeByte_2 (d : Nat) (L : a_L) (v0 v1 : Value) (st : List Value) (h : a_H) (hc : a_cat st ≤ 8) : a_run d MJ13_copyOfRangeByte 2 L (v1 :: v0 :: st) h = a_cont d MJ13_copyOfRangeByte (a_bk MJ13_copyOfRangeByte 2 L st (a_call d MJ13_checkLength [v0, v1] h)) := w_callS (as := [v0, v1]) dJ13_copyOfRangeByte_2 rfl rfl rfl hc
theorem w_J13_copyOfRangeByte_5 (d : Nat) (a0 a1 a3 a4 : Option Value) (x : Int32) (st : List Value) (h : a_H) : a_run d MJ13_copyOfRangeByte 5 [a0, a1, some (.int x), a3, a4] st h = a_run d MJ13_copyOfRangeByte 6 [a0, a1, some (.int x), a3, a4] (.int x :: st) h := w_ldIn dJ13_copyOfRangeByte_5 rfl
theorem w_J13_copyOfRangeByte_6 (d : Nat) (a0 a2 a3 a4 : Option Value) (x : Int32) (st : List Value) (h : a_H) : a_run d MJ13_copyOfRangeByte 6 [a0, some (.int x), a2, a3, a4] st h = a_run d MJ13_copyOfRangeByte 7 [a0, some (.int x), a2, a3, a4] (.int x :: st) h := w_ldIn dJ13_copyOfRangeByte_6 rfl
theorem w_J13_copyOfRangeByte_7 (d : Nat) (L : a_L) (x y : Int32) (st : List Value) (h : a_H) : a_run d MJ13_copyOfRangeByte 7 L (.int y :: .int x :: st) h = a_run d MJ13_copyOfRangeByte 8 L (.int (x - y) :: st) h := w_isub dJ13_copyOfRangeByte_7
theorem w_J13_copyOfRangeByte_8 (d : Nat) (a0 a1 a2 a3 a4 : Option Value) (x : Int32) (st : List Value) (h : a_H) : a_run d MJ13_copyOfRangeByte 8 [a0, a1, a2, a3, a4] (.int x :: st) h = a_run d MJ13_copyOfRangeByte 9 [a0, a1, a2, some (.int x), a4] st h := w_stIn dJ13_copyOfRangeByte_8 (Nat.le_of_ble_eq_true rfl) rfl
theorem w_J13_copyOfRangeByte_9 (d : Nat) (a0 a1 a2 a4 : Option Value) (x : Int32) (st : List Value) (h : a_H) : a_run d MJ13_copyOfRangeByte 9 [a0, a1, a2, some (.int x), a4] st h = a_run d MJ13_copyOfRangeByte 10 [a0, a1, a2, some (.int x), a4] (.int x :: st) h := w_ldIn dJ13_copyOfRangeByte_9 rfl
theorem w_J13_copyOfRangeByte_10 (d : Nat) (L : a_L) (x : Int32) (st : List Value) (h : a_H) : a_run d MJ13_copyOfRangeByte 10 L (.int x :: st) h = (a_newa h (newarray.typeOf .byte) x).bind fun q => a_run d MJ13_copyOfRangeByte 12 L (.ref q.1 :: st) q.2 := w_newa dJ13_copyOfRangeByte_10
theorem w_J13_copyOfRangeByte_12 (d : Nat) (a0 a1 a2 a3 a4 : Option Value) (x : Nat) (st : List Value) (h : a_H) : a_run d MJ13_copyOfRangeByte 12 [a0, a1, a2, a3, a4] (.ref x :: st) h = a_run d MJ13_copyOfRangeByte 14 [a0, a1, a2, a3, some (.ref x)] st h := w_stA dJ13_copyOfRangeByte_12 (Nat.le_of_ble_eq_true rfl) rfl
theorem w_J13_copyOfRangeByte_12N (d : Nat) (a0 a1 a2 a3 a4 : Option Value) (st : List Value) (h : a_H) : a_run d MJ13_copyOfRangeByte 12 [a0, a1, a2, a3, a4] (.null :: st) h = a_run d MJ13_copyOfRangeByte 14 [a0, a1, a2, a3, some .null] st h := w_stN dJ13_copyOfRangeByte_12 (Nat.le_of_ble_eq_true rfl) rfl
theorem w_J13_copyOfRangeByte_14 (d : Nat) (a1 a2 a3 a4 : Option Value) (x : Nat) (st : List Value) (h : a_H) : a_run d MJ13_copyOfRangeByte 14 [some (.ref x), a1, a2, a3, a4] st h = a_run d MJ13_copyOfRangeByte 15 [some (.ref x), a1, a2, a3, a4] (.ref x :: st) h := w_ldAn dJ13_copyOfRangeByte_14 rfl
theorem w_J13_copyOfRangeByte_15 (d : Nat) (a0 a2 a3 a4 : Option Value) (x : Int32) (st : List Value) (h : a_H) : a_run d MJ13_copyOfRangeByte 15 [a0, some (.int x), a2, a3, a4] st h = a_run d MJ13_copyOfRangeByte 16 [a0, some (.int x), a2, a3, a4] (.int x :: st) h := w_ldIn dJ13_copyOfRangeByte_15 rfl
theorem w_J13_copyOfRangeByte_16 (d : Nat) (a0 a1 a2 a3 : Option Value) (x : Nat) (st : List Value) (h : a_H) : a_run d MJ13_copyOfRangeByte 16 [a0, a1, a2, a3, some (.ref x)] st h = a_run d MJ13_copyOfRangeByte 18 [a0, a1, a2, a3, some (.ref x)] (.ref x :: st) h := w_ldA dJ13_copyOfRangeByte_16 rfl
theorem w_J13_copyOfRangeByte_16N (d : Nat) (a0 a1 a2 a3 : Option Value) (st : List Value) (h : a_H) : a_run d MJ13_copyOfRangeByte 16 [a0, a1, a2, a3, some .null] st h = a_run d MJ13_copyOfRangeByte 18 [a0, a1, a2, a3, some .null] (.null :: st) h := w_ldN dJ13_copyOfRangeByte_16 rfl
theorem w_J13_copyOfRangeByte_18 (d : Nat) (L : a_L) (st : List Value) (h : a_H) : a_run d MJ13_copyOfRangeByte 18 L st h = a_run d MJ13_copyOfRangeByte 19 L (.int (nI 0) :: st) h := w_iconst dJ13_copyOfRangeByte_18 rfl
theorem w_J13_copyOfRangeByte_19 (d : Nat) (a1 a2 a3 a4 : Option Value) (x : Nat) (st : List Value) (h : a_H) : a_run d MJ13_copyOfRangeByte 19 [some (.ref x), a1, a2, a3, a4] st h = a_run d MJ13_copyOfRangeByte 20 [some (.ref x), a1, a2, a3, a4] (.ref x :: st) h := w_ldAn dJ13_copyOfRangeByte_19 rfl
theorem w_J13_copyOfRangeByte_20 (d : Nat) (L : a_L) (i : Nat) (st : List Value) (h : a_H) : a_run d MJ13_copyOfRangeByte 20 L (.ref i :: st) h = (a_len h i).bind fun v => a_run d MJ13_copyOfRangeByte 21 L (v :: st) h := w_alen dJ13_copyOfRangeByte_20
theorem w_J13_copyOfRangeByte_21 (d : Nat) (a0 a2 a3 a4 : Option Value) (x : Int32) (st : List Value) (h : a_H) : a_run d MJ13_copyOfRangeByte 21 [a0, some (.int x), a2, a3, a4] st h = a_run d MJ13_copyOfRangeByte 22 [a0, some (.int x), a2, a3, a4] (.int x :: st) h := w_ldIn dJ13_copyOfRangeByte_21 rfl
theorem w_J13_copyOfRangeByte_22 (d : Nat) (L : a_L) (x y : Int32) (st : List Value) (h : a_H) : a_run d MJ13_copyOfRangeByte 22 L (.int y :: .int x :: st) h = a_run d MJ13_copyOfRangeByte 23 L (.int (x - y) :: st) h := w_isub dJ13_copyOfRangeByte_22
theorem w_J13_copyOfRangeByte_23 (d : Nat) (a0 a1 a2 a4 : Option Value) (x : Int32) (st : List Value) (h : a_H) : a_run d MJ13_copyOfRangeByte 23 [a0, a1, a2, some (.int x), a4] st h = a_run d MJ13_copyOfRangeByte 24 [a0, a1, a2, some (.int x), a4] (.int x :: st) h := w_ldIn dJ13_copyOfRangeByte_23 rfl
theorem w_J13_copyOfRangeByte_24 (d : Nat) (L : a_L) (x y : Int32) (st : List Value) (h : a_H) (hc : a_cat st ≤ 8) : a_run d MJ13_copyOfRangeByte 24 L (.int y :: .int x :: st) h = a_run d MJ13_copyOfRangeByte 27 L (.int (if y < x then y else x) :: st) h := w_min dJ13_copyOfRangeByte_24 rfl hc
theorem w_J13_copyOfRangeByte_27 (d : Nat) (L : a_L) (x y z : Int32) (s t : Nat) (st : List Value) (h : a_H) : a_run d MJ13_copyOfRangeByte 27 L (.int z :: .int y :: .ref t :: .int x :: .ref s :: st) h = a_cont d MJ13_copyOfRangeByte (a_cpy 27 L (.int z :: .int y :: .ref t :: .int x :: .ref s :: st) h) := w_cpy dJ13_copyOfRangeByte_27 rfl
theorem w_J13_copyOfRangeByte_30 (d : Nat) (a0 a1 a2 a3 : Option Value) (x : Nat) (st : List Value) (h : a_H) : a_run d MJ13_copyOfRangeByte 30 [a0, a1, a2, a3, some (.ref x)] st h = a_run d MJ13_copyOfRangeByte 32 [a0, a1, a2, a3, some (.ref x)] (.ref x :: st) h := w_ldA dJ13_copyOfRangeByte_30 rfl
theorem w_J13_copyOfRangeByte_30N (d : Nat) (a0 a1 a2 a3 : Option Value) (st : List Value) (h : a_H) : a_run d MJ13_copyOfRangeByte 30 [a0, a1, a2, a3, some .null] st h = a_run d MJ13_copyOfRangeByte 32 [a0, a1, a2, a3, some .null] (.null :: st) h := w_ldN dJ13_copyOfRangeByte_30 rfl
theorem w_J13_copyOfRangeByte_32 (d : Nat) (L : a_L) (x : Nat) (h : a_H) : a_run d MJ13_copyOfRangeByte 32 L [.ref x] h = some (.inl (some (.ref x)), h) := w_aret dJ13_copyOfRangeByte_32 rfl
theorem w_J13_copyOfRangeByte_32N (d : Nat) (L : a_L) (h : a_H) : a_run d MJ13_copyOfRangeByte 32 L [.null] h = some (.inl (some .null), h) := w_aretN dJ13_copyOfRangeByte_32 rfl
theorem e_J13_checkLength (d : Nat) (x0 : Int32) (x1 : Int32) (h : a_H) : a_call (d + 1) MJ13_checkLength [.int x0, .int x1] h = a_run d MJ13_checkLength 0 [some (.int x0), some (.int x1)] [] h := a_call_run rfl (Nat.le_of_ble_eq_true rfl) rfl
theorem w_J13_checkLength_0 (d : Nat) (a0 : Option Value) (x : Int32) (st : List Value) (h : a_H) : a_run d MJ13_checkLength 0 [a0, some (.int x)] st h = a_run d MJ13_checkLength 1 [a0, some (.int x)] (.int x :: st) h := w_ldIn dJ13_checkLength_0 rfl
theorem w_J13_checkLength_1 (d : Nat) (a1 : Option Value) (x : Int32) (st : List Value) (h : a_H) : a_run d MJ13_checkLength 1 [some (.int x), a1] st h = a_run d MJ13_checkLength 2 [some (.int x), a1] (.int x :: st) h := w_ldIn dJ13_checkLength_1 rfl
theorem w_J13_checkLength_2 (d : Nat) (L : a_L) (x y : Int32) (st : List Value) (h : a_H) : a_run d MJ13_checkLength 2 L (.int y :: .int x :: st) h = if x < y then a_run d MJ13_checkLength 5 L st h else a_run d MJ13_checkLength 37 L st h := w_icmp_ge dJ13_checkLength_2 rfl
theorem w_J13_checkLength_5 (d : Nat) (L : a_L) (st : List Value) (h : a_H) : a_run d MJ13_checkLength 5 L st h = a_run d MJ13_checkLength 8 L (.ref h.1 :: st) (a_add h (.inr (11, [.null, .null, .null, .null, .null, .int 0])) 6) := w_new dJ13_checkLength_5 rfl rfl
theorem w_J13_checkLength_8 (d : Nat) (L : a_L) (x : Nat) (st : List Value) (h : a_H) : a_run d MJ13_checkLength 8 L (.ref x :: st) h = a_run d MJ13_checkLength 9 L (.ref x :: .ref x :: st) h := w_dup dJ13_checkLength_8
theorem w_J13_checkLength_8I (d : Nat) (L : a_L) (x : Int32) (st : List Value) (h : a_H) : a_run d MJ13_checkLength 8 L (.int x :: st) h = a_run d MJ13_checkLength 9 L (.int x :: .int x :: st) h := w_dupI dJ13_checkLength_8
theorem w_J13_checkLength_9 (d : Nat) (L : a_L) (st : List Value) (h : a_H) : a_run d MJ13_checkLength 9 L st h = a_run d MJ13_checkLength 12 L (.ref h.1 :: st) (a_add h (.inr (8, [.null, .int 0, .int 0, .int 0])) 4) := w_new dJ13_checkLength_9 rfl rfl
theorem w_J13_checkLength_12 (d : Nat) (L : a_L) (x : Nat) (st : List Value) (h : a_H) : a_run d MJ13_checkLength 12 L (.ref x :: st) h = a_run d MJ13_checkLength 13 L (.ref x :: .ref x :: st) h := w_dup dJ13_checkLength_12
theorem w_J13_checkLength_12I (d : Nat) (L : a_L) (x : Int32) (st : List Value) (h : a_H) : a_run d MJ13_checkLength 12 L (.int x :: st) h = a_run d MJ13_checkLength 13 L (.int x :: .int x :: st) h := w_dupI dJ13_checkLength_12
theorem w_J13_checkLength_13 (d : Nat) (L : a_L) (i : Nat) (st : List Value) (h : a_H) (hi : 1024 ≤ i) (hc : a_cat st ≤ 8) : a_run d MJ13_checkLength 13 L (.ref i :: st) h = a_cont d MJ13_checkLength (a_bk MJ13_checkLength 13 L st (a_call d MJ3_init [.ref i] h)) := w_callI (as := [.ref i]) dJ13_checkLength_13 rfl rfl rfl hc (a_new0_of hi)
theorem w_J13_checkLength_16 (d : Nat) (a1 : Option Value) (x : Int32) (st : List Value) (h : a_H) : a_run d MJ13_checkLength 16 [some (.int x), a1] st h = a_run d MJ13_checkLength 17 [some (.int x), a1] (.int x :: st) h := w_ldIn dJ13_checkLength_16 rfl
theorem w_J13_checkLength_17 (d : Nat) (L : a_L) (i : Nat) (v1 : Value) (st : List Value) (h : a_H) (hk : a_kls h i = some 8) (hc : a_cat st ≤ 8) : a_run d MJ13_checkLength 17 L (v1 :: .ref i :: st) h = a_cont d MJ13_checkLength (a_bk MJ13_checkLength 17 L st (a_call d MJ3_append_2 [.ref i, v1] h)) := w_callV (as := [.ref i, v1]) dJ13_checkLength_17 rfl rfl rfl hc (a_rcv_of hk rfl)
theorem w_J13_checkLength_23 (d : Nat) (L : a_L) (i : Nat) (v1 : Value) (st : List Value) (h : a_H) (hk : a_kls h i = some 8) (hc : a_cat st ≤ 8) : a_run d MJ13_checkLength 23 L (v1 :: .ref i :: st) h = a_cont d MJ13_checkLength (a_bk MJ13_checkLength 23 L st (a_call d MJ3_append [.ref i, v1] h)) := w_callV (as := [.ref i, v1]) dJ13_checkLength_23 rfl rfl rfl hc (a_rcv_of hk rfl)
theorem w_J13_checkLength_26 (d : Nat) (a0 : Option Value) (x : Int32) (st : List Value) (h : a_H) : a_run d MJ13_checkLength 26 [a0, some (.int x)] st h = a_run d MJ13_checkLength 27 [a0, some (.int x)] (.int x :: st) h := w_ldIn dJ13_checkLength_26 rfl
theorem w_J13_checkLength_27 (d : Nat) (L : a_L) (i : Nat) (v1 : Value) (st : List Value) (h : a_H) (hk : a_kls h i = some 8) (hc : a_cat st ≤ 8) : a_run d MJ13_checkLength 27 L (v1 :: .ref i :: st) h = a_cont d MJ13_checkLength (a_bk MJ13_checkLength 27 L st (a_call d MJ3_append_2 [.ref i, v1] h)) := w_callV (as := [.ref i, v1]) dJ13_checkLength_27 rfl rfl rfl hc (a_rcv_of hk rfl)
theorem w_J13_checkLength_30 (d : Nat) (L : a_L) (i : Nat) (st : List Value) (h : a_H) (hk : a_kls h i = some 8) (hc : a_cat st ≤ 8) : a_run d MJ13_checkLength 30 L (.ref i :: st) h = a_cont d MJ13_checkLength (a_bk MJ13_checkLength 30 L st (a_call d MJ3_toString [.ref i] h)) := w_callV (as := [.ref i]) dJ13_checkLength_30 rfl rfl rfl hc (a_rcv_of hk rfl)
theorem w_J13_checkLength_33 (d : Nat) (L : a_L) (i : Nat) (v1 : Value) (st : List Value) (h : a_H) (hi : 1024 ≤ i) (hc : a_cat st ≤ 8) : a_run d MJ13_checkLength 33 L (v1 :: .ref i :: st) h = a_cont d MJ13_checkLength (a_bk MJ13_checkLength 33 L st (a_call d MJ15_init_2 [.ref i, v1] h)) := w_callI (as := [.ref i, v1]) dJ13_checkLength_33 rfl rfl rfl hc (a_new0_of hi)
theorem w_J13_checkLength_36 (d : Nat) (L : a_L) (x : Nat) (st : List Value) (h : a_H) : a_run d MJ13_checkLength 36 L (.ref x :: st) h = a_cont d MJ13_checkLength (a_thr MJ13_checkLength 36 L x h) := w_athrow dJ13_checkLength_36
theorem w_J13_checkLength_37 (d : Nat) (L : a_L) (h : a_H) : a_run d MJ13_checkLength 37 L [] h = some (.inl none, h) := w_vret dJ13_checkLength_37 rfl
set_option maxRecDepth 100000
theorem dJ14_init_0 : decode cJ14_init 0 = .ok (.aload_n 0, 1) := by decide +kernel
theorem dJ14_init_1 : decode cJ14_init 1 = .ok (.invokespecial 1, 3) := by decide +kernel
theorem dJ14_init_4 : decode cJ14_init 4 = .ok (.return_, 1) := by decide +kernel
def dkwJ14_init_2_0 : List UInt8 := [42, 43, 183, 0, 13, 177]
abbrev dktJ14_init_2_0 : List UInt8 := dkwJ14_init_2_0 ++ []
theorem dksJ14_init_2_0 : cJ14_init_2.data.toList.drop 0 = dktJ14_init_2_0 := by decide +kernel
theorem dJ14_init_2_0 : decode cJ14_init_2 0 = .ok (.aload_n 0, 1) := dk_42 (dk_at dksJ14_init_2_0 0 rfl rfl)
theorem dJ14_init_2_1 : decode cJ14_init_2 1 = .ok (.aload_n 1, 1) := dk_43 (dk_at dksJ14_init_2_0 1 rfl rfl)
theorem dJ14_init_2_2 : decode cJ14_init_2 2 = .ok (.invokespecial 13, 3) := dk_183 0 13 (dk_at dksJ14_init_2_0 2 rfl rfl)
theorem dJ14_init_2_5 : decode cJ14_init_2 5 = .ok (.return_, 1) := dk_177 (dk_at dksJ14_init_2_0 5 rfl rfl)
theorem e_J14_init (d : Nat) (x0 : Nat) (h : a_H) : a_call (d + 1) MJ14_init [.ref x0] h = a_run d MJ14_init 0 [some (.ref x0)] [] h := a_call_run rfl (Nat.le_of_ble_eq_true rfl) rfl
theorem w_J14_init_0 (d : Nat) (x : Nat) (st : List Value) (h : a_H) : a_run d MJ14_init 0 [some (.ref x)] st h = a_run d MJ14_init 1 [some (.ref x)] (.ref x :: st) h := w_ldAn dJ14_init_0 rfl
theorem w_J14_init_1 (d : Nat) (L : a_L) (i : Nat) (st : List Value) (h : a_H) (hi : 1024 ≤ i) (hc : a_cat st ≤ 8) : a_run d MJ14_init 1 L (.ref i :: st) h = a_cont d MJ14_init (a_bk MJ14_init 1 L st (a_call d MJ11_init_2 [.ref i] h)) := w_callI (as := [.ref i]) dJ14_init_1 rfl rfl rfl hc (a_new0_of hi)
theorem w_J14_init_4 (d : Nat) (L : a_L) (h : a_H) : a_run d MJ14_init 4 L [] h = some (.inl none, h) := w_vret dJ14_init_4 rfl
theorem e_J14_init_2 (d : Nat) (x0 : Nat) (x1 : Nat) (h : a_H) : a_call (d + 1) MJ14_init_2 [.ref x0, .ref x1] h = a_run d MJ14_init_2 0 [some (.ref x0), some (.ref x1)] [] h := a_call_run rfl (Nat.le_of_ble_eq_true rfl) rfl
theorem w_J14_init_2_0 (d : Nat) (a1 : Option Value) (x : Nat) (st : List Value) (h : a_H) : a_run d MJ14_init_2 0 [some (.ref x), a1] st h = a_run d MJ14_init_2 1 [some (.ref x), a1] (.ref x :: st) h := w_ldAn dJ14_init_2_0 rfl
theorem w_J14_init_2_1 (d : Nat) (a0 : Option Value) (x : Nat) (st : List Value) (h : a_H) : a_run d MJ14_init_2 1 [a0, some (.ref x)] st h = a_run d MJ14_init_2 2 [a0, some (.ref x)] (.ref x :: st) h := w_ldAn dJ14_init_2_1 rfl
theorem w_J14_init_2_1N (d : Nat) (a0 : Option Value) (st : List Value) (h : a_H) : a_run d MJ14_init_2 1 [a0, some .null] st h = a_run d MJ14_init_2 2 [a0, some .null] (.null :: st) h := w_ldNn dJ14_init_2_1 rfl
theorem w_J14_init_2_2 (d : Nat) (L : a_L) (i : Nat) (v1 : Value) (st : List Value) (h : a_H) (hi : 1024 ≤ i) (hc : a_cat st ≤ 8) : a_run d MJ14_init_2 2 L (v1 :: .ref i :: st) h = a_cont d MJ14_init_2 (a_bk MJ14_init_2 2 L st (a_call d MJ11_init [.ref i, v1] h)) := w_callI (as := [.ref i, v1]) dJ14_init_2_2 rfl rfl rfl hc (a_new0_of hi)
theorem w_J14_init_2_5 (d : Nat) (L : a_L) (h : a_H) : a_run d MJ14_init_2 5 L [] h = some (.inl none, h) := w_vret dJ14_init_2_5 rfl
set_option maxRecDepth 100000
def dkwJ15_init_0 : List UInt8 := [42, 43, 44, 183, 0, 10, 177]
abbrev dktJ15_init_0 : List UInt8 := dkwJ15_init_0 ++ []
theorem dksJ15_init_0 : cJ15_init.data.toList.drop 0 = dktJ15_init_0 := by decide +kernel
theorem dJ15_init_0 : decode cJ15_init 0 = .ok (.aload_n 0, 1) := dk_42 (dk_at dksJ15_init_0 0 rfl rfl)
theorem dJ15_init_1 : decode cJ15_init 1 = .ok (.aload_n 1, 1) := dk_43 (dk_at dksJ15_init_0 1 rfl rfl)
theorem dJ15_init_2 : decode cJ15_init 2 = .ok (.aload_n 2, 1) := dk_44 (dk_at dksJ15_init_0 2 rfl rfl)
theorem dJ15_init_3 : decode cJ15_init 3 = .ok (.invokespecial 10, 3) := dk_183 0 10 (dk_at dksJ15_init_0 3 rfl rfl)
theorem dJ15_init_6 : decode cJ15_init 6 = .ok (.return_, 1) := dk_177 (dk_at dksJ15_init_0 6 rfl rfl)
def dkwJ15_init_2_0 : List UInt8 := [42, 43, 183, 0, 7, 177]
abbrev dktJ15_init_2_0 : List UInt8 := dkwJ15_init_2_0 ++ []
theorem dksJ15_init_2_0 : cJ15_init_2.data.toList.drop 0 = dktJ15_init_2_0 := by decide +kernel
theorem dJ15_init_2_0 : decode cJ15_init_2 0 = .ok (.aload_n 0, 1) := dk_42 (dk_at dksJ15_init_2_0 0 rfl rfl)
theorem dJ15_init_2_1 : decode cJ15_init_2 1 = .ok (.aload_n 1, 1) := dk_43 (dk_at dksJ15_init_2_0 1 rfl rfl)
theorem dJ15_init_2_2 : decode cJ15_init_2 2 = .ok (.invokespecial 7, 3) := dk_183 0 7 (dk_at dksJ15_init_2_0 2 rfl rfl)
theorem dJ15_init_2_5 : decode cJ15_init_2 5 = .ok (.return_, 1) := dk_177 (dk_at dksJ15_init_2_0 5 rfl rfl)
theorem e_J15_init (d : Nat) (x0 : Nat) (x1 : Nat) (x2 : Nat) (h : a_H) : a_call (d + 1) MJ15_init [.ref x0, .ref x1, .ref x2] h = a_run d MJ15_init 0 [some (.ref x0), some (.ref x1), some (.ref x2)] [] h := a_call_run rfl (Nat.le_of_ble_eq_true rfl) rfl
theorem w_J15_init_0 (d : Nat) (a1 a2 : Option Value) (x : Nat) (st : List Value) (h : a_H) : a_run d MJ15_init 0 [some (.ref x), a1, a2] st h = a_run d MJ15_init 1 [some (.ref x), a1, a2] (.ref x :: st) h := w_ldAn dJ15_init_0 rfl
theorem w_J15_init_1 (d : Nat) (a0 a2 : Option Value) (x : Nat) (st : List Value) (h : a_H) : a_run d MJ15_init 1 [a0, some (.ref x), a2] st h = a_run d MJ15_init 2 [a0, some (.ref x), a2] (.ref x :: st) h := w_ldAn dJ15_init_1 rfl
theorem w_J15_init_1N (d : Nat) (a0 a2 : Option Value) (st : List Value) (h : a_H) : a_run d MJ15_init 1 [a0, some .null, a2] st h = a_run d MJ15_init 2 [a0, some .null, a2] (.null :: st) h := w_ldNn dJ15_init_1 rfl
theorem w_J15_init_2 (d : Nat) (a0 a1 : Option Value) (x : Nat) (st : List Value) (h : a_H) : a_run d MJ15_init 2 [a0, a1, some (.ref x)] st h = a_run d MJ15_init 3 [a0, a1, some (.ref x)] (.ref x :: st) h := w_ldAn dJ15_init_2 rfl
theorem w_J15_init_2N (d : Nat) (a0 a1 : Option Value) (st : List Value) (h : a_H) : a_run d MJ15_init 2 [a0, a1, some .null] st h = a_run d MJ15_init 3 [a0, a1, some .null] (.null :: st) h := w_ldNn dJ15_init_2 rfl
theorem w_J15_init_3 (d : Nat) (L : a_L) (i : Nat) (v1 v2 : Value) (st : List Value) (h : a_H) (hi : 1024 ≤ i) (hc : a_cat st ≤ 8) : a_run d MJ15_init 3 L (v2 :: v1 :: .ref i :: st) h = a_cont d MJ15_init (a_bk MJ15_init 3 L st (a_call d MJ11_init_3 [.ref i, v1, v2] h)) := w_callI (as := [.ref i, v1, v2]) dJ15_init_3 rfl rfl rfl hc (a_new0_of hi)
theorem w_J15_init_6 (d : Nat) (L : a_L) (h : a_H) : a_run d MJ15_init 6 L [] h = some (.inl none, h) := w_vret dJ15_init_6 rfl
theorem e_J15_init_2 (d : Nat) (x0 : Nat) (x1 : Nat) (h : a_H) : a_call (d + 1) MJ15_init_2 [.ref x0, .ref x1] h = a_run d MJ15_init_2 0 [some (.ref x0), some (.ref x1)] [] h := a_call_run rfl (Nat.le_of_ble_eq_true rfl) rfl
theorem w_J15_init_2_0 (d : Nat) (a1 : Option Value) (x : Nat) (st : List Value) (h : a_H) : a_run d MJ15_init_2 0 [some (.ref x), a1] st h = a_run d MJ15_init_2 1 [some (.ref x), a1] (.ref x :: st) h := w_ldAn dJ15_init_2_0 rfl
theorem w_J15_init_2_1 (d : Nat) (a0 : Option Value) (x : Nat) (st : List Value) (h : a_H) : a_run d MJ15_init_2 1 [a0, some (.ref x)] st h = a_run d MJ15_init_2 2 [a0, some (.ref x)] (.ref x :: st) h := w_ldAn dJ15_init_2_1 rfl
theorem w_J15_init_2_1N (d : Nat) (a0 : Option Value) (st : List Value) (h : a_H) : a_run d MJ15_init_2 1 [a0, some .null] st h = a_run d MJ15_init_2 2 [a0, some .null] (.null :: st) h := w_ldNn dJ15_init_2_1 rfl
theorem w_J15_init_2_2 (d : Nat) (L : a_L) (i : Nat) (v1 : Value) (st : List Value) (h : a_H) (hi : 1024 ≤ i) (hc : a_cat st ≤ 8) : a_run d MJ15_init_2 2 L (v1 :: .ref i :: st) h = a_cont d MJ15_init_2 (a_bk MJ15_init_2 2 L st (a_call d MJ11_init [.ref i, v1] h)) := w_callI (as := [.ref i, v1]) dJ15_init_2_2 rfl rfl rfl hc (a_new0_of hi)
theorem w_J15_init_2_5 (d : Nat) (L : a_L) (h : a_H) : a_run d MJ15_init_2 5 L [] h = some (.inl none, h) := w_vret dJ15_init_2_5 rfl
set_option maxRecDepth 100000
def dkwJ16_newLength_1 : List UInt8 := [184, 0, 201, 172]
abbrev dktJ16_newLength_1 : List UInt8 := dkwJ16_newLength_1 ++ []
def dkwJ16_newLength_0 : List UInt8 := [26, 27, 28, 184, 0, 194, 96, 62, 3, 29, 162, 0, 11, 29, 18, 200, 163, 0, 5, 29, 172, 26, 27]
abbrev dktJ16_newLength_0 : List UInt8 := dkwJ16_newLength_0 ++ dktJ16_newLength_1
theorem dksJ16_newLength_0 : cJ16_newLength.data.toList.drop 0 = dktJ16_newLength_0 := by decide +kernel
theorem dksJ16_newLength_1 : cJ16_newLength.data.toList.drop 23 = dktJ16_newLength_1 := dk_seg dksJ16_newLength_0 23 rfl rfl
theorem dJ16_newLength_0 : decode cJ16_newLength 0 = .ok (.iload_n 0, 1) := dk_26 (dk_at dksJ16_newLength_0 0 rfl rfl)
theorem dJ16_newLength_1 : decode cJ16_newLength 1 = .ok (.iload_n 1, 1) := dk_27 (dk_at dksJ16_newLength_0 1 rfl rfl)
theorem dJ16_newLength_2 : decode cJ16_newLength 2 = .ok (.iload_n 2, 1) := dk_28 (dk_at dksJ16_newLength_0 2 rfl rfl)
theorem dJ16_newLength_3 : decode cJ16_newLength 3 = .ok (.invokestatic 194, 3) := dk_184 0 194 (dk_at dksJ16_newLength_0 3 rfl rfl)
theorem dJ16_newLength_6 : decode cJ16_newLength 6 = .ok (.iadd, 1) := dk_96 (dk_at dksJ16_newLength_0 6 rfl rfl)
theorem dJ16_newLength_7 : decode cJ16_newLength 7 = .ok (.istore_n 3, 1) := dk_62 (dk_at dksJ16_newLength_0 7 rfl rfl)
theorem dJ16_newLength_8 : decode cJ16_newLength 8 = .ok (.iconst 0, 1) := dk_3 (dk_at dksJ16_newLength_0 8 rfl rfl)
theorem dJ16_newLength_9 : decode cJ16_newLength 9 = .ok (.iload_n 3, 1) := dk_29 (dk_at dksJ16_newLength_0 9 rfl rfl)
theorem dJ16_newLength_10 : decode cJ16_newLength 10 = .ok (.if_icmp .ge 11, 3) := dk_162 0 11 (dk_at dksJ16_newLength_0 10 rfl rfl)
theorem dJ16_newLength_13 : decode cJ16_newLength 13 = .ok (.iload_n 3, 1) := dk_29 (dk_at dksJ16_newLength_0 13 rfl rfl)
theorem dJ16_newLength_14 : decode cJ16_newLength 14 = .ok (.ldc 200, 2) := dk_18 200 (dk_at dksJ16_newLength_0 14 rfl rfl)
theorem dJ16_newLength_16 : decode cJ16_newLength 16 = .ok (.if_icmp .gt 5, 3) := dk_163 0 5 (dk_at dksJ16_newLength_0 16 rfl rfl)
theorem dJ16_newLength_19 : decode cJ16_newLength 19 = .ok (.iload_n 3, 1) := dk_29 (dk_at dksJ16_newLength_0 19 rfl rfl)
theorem dJ16_newLength_20 : decode cJ16_newLength 20 = .ok (.ireturn, 1) := dk_172 (dk_at dksJ16_newLength_0 20 rfl rfl)
theorem dJ16_newLength_21 : decode cJ16_newLength 21 = .ok (.iload_n 0, 1) := dk_26 (dk_at dksJ16_newLength_0 21 rfl rfl)
theorem dJ16_newLength_22 : decode cJ16_newLength 22 = .ok (.iload_n 1, 1) := dk_27 (dk_at dksJ16_newLength_0 22 rfl rfl)
theorem dJ16_newLength_23 : decode cJ16_newLength 23 = .ok (.invokestatic 201, 3) := dk_184 0 201 (dk_at dksJ16_newLength_1 0 rfl rfl)
theorem dJ16_newLength_26 : decode cJ16_newLength 26 = .ok (.ireturn, 1) := dk_172 (dk_at dksJ16_newLength_1 3 rfl rfl)
def dkwJ16_hugeLength_2 : List UInt8 := [191, 28, 18, 200, 163, 0, 6, 18, 200, 172, 28, 172]
abbrev dktJ16_hugeLength_2 : List UInt8 := dkwJ16_hugeLength_2 ++ []
def dkwJ16_hugeLength_1 : List UInt8 := [26, 182, 0, 98, 18, 208, 182, 0, 94, 27, 182, 0, 98, 18, 210, 182, 0, 94, 182, 0, 101, 183, 0, 212]
abbrev dktJ16_hugeLength_1 : List UInt8 := dkwJ16_hugeLength_1 ++ dktJ16_hugeLength_2
def dkwJ16_hugeLength_0 : List UInt8 := [26, 27, 96, 61, 28, 156, 0, 44, 187, 0, 204, 89, 187, 0, 89, 89, 183, 0, 91, 18, 206, 182, 0, 94]
abbrev dktJ16_hugeLength_0 : List UInt8 := dkwJ16_hugeLength_0 ++ dktJ16_hugeLength_1
theorem dksJ16_hugeLength_0 : cJ16_hugeLength.data.toList.drop 0 = dktJ16_hugeLength_0 := by decide +kernel
theorem dksJ16_hugeLength_1 : cJ16_hugeLength.data.toList.drop 24 = dktJ16_hugeLength_1 := dk_seg dksJ16_hugeLength_0 24 rfl rfl
theorem dksJ16_hugeLength_2 : cJ16_hugeLength.data.toList.drop 48 = dktJ16_hugeLength_2 := dk_seg dksJ16_hugeLength_1 24 rfl rfl
theorem dJ16_hugeLength_0 : decode cJ16_hugeLength 0 = .ok (.iload_n 0, 1) := dk_26 (dk_at dksJ16_hugeLength_0 0 rfl rfl)
theorem dJ16_hugeLength_1 : decode cJ16_hugeLength 1 = .ok (.iload_n 1, 1) := dk_27 (dk_at dksJ16_hugeLength_0 1 rfl rfl)
theorem dJ16_hugeLength_2 : decode cJ16_hugeLength 2 = .ok (.iadd, 1) := dk_96 (dk_at dksJ16_hugeLength_0 2 rfl rfl)
theorem dJ16_hugeLength_3 : decode cJ16_hugeLength 3 = .ok (.istore_n 2, 1) := dk_61 (dk_at dksJ16_hugeLength_0 3 rfl rfl)
theorem dJ16_hugeLength_4 : decode cJ16_hugeLength 4 = .ok (.iload_n 2, 1) := dk_28 (dk_at dksJ16_hugeLength_0 4 rfl rfl)
theorem dJ16_hugeLength_5 : decode cJ16_hugeLength 5 = .ok (.ifCond .ge 44, 3) := dk_156 0 44 (dk_at dksJ16_hugeLength_0 5 rfl rfl)
theorem dJ16_hugeLength_8 : decode cJ16_hugeLength 8 = .ok (.new 204, 3) := dk_187 0 204 (dk_at dksJ16_hugeLength_0 8 rfl rfl)
theorem dJ16_hugeLength_11 : decode cJ16_hugeLength 11 = .ok (.dup, 1) := dk_89 (dk_at dksJ16_hugeLength_0 11 rfl rfl)
theorem dJ16_hugeLength_12 : decode cJ16_hugeLength 12 = .ok (.new 89, 3) := dk_187 0 89 (dk_at dksJ16_hugeLength_0 12 rfl rfl)
theorem dJ16_hugeLength_15 : decode cJ16_hugeLength 15 = .ok (.dup, 1) := dk_89 (dk_at dksJ16_hugeLength_0 15 rfl rfl)
theorem dJ16_hugeLength_16 : decode cJ16_hugeLength 16 = .ok (.invokespecial 91, 3) := dk_183 0 91 (dk_at dksJ16_hugeLength_0 16 rfl rfl)
theorem dJ16_hugeLength_19 : decode cJ16_hugeLength 19 = .ok (.ldc 206, 2) := dk_18 206 (dk_at dksJ16_hugeLength_0 19 rfl rfl)
theorem dJ16_hugeLength_21 : decode cJ16_hugeLength 21 = .ok (.invokevirtual 94, 3) := dk_182 0 94 (dk_at dksJ16_hugeLength_0 21 rfl rfl)
theorem dJ16_hugeLength_24 : decode cJ16_hugeLength 24 = .ok (.iload_n 0, 1) := dk_26 (dk_at dksJ16_hugeLength_1 0 rfl rfl)
theorem dJ16_hugeLength_25 : decode cJ16_hugeLength 25 = .ok (.invokevirtual 98, 3) := dk_182 0 98 (dk_at dksJ16_hugeLength_1 1 rfl rfl)
theorem dJ16_hugeLength_28 : decode cJ16_hugeLength 28 = .ok (.ldc 208, 2) := dk_18 208 (dk_at dksJ16_hugeLength_1 4 rfl rfl)
theorem dJ16_hugeLength_30 : decode cJ16_hugeLength 30 = .ok (.invokevirtual 94, 3) := dk_182 0 94 (dk_at dksJ16_hugeLength_1 6 rfl rfl)
theorem dJ16_hugeLength_33 : decode cJ16_hugeLength 33 = .ok (.iload_n 1, 1) := dk_27 (dk_at dksJ16_hugeLength_1 9 rfl rfl)
theorem dJ16_hugeLength_34 : decode cJ16_hugeLength 34 = .ok (.invokevirtual 98, 3) := dk_182 0 98 (dk_at dksJ16_hugeLength_1 10 rfl rfl)
theorem dJ16_hugeLength_37 : decode cJ16_hugeLength 37 = .ok (.ldc 210, 2) := dk_18 210 (dk_at dksJ16_hugeLength_1 13 rfl rfl)
theorem dJ16_hugeLength_39 : decode cJ16_hugeLength 39 = .ok (.invokevirtual 94, 3) := dk_182 0 94 (dk_at dksJ16_hugeLength_1 15 rfl rfl)
theorem dJ16_hugeLength_42 : decode cJ16_hugeLength 42 = .ok (.invokevirtual 101, 3) := dk_182 0 101 (dk_at dksJ16_hugeLength_1 18 rfl rfl)
theorem dJ16_hugeLength_45 : decode cJ16_hugeLength 45 = .ok (.invokespecial 212, 3) := dk_183 0 212 (dk_at dksJ16_hugeLength_1 21 rfl rfl)
theorem dJ16_hugeLength_48 : decode cJ16_hugeLength 48 = .ok (.athrow, 1) := dk_191 (dk_at dksJ16_hugeLength_2 0 rfl rfl)
theorem dJ16_hugeLength_49 : decode cJ16_hugeLength 49 = .ok (.iload_n 2, 1) := dk_28 (dk_at dksJ16_hugeLength_2 1 rfl rfl)
theorem dJ16_hugeLength_50 : decode cJ16_hugeLength 50 = .ok (.ldc 200, 2) := dk_18 200 (dk_at dksJ16_hugeLength_2 2 rfl rfl)
theorem dJ16_hugeLength_52 : decode cJ16_hugeLength 52 = .ok (.if_icmp .gt 6, 3) := dk_163 0 6 (dk_at dksJ16_hugeLength_2 4 rfl rfl)
theorem dJ16_hugeLength_55 : decode cJ16_hugeLength 55 = .ok (.ldc 200, 2) := dk_18 200 (dk_at dksJ16_hugeLength_2 7 rfl rfl)
theorem dJ16_hugeLength_57 : decode cJ16_hugeLength 57 = .ok (.ireturn, 1) := dk_172 (dk_at dksJ16_hugeLength_2 9 rfl rfl)
theorem dJ16_hugeLength_58 : decode cJ16_hugeLength 58 = .ok (.iload_n 2, 1) := dk_28 (dk_at dksJ16_hugeLength_2 10 rfl rfl)
theorem dJ16_hugeLength_59 : decode cJ16_hugeLength 59 = .ok (.ireturn, 1) := dk_172 (dk_at dksJ16_hugeLength_2 11 rfl rfl)
theorem e_J16_newLength (d : Nat) (x0 : Int32) (x1 : Int32) (x2 : Int32) (h : a_H) : a_call (d + 1) MJ16_newLength [.int x0, .int x1, .int x2] h = a_run d MJ16_newLength 0 [some (.int x0), some (.int x1), some (.int x2), none] [] h := a_call_run rfl (Nat.le_of_ble_eq_true rfl) rfl
theorem w_J16_newLength_0 (d : Nat) (a1 a2 a3 : Option Value) (x : Int32) (st : List Value) (h : a_H) : a_run d MJ16_newLength 0 [some (.int x), a1, a2, a3] st h = a_run d MJ16_newLength 1 [some (.int x), a1, a2, a3] (.int x :: st) h := w_ldIn dJ16_newLength_0 rfl
theorem w_J16_newLength_1 (d : Nat) (a0 a2 a3 : Option Value) (x : Int32) (st : List Value) (h : a_H) : a_run d MJ16_newLength 1 [a0, some (.int x), a2, a3] st h = a_run d MJ16_newLength 2 [a0, some (.int x), a2, a3] (.int x :: st) h := w_ldIn dJ16_newLength_1 rfl
theorem w_J16_newLength_2 (d : Nat) (a0 a1 a3 : Option Value) (x : Int32) (st : List Value) (h : a_H) : a_run d MJ16_newLength 2 [a0, a1, some (.int x), a3] st h = a_run d MJ16_newLength 3 [a0, a1, some (.int x), a3] (.int x :: st) h := w_ldIn dJ16_newLength_2 rfl
theorem w_J16_newLength_3 (d : Nat) (L : a_L) (x y : Int32) (st : List Value) (h : a_H) (hc : a_cat st ≤ 8) : a_run d MJ16_newLength 3 L (.int y :: .int x :: st) h = a_run d MJ16_newLength 6 L (.int (if x < y then y else x) :: st) h := w_max dJ16_newLength_3 rfl hc
theorem w_J16_newLength_6 (d : Nat) (L : a_L) (x y : Int32) (st : List Value) (h : a_H) : a_run d MJ16_newLength 6 L (.int y :: .int x :: st) h = a_run d MJ16_newLength 7 L (.int (x + y) :: st) h := w_iadd dJ16_newLength_6
theorem w_J16_newLength_7 (d : Nat) (a0 a1 a2 a3 : Option Value) (x : Int32) (st : List Value) (h : a_H) : a_run d MJ16_newLength 7 [a0, a1, a2, a3] (.int x :: st) h = a_run d MJ16_newLength 8 [a0, a1, a2, some (.int x)] st h := w_stIn dJ16_newLength_7 (Nat.le_of_ble_eq_true rfl) rfl
theorem w_J16_newLength_8 (d : Nat) (L : a_L) (st : List Value) (h : a_H) : a_run d MJ16_newLength 8 L st h = a_run d MJ16_newLength 9 L (.int (nI 0) :: st) h := w_iconst dJ16_newLength_8 rfl
theorem w_J16_newLength_9 (d : Nat) (a0 a1 a2 : Option Value) (x : Int32) (st : List Value) (h : a_H) : a_run d MJ16_newLength 9 [a0, a1, a2, some (.int x)] st h = a_run d MJ16_newLength 10 [a0, a1, a2, some (.int x)] (.int x :: st) h := w_ldIn dJ16_newLength_9 rfl
theorem w_J16_newLength_10 (d : Nat) (L : a_L) (x y : Int32) (st : List Value) (h : a_H) : a_run d MJ16_newLength 10 L (.int y :: .int x :: st) h = if x < y then a_run d MJ16_newLength 13 L st h else a_run d MJ16_newLength 21 L st h := w_icmp_ge dJ16_newLength_10 rfl
theorem w_J16_newLength_13 (d : Nat) (a0 a1 a2 : Option Value) (x : Int32) (st : List Value) (h : a_H) : a_run d MJ16_newLength 13 [a0, a1, a2, some (.int x)] st h = a_run d MJ16_newLength 14 [a0, a1, a2, some (.int x)] (.int x :: st) h := w_ldIn dJ16_newLength_13 rfl
theorem w_J16_newLength_14 (d : Nat) (L : a_L) (st : List Value) (h : a_H) : a_run d MJ16_newLength 14 L st h = a_run d MJ16_newLength 16 L (.int (nI 2147483639) :: st) h := w_ldc dJ16_newLength_14 rfl
theorem w_J16_newLength_16 (d : Nat) (L : a_L) (x y : Int32) (st : List Value) (h : a_H) : a_run d MJ16_newLength 16 L (.int y :: .int x :: st) h = if y < x then a_run d MJ16_newLength 21 L st h else a_run d MJ16_newLength 19 L st h := w_icmp_gt dJ16_newLength_16 rfl
theorem w_J16_newLength_19 (d : Nat) (a0 a1 a2 : Option Value) (x : Int32) (st : List Value) (h : a_H) : a_run d MJ16_newLength 19 [a0, a1, a2, some (.int x)] st h = a_run d MJ16_newLength 20 [a0, a1, a2, some (.int x)] (.int x :: st) h := w_ldIn dJ16_newLength_19 rfl
theorem w_J16_newLength_20 (d : Nat) (L : a_L) (x : Int32) (h : a_H) : a_run d MJ16_newLength 20 L [.int x] h = some (.inl (some (.int x)), h) := w_iret dJ16_newLength_20 (w_retI rfl)
theorem w_J16_newLength_21 (d : Nat) (a1 a2 a3 : Option Value) (x : Int32) (st : List Value) (h : a_H) : a_run d MJ16_newLength 21 [some (.int x), a1, a2, a3] st h = a_run d MJ16_newLength 22 [some (.int x), a1, a2, a3] (.int x :: st) h := w_ldIn dJ16_newLength_21 rfl
theorem w_J16_newLength_22 (d : Nat) (a0 a2 a3 : Option Value) (x : Int32) (st : List Value) (h : a_H) : a_run d MJ16_newLength 22 [a0, some (.int x), a2, a3] st h = a_run d MJ16_newLength 23 [a0, some (.int x), a2, a3] (.int x :: st) h := w_ldIn dJ16_newLength_22 rfl
theorem w_J16_newLength_23 (d : Nat) (L : a_L) (v0 v1 : Value) (st : List Value) (h : a_H) (hc : a_cat st ≤ 8) : a_run d MJ16_newLength 23 L (v1 :: v0 :: st) h = a_cont d MJ16_newLength (a_bk MJ16_newLength 23 L st (a_call d MJ16_hugeLength [v0, v1] h)) := w_callS (as := [v0, v1]) dJ16_newLength_23 rfl rfl rfl hc
theorem w_J16_newLength_26 (d : Nat) (L : a_L) (x : Int32) (h : a_H) : a_run d MJ16_newLength 26 L [.int x] h = some (.inl (some (.int x)), h) := w_iret dJ16_newLength_26 (w_retI rfl)
theorem e_J16_hugeLength (d : Nat) (x0 : Int32) (x1 : Int32) (h : a_H) : a_call (d + 1) MJ16_hugeLength [.int x0, .int x1] h = a_run d MJ16_hugeLength 0 [some (.int x0), some (.int x1), none] [] h := a_call_run rfl (Nat.le_of_ble_eq_true rfl) rfl
theorem w_J16_hugeLength_0 (d : Nat) (a1 a2 : Option Value) (x : Int32) (st : List Value) (h : a_H) : a_run d MJ16_hugeLength 0 [some (.int x), a1, a2] st h = a_run d MJ16_hugeLength 1 [some (.int x), a1, a2] (.int x :: st) h := w_ldIn dJ16_hugeLength_0 rfl
theorem w_J16_hugeLength_1 (d : Nat) (a0 a2 : Option Value) (x : Int32) (st : List Value) (h : a_H) : a_run d MJ16_hugeLength 1 [a0, some (.int x), a2] st h = a_run d MJ16_hugeLength 2 [a0, some (.int x), a2] (.int x :: st) h := w_ldIn dJ16_hugeLength_1 rfl
theorem w_J16_hugeLength_2 (d : Nat) (L : a_L) (x y : Int32) (st : List Value) (h : a_H) : a_run d MJ16_hugeLength 2 L (.int y :: .int x :: st) h = a_run d MJ16_hugeLength 3 L (.int (x + y) :: st) h := w_iadd dJ16_hugeLength_2
theorem w_J16_hugeLength_3 (d : Nat) (a0 a1 a2 : Option Value) (x : Int32) (st : List Value) (h : a_H) : a_run d MJ16_hugeLength 3 [a0, a1, a2] (.int x :: st) h = a_run d MJ16_hugeLength 4 [a0, a1, some (.int x)] st h := w_stIn dJ16_hugeLength_3 (Nat.le_of_ble_eq_true rfl) rfl
theorem w_J16_hugeLength_4 (d : Nat) (a0 a1 : Option Value) (x : Int32) (st : List Value) (h : a_H) : a_run d MJ16_hugeLength 4 [a0, a1, some (.int x)] st h = a_run d MJ16_hugeLength 5 [a0, a1, some (.int x)] (.int x :: st) h := w_ldIn dJ16_hugeLength_4 rfl
theorem w_J16_hugeLength_5 (d : Nat) (L : a_L) (x : Int32) (st : List Value) (h : a_H) : a_run d MJ16_hugeLength 5 L (.int x :: st) h = if x < 0 then a_run d MJ16_hugeLength 8 L st h else a_run d MJ16_hugeLength 49 L st h := w_if_ge dJ16_hugeLength_5 rfl
theorem w_J16_hugeLength_11 (d : Nat) (L : a_L) (x : Nat) (st : List Value) (h : a_H) : a_run d MJ16_hugeLength 11 L (.ref x :: st) h = a_run d MJ16_hugeLength 12 L (.ref x :: .ref x :: st) h := w_dup dJ16_hugeLength_11
theorem w_J16_hugeLength_11I (d : Nat) (L : a_L) (x : Int32) (st : List Value) (h : a_H) : a_run d MJ16_hugeLength 11 L (.int x :: st) h = a_run d MJ16_hugeLength 12 L (.int x :: .int x :: st) h := w_dupI dJ16_hugeLength_11
theorem w_J16_hugeLength_15 (d : Nat) (L : a_L) (x : Nat) (st : List Value) (h : a_H) : a_run d MJ16_hugeLength 15 L (.ref x :: st) h = a_run d MJ16_hugeLength 16 L (.ref x :: .ref x :: st) h := w_dup dJ16_hugeLength_15
theorem w_J16_hugeLength_15I (d : Nat) (L : a_L) (x : Int32) (st : List Value) (h : a_H) : a_run d MJ16_hugeLength 15 L (.int x :: st) h = a_run d MJ16_hugeLength 16 L (.int x :: .int x :: st) h := w_dupI dJ16_hugeLength_15
theorem w_J16_hugeLength_24 (d : Nat) (a1 a2 : Option Value) (x : Int32) (st : List Value) (h : a_H) : a_run d MJ16_hugeLength 24 [some (.int x), a1, a2] st h = a_run d MJ16_hugeLength 25 [some (.int x), a1, a2] (.int x :: st) h := w_ldIn dJ16_hugeLength_24 rfl
theorem w_J16_hugeLength_33 (d : Nat) (a0 a2 : Option Value) (x : Int32) (st : List Value) (h : a_H) : a_run d MJ16_hugeLength 33 [a0, some (.int x), a2] st h = a_run d MJ16_hugeLength 34 [a0, some (.int x), a2] (.int x :: st) h := w_ldIn dJ16_hugeLength_33 rfl
theorem w_J16_hugeLength_48 (d : Nat) (L : a_L) (x : Nat) (st : List Value) (h : a_H) : a_run d MJ16_hugeLength 48 L (.ref x :: st) h = a_cont d MJ16_hugeLength (a_thr MJ16_hugeLength 48 L x h) := w_athrow dJ16_hugeLength_48
theorem w_J16_hugeLength_49 (d : Nat) (a0 a1 : Option Value) (x : Int32) (st : List Value) (h : a_H) : a_run d MJ16_hugeLength 49 [a0, a1, some (.int x)] st h = a_run d MJ16_hugeLength 50 [a0, a1, some (.int x)] (.int x :: st) h := w_ldIn dJ16_hugeLength_49 rfl
theorem w_J16_hugeLength_50 (d : Nat) (L : a_L) (st : List Value) (h : a_H) : a_run d MJ16_hugeLength 50 L st h = a_run d MJ16_hugeLength 52 L (.int (nI 2147483639) :: st) h := w_ldc dJ16_hugeLength_50 rfl
theorem w_J16_hugeLength_52 (d : Nat) (L : a_L) (x y : Int32) (st : List Value) (h : a_H) : a_run d MJ16_hugeLength 52 L (.int y :: .int x :: st) h = if y < x then a_run d MJ16_hugeLength 58 L st h else a_run d MJ16_hugeLength 55 L st h := w_icmp_gt dJ16_hugeLength_52 rfl
theorem w_J16_hugeLength_55 (d : Nat) (L : a_L) (st : List Value) (h : a_H) : a_run d MJ16_hugeLength 55 L st h = a_run d MJ16_hugeLength 57 L (.int (nI 2147483639) :: st) h := w_ldc dJ16_hugeLength_55 rfl
theorem w_J16_hugeLength_57 (d : Nat) (L : a_L) (x : Int32) (h : a_H) : a_run d MJ16_hugeLength 57 L [.int x] h = some (.inl (some (.int x)), h) := w_iret dJ16_hugeLength_57 (w_retI rfl)
theorem w_J16_hugeLength_58 (d : Nat) (a0 a1 : Option Value) (x : Int32) (st : List Value) (h : a_H) : a_run d MJ16_hugeLength 58 [a0, a1, some (.int x)] st h = a_run d MJ16_hugeLength 59 [a0, a1, some (.int x)] (.int x :: st) h := w_ldIn dJ16_hugeLength_58 rfl
theorem w_J16_hugeLength_59 (d : Nat) (L : a_L) (x : Int32) (h : a_H) : a_run d MJ16_hugeLength 59 L [.int x] h = some (.inl (some (.int x)), h) := w_iret dJ16_hugeLength_59 (w_retI rfl)
set_option maxRecDepth 100000
def dkwJ17_fillNull_0 : List UInt8 := [42, 27, 28, 3, 184, 0, 236, 177]
abbrev dktJ17_fillNull_0 : List UInt8 := dkwJ17_fillNull_0 ++ []
theorem dksJ17_fillNull_0 : cJ17_fillNull.data.toList.drop 0 = dktJ17_fillNull_0 := by decide +kernel
theorem dJ17_fillNull_0 : decode cJ17_fillNull 0 = .ok (.aload_n 0, 1) := dk_42 (dk_at dksJ17_fillNull_0 0 rfl rfl)
theorem dJ17_fillNull_1 : decode cJ17_fillNull 1 = .ok (.iload_n 1, 1) := dk_27 (dk_at dksJ17_fillNull_0 1 rfl rfl)
theorem dJ17_fillNull_2 : decode cJ17_fillNull 2 = .ok (.iload_n 2, 1) := dk_28 (dk_at dksJ17_fillNull_0 2 rfl rfl)
theorem dJ17_fillNull_3 : decode cJ17_fillNull 3 = .ok (.iconst 0, 1) := dk_3 (dk_at dksJ17_fillNull_0 3 rfl rfl)
theorem dJ17_fillNull_4 : decode cJ17_fillNull 4 = .ok (.invokestatic 236, 3) := dk_184 0 236 (dk_at dksJ17_fillNull_0 4 rfl rfl)
theorem dJ17_fillNull_7 : decode cJ17_fillNull 7 = .ok (.return_, 1) := dk_177 (dk_at dksJ17_fillNull_0 7 rfl rfl)
def dkwJ17_inflate_0 : List UInt8 := [42, 27, 44, 29, 21, 4, 184, 0, 240, 177]
abbrev dktJ17_inflate_0 : List UInt8 := dkwJ17_inflate_0 ++ []
theorem dksJ17_inflate_0 : cJ17_inflate.data.toList.drop 0 = dktJ17_inflate_0 := by decide +kernel
theorem dJ17_inflate_0 : decode cJ17_inflate 0 = .ok (.aload_n 0, 1) := dk_42 (dk_at dksJ17_inflate_0 0 rfl rfl)
theorem dJ17_inflate_1 : decode cJ17_inflate 1 = .ok (.iload_n 1, 1) := dk_27 (dk_at dksJ17_inflate_0 1 rfl rfl)
theorem dJ17_inflate_2 : decode cJ17_inflate 2 = .ok (.aload_n 2, 1) := dk_44 (dk_at dksJ17_inflate_0 2 rfl rfl)
theorem dJ17_inflate_3 : decode cJ17_inflate 3 = .ok (.iload_n 3, 1) := dk_29 (dk_at dksJ17_inflate_0 3 rfl rfl)
theorem dJ17_inflate_4 : decode cJ17_inflate 4 = .ok (.iload 4, 2) := dk_21 4 (dk_at dksJ17_inflate_0 4 rfl rfl)
theorem dJ17_inflate_6 : decode cJ17_inflate 6 = .ok (.invokestatic 240, 3) := dk_184 0 240 (dk_at dksJ17_inflate_0 6 rfl rfl)
theorem dJ17_inflate_9 : decode cJ17_inflate 9 = .ok (.return_, 1) := dk_177 (dk_at dksJ17_inflate_0 9 rfl rfl)
def dkwJ17_canEncode_0 : List UInt8 := [26, 17, 0, 255, 163, 0, 7, 4, 167, 0, 4, 3, 172]
abbrev dktJ17_canEncode_0 : List UInt8 := dkwJ17_canEncode_0 ++ []
theorem dksJ17_canEncode_0 : cJ17_canEncode.data.toList.drop 0 = dktJ17_canEncode_0 := by decide +kernel
theorem dJ17_canEncode_0 : decode cJ17_canEncode 0 = .ok (.iload_n 0, 1) := dk_26 (dk_at dksJ17_canEncode_0 0 rfl rfl)
theorem dJ17_canEncode_1 : decode cJ17_canEncode 1 = .ok (.sipush 255, 3) := dk_17 0 255 (dk_at dksJ17_canEncode_0 1 rfl rfl)
theorem dJ17_canEncode_4 : decode cJ17_canEncode 4 = .ok (.if_icmp .gt 7, 3) := dk_163 0 7 (dk_at dksJ17_canEncode_0 4 rfl rfl)
theorem dJ17_canEncode_7 : decode cJ17_canEncode 7 = .ok (.iconst 1, 1) := dk_4 (dk_at dksJ17_canEncode_0 7 rfl rfl)
theorem dJ17_canEncode_8 : decode cJ17_canEncode 8 = .ok (.goto 4, 3) := dk_167 0 4 (dk_at dksJ17_canEncode_0 8 rfl rfl)
theorem dJ17_canEncode_11 : decode cJ17_canEncode 11 = .ok (.iconst 0, 1) := dk_3 (dk_at dksJ17_canEncode_0 11 rfl rfl)
theorem dJ17_canEncode_12 : decode cJ17_canEncode 12 = .ok (.ireturn, 1) := dk_172 (dk_at dksJ17_canEncode_0 12 rfl rfl)
def dkwJ17_indexOf_1 : List UInt8 := [161, 0, 5, 2, 172, 42, 27, 28, 29, 184, 0, 95, 172]
abbrev dktJ17_indexOf_1 : List UInt8 := dkwJ17_indexOf_1 ++ []
def dkwJ17_indexOf_0 : List UInt8 := [27, 184, 0, 88, 154, 0, 5, 2, 172, 28, 3, 184, 0, 92, 61, 29, 42, 190, 184, 0, 38, 62, 28, 29]
abbrev dktJ17_indexOf_0 : List UInt8 := dkwJ17_indexOf_0 ++ dktJ17_indexOf_1
theorem dksJ17_indexOf_0 : cJ17_indexOf.data.toList.drop 0 = dktJ17_indexOf_0 := by decide +kernel
theorem dksJ17_indexOf_1 : cJ17_indexOf.data.toList.drop 24 = dktJ17_indexOf_1 := dk_seg dksJ17_indexOf_0 24 rfl rfl
theorem dJ17_indexOf_0 : decode cJ17_indexOf 0 = .ok (.iload_n 1, 1) := dk_27 (dk_at dksJ17_indexOf_0 0 rfl rfl)
theorem dJ17_indexOf_1 : decode cJ17_indexOf 1 = .ok (.invokestatic 88, 3) := dk_184 0 88 (dk_at dksJ17_indexOf_0 1 rfl rfl)
theorem dJ17_indexOf_4 : decode cJ17_indexOf 4 = .ok (.ifCond .ne 5, 3) := dk_154 0 5 (dk_at dksJ17_indexOf_0 4 rfl rfl)
theorem dJ17_indexOf_7 : decode cJ17_indexOf 7 = .ok (.iconst (-1), 1) := dk_2 (dk_at dksJ17_indexOf_0 7 rfl rfl)
theorem dJ17_indexOf_8 : decode cJ17_indexOf 8 = .ok (.ireturn, 1) := dk_172 (dk_at dksJ17_indexOf_0 8 rfl rfl)
theorem dJ17_indexOf_9 : decode cJ17_indexOf 9 = .ok (.iload_n 2, 1) := dk_28 (dk_at dksJ17_indexOf_0 9 rfl rfl)
theorem dJ17_indexOf_10 : decode cJ17_indexOf 10 = .ok (.iconst 0, 1) := dk_3 (dk_at dksJ17_indexOf_0 10 rfl rfl)
theorem dJ17_indexOf_11 : decode cJ17_indexOf 11 = .ok (.invokestatic 92, 3) := dk_184 0 92 (dk_at dksJ17_indexOf_0 11 rfl rfl)
theorem dJ17_indexOf_14 : decode cJ17_indexOf 14 = .ok (.istore_n 2, 1) := dk_61 (dk_at dksJ17_indexOf_0 14 rfl rfl)
theorem dJ17_indexOf_15 : decode cJ17_indexOf 15 = .ok (.iload_n 3, 1) := dk_29 (dk_at dksJ17_indexOf_0 15 rfl rfl)
theorem dJ17_indexOf_16 : decode cJ17_indexOf 16 = .ok (.aload_n 0, 1) := dk_42 (dk_at dksJ17_indexOf_0 16 rfl rfl)
theorem dJ17_indexOf_17 : decode cJ17_indexOf 17 = .ok (.arraylength, 1) := dk_190 (dk_at dksJ17_indexOf_0 17 rfl rfl)
theorem dJ17_indexOf_18 : decode cJ17_indexOf 18 = .ok (.invokestatic 38, 3) := dk_184 0 38 (dk_at dksJ17_indexOf_0 18 rfl rfl)
theorem dJ17_indexOf_21 : decode cJ17_indexOf 21 = .ok (.istore_n 3, 1) := dk_62 (dk_at dksJ17_indexOf_0 21 rfl rfl)
theorem dJ17_indexOf_22 : decode cJ17_indexOf 22 = .ok (.iload_n 2, 1) := dk_28 (dk_at dksJ17_indexOf_0 22 rfl rfl)
theorem dJ17_indexOf_23 : decode cJ17_indexOf 23 = .ok (.iload_n 3, 1) := dk_29 (dk_at dksJ17_indexOf_0 23 rfl rfl)
theorem dJ17_indexOf_24 : decode cJ17_indexOf 24 = .ok (.if_icmp .lt 5, 3) := dk_161 0 5 (dk_at dksJ17_indexOf_1 0 rfl rfl)
theorem dJ17_indexOf_27 : decode cJ17_indexOf 27 = .ok (.iconst (-1), 1) := dk_2 (dk_at dksJ17_indexOf_1 3 rfl rfl)
theorem dJ17_indexOf_28 : decode cJ17_indexOf 28 = .ok (.ireturn, 1) := dk_172 (dk_at dksJ17_indexOf_1 4 rfl rfl)
theorem dJ17_indexOf_29 : decode cJ17_indexOf 29 = .ok (.aload_n 0, 1) := dk_42 (dk_at dksJ17_indexOf_1 5 rfl rfl)
theorem dJ17_indexOf_30 : decode cJ17_indexOf 30 = .ok (.iload_n 1, 1) := dk_27 (dk_at dksJ17_indexOf_1 6 rfl rfl)
theorem dJ17_indexOf_31 : decode cJ17_indexOf 31 = .ok (.iload_n 2, 1) := dk_28 (dk_at dksJ17_indexOf_1 7 rfl rfl)
theorem dJ17_indexOf_32 : decode cJ17_indexOf 32 = .ok (.iload_n 3, 1) := dk_29 (dk_at dksJ17_indexOf_1 8 rfl rfl)
theorem dJ17_indexOf_33 : decode cJ17_indexOf 33 = .ok (.invokestatic 95, 3) := dk_184 0 95 (dk_at dksJ17_indexOf_1 9 rfl rfl)
theorem dJ17_indexOf_36 : decode cJ17_indexOf 36 = .ok (.ireturn, 1) := dk_172 (dk_at dksJ17_indexOf_1 12 rfl rfl)
def dkwJ17_canEncode_2_0 : List UInt8 := [26, 155, 0, 14, 26, 17, 0, 255, 163, 0, 7, 4, 167, 0, 4, 3, 172]
abbrev dktJ17_canEncode_2_0 : List UInt8 := dkwJ17_canEncode_2_0 ++ []
theorem dksJ17_canEncode_2_0 : cJ17_canEncode_2.data.toList.drop 0 = dktJ17_canEncode_2_0 := by decide +kernel
theorem dJ17_canEncode_2_0 : decode cJ17_canEncode_2 0 = .ok (.iload_n 0, 1) := dk_26 (dk_at dksJ17_canEncode_2_0 0 rfl rfl)
theorem dJ17_canEncode_2_1 : decode cJ17_canEncode_2 1 = .ok (.ifCond .lt 14, 3) := dk_155 0 14 (dk_at dksJ17_canEncode_2_0 1 rfl rfl)
theorem dJ17_canEncode_2_4 : decode cJ17_canEncode_2 4 = .ok (.iload_n 0, 1) := dk_26 (dk_at dksJ17_canEncode_2_0 4 rfl rfl)
theorem dJ17_canEncode_2_5 : decode cJ17_canEncode_2 5 = .ok (.sipush 255, 3) := dk_17 0 255 (dk_at dksJ17_canEncode_2_0 5 rfl rfl)
theorem dJ17_canEncode_2_8 : decode cJ17_canEncode_2 8 = .ok (.if_icmp .gt 7, 3) := dk_163 0 7 (dk_at dksJ17_canEncode_2_0 8 rfl rfl)
theorem dJ17_canEncode_2_11 : decode cJ17_canEncode_2 11 = .ok (.iconst 1, 1) := dk_4 (dk_at dksJ17_canEncode_2_0 11 rfl rfl)
theorem dJ17_canEncode_2_12 : decode cJ17_canEncode_2 12 = .ok (.goto 4, 3) := dk_167 0 4 (dk_at dksJ17_canEncode_2_0 12 rfl rfl)
theorem dJ17_canEncode_2_15 : decode cJ17_canEncode_2 15 = .ok (.iconst 0, 1) := dk_3 (dk_at dksJ17_canEncode_2_0 15 rfl rfl)
theorem dJ17_canEncode_2_16 : decode cJ17_canEncode_2 16 = .ok (.ireturn, 1) := dk_172 (dk_at dksJ17_canEncode_2_0 16 rfl rfl)
def dkwJ17_indexOfChar_1 : List UInt8 := [172, 132, 5, 1, 167, 255, 235, 2, 172]
abbrev dktJ17_indexOfChar_1 : List UInt8 := dkwJ17_indexOfChar_1 ++ []
def dkwJ17_indexOfChar_0 : List UInt8 := [27, 145, 54, 4, 28, 54, 5, 21, 5, 29, 162, 0, 21, 42, 21, 5, 51, 21, 4, 160, 0, 6, 21, 5]
abbrev dktJ17_indexOfChar_0 : List UInt8 := dkwJ17_indexOfChar_0 ++ dktJ17_indexOfChar_1
theorem dksJ17_indexOfChar_0 : cJ17_indexOfChar.data.toList.drop 0 = dktJ17_indexOfChar_0 := by decide +kernel
theorem dksJ17_indexOfChar_1 : cJ17_indexOfChar.data.toList.drop 24 = dktJ17_indexOfChar_1 := dk_seg dksJ17_indexOfChar_0 24 rfl rfl
theorem dJ17_indexOfChar_0 : decode cJ17_indexOfChar 0 = .ok (.iload_n 1, 1) := dk_27 (dk_at dksJ17_indexOfChar_0 0 rfl rfl)
theorem dJ17_indexOfChar_1 : decode cJ17_indexOfChar 1 = .ok (.i2b, 1) := dk_145 (dk_at dksJ17_indexOfChar_0 1 rfl rfl)
theorem dJ17_indexOfChar_2 : decode cJ17_indexOfChar 2 = .ok (.istore 4, 2) := dk_54 4 (dk_at dksJ17_indexOfChar_0 2 rfl rfl)
theorem dJ17_indexOfChar_4 : decode cJ17_indexOfChar 4 = .ok (.iload_n 2, 1) := dk_28 (dk_at dksJ17_indexOfChar_0 4 rfl rfl)
theorem dJ17_indexOfChar_5 : decode cJ17_indexOfChar 5 = .ok (.istore 5, 2) := dk_54 5 (dk_at dksJ17_indexOfChar_0 5 rfl rfl)
theorem dJ17_indexOfChar_7 : decode cJ17_indexOfChar 7 = .ok (.iload 5, 2) := dk_21 5 (dk_at dksJ17_indexOfChar_0 7 rfl rfl)
theorem dJ17_indexOfChar_9 : decode cJ17_indexOfChar 9 = .ok (.iload_n 3, 1) := dk_29 (dk_at dksJ17_indexOfChar_0 9 rfl rfl)
theorem dJ17_indexOfChar_10 : decode cJ17_indexOfChar 10 = .ok (.if_icmp .ge 21, 3) := dk_162 0 21 (dk_at dksJ17_indexOfChar_0 10 rfl rfl)
theorem dJ17_indexOfChar_13 : decode cJ17_indexOfChar 13 = .ok (.aload_n 0, 1) := dk_42 (dk_at dksJ17_indexOfChar_0 13 rfl rfl)
theorem dJ17_indexOfChar_14 : decode cJ17_indexOfChar 14 = .ok (.iload 5, 2) := dk_21 5 (dk_at dksJ17_indexOfChar_0 14 rfl rfl)
theorem dJ17_indexOfChar_16 : decode cJ17_indexOfChar 16 = .ok (.baload, 1) := dk_51 (dk_at dksJ17_indexOfChar_0 16 rfl rfl)
theorem dJ17_indexOfChar_17 : decode cJ17_indexOfChar 17 = .ok (.iload 4, 2) := dk_21 4 (dk_at dksJ17_indexOfChar_0 17 rfl rfl)
theorem dJ17_indexOfChar_19 : decode cJ17_indexOfChar 19 = .ok (.if_icmp .ne 6, 3) := dk_160 0 6 (dk_at dksJ17_indexOfChar_0 19 rfl rfl)
theorem dJ17_indexOfChar_22 : decode cJ17_indexOfChar 22 = .ok (.iload 5, 2) := dk_21 5 (dk_at dksJ17_indexOfChar_0 22 rfl rfl)
theorem dJ17_indexOfChar_24 : decode cJ17_indexOfChar 24 = .ok (.ireturn, 1) := dk_172 (dk_at dksJ17_indexOfChar_1 0 rfl rfl)
theorem dJ17_indexOfChar_25 : decode cJ17_indexOfChar 25 = .ok (.iinc 5 1, 3) := dk_132 5 1 (dk_at dksJ17_indexOfChar_1 1 rfl rfl)
theorem dJ17_indexOfChar_28 : decode cJ17_indexOfChar 28 = .ok (.goto (-21), 3) := dk_167 255 235 (dk_at dksJ17_indexOfChar_1 4 rfl rfl)
theorem dJ17_indexOfChar_31 : decode cJ17_indexOfChar 31 = .ok (.iconst (-1), 1) := dk_2 (dk_at dksJ17_indexOfChar_1 7 rfl rfl)
theorem dJ17_indexOfChar_32 : decode cJ17_indexOfChar 32 = .ok (.ireturn, 1) := dk_172 (dk_at dksJ17_indexOfChar_1 8 rfl rfl)
theorem e_J17_fillNull (d : Nat) (x0 : Nat) (x1 : Int32) (x2 : Int32) (h : a_H) : a_call (d + 1) MJ17_fillNull [.ref x0, .int x1, .int x2] h = a_run d MJ17_fillNull 0 [some (.ref x0), some (.int x1), some (.int x2)] [] h := a_call_run rfl (Nat.le_of_ble_eq_true rfl) rfl
theorem w_J17_fillNull_0 (d : Nat) (a1 a2 : Option Value) (x : Nat) (st : List Value) (h : a_H) : a_run d MJ17_fillNull 0 [some (.ref x), a1, a2] st h = a_run d MJ17_fillNull 1 [some (.ref x), a1, a2] (.ref x :: st) h := w_ldAn dJ17_fillNull_0 rfl
theorem w_J17_fillNull_1 (d : Nat) (a0 a2 : Option Value) (x : Int32) (st : List Value) (h : a_H) : a_run d MJ17_fillNull 1 [a0, some (.int x), a2] st h = a_run d MJ17_fillNull 2 [a0, some (.int x), a2] (.int x :: st) h := w_ldIn dJ17_fillNull_1 rfl
theorem w_J17_fillNull_2 (d : Nat) (a0 a1 : Option Value) (x : Int32) (st : List Value) (h : a_H) : a_run d MJ17_fillNull 2 [a0, a1, some (.int x)] st h = a_run d MJ17_fillNull 3 [a0, a1, some (.int x)] (.int x :: st) h := w_ldIn dJ17_fillNull_2 rfl
theorem w_J17_fillNull_3 (d : Nat) (L : a_L) (st : List Value) (h : a_H) : a_run d MJ17_fillNull 3 L st h = a_run d MJ17_fillNull 4 L (.int (nI 0) :: st) h := w_iconst dJ17_fillNull_3 rfl
theorem w_J17_fillNull_4 (d : Nat) (L : a_L) (v0 v1 v2 v3 : Value) (st : List Value) (h : a_H) (hc : a_cat st ≤ 8) : a_run d MJ17_fillNull 4 L (v3 :: v2 :: v1 :: v0 :: st) h = a_cont d MJ17_fillNull (a_bk MJ17_fillNull 4 L st (a_call d MJ13_fill [v0, v1, v2, v3] h)) := w_callS (as := [v0, v1, v2, v3]) dJ17_fillNull_4 rfl rfl rfl hc
theorem w_J17_fillNull_7 (d : Nat) (L : a_L) (h : a_H) : a_run d MJ17_fillNull 7 L [] h = some (.inl none, h) := w_vret dJ17_fillNull_7 rfl
theorem e_J17_inflate (d : Nat) (x0 : Nat) (x1 : Int32) (x2 : Nat) (x3 : Int32) (x4 : Int32) (h : a_H) : a_call (d + 1) MJ17_inflate [.ref x0, .int x1, .ref x2, .int x3, .int x4] h = a_run d MJ17_inflate 0 [some (.ref x0), some (.int x1), some (.ref x2), some (.int x3), some (.int x4)] [] h := a_call_run rfl (Nat.le_of_ble_eq_true rfl) rfl
theorem w_J17_inflate_0 (d : Nat) (a1 a2 a3 a4 : Option Value) (x : Nat) (st : List Value) (h : a_H) : a_run d MJ17_inflate 0 [some (.ref x), a1, a2, a3, a4] st h = a_run d MJ17_inflate 1 [some (.ref x), a1, a2, a3, a4] (.ref x :: st) h := w_ldAn dJ17_inflate_0 rfl
theorem w_J17_inflate_1 (d : Nat) (a0 a2 a3 a4 : Option Value) (x : Int32) (st : List Value) (h : a_H) : a_run d MJ17_inflate 1 [a0, some (.int x), a2, a3, a4] st h = a_run d MJ17_inflate 2 [a0, some (.int x), a2, a3, a4] (.int x :: st) h := w_ldIn dJ17_inflate_1 rfl
theorem w_J17_inflate_2 (d : Nat) (a0 a1 a3 a4 : Option Value) (x : Nat) (st : List Value) (h : a_H) : a_run d MJ17_inflate 2 [a0, a1, some (.ref x), a3, a4] st h = a_run d MJ17_inflate 3 [a0, a1, some (.ref x), a3, a4] (.ref x :: st) h := w_ldAn dJ17_inflate_2 rfl
theorem w_J17_inflate_2N (d : Nat) (a0 a1 a3 a4 : Option Value) (st : List Value) (h : a_H) : a_run d MJ17_inflate 2 [a0, a1, some .null, a3, a4] st h = a_run d MJ17_inflate 3 [a0, a1, some .null, a3, a4] (.null :: st) h := w_ldNn dJ17_inflate_2 rfl
theorem w_J17_inflate_3 (d : Nat) (a0 a1 a2 a4 : Option Value) (x : Int32) (st : List Value) (h : a_H) : a_run d MJ17_inflate 3 [a0, a1, a2, some (.int x), a4] st h = a_run d MJ17_inflate 4 [a0, a1, a2, some (.int x), a4] (.int x :: st) h := w_ldIn dJ17_inflate_3 rfl
theorem w_J17_inflate_4 (d : Nat) (a0 a1 a2 a3 : Option Value) (x : Int32) (st : List Value) (h : a_H) : a_run d MJ17_inflate 4 [a0, a1, a2, a3, some (.int x)] st h = a_run d MJ17_inflate 6 [a0, a1, a2, a3, some (.int x)] (.int x :: st) h := w_ldI dJ17_inflate_4 rfl
theorem w_J17_inflate_6 (d : Nat) (L : a_L) (v0 v1 v2 v3 v4 : Value) (st : List Value) (h : a_H) (hc : a_cat st ≤ 8) : a_run d MJ17_inflate 6 L (v4 :: v3 :: v2 :: v1 :: v0 :: st) h = a_cont d MJ17_inflate (a_bk MJ17_inflate 6 L st (a_call d MJ5_inflate [v0, v1, v2, v3, v4] h)) := w_callS (as := [v0, v1, v2, v3, v4]) dJ17_inflate_6 rfl rfl rfl hc
theorem w_J17_inflate_9 (d : Nat) (L : a_L) (h : a_H) : a_run d MJ17_inflate 9 L [] h = some (.inl none, h) := w_vret dJ17_inflate_9 rfl
theorem e_J17_canEncode (d : Nat) (x0 : Int32) (h : a_H) : a_call (d + 1) MJ17_canEncode [.int x0] h = a_run d MJ17_canEncode 0 [some (.int x0)] [] h := a_call_run rfl (Nat.le_of_ble_eq_true rfl) rfl
theorem w_J17_canEncode_0 (d : Nat) (x : Int32) (st : List Value) (h : a_H) : a_run d MJ17_canEncode 0 [some (.int x)] st h = a_run d MJ17_canEncode 1 [some (.int x)] (.int x :: st) h := w_ldIn dJ17_canEncode_0 rfl
theorem w_J17_canEncode_1 (d : Nat) (L : a_L) (st : List Value) (h : a_H) : a_run d MJ17_canEncode 1 L st h = a_run d MJ17_canEncode 4 L (.int (nI 255) :: st) h := w_sipush dJ17_canEncode_1 rfl
theorem w_J17_canEncode_4 (d : Nat) (L : a_L) (x y : Int32) (st : List Value) (h : a_H) : a_run d MJ17_canEncode 4 L (.int y :: .int x :: st) h = if y < x then a_run d MJ17_canEncode 11 L st h else a_run d MJ17_canEncode 7 L st h := w_icmp_gt dJ17_canEncode_4 rfl
theorem w_J17_canEncode_7 (d : Nat) (L : a_L) (st : List Value) (h : a_H) : a_run d MJ17_canEncode 7 L st h = a_run d MJ17_canEncode 8 L (.int (nI 1) :: st) h := w_iconst dJ17_canEncode_7 rfl
theorem w_J17_canEncode_8 (d : Nat) (L : a_L) (st : List Value) (h : a_H) : a_run d MJ17_canEncode 8 L st h = a_run d MJ17_canEncode 12 L st h := w_goto dJ17_canEncode_8 rfl
theorem w_J17_canEncode_11 (d : Nat) (L : a_L) (st : List Value) (h : a_H) : a_run d MJ17_canEncode 11 L st h = a_run d MJ17_canEncode 12 L (.int (nI 0) :: st) h := w_iconst dJ17_canEncode_11 rfl
theorem w_J17_canEncode_12 (d : Nat) (L : a_L) (x : Int32) (h : a_H) (hx : x = 0 ∨ x = 1) : a_run d MJ17_canEncode 12 L [.int x] h = some (.inl (some (.int x)), h) := w_iret dJ17_canEncode_12 (w_retZ rfl hx)
theorem e_J17_indexOf (d : Nat) (x0 : Nat) (x1 : Int32) (x2 : Int32) (x3 : Int32) (h : a_H) : a_call (d + 1) MJ17_indexOf [.ref x0, .int x1, .int x2, .int x3] h = a_run d MJ17_indexOf 0 [some (.ref x0), some (.int x1), some (.int x2), some (.int x3)] [] h := a_call_run rfl (Nat.le_of_ble_eq_true rfl) rfl
theorem w_J17_indexOf_0 (d : Nat) (a0 a2 a3 : Option Value) (x : Int32) (st : List Value) (h : a_H) : a_run d MJ17_indexOf 0 [a0, some (.int x), a2, a3] st h = a_run d MJ17_indexOf 1 [a0, some (.int x), a2, a3] (.int x :: st) h := w_ldIn dJ17_indexOf_0 rfl
theorem w_J17_indexOf_1 (d : Nat) (L : a_L) (v0 : Value) (st : List Value) (h : a_H) (hc : a_cat st ≤ 8) : a_run d MJ17_indexOf 1 L (v0 :: st) h = a_cont d MJ17_indexOf (a_bk MJ17_indexOf 1 L st (a_call d MJ17_canEncode_2 [v0] h)) := w_callS (as := [v0]) dJ17_indexOf_1 rfl rfl rfl hc
theorem w_J17_indexOf_4 (d : Nat) (L : a_L) (x : Int32) (st : List Value) (h : a_H) : a_run d MJ17_indexOf 4 L (.int x :: st) h = if x = 0 then a_run d MJ17_indexOf 7 L st h else a_run d MJ17_indexOf 9 L st h := w_if_ne dJ17_indexOf_4 rfl
theorem w_J17_indexOf_7 (d : Nat) (L : a_L) (st : List Value) (h : a_H) : a_run d MJ17_indexOf 7 L st h = a_run d MJ17_indexOf 8 L (.int ((-1)) :: st) h := w_iconst dJ17_indexOf_7 rfl
theorem w_J17_indexOf_8 (d : Nat) (L : a_L) (x : Int32) (h : a_H) : a_run d MJ17_indexOf 8 L [.int x] h = some (.inl (some (.int x)), h) := w_iret dJ17_indexOf_8 (w_retI rfl)
theorem w_J17_indexOf_9 (d : Nat) (a0 a1 a3 : Option Value) (x : Int32) (st : List Value) (h : a_H) : a_run d MJ17_indexOf 9 [a0, a1, some (.int x), a3] st h = a_run d MJ17_indexOf 10 [a0, a1, some (.int x), a3] (.int x :: st) h := w_ldIn dJ17_indexOf_9 rfl
theorem w_J17_indexOf_10 (d : Nat) (L : a_L) (st : List Value) (h : a_H) : a_run d MJ17_indexOf 10 L st h = a_run d MJ17_indexOf 11 L (.int (nI 0) :: st) h := w_iconst dJ17_indexOf_10 rfl
theorem w_J17_indexOf_11 (d : Nat) (L : a_L) (x y : Int32) (st : List Value) (h : a_H) (hc : a_cat st ≤ 8) : a_run d MJ17_indexOf 11 L (.int y :: .int x :: st) h = a_run d MJ17_indexOf 14 L (.int (if x < y then y else x) :: st) h := w_max dJ17_indexOf_11 rfl hc
theorem w_J17_indexOf_14 (d : Nat) (a0 a1 a2 a3 : Option Value) (x : Int32) (st : List Value) (h : a_H) : a_run d MJ17_indexOf 14 [a0, a1, a2, a3] (.int x :: st) h = a_run d MJ17_indexOf 15 [a0, a1, some (.int x), a3] st h := w_stIn dJ17_indexOf_14 (Nat.le_of_ble_eq_true rfl) rfl
theorem w_J17_indexOf_15 (d : Nat) (a0 a1 a2 : Option Value) (x : Int32) (st : List Value) (h : a_H) : a_run d MJ17_indexOf 15 [a0, a1, a2, some (.int x)] st h = a_run d MJ17_indexOf 16 [a0, a1, a2, some (.int x)] (.int x :: st) h := w_ldIn dJ17_indexOf_15 rfl
theorem w_J17_indexOf_16 (d : Nat) (a1 a2 a3 : Option Value) (x : Nat) (st : List Value) (h : a_H) : a_run d MJ17_indexOf 16 [some (.ref x), a1, a2, a3] st h = a_run d MJ17_indexOf 17 [some (.ref x), a1, a2, a3] (.ref x :: st) h := w_ldAn dJ17_indexOf_16 rfl
theorem w_J17_indexOf_17 (d : Nat) (L : a_L) (i : Nat) (st : List Value) (h : a_H) : a_run d MJ17_indexOf 17 L (.ref i :: st) h = (a_len h i).bind fun v => a_run d MJ17_indexOf 18 L (v :: st) h := w_alen dJ17_indexOf_17
theorem w_J17_indexOf_18 (d : Nat) (L : a_L) (x y : Int32) (st : List Value) (h : a_H) (hc : a_cat st ≤ 8) : a_run d MJ17_indexOf 18 L (.int y :: .int x :: st) h = a_run d MJ17_indexOf 21 L (.int (if y < x then y else x) :: st) h := w_min dJ17_indexOf_18 rfl hc
theorem w_J17_indexOf_21 (d : Nat) (a0 a1 a2 a3 : Option Value) (x : Int32) (st : List Value) (h : a_H) : a_run d MJ17_indexOf 21 [a0, a1, a2, a3] (.int x :: st) h = a_run d MJ17_indexOf 22 [a0, a1, a2, some (.int x)] st h := w_stIn dJ17_indexOf_21 (Nat.le_of_ble_eq_true rfl) rfl
theorem w_J17_indexOf_22 (d : Nat) (a0 a1 a3 : Option Value) (x : Int32) (st : List Value) (h : a_H) : a_run d MJ17_indexOf 22 [a0, a1, some (.int x), a3] st h = a_run d MJ17_indexOf 23 [a0, a1, some (.int x), a3] (.int x :: st) h := w_ldIn dJ17_indexOf_22 rfl
theorem w_J17_indexOf_23 (d : Nat) (a0 a1 a2 : Option Value) (x : Int32) (st : List Value) (h : a_H) : a_run d MJ17_indexOf 23 [a0, a1, a2, some (.int x)] st h = a_run d MJ17_indexOf 24 [a0, a1, a2, some (.int x)] (.int x :: st) h := w_ldIn dJ17_indexOf_23 rfl
theorem w_J17_indexOf_24 (d : Nat) (L : a_L) (x y : Int32) (st : List Value) (h : a_H) : a_run d MJ17_indexOf 24 L (.int y :: .int x :: st) h = if x < y then a_run d MJ17_indexOf 29 L st h else a_run d MJ17_indexOf 27 L st h := w_icmp_lt dJ17_indexOf_24 rfl
theorem w_J17_indexOf_27 (d : Nat) (L : a_L) (st : List Value) (h : a_H) : a_run d MJ17_indexOf 27 L st h = a_run d MJ17_indexOf 28 L (.int ((-1)) :: st) h := w_iconst dJ17_indexOf_27 rfl
theorem w_J17_indexOf_28 (d : Nat) (L : a_L) (x : Int32) (h : a_H) : a_run d MJ17_indexOf 28 L [.int x] h = some (.inl (some (.int x)), h) := w_iret dJ17_indexOf_28 (w_retI rfl)
theorem w_J17_indexOf_29 (d : Nat) (a1 a2 a3 : Option Value) (x : Nat) (st : List Value) (h : a_H) : a_run d MJ17_indexOf 29 [some (.ref x), a1, a2, a3] st h = a_run d MJ17_indexOf 30 [some (.ref x), a1, a2, a3] (.ref x :: st) h := w_ldAn dJ17_indexOf_29 rfl
theorem w_J17_indexOf_30 (d : Nat) (a0 a2 a3 : Option Value) (x : Int32) (st : List Value) (h : a_H) : a_run d MJ17_indexOf 30 [a0, some (.int x), a2, a3] st h = a_run d MJ17_indexOf 31 [a0, some (.int x), a2, a3] (.int x :: st) h := w_ldIn dJ17_indexOf_30 rfl
theorem w_J17_indexOf_31 (d : Nat) (a0 a1 a3 : Option Value) (x : Int32) (st : List Value) (h : a_H) : a_run d MJ17_indexOf 31 [a0, a1, some (.int x), a3] st h = a_run d MJ17_indexOf 32 [a0, a1, some (.int x), a3] (.int x :: st) h := w_ldIn dJ17_indexOf_31 rfl
theorem w_J17_indexOf_32 (d : Nat) (a0 a1 a2 : Option Value) (x : Int32) (st : List Value) (h : a_H) : a_run d MJ17_indexOf 32 [a0, a1, a2, some (.int x)] st h = a_run d MJ17_indexOf 33 [a0, a1, a2, some (.int x)] (.int x :: st) h := w_ldIn dJ17_indexOf_32 rfl
theorem w_J17_indexOf_33 (d : Nat) (L : a_L) (v0 v1 v2 v3 : Value) (st : List Value) (h : a_H) (hc : a_cat st ≤ 8) : a_run d MJ17_indexOf 33 L (v3 :: v2 :: v1 :: v0 :: st) h = a_cont d MJ17_indexOf (a_bk MJ17_indexOf 33 L st (a_call d MJ17_indexOfChar [v0, v1, v2, v3] h)) := w_callS (as := [v0, v1, v2, v3]) dJ17_indexOf_33 rfl rfl rfl hc
theorem w_J17_indexOf_36 (d : Nat) (L : a_L) (x : Int32) (h : a_H) : a_run d MJ17_indexOf 36 L [.int x] h = some (.inl (some (.int x)), h) := w_iret dJ17_indexOf_36 (w_retI rfl)
theorem e_J17_canEncode_2 (d : Nat) (x0 : Int32) (h : a_H) : a_call (d + 1) MJ17_canEncode_2 [.int x0] h = a_run d MJ17_canEncode_2 0 [some (.int x0)] [] h := a_call_run rfl (Nat.le_of_ble_eq_true rfl) rfl
theorem w_J17_canEncode_2_0 (d : Nat) (x : Int32) (st : List Value) (h : a_H) : a_run d MJ17_canEncode_2 0 [some (.int x)] st h = a_run d MJ17_canEncode_2 1 [some (.int x)] (.int x :: st) h := w_ldIn dJ17_canEncode_2_0 rfl
theorem w_J17_canEncode_2_1 (d : Nat) (L : a_L) (x : Int32) (st : List Value) (h : a_H) : a_run d MJ17_canEncode_2 1 L (.int x :: st) h = if x < 0 then a_run d MJ17_canEncode_2 15 L st h else a_run d MJ17_canEncode_2 4 L st h := w_if_lt dJ17_canEncode_2_1 rfl
theorem w_J17_canEncode_2_4 (d : Nat) (x : Int32) (st : List Value) (h : a_H) : a_run d MJ17_canEncode_2 4 [some (.int x)] st h = a_run d MJ17_canEncode_2 5 [some (.int x)] (.int x :: st) h := w_ldIn dJ17_canEncode_2_4 rfl
theorem w_J17_canEncode_2_5 (d : Nat) (L : a_L) (st : List Value) (h : a_H) : a_run d MJ17_canEncode_2 5 L st h = a_run d MJ17_canEncode_2 8 L (.int (nI 255) :: st) h := w_sipush dJ17_canEncode_2_5 rfl
theorem w_J17_canEncode_2_8 (d : Nat) (L : a_L) (x y : Int32) (st : List Value) (h : a_H) : a_run d MJ17_canEncode_2 8 L (.int y :: .int x :: st) h = if y < x then a_run d MJ17_canEncode_2 15 L st h else a_run d MJ17_canEncode_2 11 L st h := w_icmp_gt dJ17_canEncode_2_8 rfl
theorem w_J17_canEncode_2_11 (d : Nat) (L : a_L) (st : List Value) (h : a_H) : a_run d MJ17_canEncode_2 11 L st h = a_run d MJ17_canEncode_2 12 L (.int (nI 1) :: st) h := w_iconst dJ17_canEncode_2_11 rfl
theorem w_J17_canEncode_2_12 (d : Nat) (L : a_L) (st : List Value) (h : a_H) : a_run d MJ17_canEncode_2 12 L st h = a_run d MJ17_canEncode_2 16 L st h := w_goto dJ17_canEncode_2_12 rfl
theorem w_J17_canEncode_2_15 (d : Nat) (L : a_L) (st : List Value) (h : a_H) : a_run d MJ17_canEncode_2 15 L st h = a_run d MJ17_canEncode_2 16 L (.int (nI 0) :: st) h := w_iconst dJ17_canEncode_2_15 rfl
theorem w_J17_canEncode_2_16 (d : Nat) (L : a_L) (x : Int32) (h : a_H) (hx : x = 0 ∨ x = 1) : a_run d MJ17_canEncode_2 16 L [.int x] h = some (.inl (some (.int x)), h) := w_iret dJ17_canEncode_2_16 (w_retZ rfl hx)
theorem e_J17_indexOfChar (d : Nat) (x0 : Nat) (x1 : Int32) (x2 : Int32) (x3 : Int32) (h : a_H) : a_call (d + 1) MJ17_indexOfChar [.ref x0, .int x1, .int x2, .int x3] h = a_run d MJ17_indexOfChar 0 [some (.ref x0), some (.int x1), some (.int x2), some (.int x3), none, none] [] h := a_call_run rfl (Nat.le_of_ble_eq_true rfl) rfl
theorem w_J17_indexOfChar_0 (d : Nat) (a0 a2 a3 a4 a5 : Option Value) (x : Int32) (st : List Value) (h : a_H) : a_run d MJ17_indexOfChar 0 [a0, some (.int x), a2, a3, a4, a5] st h = a_run d MJ17_indexOfChar 1 [a0, some (.int x), a2, a3, a4, a5] (.int x :: st) h := w_ldIn dJ17_indexOfChar_0 rfl
theorem w_J17_indexOfChar_1 (d : Nat) (L : a_L) (x : Int32) (st : List Value) (h : a_H) : a_run d MJ17_indexOfChar 1 L (.int x :: st) h = a_run d MJ17_indexOfChar 2 L (.int x.toInt8.toInt32 :: st) h := w_i2b dJ17_indexOfChar_1
theorem w_J17_indexOfChar_2 (d : Nat) (a0 a1 a2 a3 a4 a5 : Option Value) (x : Int32) (st : List Value) (h : a_H) : a_run d MJ17_indexOfChar 2 [a0, a1, a2, a3, a4, a5] (.int x :: st) h = a_run d MJ17_indexOfChar 4 [a0, a1, a2, a3, some (.int x), a5] st h := w_stI dJ17_indexOfChar_2 (Nat.le_of_ble_eq_true rfl) rfl
theorem w_J17_indexOfChar_4 (d : Nat) (a0 a1 a3 a4 a5 : Option Value) (x : Int32) (st : List Value) (h : a_H) : a_run d MJ17_indexOfChar 4 [a0, a1, some (.int x), a3, a4, a5] st h = a_run d MJ17_indexOfChar 5 [a0, a1, some (.int x), a3, a4, a5] (.int x :: st) h := w_ldIn dJ17_indexOfChar_4 rfl
theorem w_J17_indexOfChar_5 (d : Nat) (a0 a1 a2 a3 a4 a5 : Option Value) (x : Int32) (st : List Value) (h : a_H) : a_run d MJ17_indexOfChar 5 [a0, a1, a2, a3, a4, a5] (.int x :: st) h = a_run d MJ17_indexOfChar 7 [a0, a1, a2, a3, a4, some (.int x)] st h := w_stI dJ17_indexOfChar_5 (Nat.le_of_ble_eq_true rfl) rfl
theorem w_J17_indexOfChar_7 (d : Nat) (a0 a1 a2 a3 a4 : Option Value) (x : Int32) (st : List Value) (h : a_H) : a_run d MJ17_indexOfChar 7 [a0, a1, a2, a3, a4, some (.int x)] st h = a_run d MJ17_indexOfChar 9 [a0, a1, a2, a3, a4, some (.int x)] (.int x :: st) h := w_ldI dJ17_indexOfChar_7 rfl
theorem w_J17_indexOfChar_9 (d : Nat) (a0 a1 a2 a4 a5 : Option Value) (x : Int32) (st : List Value) (h : a_H) : a_run d MJ17_indexOfChar 9 [a0, a1, a2, some (.int x), a4, a5] st h = a_run d MJ17_indexOfChar 10 [a0, a1, a2, some (.int x), a4, a5] (.int x :: st) h := w_ldIn dJ17_indexOfChar_9 rfl
theorem w_J17_indexOfChar_10 (d : Nat) (L : a_L) (x y : Int32) (st : List Value) (h : a_H) : a_run d MJ17_indexOfChar 10 L (.int y :: .int x :: st) h = if x < y then a_run d MJ17_indexOfChar 13 L st h else a_run d MJ17_indexOfChar 31 L st h := w_icmp_ge dJ17_indexOfChar_10 rfl
theorem w_J17_indexOfChar_13 (d : Nat) (a1 a2 a3 a4 a5 : Option Value) (x : Nat) (st : List Value) (h : a_H) : a_run d MJ17_indexOfChar 13 [some (.ref x), a1, a2, a3, a4, a5] st h = a_run d MJ17_indexOfChar 14 [some (.ref x), a1, a2, a3, a4, a5] (.ref x :: st) h := w_ldAn dJ17_indexOfChar_13 rfl
theorem w_J17_indexOfChar_14 (d : Nat) (a0 a1 a2 a3 a4 : Option Value) (x : Int32) (st : List Value) (h : a_H) : a_run d MJ17_indexOfChar 14 [a0, a1, a2, a3, a4, some (.int x)] st h = a_run d MJ17_indexOfChar 16 [a0, a1, a2, a3, a4, some (.int x)] (.int x :: st) h := w_ldI dJ17_indexOfChar_14 rfl
theorem w_J17_indexOfChar_16 (d : Nat) (L : a_L) (x : Int32) (i : Nat) (st : List Value) (h : a_H) : a_run d MJ17_indexOfChar 16 L (.int x :: .ref i :: st) h = (a_rdi h i a_bz x).bind fun v => a_run d MJ17_indexOfChar 17 L (v :: st) h := w_bald dJ17_indexOfChar_16
theorem w_J17_indexOfChar_17 (d : Nat) (a0 a1 a2 a3 a5 : Option Value) (x : Int32) (st : List Value) (h : a_H) : a_run d MJ17_indexOfChar 17 [a0, a1, a2, a3, some (.int x), a5] st h = a_run d MJ17_indexOfChar 19 [a0, a1, a2, a3, some (.int x), a5] (.int x :: st) h := w_ldI dJ17_indexOfChar_17 rfl
theorem w_J17_indexOfChar_19 (d : Nat) (L : a_L) (x y : Int32) (st : List Value) (h : a_H) : a_run d MJ17_indexOfChar 19 L (.int y :: .int x :: st) h = if x = y then a_run d MJ17_indexOfChar 22 L st h else a_run d MJ17_indexOfChar 25 L st h := w_icmp_ne dJ17_indexOfChar_19 rfl
theorem w_J17_indexOfChar_22 (d : Nat) (a0 a1 a2 a3 a4 : Option Value) (x : Int32) (st : List Value) (h : a_H) : a_run d MJ17_indexOfChar 22 [a0, a1, a2, a3, a4, some (.int x)] st h = a_run d MJ17_indexOfChar 24 [a0, a1, a2, a3, a4, some (.int x)] (.int x :: st) h := w_ldI dJ17_indexOfChar_22 rfl
theorem w_J17_indexOfChar_24 (d : Nat) (L : a_L) (x : Int32) (h : a_H) : a_run d MJ17_indexOfChar 24 L [.int x] h = some (.inl (some (.int x)), h) := w_iret dJ17_indexOfChar_24 (w_retI rfl)
theorem w_J17_indexOfChar_25 (d : Nat) (a0 a1 a2 a3 a4 : Option Value) (x : Int32) (st : List Value) (h : a_H) : a_run d MJ17_indexOfChar 25 [a0, a1, a2, a3, a4, some (.int x)] st h = a_run d MJ17_indexOfChar 28 [a0, a1, a2, a3, a4, some (.int (x + nI 1))] st h := w_incL dJ17_indexOfChar_25 rfl rfl rfl
theorem w_J17_indexOfChar_28 (d : Nat) (L : a_L) (st : List Value) (h : a_H) : a_run d MJ17_indexOfChar 28 L st h = a_run d MJ17_indexOfChar 7 L st h := w_goto dJ17_indexOfChar_28 rfl
theorem w_J17_indexOfChar_31 (d : Nat) (L : a_L) (st : List Value) (h : a_H) : a_run d MJ17_indexOfChar 31 L st h = a_run d MJ17_indexOfChar 32 L (.int ((-1)) :: st) h := w_iconst dJ17_indexOfChar_31 rfl
theorem w_J17_indexOfChar_32 (d : Nat) (L : a_L) (x : Int32) (h : a_H) : a_run d MJ17_indexOfChar 32 L [.int x] h = some (.inl (some (.int x)), h) := w_iret dJ17_indexOfChar_32 (w_retI rfl)
