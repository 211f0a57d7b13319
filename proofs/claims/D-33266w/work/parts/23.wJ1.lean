set_option maxRecDepth 100000
set_option maxRecDepth 100000
def dkwJ1_init_0 : List UInt8 := [42, 183, 0, 42, 42, 16, 17, 189, 0, 47, 181, 0, 3, 177]
abbrev dktJ1_init_0 : List UInt8 := dkwJ1_init_0 ++ []
theorem dksJ1_init_0 : cJ1_init.data.toList.drop 0 = dktJ1_init_0 := by decide +kernel
theorem dJ1_init_0 : decode cJ1_init 0 = .ok (.aload_n 0, 1) := dk_42 (dk_at dksJ1_init_0 0 rfl rfl)
theorem dJ1_init_1 : decode cJ1_init 1 = .ok (.invokespecial 42, 3) := dk_183 0 42 (dk_at dksJ1_init_0 1 rfl rfl)
theorem dJ1_init_4 : decode cJ1_init 4 = .ok (.aload_n 0, 1) := dk_42 (dk_at dksJ1_init_0 4 rfl rfl)
theorem dJ1_init_5 : decode cJ1_init 5 = .ok (.bipush 17, 2) := dk_16 17 (dk_at dksJ1_init_0 5 rfl rfl)
theorem dJ1_init_7 : decode cJ1_init 7 = .ok (.anewarray 47, 3) := dk_189 0 47 (dk_at dksJ1_init_0 7 rfl rfl)
theorem dJ1_init_10 : decode cJ1_init 10 = .ok (.putfield 3, 3) := dk_181 0 3 (dk_at dksJ1_init_0 10 rfl rfl)
theorem dJ1_init_13 : decode cJ1_init 13 = .ok (.return_, 1) := dk_177 (dk_at dksJ1_init_0 13 rfl rfl)
def dkwJ1_addLast_2 : List UInt8 := [182, 0, 71, 177]
abbrev dktJ1_addLast_2 : List UInt8 := dkwJ1_addLast_2 ++ []
def dkwJ1_addLast_1 : List UInt8 := [42, 180, 0, 24, 42, 42, 180, 0, 20, 44, 190, 184, 0, 74, 90, 181, 0, 20, 160, 0, 8, 42, 4]
abbrev dktJ1_addLast_1 : List UInt8 := dkwJ1_addLast_1 ++ dktJ1_addLast_2
def dkwJ1_addLast_0 : List UInt8 := [43, 199, 0, 11, 187, 0, 65, 89, 183, 0, 67, 191, 42, 180, 0, 3, 77, 44, 42, 180, 0, 20, 43, 83]
abbrev dktJ1_addLast_0 : List UInt8 := dkwJ1_addLast_0 ++ dktJ1_addLast_1
theorem dksJ1_addLast_0 : cJ1_addLast.data.toList.drop 0 = dktJ1_addLast_0 := by decide +kernel
theorem dksJ1_addLast_1 : cJ1_addLast.data.toList.drop 24 = dktJ1_addLast_1 := dk_seg dksJ1_addLast_0 24 rfl rfl
theorem dksJ1_addLast_2 : cJ1_addLast.data.toList.drop 47 = dktJ1_addLast_2 := dk_seg dksJ1_addLast_1 23 rfl rfl
theorem dJ1_addLast_0 : decode cJ1_addLast 0 = .ok (.aload_n 1, 1) := dk_43 (dk_at dksJ1_addLast_0 0 rfl rfl)
theorem dJ1_addLast_1 : decode cJ1_addLast 1 = .ok (.ifnonnull 11, 3) := dk_199 0 11 (dk_at dksJ1_addLast_0 1 rfl rfl)
theorem dJ1_addLast_4 : decode cJ1_addLast 4 = .ok (.new 65, 3) := dk_187 0 65 (dk_at dksJ1_addLast_0 4 rfl rfl)
theorem dJ1_addLast_7 : decode cJ1_addLast 7 = .ok (.dup, 1) := dk_89 (dk_at dksJ1_addLast_0 7 rfl rfl)
theorem dJ1_addLast_8 : decode cJ1_addLast 8 = .ok (.invokespecial 67, 3) := dk_183 0 67 (dk_at dksJ1_addLast_0 8 rfl rfl)
theorem dJ1_addLast_11 : decode cJ1_addLast 11 = .ok (.athrow, 1) := dk_191 (dk_at dksJ1_addLast_0 11 rfl rfl)
theorem dJ1_addLast_12 : decode cJ1_addLast 12 = .ok (.aload_n 0, 1) := dk_42 (dk_at dksJ1_addLast_0 12 rfl rfl)
theorem dJ1_addLast_13 : decode cJ1_addLast 13 = .ok (.getfield 3, 3) := dk_180 0 3 (dk_at dksJ1_addLast_0 13 rfl rfl)
theorem dJ1_addLast_16 : decode cJ1_addLast 16 = .ok (.astore_n 2, 1) := dk_77 (dk_at dksJ1_addLast_0 16 rfl rfl)
theorem dJ1_addLast_17 : decode cJ1_addLast 17 = .ok (.aload_n 2, 1) := dk_44 (dk_at dksJ1_addLast_0 17 rfl rfl)
theorem dJ1_addLast_18 : decode cJ1_addLast 18 = .ok (.aload_n 0, 1) := dk_42 (dk_at dksJ1_addLast_0 18 rfl rfl)
theorem dJ1_addLast_19 : decode cJ1_addLast 19 = .ok (.getfield 20, 3) := dk_180 0 20 (dk_at dksJ1_addLast_0 19 rfl rfl)
theorem dJ1_addLast_22 : decode cJ1_addLast 22 = .ok (.aload_n 1, 1) := dk_43 (dk_at dksJ1_addLast_0 22 rfl rfl)
theorem dJ1_addLast_23 : decode cJ1_addLast 23 = .ok (.aastore, 1) := dk_83 (dk_at dksJ1_addLast_0 23 rfl rfl)
theorem dJ1_addLast_24 : decode cJ1_addLast 24 = .ok (.aload_n 0, 1) := dk_42 (dk_at dksJ1_addLast_1 0 rfl rfl)
theorem dJ1_addLast_25 : decode cJ1_addLast 25 = .ok (.getfield 24, 3) := dk_180 0 24 (dk_at dksJ1_addLast_1 1 rfl rfl)
theorem dJ1_addLast_28 : decode cJ1_addLast 28 = .ok (.aload_n 0, 1) := dk_42 (dk_at dksJ1_addLast_1 4 rfl rfl)
theorem dJ1_addLast_29 : decode cJ1_addLast 29 = .ok (.aload_n 0, 1) := dk_42 (dk_at dksJ1_addLast_1 5 rfl rfl)
theorem dJ1_addLast_30 : decode cJ1_addLast 30 = .ok (.getfield 20, 3) := dk_180 0 20 (dk_at dksJ1_addLast_1 6 rfl rfl)
theorem dJ1_addLast_33 : decode cJ1_addLast 33 = .ok (.aload_n 2, 1) := dk_44 (dk_at dksJ1_addLast_1 9 rfl rfl)
theorem dJ1_addLast_34 : decode cJ1_addLast 34 = .ok (.arraylength, 1) := dk_190 (dk_at dksJ1_addLast_1 10 rfl rfl)
theorem dJ1_addLast_35 : decode cJ1_addLast 35 = .ok (.invokestatic 74, 3) := dk_184 0 74 (dk_at dksJ1_addLast_1 11 rfl rfl)
theorem dJ1_addLast_38 : decode cJ1_addLast 38 = .ok (.dup_x1, 1) := dk_90 (dk_at dksJ1_addLast_1 14 rfl rfl)
theorem dJ1_addLast_39 : decode cJ1_addLast 39 = .ok (.putfield 20, 3) := dk_181 0 20 (dk_at dksJ1_addLast_1 15 rfl rfl)
theorem dJ1_addLast_42 : decode cJ1_addLast 42 = .ok (.if_icmp .ne 8, 3) := dk_160 0 8 (dk_at dksJ1_addLast_1 18 rfl rfl)
theorem dJ1_addLast_45 : decode cJ1_addLast 45 = .ok (.aload_n 0, 1) := dk_42 (dk_at dksJ1_addLast_1 21 rfl rfl)
theorem dJ1_addLast_46 : decode cJ1_addLast 46 = .ok (.iconst 1, 1) := dk_4 (dk_at dksJ1_addLast_1 22 rfl rfl)
theorem dJ1_addLast_47 : decode cJ1_addLast 47 = .ok (.invokevirtual 71, 3) := dk_182 0 71 (dk_at dksJ1_addLast_2 0 rfl rfl)
theorem dJ1_addLast_50 : decode cJ1_addLast 50 = .ok (.return_, 1) := dk_177 (dk_at dksJ1_addLast_2 3 rfl rfl)
def dkwJ1_inc_0 : List UInt8 := [132, 0, 1, 26, 27, 161, 0, 5, 3, 59, 26, 172]
abbrev dktJ1_inc_0 : List UInt8 := dkwJ1_inc_0 ++ []
theorem dksJ1_inc_0 : cJ1_inc.data.toList.drop 0 = dktJ1_inc_0 := by decide +kernel
theorem dJ1_inc_0 : decode cJ1_inc 0 = .ok (.iinc 0 1, 3) := dk_132 0 1 (dk_at dksJ1_inc_0 0 rfl rfl)
theorem dJ1_inc_3 : decode cJ1_inc 3 = .ok (.iload_n 0, 1) := dk_26 (dk_at dksJ1_inc_0 3 rfl rfl)
theorem dJ1_inc_4 : decode cJ1_inc 4 = .ok (.iload_n 1, 1) := dk_27 (dk_at dksJ1_inc_0 4 rfl rfl)
theorem dJ1_inc_5 : decode cJ1_inc 5 = .ok (.if_icmp .lt 5, 3) := dk_161 0 5 (dk_at dksJ1_inc_0 5 rfl rfl)
theorem dJ1_inc_8 : decode cJ1_inc 8 = .ok (.iconst 0, 1) := dk_3 (dk_at dksJ1_inc_0 8 rfl rfl)
theorem dJ1_inc_9 : decode cJ1_inc 9 = .ok (.istore_n 0, 1) := dk_59 (dk_at dksJ1_inc_0 9 rfl rfl)
theorem dJ1_inc_10 : decode cJ1_inc 10 = .ok (.iload_n 0, 1) := dk_26 (dk_at dksJ1_inc_0 10 rfl rfl)
theorem dJ1_inc_11 : decode cJ1_inc 11 = .ok (.ireturn, 1) := dk_172 (dk_at dksJ1_inc_0 11 rfl rfl)
def dkwJ1_grow_7 : List UInt8 := [177]
abbrev dktJ1_grow_7 : List UInt8 := dkwJ1_grow_7 ++ []
def dkwJ1_grow_6 : List UInt8 := [181, 0, 24, 54, 8, 21, 7, 21, 8, 162, 0, 15, 25, 5, 21, 7, 1, 83, 132, 7, 1, 167, 255, 240]
abbrev dktJ1_grow_6 : List UInt8 := dkwJ1_grow_6 ++ dktJ1_grow_7
def dkwJ1_grow_5 : List UInt8 := [42, 180, 0, 24, 100, 184, 0, 27, 42, 180, 0, 24, 54, 7, 42, 89, 180, 0, 24, 21, 6, 96, 90]
abbrev dktJ1_grow_5 : List UInt8 := dkwJ1_grow_5 ++ dktJ1_grow_6
def dkwJ1_grow_4 : List UInt8 := [198, 0, 71, 29, 28, 100, 54, 6, 25, 5, 42, 180, 0, 24, 25, 5, 42, 180, 0, 24, 21, 6, 96, 28]
abbrev dktJ1_grow_4 : List UInt8 := dkwJ1_grow_4 ++ dktJ1_grow_5
def dkwJ1_grow_3 : List UInt8 := [180, 0, 24, 161, 0, 24, 42, 180, 0, 20, 42, 180, 0, 24, 160, 0, 81, 25, 5, 42, 180, 0, 24, 50]
abbrev dktJ1_grow_3 : List UInt8 := dkwJ1_grow_3 ++ dktJ1_grow_4
def dkwJ1_grow_2 : List UInt8 := [182, 0, 10, 62, 42, 42, 180, 0, 3, 29, 184, 0, 14, 90, 181, 0, 3, 58, 5, 42, 180, 0, 20, 42]
abbrev dktJ1_grow_2 : List UInt8 := dkwJ1_grow_2 ++ dktJ1_grow_3
def dkwJ1_grow_1 : List UInt8 := [21, 4, 27, 161, 0, 15, 28, 21, 4, 96, 89, 62, 18, 9, 100, 158, 0, 11, 42, 27, 21, 4]
abbrev dktJ1_grow_1 : List UInt8 := dkwJ1_grow_1 ++ dktJ1_grow_2
def dkwJ1_grow_0 : List UInt8 := [42, 180, 0, 3, 190, 61, 28, 16, 64, 162, 0, 9, 28, 5, 96, 167, 0, 6, 28, 4, 122, 54, 4]
abbrev dktJ1_grow_0 : List UInt8 := dkwJ1_grow_0 ++ dktJ1_grow_1
theorem dksJ1_grow_0 : cJ1_grow.data.toList.drop 0 = dktJ1_grow_0 := by decide +kernel
theorem dksJ1_grow_1 : cJ1_grow.data.toList.drop 23 = dktJ1_grow_1 := dk_seg dksJ1_grow_0 23 rfl rfl
theorem dksJ1_grow_2 : cJ1_grow.data.toList.drop 45 = dktJ1_grow_2 := dk_seg dksJ1_grow_1 22 rfl rfl
theorem dksJ1_grow_3 : cJ1_grow.data.toList.drop 69 = dktJ1_grow_3 := dk_seg dksJ1_grow_2 24 rfl rfl
theorem dksJ1_grow_4 : cJ1_grow.data.toList.drop 93 = dktJ1_grow_4 := dk_seg dksJ1_grow_3 24 rfl rfl
theorem dksJ1_grow_5 : cJ1_grow.data.toList.drop 117 = dktJ1_grow_5 := dk_seg dksJ1_grow_4 24 rfl rfl
theorem dksJ1_grow_6 : cJ1_grow.data.toList.drop 140 = dktJ1_grow_6 := dk_seg dksJ1_grow_5 23 rfl rfl
theorem dksJ1_grow_7 : cJ1_grow.data.toList.drop 164 = dktJ1_grow_7 := dk_seg dksJ1_grow_6 24 rfl rfl
theorem dJ1_grow_0 : decode cJ1_grow 0 = .ok (.aload_n 0, 1) := dk_42 (dk_at dksJ1_grow_0 0 rfl rfl)
theorem dJ1_grow_1 : decode cJ1_grow 1 = .ok (.getfield 3, 3) := dk_180 0 3 (dk_at dksJ1_grow_0 1 rfl rfl)
theorem dJ1_grow_4 : decode cJ1_grow 4 = .ok (.arraylength, 1) := dk_190 (dk_at dksJ1_grow_0 4 rfl rfl)
theorem dJ1_grow_5 : decode cJ1_grow 5 = .ok (.istore_n 2, 1) := dk_61 (dk_at dksJ1_grow_0 5 rfl rfl)
theorem dJ1_grow_6 : decode cJ1_grow 6 = .ok (.iload_n 2, 1) := dk_28 (dk_at dksJ1_grow_0 6 rfl rfl)
theorem dJ1_grow_7 : decode cJ1_grow 7 = .ok (.bipush 64, 2) := dk_16 64 (dk_at dksJ1_grow_0 7 rfl rfl)
theorem dJ1_grow_9 : decode cJ1_grow 9 = .ok (.if_icmp .ge 9, 3) := dk_162 0 9 (dk_at dksJ1_grow_0 9 rfl rfl)
theorem dJ1_grow_12 : decode cJ1_grow 12 = .ok (.iload_n 2, 1) := dk_28 (dk_at dksJ1_grow_0 12 rfl rfl)
theorem dJ1_grow_13 : decode cJ1_grow 13 = .ok (.iconst 2, 1) := dk_5 (dk_at dksJ1_grow_0 13 rfl rfl)
theorem dJ1_grow_14 : decode cJ1_grow 14 = .ok (.iadd, 1) := dk_96 (dk_at dksJ1_grow_0 14 rfl rfl)
theorem dJ1_grow_15 : decode cJ1_grow 15 = .ok (.goto 6, 3) := dk_167 0 6 (dk_at dksJ1_grow_0 15 rfl rfl)
theorem dJ1_grow_18 : decode cJ1_grow 18 = .ok (.iload_n 2, 1) := dk_28 (dk_at dksJ1_grow_0 18 rfl rfl)
theorem dJ1_grow_19 : decode cJ1_grow 19 = .ok (.iconst 1, 1) := dk_4 (dk_at dksJ1_grow_0 19 rfl rfl)
theorem dJ1_grow_20 : decode cJ1_grow 20 = .ok (.ishr, 1) := dk_122 (dk_at dksJ1_grow_0 20 rfl rfl)
theorem dJ1_grow_21 : decode cJ1_grow 21 = .ok (.istore 4, 2) := dk_54 4 (dk_at dksJ1_grow_0 21 rfl rfl)
theorem dJ1_grow_23 : decode cJ1_grow 23 = .ok (.iload 4, 2) := dk_21 4 (dk_at dksJ1_grow_1 0 rfl rfl)
theorem dJ1_grow_25 : decode cJ1_grow 25 = .ok (.iload_n 1, 1) := dk_27 (dk_at dksJ1_grow_1 2 rfl rfl)
theorem dJ1_grow_26 : decode cJ1_grow 26 = .ok (.if_icmp .lt 15, 3) := dk_161 0 15 (dk_at dksJ1_grow_1 3 rfl rfl)
theorem dJ1_grow_29 : decode cJ1_grow 29 = .ok (.iload_n 2, 1) := dk_28 (dk_at dksJ1_grow_1 6 rfl rfl)
theorem dJ1_grow_30 : decode cJ1_grow 30 = .ok (.iload 4, 2) := dk_21 4 (dk_at dksJ1_grow_1 7 rfl rfl)
theorem dJ1_grow_32 : decode cJ1_grow 32 = .ok (.iadd, 1) := dk_96 (dk_at dksJ1_grow_1 9 rfl rfl)
theorem dJ1_grow_33 : decode cJ1_grow 33 = .ok (.dup, 1) := dk_89 (dk_at dksJ1_grow_1 10 rfl rfl)
theorem dJ1_grow_34 : decode cJ1_grow 34 = .ok (.istore_n 3, 1) := dk_62 (dk_at dksJ1_grow_1 11 rfl rfl)
theorem dJ1_grow_35 : decode cJ1_grow 35 = .ok (.ldc 9, 2) := dk_18 9 (dk_at dksJ1_grow_1 12 rfl rfl)
theorem dJ1_grow_37 : decode cJ1_grow 37 = .ok (.isub, 1) := dk_100 (dk_at dksJ1_grow_1 14 rfl rfl)
theorem dJ1_grow_38 : decode cJ1_grow 38 = .ok (.ifCond .le 11, 3) := dk_158 0 11 (dk_at dksJ1_grow_1 15 rfl rfl)
theorem dJ1_grow_41 : decode cJ1_grow 41 = .ok (.aload_n 0, 1) := dk_42 (dk_at dksJ1_grow_1 18 rfl rfl)
theorem dJ1_grow_42 : decode cJ1_grow 42 = .ok (.iload_n 1, 1) := dk_27 (dk_at dksJ1_grow_1 19 rfl rfl)
theorem dJ1_grow_43 : decode cJ1_grow 43 = .ok (.iload 4, 2) := dk_21 4 (dk_at dksJ1_grow_1 20 rfl rfl)
theorem dJ1_grow_45 : decode cJ1_grow 45 = .ok (.invokevirtual 10, 3) := dk_182 0 10 (dk_at dksJ1_grow_2 0 rfl rfl)
theorem dJ1_grow_48 : decode cJ1_grow 48 = .ok (.istore_n 3, 1) := dk_62 (dk_at dksJ1_grow_2 3 rfl rfl)
theorem dJ1_grow_49 : decode cJ1_grow 49 = .ok (.aload_n 0, 1) := dk_42 (dk_at dksJ1_grow_2 4 rfl rfl)
theorem dJ1_grow_50 : decode cJ1_grow 50 = .ok (.aload_n 0, 1) := dk_42 (dk_at dksJ1_grow_2 5 rfl rfl)
theorem dJ1_grow_51 : decode cJ1_grow 51 = .ok (.getfield 3, 3) := dk_180 0 3 (dk_at dksJ1_grow_2 6 rfl rfl)
theorem dJ1_grow_54 : decode cJ1_grow 54 = .ok (.iload_n 3, 1) := dk_29 (dk_at dksJ1_grow_2 9 rfl rfl)
theorem dJ1_grow_55 : decode cJ1_grow 55 = .ok (.invokestatic 14, 3) := dk_184 0 14 (dk_at dksJ1_grow_2 10 rfl rfl)
theorem dJ1_grow_58 : decode cJ1_grow 58 = .ok (.dup_x1, 1) := dk_90 (dk_at dksJ1_grow_2 13 rfl rfl)
theorem dJ1_grow_59 : decode cJ1_grow 59 = .ok (.putfield 3, 3) := dk_181 0 3 (dk_at dksJ1_grow_2 14 rfl rfl)
theorem dJ1_grow_62 : decode cJ1_grow 62 = .ok (.astore 5, 2) := dk_58 5 (dk_at dksJ1_grow_2 17 rfl rfl)
theorem dJ1_grow_64 : decode cJ1_grow 64 = .ok (.aload_n 0, 1) := dk_42 (dk_at dksJ1_grow_2 19 rfl rfl)
theorem dJ1_grow_65 : decode cJ1_grow 65 = .ok (.getfield 20, 3) := dk_180 0 20 (dk_at dksJ1_grow_2 20 rfl rfl)
theorem dJ1_grow_68 : decode cJ1_grow 68 = .ok (.aload_n 0, 1) := dk_42 (dk_at dksJ1_grow_2 23 rfl rfl)
theorem dJ1_grow_69 : decode cJ1_grow 69 = .ok (.getfield 24, 3) := dk_180 0 24 (dk_at dksJ1_grow_3 0 rfl rfl)
theorem dJ1_grow_72 : decode cJ1_grow 72 = .ok (.if_icmp .lt 24, 3) := dk_161 0 24 (dk_at dksJ1_grow_3 3 rfl rfl)
theorem dJ1_grow_75 : decode cJ1_grow 75 = .ok (.aload_n 0, 1) := dk_42 (dk_at dksJ1_grow_3 6 rfl rfl)
theorem dJ1_grow_76 : decode cJ1_grow 76 = .ok (.getfield 20, 3) := dk_180 0 20 (dk_at dksJ1_grow_3 7 rfl rfl)
theorem dJ1_grow_79 : decode cJ1_grow 79 = .ok (.aload_n 0, 1) := dk_42 (dk_at dksJ1_grow_3 10 rfl rfl)
theorem dJ1_grow_80 : decode cJ1_grow 80 = .ok (.getfield 24, 3) := dk_180 0 24 (dk_at dksJ1_grow_3 11 rfl rfl)
theorem dJ1_grow_83 : decode cJ1_grow 83 = .ok (.if_icmp .ne 81, 3) := dk_160 0 81 (dk_at dksJ1_grow_3 14 rfl rfl)
theorem dJ1_grow_86 : decode cJ1_grow 86 = .ok (.aload 5, 2) := dk_25 5 (dk_at dksJ1_grow_3 17 rfl rfl)
theorem dJ1_grow_88 : decode cJ1_grow 88 = .ok (.aload_n 0, 1) := dk_42 (dk_at dksJ1_grow_3 19 rfl rfl)
theorem dJ1_grow_89 : decode cJ1_grow 89 = .ok (.getfield 24, 3) := dk_180 0 24 (dk_at dksJ1_grow_3 20 rfl rfl)
theorem dJ1_grow_92 : decode cJ1_grow 92 = .ok (.aaload, 1) := dk_50 (dk_at dksJ1_grow_3 23 rfl rfl)
theorem dJ1_grow_93 : decode cJ1_grow 93 = .ok (.ifnull 71, 3) := dk_198 0 71 (dk_at dksJ1_grow_4 0 rfl rfl)
theorem dJ1_grow_96 : decode cJ1_grow 96 = .ok (.iload_n 3, 1) := dk_29 (dk_at dksJ1_grow_4 3 rfl rfl)
theorem dJ1_grow_97 : decode cJ1_grow 97 = .ok (.iload_n 2, 1) := dk_28 (dk_at dksJ1_grow_4 4 rfl rfl)
theorem dJ1_grow_98 : decode cJ1_grow 98 = .ok (.isub, 1) := dk_100 (dk_at dksJ1_grow_4 5 rfl rfl)
theorem dJ1_grow_99 : decode cJ1_grow 99 = .ok (.istore 6, 2) := dk_54 6 (dk_at dksJ1_grow_4 6 rfl rfl)
theorem dJ1_grow_101 : decode cJ1_grow 101 = .ok (.aload 5, 2) := dk_25 5 (dk_at dksJ1_grow_4 8 rfl rfl)
theorem dJ1_grow_103 : decode cJ1_grow 103 = .ok (.aload_n 0, 1) := dk_42 (dk_at dksJ1_grow_4 10 rfl rfl)
theorem dJ1_grow_104 : decode cJ1_grow 104 = .ok (.getfield 24, 3) := dk_180 0 24 (dk_at dksJ1_grow_4 11 rfl rfl)
theorem dJ1_grow_107 : decode cJ1_grow 107 = .ok (.aload 5, 2) := dk_25 5 (dk_at dksJ1_grow_4 14 rfl rfl)
theorem dJ1_grow_109 : decode cJ1_grow 109 = .ok (.aload_n 0, 1) := dk_42 (dk_at dksJ1_grow_4 16 rfl rfl)
theorem dJ1_grow_110 : decode cJ1_grow 110 = .ok (.getfield 24, 3) := dk_180 0 24 (dk_at dksJ1_grow_4 17 rfl rfl)
theorem dJ1_grow_113 : decode cJ1_grow 113 = .ok (.iload 6, 2) := dk_21 6 (dk_at dksJ1_grow_4 20 rfl rfl)
theorem dJ1_grow_115 : decode cJ1_grow 115 = .ok (.iadd, 1) := dk_96 (dk_at dksJ1_grow_4 22 rfl rfl)
theorem dJ1_grow_116 : decode cJ1_grow 116 = .ok (.iload_n 2, 1) := dk_28 (dk_at dksJ1_grow_4 23 rfl rfl)
theorem dJ1_grow_117 : decode cJ1_grow 117 = .ok (.aload_n 0, 1) := dk_42 (dk_at dksJ1_grow_5 0 rfl rfl)
theorem dJ1_grow_118 : decode cJ1_grow 118 = .ok (.getfield 24, 3) := dk_180 0 24 (dk_at dksJ1_grow_5 1 rfl rfl)
theorem dJ1_grow_121 : decode cJ1_grow 121 = .ok (.isub, 1) := dk_100 (dk_at dksJ1_grow_5 4 rfl rfl)
theorem dJ1_grow_122 : decode cJ1_grow 122 = .ok (.invokestatic 27, 3) := dk_184 0 27 (dk_at dksJ1_grow_5 5 rfl rfl)
theorem dJ1_grow_125 : decode cJ1_grow 125 = .ok (.aload_n 0, 1) := dk_42 (dk_at dksJ1_grow_5 8 rfl rfl)
theorem dJ1_grow_126 : decode cJ1_grow 126 = .ok (.getfield 24, 3) := dk_180 0 24 (dk_at dksJ1_grow_5 9 rfl rfl)
theorem dJ1_grow_129 : decode cJ1_grow 129 = .ok (.istore 7, 2) := dk_54 7 (dk_at dksJ1_grow_5 12 rfl rfl)
theorem dJ1_grow_131 : decode cJ1_grow 131 = .ok (.aload_n 0, 1) := dk_42 (dk_at dksJ1_grow_5 14 rfl rfl)
theorem dJ1_grow_132 : decode cJ1_grow 132 = .ok (.dup, 1) := dk_89 (dk_at dksJ1_grow_5 15 rfl rfl)
theorem dJ1_grow_133 : decode cJ1_grow 133 = .ok (.getfield 24, 3) := dk_180 0 24 (dk_at dksJ1_grow_5 16 rfl rfl)
theorem dJ1_grow_136 : decode cJ1_grow 136 = .ok (.iload 6, 2) := dk_21 6 (dk_at dksJ1_grow_5 19 rfl rfl)
theorem dJ1_grow_138 : decode cJ1_grow 138 = .ok (.iadd, 1) := dk_96 (dk_at dksJ1_grow_5 21 rfl rfl)
theorem dJ1_grow_139 : decode cJ1_grow 139 = .ok (.dup_x1, 1) := dk_90 (dk_at dksJ1_grow_5 22 rfl rfl)
theorem dJ1_grow_140 : decode cJ1_grow 140 = .ok (.putfield 24, 3) := dk_181 0 24 (dk_at dksJ1_grow_6 0 rfl rfl)
theorem dJ1_grow_143 : decode cJ1_grow 143 = .ok (.istore 8, 2) := dk_54 8 (dk_at dksJ1_grow_6 3 rfl rfl)
theorem dJ1_grow_145 : decode cJ1_grow 145 = .ok (.iload 7, 2) := dk_21 7 (dk_at dksJ1_grow_6 5 rfl rfl)
theorem dJ1_grow_147 : decode cJ1_grow 147 = .ok (.iload 8, 2) := dk_21 8 (dk_at dksJ1_grow_6 7 rfl rfl)
theorem dJ1_grow_149 : decode cJ1_grow 149 = .ok (.if_icmp .ge 15, 3) := dk_162 0 15 (dk_at dksJ1_grow_6 9 rfl rfl)
theorem dJ1_grow_152 : decode cJ1_grow 152 = .ok (.aload 5, 2) := dk_25 5 (dk_at dksJ1_grow_6 12 rfl rfl)
theorem dJ1_grow_154 : decode cJ1_grow 154 = .ok (.iload 7, 2) := dk_21 7 (dk_at dksJ1_grow_6 14 rfl rfl)
theorem dJ1_grow_156 : decode cJ1_grow 156 = .ok (.aconst_null, 1) := dk_1 (dk_at dksJ1_grow_6 16 rfl rfl)
theorem dJ1_grow_157 : decode cJ1_grow 157 = .ok (.aastore, 1) := dk_83 (dk_at dksJ1_grow_6 17 rfl rfl)
theorem dJ1_grow_158 : decode cJ1_grow 158 = .ok (.iinc 7 1, 3) := dk_132 7 1 (dk_at dksJ1_grow_6 18 rfl rfl)
theorem dJ1_grow_161 : decode cJ1_grow 161 = .ok (.goto (-16), 3) := dk_167 255 240 (dk_at dksJ1_grow_6 21 rfl rfl)
theorem dJ1_grow_164 : decode cJ1_grow 164 = .ok (.return_, 1) := dk_177 (dk_at dksJ1_grow_7 0 rfl rfl)
def dkwJ1_newCapacity_2 : List UInt8 := [18, 9, 100, 156, 0, 9, 29, 28, 96, 167, 0, 5, 18, 9, 172]
abbrev dktJ1_newCapacity_2 : List UInt8 := dkwJ1_newCapacity_2 ++ []
def dkwJ1_newCapacity_1 : List UInt8 := [187, 0, 33, 89, 18, 35, 183, 0, 37, 191, 18, 41, 172, 27, 28, 164, 0, 6, 21, 4, 172, 29, 28, 96]
abbrev dktJ1_newCapacity_1 : List UInt8 := dkwJ1_newCapacity_1 ++ dktJ1_newCapacity_2
def dkwJ1_newCapacity_0 : List UInt8 := [42, 180, 0, 3, 190, 62, 29, 27, 96, 89, 54, 4, 18, 9, 100, 158, 0, 21, 21, 4, 156, 0, 13]
abbrev dktJ1_newCapacity_0 : List UInt8 := dkwJ1_newCapacity_0 ++ dktJ1_newCapacity_1
theorem dksJ1_newCapacity_0 : cJ1_newCapacity.data.toList.drop 0 = dktJ1_newCapacity_0 := by decide +kernel
theorem dksJ1_newCapacity_1 : cJ1_newCapacity.data.toList.drop 23 = dktJ1_newCapacity_1 := dk_seg dksJ1_newCapacity_0 23 rfl rfl
theorem dksJ1_newCapacity_2 : cJ1_newCapacity.data.toList.drop 47 = dktJ1_newCapacity_2 := dk_seg dksJ1_newCapacity_1 24 rfl rfl
theorem dJ1_newCapacity_0 : decode cJ1_newCapacity 0 = .ok (.aload_n 0, 1) := dk_42 (dk_at dksJ1_newCapacity_0 0 rfl rfl)
theorem dJ1_newCapacity_1 : decode cJ1_newCapacity 1 = .ok (.getfield 3, 3) := dk_180 0 3 (dk_at dksJ1_newCapacity_0 1 rfl rfl)
theorem dJ1_newCapacity_4 : decode cJ1_newCapacity 4 = .ok (.arraylength, 1) := dk_190 (dk_at dksJ1_newCapacity_0 4 rfl rfl)
theorem dJ1_newCapacity_5 : decode cJ1_newCapacity 5 = .ok (.istore_n 3, 1) := dk_62 (dk_at dksJ1_newCapacity_0 5 rfl rfl)
theorem dJ1_newCapacity_6 : decode cJ1_newCapacity 6 = .ok (.iload_n 3, 1) := dk_29 (dk_at dksJ1_newCapacity_0 6 rfl rfl)
theorem dJ1_newCapacity_7 : decode cJ1_newCapacity 7 = .ok (.iload_n 1, 1) := dk_27 (dk_at dksJ1_newCapacity_0 7 rfl rfl)
theorem dJ1_newCapacity_8 : decode cJ1_newCapacity 8 = .ok (.iadd, 1) := dk_96 (dk_at dksJ1_newCapacity_0 8 rfl rfl)
theorem dJ1_newCapacity_9 : decode cJ1_newCapacity 9 = .ok (.dup, 1) := dk_89 (dk_at dksJ1_newCapacity_0 9 rfl rfl)
theorem dJ1_newCapacity_10 : decode cJ1_newCapacity 10 = .ok (.istore 4, 2) := dk_54 4 (dk_at dksJ1_newCapacity_0 10 rfl rfl)
theorem dJ1_newCapacity_12 : decode cJ1_newCapacity 12 = .ok (.ldc 9, 2) := dk_18 9 (dk_at dksJ1_newCapacity_0 12 rfl rfl)
theorem dJ1_newCapacity_14 : decode cJ1_newCapacity 14 = .ok (.isub, 1) := dk_100 (dk_at dksJ1_newCapacity_0 14 rfl rfl)
theorem dJ1_newCapacity_15 : decode cJ1_newCapacity 15 = .ok (.ifCond .le 21, 3) := dk_158 0 21 (dk_at dksJ1_newCapacity_0 15 rfl rfl)
theorem dJ1_newCapacity_18 : decode cJ1_newCapacity 18 = .ok (.iload 4, 2) := dk_21 4 (dk_at dksJ1_newCapacity_0 18 rfl rfl)
theorem dJ1_newCapacity_20 : decode cJ1_newCapacity 20 = .ok (.ifCond .ge 13, 3) := dk_156 0 13 (dk_at dksJ1_newCapacity_0 20 rfl rfl)
theorem dJ1_newCapacity_23 : decode cJ1_newCapacity 23 = .ok (.new 33, 3) := dk_187 0 33 (dk_at dksJ1_newCapacity_1 0 rfl rfl)
theorem dJ1_newCapacity_26 : decode cJ1_newCapacity 26 = .ok (.dup, 1) := dk_89 (dk_at dksJ1_newCapacity_1 3 rfl rfl)
theorem dJ1_newCapacity_27 : decode cJ1_newCapacity 27 = .ok (.ldc 35, 2) := dk_18 35 (dk_at dksJ1_newCapacity_1 4 rfl rfl)
theorem dJ1_newCapacity_29 : decode cJ1_newCapacity 29 = .ok (.invokespecial 37, 3) := dk_183 0 37 (dk_at dksJ1_newCapacity_1 6 rfl rfl)
theorem dJ1_newCapacity_32 : decode cJ1_newCapacity 32 = .ok (.athrow, 1) := dk_191 (dk_at dksJ1_newCapacity_1 9 rfl rfl)
theorem dJ1_newCapacity_33 : decode cJ1_newCapacity 33 = .ok (.ldc 41, 2) := dk_18 41 (dk_at dksJ1_newCapacity_1 10 rfl rfl)
theorem dJ1_newCapacity_35 : decode cJ1_newCapacity 35 = .ok (.ireturn, 1) := dk_172 (dk_at dksJ1_newCapacity_1 12 rfl rfl)
theorem dJ1_newCapacity_36 : decode cJ1_newCapacity 36 = .ok (.iload_n 1, 1) := dk_27 (dk_at dksJ1_newCapacity_1 13 rfl rfl)
theorem dJ1_newCapacity_37 : decode cJ1_newCapacity 37 = .ok (.iload_n 2, 1) := dk_28 (dk_at dksJ1_newCapacity_1 14 rfl rfl)
theorem dJ1_newCapacity_38 : decode cJ1_newCapacity 38 = .ok (.if_icmp .le 6, 3) := dk_164 0 6 (dk_at dksJ1_newCapacity_1 15 rfl rfl)
theorem dJ1_newCapacity_41 : decode cJ1_newCapacity 41 = .ok (.iload 4, 2) := dk_21 4 (dk_at dksJ1_newCapacity_1 18 rfl rfl)
theorem dJ1_newCapacity_43 : decode cJ1_newCapacity 43 = .ok (.ireturn, 1) := dk_172 (dk_at dksJ1_newCapacity_1 20 rfl rfl)
theorem dJ1_newCapacity_44 : decode cJ1_newCapacity 44 = .ok (.iload_n 3, 1) := dk_29 (dk_at dksJ1_newCapacity_1 21 rfl rfl)
theorem dJ1_newCapacity_45 : decode cJ1_newCapacity 45 = .ok (.iload_n 2, 1) := dk_28 (dk_at dksJ1_newCapacity_1 22 rfl rfl)
theorem dJ1_newCapacity_46 : decode cJ1_newCapacity 46 = .ok (.iadd, 1) := dk_96 (dk_at dksJ1_newCapacity_1 23 rfl rfl)
theorem dJ1_newCapacity_47 : decode cJ1_newCapacity 47 = .ok (.ldc 9, 2) := dk_18 9 (dk_at dksJ1_newCapacity_2 0 rfl rfl)
theorem dJ1_newCapacity_49 : decode cJ1_newCapacity 49 = .ok (.isub, 1) := dk_100 (dk_at dksJ1_newCapacity_2 2 rfl rfl)
theorem dJ1_newCapacity_50 : decode cJ1_newCapacity 50 = .ok (.ifCond .ge 9, 3) := dk_156 0 9 (dk_at dksJ1_newCapacity_2 3 rfl rfl)
theorem dJ1_newCapacity_53 : decode cJ1_newCapacity 53 = .ok (.iload_n 3, 1) := dk_29 (dk_at dksJ1_newCapacity_2 6 rfl rfl)
theorem dJ1_newCapacity_54 : decode cJ1_newCapacity 54 = .ok (.iload_n 2, 1) := dk_28 (dk_at dksJ1_newCapacity_2 7 rfl rfl)
theorem dJ1_newCapacity_55 : decode cJ1_newCapacity 55 = .ok (.iadd, 1) := dk_96 (dk_at dksJ1_newCapacity_2 8 rfl rfl)
theorem dJ1_newCapacity_56 : decode cJ1_newCapacity 56 = .ok (.goto 5, 3) := dk_167 0 5 (dk_at dksJ1_newCapacity_2 9 rfl rfl)
theorem dJ1_newCapacity_59 : decode cJ1_newCapacity 59 = .ok (.ldc 9, 2) := dk_18 9 (dk_at dksJ1_newCapacity_2 12 rfl rfl)
theorem dJ1_newCapacity_61 : decode cJ1_newCapacity 61 = .ok (.ireturn, 1) := dk_172 (dk_at dksJ1_newCapacity_2 14 rfl rfl)
def dkwJ1_isEmpty_0 : List UInt8 := [42, 180, 0, 24, 42, 180, 0, 20, 160, 0, 7, 4, 167, 0, 4, 3, 172]
abbrev dktJ1_isEmpty_0 : List UInt8 := dkwJ1_isEmpty_0 ++ []
theorem dksJ1_isEmpty_0 : cJ1_isEmpty.data.toList.drop 0 = dktJ1_isEmpty_0 := by decide +kernel
theorem dJ1_isEmpty_0 : decode cJ1_isEmpty 0 = .ok (.aload_n 0, 1) := dk_42 (dk_at dksJ1_isEmpty_0 0 rfl rfl)
theorem dJ1_isEmpty_1 : decode cJ1_isEmpty 1 = .ok (.getfield 24, 3) := dk_180 0 24 (dk_at dksJ1_isEmpty_0 1 rfl rfl)
theorem dJ1_isEmpty_4 : decode cJ1_isEmpty 4 = .ok (.aload_n 0, 1) := dk_42 (dk_at dksJ1_isEmpty_0 4 rfl rfl)
theorem dJ1_isEmpty_5 : decode cJ1_isEmpty 5 = .ok (.getfield 20, 3) := dk_180 0 20 (dk_at dksJ1_isEmpty_0 5 rfl rfl)
theorem dJ1_isEmpty_8 : decode cJ1_isEmpty 8 = .ok (.if_icmp .ne 7, 3) := dk_160 0 7 (dk_at dksJ1_isEmpty_0 8 rfl rfl)
theorem dJ1_isEmpty_11 : decode cJ1_isEmpty 11 = .ok (.iconst 1, 1) := dk_4 (dk_at dksJ1_isEmpty_0 11 rfl rfl)
theorem dJ1_isEmpty_12 : decode cJ1_isEmpty 12 = .ok (.goto 4, 3) := dk_167 0 4 (dk_at dksJ1_isEmpty_0 12 rfl rfl)
theorem dJ1_isEmpty_15 : decode cJ1_isEmpty 15 = .ok (.iconst 0, 1) := dk_3 (dk_at dksJ1_isEmpty_0 15 rfl rfl)
theorem dJ1_isEmpty_16 : decode cJ1_isEmpty 16 = .ok (.ireturn, 1) := dk_172 (dk_at dksJ1_isEmpty_0 16 rfl rfl)
def dkwJ1_removeFirst_0 : List UInt8 := [42, 182, 0, 93, 76, 43, 199, 0, 11, 187, 0, 97, 89, 183, 0, 99, 191, 43, 176]
abbrev dktJ1_removeFirst_0 : List UInt8 := dkwJ1_removeFirst_0 ++ []
theorem dksJ1_removeFirst_0 : cJ1_removeFirst.data.toList.drop 0 = dktJ1_removeFirst_0 := by decide +kernel
theorem dJ1_removeFirst_0 : decode cJ1_removeFirst 0 = .ok (.aload_n 0, 1) := dk_42 (dk_at dksJ1_removeFirst_0 0 rfl rfl)
theorem dJ1_removeFirst_1 : decode cJ1_removeFirst 1 = .ok (.invokevirtual 93, 3) := dk_182 0 93 (dk_at dksJ1_removeFirst_0 1 rfl rfl)
theorem dJ1_removeFirst_4 : decode cJ1_removeFirst 4 = .ok (.astore_n 1, 1) := dk_76 (dk_at dksJ1_removeFirst_0 4 rfl rfl)
theorem dJ1_removeFirst_5 : decode cJ1_removeFirst 5 = .ok (.aload_n 1, 1) := dk_43 (dk_at dksJ1_removeFirst_0 5 rfl rfl)
theorem dJ1_removeFirst_6 : decode cJ1_removeFirst 6 = .ok (.ifnonnull 11, 3) := dk_199 0 11 (dk_at dksJ1_removeFirst_0 6 rfl rfl)
theorem dJ1_removeFirst_9 : decode cJ1_removeFirst 9 = .ok (.new 97, 3) := dk_187 0 97 (dk_at dksJ1_removeFirst_0 9 rfl rfl)
theorem dJ1_removeFirst_12 : decode cJ1_removeFirst 12 = .ok (.dup, 1) := dk_89 (dk_at dksJ1_removeFirst_0 12 rfl rfl)
theorem dJ1_removeFirst_13 : decode cJ1_removeFirst 13 = .ok (.invokespecial 99, 3) := dk_183 0 99 (dk_at dksJ1_removeFirst_0 13 rfl rfl)
theorem dJ1_removeFirst_16 : decode cJ1_removeFirst 16 = .ok (.athrow, 1) := dk_191 (dk_at dksJ1_removeFirst_0 16 rfl rfl)
theorem dJ1_removeFirst_17 : decode cJ1_removeFirst 17 = .ok (.aload_n 1, 1) := dk_43 (dk_at dksJ1_removeFirst_0 17 rfl rfl)
theorem dJ1_removeFirst_18 : decode cJ1_removeFirst 18 = .ok (.areturn, 1) := dk_176 (dk_at dksJ1_removeFirst_0 18 rfl rfl)
def dkwJ1_pollFirst_1 : List UInt8 := [42, 28, 43, 190, 184, 0, 74, 181, 0, 24, 45, 176]
abbrev dktJ1_pollFirst_1 : List UInt8 := dkwJ1_pollFirst_1 ++ []
def dkwJ1_pollFirst_0 : List UInt8 := [42, 180, 0, 3, 89, 76, 42, 180, 0, 24, 89, 61, 184, 0, 103, 78, 45, 198, 0, 17, 43, 28, 1, 83]
abbrev dktJ1_pollFirst_0 : List UInt8 := dkwJ1_pollFirst_0 ++ dktJ1_pollFirst_1
theorem dksJ1_pollFirst_0 : cJ1_pollFirst.data.toList.drop 0 = dktJ1_pollFirst_0 := by decide +kernel
theorem dksJ1_pollFirst_1 : cJ1_pollFirst.data.toList.drop 24 = dktJ1_pollFirst_1 := dk_seg dksJ1_pollFirst_0 24 rfl rfl
theorem dJ1_pollFirst_0 : decode cJ1_pollFirst 0 = .ok (.aload_n 0, 1) := dk_42 (dk_at dksJ1_pollFirst_0 0 rfl rfl)
theorem dJ1_pollFirst_1 : decode cJ1_pollFirst 1 = .ok (.getfield 3, 3) := dk_180 0 3 (dk_at dksJ1_pollFirst_0 1 rfl rfl)
theorem dJ1_pollFirst_4 : decode cJ1_pollFirst 4 = .ok (.dup, 1) := dk_89 (dk_at dksJ1_pollFirst_0 4 rfl rfl)
theorem dJ1_pollFirst_5 : decode cJ1_pollFirst 5 = .ok (.astore_n 1, 1) := dk_76 (dk_at dksJ1_pollFirst_0 5 rfl rfl)
theorem dJ1_pollFirst_6 : decode cJ1_pollFirst 6 = .ok (.aload_n 0, 1) := dk_42 (dk_at dksJ1_pollFirst_0 6 rfl rfl)
theorem dJ1_pollFirst_7 : decode cJ1_pollFirst 7 = .ok (.getfield 24, 3) := dk_180 0 24 (dk_at dksJ1_pollFirst_0 7 rfl rfl)
theorem dJ1_pollFirst_10 : decode cJ1_pollFirst 10 = .ok (.dup, 1) := dk_89 (dk_at dksJ1_pollFirst_0 10 rfl rfl)
theorem dJ1_pollFirst_11 : decode cJ1_pollFirst 11 = .ok (.istore_n 2, 1) := dk_61 (dk_at dksJ1_pollFirst_0 11 rfl rfl)
theorem dJ1_pollFirst_12 : decode cJ1_pollFirst 12 = .ok (.invokestatic 103, 3) := dk_184 0 103 (dk_at dksJ1_pollFirst_0 12 rfl rfl)
theorem dJ1_pollFirst_15 : decode cJ1_pollFirst 15 = .ok (.astore_n 3, 1) := dk_78 (dk_at dksJ1_pollFirst_0 15 rfl rfl)
theorem dJ1_pollFirst_16 : decode cJ1_pollFirst 16 = .ok (.aload_n 3, 1) := dk_45 (dk_at dksJ1_pollFirst_0 16 rfl rfl)
theorem dJ1_pollFirst_17 : decode cJ1_pollFirst 17 = .ok (.ifnull 17, 3) := dk_198 0 17 (dk_at dksJ1_pollFirst_0 17 rfl rfl)
theorem dJ1_pollFirst_20 : decode cJ1_pollFirst 20 = .ok (.aload_n 1, 1) := dk_43 (dk_at dksJ1_pollFirst_0 20 rfl rfl)
theorem dJ1_pollFirst_21 : decode cJ1_pollFirst 21 = .ok (.iload_n 2, 1) := dk_28 (dk_at dksJ1_pollFirst_0 21 rfl rfl)
theorem dJ1_pollFirst_22 : decode cJ1_pollFirst 22 = .ok (.aconst_null, 1) := dk_1 (dk_at dksJ1_pollFirst_0 22 rfl rfl)
theorem dJ1_pollFirst_23 : decode cJ1_pollFirst 23 = .ok (.aastore, 1) := dk_83 (dk_at dksJ1_pollFirst_0 23 rfl rfl)
theorem dJ1_pollFirst_24 : decode cJ1_pollFirst 24 = .ok (.aload_n 0, 1) := dk_42 (dk_at dksJ1_pollFirst_1 0 rfl rfl)
theorem dJ1_pollFirst_25 : decode cJ1_pollFirst 25 = .ok (.iload_n 2, 1) := dk_28 (dk_at dksJ1_pollFirst_1 1 rfl rfl)
theorem dJ1_pollFirst_26 : decode cJ1_pollFirst 26 = .ok (.aload_n 1, 1) := dk_43 (dk_at dksJ1_pollFirst_1 2 rfl rfl)
theorem dJ1_pollFirst_27 : decode cJ1_pollFirst 27 = .ok (.arraylength, 1) := dk_190 (dk_at dksJ1_pollFirst_1 3 rfl rfl)
theorem dJ1_pollFirst_28 : decode cJ1_pollFirst 28 = .ok (.invokestatic 74, 3) := dk_184 0 74 (dk_at dksJ1_pollFirst_1 4 rfl rfl)
theorem dJ1_pollFirst_31 : decode cJ1_pollFirst 31 = .ok (.putfield 24, 3) := dk_181 0 24 (dk_at dksJ1_pollFirst_1 7 rfl rfl)
theorem dJ1_pollFirst_34 : decode cJ1_pollFirst 34 = .ok (.aload_n 3, 1) := dk_45 (dk_at dksJ1_pollFirst_1 10 rfl rfl)
theorem dJ1_pollFirst_35 : decode cJ1_pollFirst 35 = .ok (.areturn, 1) := dk_176 (dk_at dksJ1_pollFirst_1 11 rfl rfl)
def dkwJ1_elementAt_0 : List UInt8 := [42, 27, 50, 176]
abbrev dktJ1_elementAt_0 : List UInt8 := dkwJ1_elementAt_0 ++ []
theorem dksJ1_elementAt_0 : cJ1_elementAt.data.toList.drop 0 = dktJ1_elementAt_0 := by decide +kernel
theorem dJ1_elementAt_0 : decode cJ1_elementAt 0 = .ok (.aload_n 0, 1) := dk_42 (dk_at dksJ1_elementAt_0 0 rfl rfl)
theorem dJ1_elementAt_1 : decode cJ1_elementAt 1 = .ok (.iload_n 1, 1) := dk_27 (dk_at dksJ1_elementAt_0 1 rfl rfl)
theorem dJ1_elementAt_2 : decode cJ1_elementAt 2 = .ok (.aaload, 1) := dk_50 (dk_at dksJ1_elementAt_0 2 rfl rfl)
theorem dJ1_elementAt_3 : decode cJ1_elementAt 3 = .ok (.areturn, 1) := dk_176 (dk_at dksJ1_elementAt_0 3 rfl rfl)
def dkwJ1_size_0 : List UInt8 := [42, 180, 0, 20, 42, 180, 0, 24, 42, 180, 0, 3, 190, 184, 0, 127, 172]
abbrev dktJ1_size_0 : List UInt8 := dkwJ1_size_0 ++ []
theorem dksJ1_size_0 : cJ1_size.data.toList.drop 0 = dktJ1_size_0 := by decide +kernel
theorem dJ1_size_0 : decode cJ1_size 0 = .ok (.aload_n 0, 1) := dk_42 (dk_at dksJ1_size_0 0 rfl rfl)
theorem dJ1_size_1 : decode cJ1_size 1 = .ok (.getfield 20, 3) := dk_180 0 20 (dk_at dksJ1_size_0 1 rfl rfl)
theorem dJ1_size_4 : decode cJ1_size 4 = .ok (.aload_n 0, 1) := dk_42 (dk_at dksJ1_size_0 4 rfl rfl)
theorem dJ1_size_5 : decode cJ1_size 5 = .ok (.getfield 24, 3) := dk_180 0 24 (dk_at dksJ1_size_0 5 rfl rfl)
theorem dJ1_size_8 : decode cJ1_size 8 = .ok (.aload_n 0, 1) := dk_42 (dk_at dksJ1_size_0 8 rfl rfl)
theorem dJ1_size_9 : decode cJ1_size 9 = .ok (.getfield 3, 3) := dk_180 0 3 (dk_at dksJ1_size_0 9 rfl rfl)
theorem dJ1_size_12 : decode cJ1_size 12 = .ok (.arraylength, 1) := dk_190 (dk_at dksJ1_size_0 12 rfl rfl)
theorem dJ1_size_13 : decode cJ1_size 13 = .ok (.invokestatic 127, 3) := dk_184 0 127 (dk_at dksJ1_size_0 13 rfl rfl)
theorem dJ1_size_16 : decode cJ1_size 16 = .ok (.ireturn, 1) := dk_172 (dk_at dksJ1_size_0 16 rfl rfl)
def dkwJ1_sub_0 : List UInt8 := [26, 27, 100, 89, 59, 156, 0, 7, 26, 28, 96, 59, 26, 172]
abbrev dktJ1_sub_0 : List UInt8 := dkwJ1_sub_0 ++ []
theorem dksJ1_sub_0 : cJ1_sub.data.toList.drop 0 = dktJ1_sub_0 := by decide +kernel
theorem dJ1_sub_0 : decode cJ1_sub 0 = .ok (.iload_n 0, 1) := dk_26 (dk_at dksJ1_sub_0 0 rfl rfl)
theorem dJ1_sub_1 : decode cJ1_sub 1 = .ok (.iload_n 1, 1) := dk_27 (dk_at dksJ1_sub_0 1 rfl rfl)
theorem dJ1_sub_2 : decode cJ1_sub 2 = .ok (.isub, 1) := dk_100 (dk_at dksJ1_sub_0 2 rfl rfl)
theorem dJ1_sub_3 : decode cJ1_sub 3 = .ok (.dup, 1) := dk_89 (dk_at dksJ1_sub_0 3 rfl rfl)
theorem dJ1_sub_4 : decode cJ1_sub 4 = .ok (.istore_n 0, 1) := dk_59 (dk_at dksJ1_sub_0 4 rfl rfl)
theorem dJ1_sub_5 : decode cJ1_sub 5 = .ok (.ifCond .ge 7, 3) := dk_156 0 7 (dk_at dksJ1_sub_0 5 rfl rfl)
theorem dJ1_sub_8 : decode cJ1_sub 8 = .ok (.iload_n 0, 1) := dk_26 (dk_at dksJ1_sub_0 8 rfl rfl)
theorem dJ1_sub_9 : decode cJ1_sub 9 = .ok (.iload_n 2, 1) := dk_28 (dk_at dksJ1_sub_0 9 rfl rfl)
theorem dJ1_sub_10 : decode cJ1_sub 10 = .ok (.iadd, 1) := dk_96 (dk_at dksJ1_sub_0 10 rfl rfl)
theorem dJ1_sub_11 : decode cJ1_sub 11 = .ok (.istore_n 0, 1) := dk_59 (dk_at dksJ1_sub_0 11 rfl rfl)
theorem dJ1_sub_12 : decode cJ1_sub 12 = .ok (.iload_n 0, 1) := dk_26 (dk_at dksJ1_sub_0 12 rfl rfl)
theorem dJ1_sub_13 : decode cJ1_sub 13 = .ok (.ireturn, 1) := dk_172 (dk_at dksJ1_sub_0 13 rfl rfl)
def dkwJ1_removeLast_0 : List UInt8 := [42, 182, 0, 100, 76, 43, 199, 0, 11, 187, 0, 97, 89, 183, 0, 99, 191, 43, 176]
abbrev dktJ1_removeLast_0 : List UInt8 := dkwJ1_removeLast_0 ++ []
theorem dksJ1_removeLast_0 : cJ1_removeLast.data.toList.drop 0 = dktJ1_removeLast_0 := by decide +kernel
theorem dJ1_removeLast_0 : decode cJ1_removeLast 0 = .ok (.aload_n 0, 1) := dk_42 (dk_at dksJ1_removeLast_0 0 rfl rfl)
theorem dJ1_removeLast_1 : decode cJ1_removeLast 1 = .ok (.invokevirtual 100, 3) := dk_182 0 100 (dk_at dksJ1_removeLast_0 1 rfl rfl)
theorem dJ1_removeLast_4 : decode cJ1_removeLast 4 = .ok (.astore_n 1, 1) := dk_76 (dk_at dksJ1_removeLast_0 4 rfl rfl)
theorem dJ1_removeLast_5 : decode cJ1_removeLast 5 = .ok (.aload_n 1, 1) := dk_43 (dk_at dksJ1_removeLast_0 5 rfl rfl)
theorem dJ1_removeLast_6 : decode cJ1_removeLast 6 = .ok (.ifnonnull 11, 3) := dk_199 0 11 (dk_at dksJ1_removeLast_0 6 rfl rfl)
theorem dJ1_removeLast_9 : decode cJ1_removeLast 9 = .ok (.new 97, 3) := dk_187 0 97 (dk_at dksJ1_removeLast_0 9 rfl rfl)
theorem dJ1_removeLast_12 : decode cJ1_removeLast 12 = .ok (.dup, 1) := dk_89 (dk_at dksJ1_removeLast_0 12 rfl rfl)
theorem dJ1_removeLast_13 : decode cJ1_removeLast 13 = .ok (.invokespecial 99, 3) := dk_183 0 99 (dk_at dksJ1_removeLast_0 13 rfl rfl)
theorem dJ1_removeLast_16 : decode cJ1_removeLast 16 = .ok (.athrow, 1) := dk_191 (dk_at dksJ1_removeLast_0 16 rfl rfl)
theorem dJ1_removeLast_17 : decode cJ1_removeLast 17 = .ok (.aload_n 1, 1) := dk_43 (dk_at dksJ1_removeLast_0 17 rfl rfl)
theorem dJ1_removeLast_18 : decode cJ1_removeLast 18 = .ok (.areturn, 1) := dk_176 (dk_at dksJ1_removeLast_0 18 rfl rfl)
def dkwJ1_pollLast_1 : List UInt8 := [198, 0, 12, 43, 42, 28, 90, 181, 0, 20, 1, 83, 45, 176]
abbrev dktJ1_pollLast_1 : List UInt8 := dkwJ1_pollLast_1 ++ []
def dkwJ1_pollLast_0 : List UInt8 := [42, 180, 0, 3, 89, 76, 42, 180, 0, 20, 43, 190, 184, 0, 68, 89, 61, 184, 0, 103, 78, 45]
abbrev dktJ1_pollLast_0 : List UInt8 := dkwJ1_pollLast_0 ++ dktJ1_pollLast_1
theorem dksJ1_pollLast_0 : cJ1_pollLast.data.toList.drop 0 = dktJ1_pollLast_0 := by decide +kernel
theorem dksJ1_pollLast_1 : cJ1_pollLast.data.toList.drop 22 = dktJ1_pollLast_1 := dk_seg dksJ1_pollLast_0 22 rfl rfl
theorem dJ1_pollLast_0 : decode cJ1_pollLast 0 = .ok (.aload_n 0, 1) := dk_42 (dk_at dksJ1_pollLast_0 0 rfl rfl)
theorem dJ1_pollLast_1 : decode cJ1_pollLast 1 = .ok (.getfield 3, 3) := dk_180 0 3 (dk_at dksJ1_pollLast_0 1 rfl rfl)
theorem dJ1_pollLast_4 : decode cJ1_pollLast 4 = .ok (.dup, 1) := dk_89 (dk_at dksJ1_pollLast_0 4 rfl rfl)
theorem dJ1_pollLast_5 : decode cJ1_pollLast 5 = .ok (.astore_n 1, 1) := dk_76 (dk_at dksJ1_pollLast_0 5 rfl rfl)
theorem dJ1_pollLast_6 : decode cJ1_pollLast 6 = .ok (.aload_n 0, 1) := dk_42 (dk_at dksJ1_pollLast_0 6 rfl rfl)
theorem dJ1_pollLast_7 : decode cJ1_pollLast 7 = .ok (.getfield 20, 3) := dk_180 0 20 (dk_at dksJ1_pollLast_0 7 rfl rfl)
theorem dJ1_pollLast_10 : decode cJ1_pollLast 10 = .ok (.aload_n 1, 1) := dk_43 (dk_at dksJ1_pollLast_0 10 rfl rfl)
theorem dJ1_pollLast_11 : decode cJ1_pollLast 11 = .ok (.arraylength, 1) := dk_190 (dk_at dksJ1_pollLast_0 11 rfl rfl)
theorem dJ1_pollLast_12 : decode cJ1_pollLast 12 = .ok (.invokestatic 68, 3) := dk_184 0 68 (dk_at dksJ1_pollLast_0 12 rfl rfl)
theorem dJ1_pollLast_15 : decode cJ1_pollLast 15 = .ok (.dup, 1) := dk_89 (dk_at dksJ1_pollLast_0 15 rfl rfl)
theorem dJ1_pollLast_16 : decode cJ1_pollLast 16 = .ok (.istore_n 2, 1) := dk_61 (dk_at dksJ1_pollLast_0 16 rfl rfl)
theorem dJ1_pollLast_17 : decode cJ1_pollLast 17 = .ok (.invokestatic 103, 3) := dk_184 0 103 (dk_at dksJ1_pollLast_0 17 rfl rfl)
theorem dJ1_pollLast_20 : decode cJ1_pollLast 20 = .ok (.astore_n 3, 1) := dk_78 (dk_at dksJ1_pollLast_0 20 rfl rfl)
theorem dJ1_pollLast_21 : decode cJ1_pollLast 21 = .ok (.aload_n 3, 1) := dk_45 (dk_at dksJ1_pollLast_0 21 rfl rfl)
theorem dJ1_pollLast_22 : decode cJ1_pollLast 22 = .ok (.ifnull 12, 3) := dk_198 0 12 (dk_at dksJ1_pollLast_1 0 rfl rfl)
theorem dJ1_pollLast_25 : decode cJ1_pollLast 25 = .ok (.aload_n 1, 1) := dk_43 (dk_at dksJ1_pollLast_1 3 rfl rfl)
theorem dJ1_pollLast_26 : decode cJ1_pollLast 26 = .ok (.aload_n 0, 1) := dk_42 (dk_at dksJ1_pollLast_1 4 rfl rfl)
theorem dJ1_pollLast_27 : decode cJ1_pollLast 27 = .ok (.iload_n 2, 1) := dk_28 (dk_at dksJ1_pollLast_1 5 rfl rfl)
theorem dJ1_pollLast_28 : decode cJ1_pollLast 28 = .ok (.dup_x1, 1) := dk_90 (dk_at dksJ1_pollLast_1 6 rfl rfl)
theorem dJ1_pollLast_29 : decode cJ1_pollLast 29 = .ok (.putfield 20, 3) := dk_181 0 20 (dk_at dksJ1_pollLast_1 7 rfl rfl)
theorem dJ1_pollLast_32 : decode cJ1_pollLast 32 = .ok (.aconst_null, 1) := dk_1 (dk_at dksJ1_pollLast_1 10 rfl rfl)
theorem dJ1_pollLast_33 : decode cJ1_pollLast 33 = .ok (.aastore, 1) := dk_83 (dk_at dksJ1_pollLast_1 11 rfl rfl)
theorem dJ1_pollLast_34 : decode cJ1_pollLast 34 = .ok (.aload_n 3, 1) := dk_45 (dk_at dksJ1_pollLast_1 12 rfl rfl)
theorem dJ1_pollLast_35 : decode cJ1_pollLast 35 = .ok (.areturn, 1) := dk_176 (dk_at dksJ1_pollLast_1 13 rfl rfl)
def dkwJ1_dec_0 : List UInt8 := [132, 0, 255, 26, 156, 0, 7, 27, 4, 100, 59, 26, 172]
abbrev dktJ1_dec_0 : List UInt8 := dkwJ1_dec_0 ++ []
theorem dksJ1_dec_0 : cJ1_dec.data.toList.drop 0 = dktJ1_dec_0 := by decide +kernel
theorem dJ1_dec_0 : decode cJ1_dec 0 = .ok (.iinc 0 (-1), 3) := dk_132 0 255 (dk_at dksJ1_dec_0 0 rfl rfl)
theorem dJ1_dec_3 : decode cJ1_dec 3 = .ok (.iload_n 0, 1) := dk_26 (dk_at dksJ1_dec_0 3 rfl rfl)
theorem dJ1_dec_4 : decode cJ1_dec 4 = .ok (.ifCond .ge 7, 3) := dk_156 0 7 (dk_at dksJ1_dec_0 4 rfl rfl)
theorem dJ1_dec_7 : decode cJ1_dec 7 = .ok (.iload_n 1, 1) := dk_27 (dk_at dksJ1_dec_0 7 rfl rfl)
theorem dJ1_dec_8 : decode cJ1_dec 8 = .ok (.iconst 1, 1) := dk_4 (dk_at dksJ1_dec_0 8 rfl rfl)
theorem dJ1_dec_9 : decode cJ1_dec 9 = .ok (.isub, 1) := dk_100 (dk_at dksJ1_dec_0 9 rfl rfl)
theorem dJ1_dec_10 : decode cJ1_dec 10 = .ok (.istore_n 0, 1) := dk_59 (dk_at dksJ1_dec_0 10 rfl rfl)
theorem dJ1_dec_11 : decode cJ1_dec 11 = .ok (.iload_n 0, 1) := dk_26 (dk_at dksJ1_dec_0 11 rfl rfl)
theorem dJ1_dec_12 : decode cJ1_dec 12 = .ok (.ireturn, 1) := dk_172 (dk_at dksJ1_dec_0 12 rfl rfl)
theorem e_J1_init (d : Nat) (x0 : Nat) (h : a_H) : a_call (d + 1) MJ1_init [.ref x0] h = a_run d MJ1_init 0 [some (.ref x0)] [] h := a_call_run rfl (Nat.le_of_ble_eq_true rfl) rfl
theorem w_J1_init_0 (d : Nat) (x : Nat) (st : List Value) (h : a_H) : a_run d MJ1_init 0 [some (.ref x)] st h = a_run d MJ1_init 1 [some (.ref x)] (.ref x :: st) h := w_ldAn dJ1_init_0 rfl
theorem w_J1_init_1 (d : Nat) (L : a_L) (i : Nat) (st : List Value) (h : a_H) (hi : 1024 ≤ i) (hc : a_cat st ≤ 8) : a_run d MJ1_init 1 L (.ref i :: st) h = a_cont d MJ1_init (a_bk MJ1_init 1 L st (a_call d MJ0_init [.ref i] h)) := w_callI (as := [.ref i]) dJ1_init_1 rfl rfl rfl hc (a_new0_of hi)
theorem w_J1_init_4 (d : Nat) (x : Nat) (st : List Value) (h : a_H) : a_run d MJ1_init 4 [some (.ref x)] st h = a_run d MJ1_init 5 [some (.ref x)] (.ref x :: st) h := w_ldAn dJ1_init_4 rfl
theorem w_J1_init_5 (d : Nat) (L : a_L) (st : List Value) (h : a_H) : a_run d MJ1_init 5 L st h = a_run d MJ1_init 7 L (.int (nI 17) :: st) h := w_bipush dJ1_init_5 rfl
theorem w_J1_init_7 (d : Nat) (L : a_L) (x : Int32) (st : List Value) (h : a_H) : a_run d MJ1_init 7 L (.int x :: st) h = (a_newa h (.object "java/lang/Object") x).bind fun q => a_run d MJ1_init 10 L (.ref q.1 :: st) q.2 := w_anew dJ1_init_7 rfl
theorem w_J1_init_10 (d : Nat) (L : a_L) (x : Nat) (i : Nat) (st : List Value) (h : a_H) : a_run d MJ1_init 10 L (.ref x :: .ref i :: st) h = (a_pf h i 0 [7] (.ref x)).bind fun h' => a_run d MJ1_init 13 L st h' := w_putf dJ1_init_10 rfl rfl (Or.inl rfl) rfl rfl
theorem w_J1_init_10N (d : Nat) (L : a_L) (i : Nat) (st : List Value) (h : a_H) : a_run d MJ1_init 10 L (.null :: .ref i :: st) h = (a_pf h i 0 [7] (.null)).bind fun h' => a_run d MJ1_init 13 L st h' := w_putf dJ1_init_10 rfl rfl (Or.inl rfl) rfl rfl
theorem w_J1_init_13 (d : Nat) (L : a_L) (h : a_H) : a_run d MJ1_init 13 L [] h = some (.inl none, h) := w_vret dJ1_init_13 rfl
theorem e_J1_addLast (d : Nat) (x0 : Nat) (x1 : Nat) (h : a_H) : a_call (d + 1) MJ1_addLast [.ref x0, .ref x1] h = a_run d MJ1_addLast 0 [some (.ref x0), some (.ref x1), none] [] h := a_call_run rfl (Nat.le_of_ble_eq_true rfl) rfl
theorem w_J1_addLast_0 (d : Nat) (a0 a2 : Option Value) (x : Nat) (st : List Value) (h : a_H) : a_run d MJ1_addLast 0 [a0, some (.ref x), a2] st h = a_run d MJ1_addLast 1 [a0, some (.ref x), a2] (.ref x :: st) h := w_ldAn dJ1_addLast_0 rfl
theorem w_J1_addLast_0N (d : Nat) (a0 a2 : Option Value) (st : List Value) (h : a_H) : a_run d MJ1_addLast 0 [a0, some .null, a2] st h = a_run d MJ1_addLast 1 [a0, some .null, a2] (.null :: st) h := w_ldNn dJ1_addLast_0 rfl
theorem w_J1_addLast_1 (d : Nat) (L : a_L) (x : Nat) (st : List Value) (h : a_H) (hx : x < 600 ∨ 1024 ≤ x) : a_run d MJ1_addLast 1 L (.ref x :: st) h = a_run d MJ1_addLast 12 L st h := w_ifnonnull_r dJ1_addLast_1 rfl hx
theorem w_J1_addLast_1N (d : Nat) (L : a_L) (st : List Value) (h : a_H) : a_run d MJ1_addLast 1 L (.null :: st) h = a_run d MJ1_addLast 4 L st h := w_ifnonnull_n (tgt := 12) dJ1_addLast_1 rfl
theorem w_J1_addLast_7 (d : Nat) (L : a_L) (x : Nat) (st : List Value) (h : a_H) : a_run d MJ1_addLast 7 L (.ref x :: st) h = a_run d MJ1_addLast 8 L (.ref x :: .ref x :: st) h := w_dup dJ1_addLast_7
theorem w_J1_addLast_7I (d : Nat) (L : a_L) (x : Int32) (st : List Value) (h : a_H) : a_run d MJ1_addLast 7 L (.int x :: st) h = a_run d MJ1_addLast 8 L (.int x :: .int x :: st) h := w_dupI dJ1_addLast_7
theorem w_J1_addLast_11 (d : Nat) (L : a_L) (x : Nat) (st : List Value) (h : a_H) : a_run d MJ1_addLast 11 L (.ref x :: st) h = a_cont d MJ1_addLast (a_thr MJ1_addLast 11 L x h) := w_athrow dJ1_addLast_11
theorem w_J1_addLast_12 (d : Nat) (a1 a2 : Option Value) (x : Nat) (st : List Value) (h : a_H) : a_run d MJ1_addLast 12 [some (.ref x), a1, a2] st h = a_run d MJ1_addLast 13 [some (.ref x), a1, a2] (.ref x :: st) h := w_ldAn dJ1_addLast_12 rfl
theorem w_J1_addLast_13 (d : Nat) (L : a_L) (i : Nat) (st : List Value) (h : a_H) : a_run d MJ1_addLast 13 L (.ref i :: st) h = (a_gf h i 0 [7]).bind fun v => a_run d MJ1_addLast 16 L (v :: st) h := w_getf dJ1_addLast_13 rfl
theorem w_J1_addLast_16 (d : Nat) (a0 a1 a2 : Option Value) (x : Nat) (st : List Value) (h : a_H) : a_run d MJ1_addLast 16 [a0, a1, a2] (.ref x :: st) h = a_run d MJ1_addLast 17 [a0, a1, some (.ref x)] st h := w_stAn dJ1_addLast_16 (Nat.le_of_ble_eq_true rfl) rfl
theorem w_J1_addLast_16N (d : Nat) (a0 a1 a2 : Option Value) (st : List Value) (h : a_H) : a_run d MJ1_addLast 16 [a0, a1, a2] (.null :: st) h = a_run d MJ1_addLast 17 [a0, a1, some .null] st h := w_stNn dJ1_addLast_16 (Nat.le_of_ble_eq_true rfl) rfl
theorem w_J1_addLast_17 (d : Nat) (a0 a1 : Option Value) (x : Nat) (st : List Value) (h : a_H) : a_run d MJ1_addLast 17 [a0, a1, some (.ref x)] st h = a_run d MJ1_addLast 18 [a0, a1, some (.ref x)] (.ref x :: st) h := w_ldAn dJ1_addLast_17 rfl
theorem w_J1_addLast_17N (d : Nat) (a0 a1 : Option Value) (st : List Value) (h : a_H) : a_run d MJ1_addLast 17 [a0, a1, some .null] st h = a_run d MJ1_addLast 18 [a0, a1, some .null] (.null :: st) h := w_ldNn dJ1_addLast_17 rfl
theorem w_J1_addLast_18 (d : Nat) (a1 a2 : Option Value) (x : Nat) (st : List Value) (h : a_H) : a_run d MJ1_addLast 18 [some (.ref x), a1, a2] st h = a_run d MJ1_addLast 19 [some (.ref x), a1, a2] (.ref x :: st) h := w_ldAn dJ1_addLast_18 rfl
theorem w_J1_addLast_19 (d : Nat) (L : a_L) (i : Nat) (st : List Value) (h : a_H) : a_run d MJ1_addLast 19 L (.ref i :: st) h = (a_gf h i 2 [7]).bind fun v => a_run d MJ1_addLast 22 L (v :: st) h := w_getf dJ1_addLast_19 rfl
theorem w_J1_addLast_22 (d : Nat) (a0 a2 : Option Value) (x : Nat) (st : List Value) (h : a_H) : a_run d MJ1_addLast 22 [a0, some (.ref x), a2] st h = a_run d MJ1_addLast 23 [a0, some (.ref x), a2] (.ref x :: st) h := w_ldAn dJ1_addLast_22 rfl
theorem w_J1_addLast_22N (d : Nat) (a0 a2 : Option Value) (st : List Value) (h : a_H) : a_run d MJ1_addLast 22 [a0, some .null, a2] st h = a_run d MJ1_addLast 23 [a0, some .null, a2] (.null :: st) h := w_ldNn dJ1_addLast_22 rfl
theorem w_J1_addLast_23 (d : Nat) (L : a_L) (x : Int32) (v : Value) (i : Nat) (st : List Value) (h : a_H) : a_run d MJ1_addLast 23 L (v :: .int x :: .ref i :: st) h = (a_wrq h i x v).bind fun h' => a_run d MJ1_addLast 24 L st h' := w_aast dJ1_addLast_23
theorem w_J1_addLast_24 (d : Nat) (a1 a2 : Option Value) (x : Nat) (st : List Value) (h : a_H) : a_run d MJ1_addLast 24 [some (.ref x), a1, a2] st h = a_run d MJ1_addLast 25 [some (.ref x), a1, a2] (.ref x :: st) h := w_ldAn dJ1_addLast_24 rfl
theorem w_J1_addLast_25 (d : Nat) (L : a_L) (i : Nat) (st : List Value) (h : a_H) : a_run d MJ1_addLast 25 L (.ref i :: st) h = (a_gf h i 1 [7]).bind fun v => a_run d MJ1_addLast 28 L (v :: st) h := w_getf dJ1_addLast_25 rfl
theorem w_J1_addLast_28 (d : Nat) (a1 a2 : Option Value) (x : Nat) (st : List Value) (h : a_H) : a_run d MJ1_addLast 28 [some (.ref x), a1, a2] st h = a_run d MJ1_addLast 29 [some (.ref x), a1, a2] (.ref x :: st) h := w_ldAn dJ1_addLast_28 rfl
theorem w_J1_addLast_29 (d : Nat) (a1 a2 : Option Value) (x : Nat) (st : List Value) (h : a_H) : a_run d MJ1_addLast 29 [some (.ref x), a1, a2] st h = a_run d MJ1_addLast 30 [some (.ref x), a1, a2] (.ref x :: st) h := w_ldAn dJ1_addLast_29 rfl
theorem w_J1_addLast_30 (d : Nat) (L : a_L) (i : Nat) (st : List Value) (h : a_H) : a_run d MJ1_addLast 30 L (.ref i :: st) h = (a_gf h i 2 [7]).bind fun v => a_run d MJ1_addLast 33 L (v :: st) h := w_getf dJ1_addLast_30 rfl
theorem w_J1_addLast_33 (d : Nat) (a0 a1 : Option Value) (x : Nat) (st : List Value) (h : a_H) : a_run d MJ1_addLast 33 [a0, a1, some (.ref x)] st h = a_run d MJ1_addLast 34 [a0, a1, some (.ref x)] (.ref x :: st) h := w_ldAn dJ1_addLast_33 rfl
theorem w_J1_addLast_33N (d : Nat) (a0 a1 : Option Value) (st : List Value) (h : a_H) : a_run d MJ1_addLast 33 [a0, a1, some .null] st h = a_run d MJ1_addLast 34 [a0, a1, some .null] (.null :: st) h := w_ldNn dJ1_addLast_33 rfl
theorem w_J1_addLast_34 (d : Nat) (L : a_L) (i : Nat) (st : List Value) (h : a_H) : a_run d MJ1_addLast 34 L (.ref i :: st) h = (a_len h i).bind fun v => a_run d MJ1_addLast 35 L (v :: st) h := w_alen dJ1_addLast_34
theorem w_J1_addLast_35 (d : Nat) (L : a_L) (v0 v1 : Value) (st : List Value) (h : a_H) (hc : a_cat st ≤ 8) : a_run d MJ1_addLast 35 L (v1 :: v0 :: st) h = a_cont d MJ1_addLast (a_bk MJ1_addLast 35 L st (a_call d MJ1_inc [v0, v1] h)) := w_callS (as := [v0, v1]) dJ1_addLast_35 rfl rfl rfl hc
theorem w_J1_addLast_38 (d : Nat) (L : a_L) (x : Int32) (y : Nat) (st : List Value) (h : a_H) : a_run d MJ1_addLast 38 L (.int x :: .ref y :: st) h = a_run d MJ1_addLast 39 L (.int x :: .ref y :: .int x :: st) h := w_dupx dJ1_addLast_38
theorem w_J1_addLast_38R (d : Nat) (L : a_L) (x y : Nat) (st : List Value) (h : a_H) : a_run d MJ1_addLast 38 L (.ref x :: .ref y :: st) h = a_run d MJ1_addLast 39 L (.ref x :: .ref y :: .ref x :: st) h := w_dupxR dJ1_addLast_38
theorem w_J1_addLast_39 (d : Nat) (L : a_L) (x : Int32) (i : Nat) (st : List Value) (h : a_H) : a_run d MJ1_addLast 39 L (.int x :: .ref i :: st) h = (a_pf h i 2 [7] (.int x)).bind fun h' => a_run d MJ1_addLast 42 L st h' := w_putf dJ1_addLast_39 rfl rfl (Or.inl rfl) rfl rfl
theorem w_J1_addLast_42 (d : Nat) (L : a_L) (x y : Int32) (st : List Value) (h : a_H) : a_run d MJ1_addLast 42 L (.int y :: .int x :: st) h = if x = y then a_run d MJ1_addLast 45 L st h else a_run d MJ1_addLast 50 L st h := w_icmp_ne dJ1_addLast_42 rfl
theorem w_J1_addLast_45 (d : Nat) (a1 a2 : Option Value) (x : Nat) (st : List Value) (h : a_H) : a_run d MJ1_addLast 45 [some (.ref x), a1, a2] st h = a_run d MJ1_addLast 46 [some (.ref x), a1, a2] (.ref x :: st) h := w_ldAn dJ1_addLast_45 rfl
theorem w_J1_addLast_46 (d : Nat) (L : a_L) (st : List Value) (h : a_H) : a_run d MJ1_addLast 46 L st h = a_run d MJ1_addLast 47 L (.int (nI 1) :: st) h := w_iconst dJ1_addLast_46 rfl
theorem w_J1_addLast_47 (d : Nat) (L : a_L) (i : Nat) (v1 : Value) (st : List Value) (h : a_H) (hk : a_kls h i = some 7) (hc : a_cat st ≤ 8) : a_run d MJ1_addLast 47 L (v1 :: .ref i :: st) h = a_cont d MJ1_addLast (a_bk MJ1_addLast 47 L st (a_call d MJ1_grow [.ref i, v1] h)) := w_callV (as := [.ref i, v1]) dJ1_addLast_47 rfl rfl rfl hc (a_rcv_of hk rfl)
theorem w_J1_addLast_50 (d : Nat) (L : a_L) (h : a_H) : a_run d MJ1_addLast 50 L [] h = some (.inl none, h) := w_vret dJ1_addLast_50 rfl
theorem e_J1_inc (d : Nat) (x0 : Int32) (x1 : Int32) (h : a_H) : a_call (d + 1) MJ1_inc [.int x0, .int x1] h = a_run d MJ1_inc 0 [some (.int x0), some (.int x1)] [] h := a_call_run rfl (Nat.le_of_ble_eq_true rfl) rfl
theorem w_J1_inc_0 (d : Nat) (a1 : Option Value) (x : Int32) (st : List Value) (h : a_H) : a_run d MJ1_inc 0 [some (.int x), a1] st h = a_run d MJ1_inc 3 [some (.int (x + nI 1)), a1] st h := w_incL dJ1_inc_0 rfl rfl rfl
theorem w_J1_inc_3 (d : Nat) (a1 : Option Value) (x : Int32) (st : List Value) (h : a_H) : a_run d MJ1_inc 3 [some (.int x), a1] st h = a_run d MJ1_inc 4 [some (.int x), a1] (.int x :: st) h := w_ldIn dJ1_inc_3 rfl
theorem w_J1_inc_4 (d : Nat) (a0 : Option Value) (x : Int32) (st : List Value) (h : a_H) : a_run d MJ1_inc 4 [a0, some (.int x)] st h = a_run d MJ1_inc 5 [a0, some (.int x)] (.int x :: st) h := w_ldIn dJ1_inc_4 rfl
theorem w_J1_inc_5 (d : Nat) (L : a_L) (x y : Int32) (st : List Value) (h : a_H) : a_run d MJ1_inc 5 L (.int y :: .int x :: st) h = if x < y then a_run d MJ1_inc 10 L st h else a_run d MJ1_inc 8 L st h := w_icmp_lt dJ1_inc_5 rfl
theorem w_J1_inc_8 (d : Nat) (L : a_L) (st : List Value) (h : a_H) : a_run d MJ1_inc 8 L st h = a_run d MJ1_inc 9 L (.int (nI 0) :: st) h := w_iconst dJ1_inc_8 rfl
theorem w_J1_inc_9 (d : Nat) (a0 a1 : Option Value) (x : Int32) (st : List Value) (h : a_H) : a_run d MJ1_inc 9 [a0, a1] (.int x :: st) h = a_run d MJ1_inc 10 [some (.int x), a1] st h := w_stIn dJ1_inc_9 (Nat.le_of_ble_eq_true rfl) rfl
theorem w_J1_inc_10 (d : Nat) (a1 : Option Value) (x : Int32) (st : List Value) (h : a_H) : a_run d MJ1_inc 10 [some (.int x), a1] st h = a_run d MJ1_inc 11 [some (.int x), a1] (.int x :: st) h := w_ldIn dJ1_inc_10 rfl
theorem w_J1_inc_11 (d : Nat) (L : a_L) (x : Int32) (h : a_H) : a_run d MJ1_inc 11 L [.int x] h = some (.inl (some (.int x)), h) := w_iret dJ1_inc_11 (w_retI rfl)
theorem e_J1_grow (d : Nat) (x0 : Nat) (x1 : Int32) (h : a_H) : a_call (d + 1) MJ1_grow [.ref x0, .int x1] h = a_run d MJ1_grow 0 [some (.ref x0), some (.int x1), none, none, none, none, none, none, none] [] h := a_call_run rfl (Nat.le_of_ble_eq_true rfl) rfl
theorem w_J1_grow_0 (d : Nat) (a1 a2 a3 a4 a5 a6 a7 a8 : Option Value) (x : Nat) (st : List Value) (h : a_H) : a_run d MJ1_grow 0 [some (.ref x), a1, a2, a3, a4, a5, a6, a7, a8] st h = a_run d MJ1_grow 1 [some (.ref x), a1, a2, a3, a4, a5, a6, a7, a8] (.ref x :: st) h := w_ldAn dJ1_grow_0 rfl
theorem w_J1_grow_1 (d : Nat) (L : a_L) (i : Nat) (st : List Value) (h : a_H) : a_run d MJ1_grow 1 L (.ref i :: st) h = (a_gf h i 0 [7]).bind fun v => a_run d MJ1_grow 4 L (v :: st) h := w_getf dJ1_grow_1 rfl
theorem w_J1_grow_4 (d : Nat) (L : a_L) (i : Nat) (st : List Value) (h : a_H) : a_run d MJ1_grow 4 L (.ref i :: st) h = (a_len h i).bind fun v => a_run d MJ1_grow 5 L (v :: st) h := w_alen dJ1_grow_4
theorem w_J1_grow_5 (d : Nat) (a0 a1 a2 a3 a4 a5 a6 a7 a8 : Option Value) (x : Int32) (st : List Value) (h : a_H) : a_run d MJ1_grow 5 [a0, a1, a2, a3, a4, a5, a6, a7, a8] (.int x :: st) h = a_run d MJ1_grow 6 [a0, a1, some (.int x), a3, a4, a5, a6, a7, a8] st h := w_stIn dJ1_grow_5 (Nat.le_of_ble_eq_true rfl) rfl
theorem w_J1_grow_6 (d : Nat) (a0 a1 a3 a4 a5 a6 a7 a8 : Option Value) (x : Int32) (st : List Value) (h : a_H) : a_run d MJ1_grow 6 [a0, a1, some (.int x), a3, a4, a5, a6, a7, a8] st h = a_run d MJ1_grow 7 [a0, a1, some (.int x), a3, a4, a5, a6, a7, a8] (.int x :: st) h := w_ldIn dJ1_grow_6 rfl
theorem w_J1_grow_7 (d : Nat) (L : a_L) (st : List Value) (h : a_H) : a_run d MJ1_grow 7 L st h = a_run d MJ1_grow 9 L (.int (nI 64) :: st) h := w_bipush dJ1_grow_7 rfl
theorem w_J1_grow_9 (d : Nat) (L : a_L) (x y : Int32) (st : List Value) (h : a_H) : a_run d MJ1_grow 9 L (.int y :: .int x :: st) h = if x < y then a_run d MJ1_grow 12 L st h else a_run d MJ1_grow 18 L st h := w_icmp_ge dJ1_grow_9 rfl
theorem w_J1_grow_12 (d : Nat) (a0 a1 a3 a4 a5 a6 a7 a8 : Option Value) (x : Int32) (st : List Value) (h : a_H) : a_run d MJ1_grow 12 [a0, a1, some (.int x), a3, a4, a5, a6, a7, a8] st h = a_run d MJ1_grow 13 [a0, a1, some (.int x), a3, a4, a5, a6, a7, a8] (.int x :: st) h := w_ldIn dJ1_grow_12 rfl
theorem w_J1_grow_13 (d : Nat) (L : a_L) (st : List Value) (h : a_H) : a_run d MJ1_grow 13 L st h = a_run d MJ1_grow 14 L (.int (nI 2) :: st) h := w_iconst dJ1_grow_13 rfl
theorem w_J1_grow_14 (d : Nat) (L : a_L) (x y : Int32) (st : List Value) (h : a_H) : a_run d MJ1_grow 14 L (.int y :: .int x :: st) h = a_run d MJ1_grow 15 L (.int (x + y) :: st) h := w_iadd dJ1_grow_14
theorem w_J1_grow_15 (d : Nat) (L : a_L) (st : List Value) (h : a_H) : a_run d MJ1_grow 15 L st h = a_run d MJ1_grow 21 L st h := w_goto dJ1_grow_15 rfl
theorem w_J1_grow_18 (d : Nat) (a0 a1 a3 a4 a5 a6 a7 a8 : Option Value) (x : Int32) (st : List Value) (h : a_H) : a_run d MJ1_grow 18 [a0, a1, some (.int x), a3, a4, a5, a6, a7, a8] st h = a_run d MJ1_grow 19 [a0, a1, some (.int x), a3, a4, a5, a6, a7, a8] (.int x :: st) h := w_ldIn dJ1_grow_18 rfl
theorem w_J1_grow_19 (d : Nat) (L : a_L) (st : List Value) (h : a_H) : a_run d MJ1_grow 19 L st h = a_run d MJ1_grow 20 L (.int (nI 1) :: st) h := w_iconst dJ1_grow_19 rfl
theorem w_J1_grow_20 (d : Nat) (L : a_L) (x y : Int32) (st : List Value) (h : a_H) : a_run d MJ1_grow 20 L (.int y :: .int x :: st) h = a_run d MJ1_grow 21 L (.int (x >>> (y &&& 31)) :: st) h := w_ishr dJ1_grow_20
theorem w_J1_grow_21 (d : Nat) (a0 a1 a2 a3 a4 a5 a6 a7 a8 : Option Value) (x : Int32) (st : List Value) (h : a_H) : a_run d MJ1_grow 21 [a0, a1, a2, a3, a4, a5, a6, a7, a8] (.int x :: st) h = a_run d MJ1_grow 23 [a0, a1, a2, a3, some (.int x), a5, a6, a7, a8] st h := w_stI dJ1_grow_21 (Nat.le_of_ble_eq_true rfl) rfl
theorem w_J1_grow_23 (d : Nat) (a0 a1 a2 a3 a5 a6 a7 a8 : Option Value) (x : Int32) (st : List Value) (h : a_H) : a_run d MJ1_grow 23 [a0, a1, a2, a3, some (.int x), a5, a6, a7, a8] st h = a_run d MJ1_grow 25 [a0, a1, a2, a3, some (.int x), a5, a6, a7, a8] (.int x :: st) h := w_ldI dJ1_grow_23 rfl
theorem w_J1_grow_25 (d : Nat) (a0 a2 a3 a4 a5 a6 a7 a8 : Option Value) (x : Int32) (st : List Value) (h : a_H) : a_run d MJ1_grow 25 [a0, some (.int x), a2, a3, a4, a5, a6, a7, a8] st h = a_run d MJ1_grow 26 [a0, some (.int x), a2, a3, a4, a5, a6, a7, a8] (.int x :: st) h := w_ldIn dJ1_grow_25 rfl
theorem w_J1_grow_26 (d : Nat) (L : a_L) (x y : Int32) (st : List Value) (h : a_H) : a_run d MJ1_grow 26 L (.int y :: .int x :: st) h = if x < y then a_run d MJ1_grow 41 L st h else a_run d MJ1_grow 29 L st h := w_icmp_lt dJ1_grow_26 rfl
theorem w_J1_grow_29 (d : Nat) (a0 a1 a3 a4 a5 a6 a7 a8 : Option Value) (x : Int32) (st : List Value) (h : a_H) : a_run d MJ1_grow 29 [a0, a1, some (.int x), a3, a4, a5, a6, a7, a8] st h = a_run d MJ1_grow 30 [a0, a1, some (.int x), a3, a4, a5, a6, a7, a8] (.int x :: st) h := w_ldIn dJ1_grow_29 rfl
theorem w_J1_grow_30 (d : Nat) (a0 a1 a2 a3 a5 a6 a7 a8 : Option Value) (x : Int32) (st : List Value) (h : a_H) : a_run d MJ1_grow 30 [a0, a1, a2, a3, some (.int x), a5, a6, a7, a8] st h = a_run d MJ1_grow 32 [a0, a1, a2, a3, some (.int x), a5, a6, a7, a8] (.int x :: st) h := w_ldI dJ1_grow_30 rfl
theorem w_J1_grow_32 (d : Nat) (L : a_L) (x y : Int32) (st : List Value) (h : a_H) : a_run d MJ1_grow 32 L (.int y :: .int x :: st) h = a_run d MJ1_grow 33 L (.int (x + y) :: st) h := w_iadd dJ1_grow_32
theorem w_J1_grow_33 (d : Nat) (L : a_L) (x : Nat) (st : List Value) (h : a_H) : a_run d MJ1_grow 33 L (.ref x :: st) h = a_run d MJ1_grow 34 L (.ref x :: .ref x :: st) h := w_dup dJ1_grow_33
theorem w_J1_grow_33I (d : Nat) (L : a_L) (x : Int32) (st : List Value) (h : a_H) : a_run d MJ1_grow 33 L (.int x :: st) h = a_run d MJ1_grow 34 L (.int x :: .int x :: st) h := w_dupI dJ1_grow_33
theorem w_J1_grow_34 (d : Nat) (a0 a1 a2 a3 a4 a5 a6 a7 a8 : Option Value) (x : Int32) (st : List Value) (h : a_H) : a_run d MJ1_grow 34 [a0, a1, a2, a3, a4, a5, a6, a7, a8] (.int x :: st) h = a_run d MJ1_grow 35 [a0, a1, a2, some (.int x), a4, a5, a6, a7, a8] st h := w_stIn dJ1_grow_34 (Nat.le_of_ble_eq_true rfl) rfl
theorem w_J1_grow_35 (d : Nat) (L : a_L) (st : List Value) (h : a_H) : a_run d MJ1_grow 35 L st h = a_run d MJ1_grow 37 L (.int (nI 2147483639) :: st) h := w_ldc dJ1_grow_35 rfl
theorem w_J1_grow_37 (d : Nat) (L : a_L) (x y : Int32) (st : List Value) (h : a_H) : a_run d MJ1_grow 37 L (.int y :: .int x :: st) h = a_run d MJ1_grow 38 L (.int (x - y) :: st) h := w_isub dJ1_grow_37
theorem w_J1_grow_38 (d : Nat) (L : a_L) (x : Int32) (st : List Value) (h : a_H) : a_run d MJ1_grow 38 L (.int x :: st) h = if 0 < x then a_run d MJ1_grow 41 L st h else a_run d MJ1_grow 49 L st h := w_if_le dJ1_grow_38 rfl
theorem w_J1_grow_41 (d : Nat) (a1 a2 a3 a4 a5 a6 a7 a8 : Option Value) (x : Nat) (st : List Value) (h : a_H) : a_run d MJ1_grow 41 [some (.ref x), a1, a2, a3, a4, a5, a6, a7, a8] st h = a_run d MJ1_grow 42 [some (.ref x), a1, a2, a3, a4, a5, a6, a7, a8] (.ref x :: st) h := w_ldAn dJ1_grow_41 rfl
theorem w_J1_grow_42 (d : Nat) (a0 a2 a3 a4 a5 a6 a7 a8 : Option Value) (x : Int32) (st : List Value) (h : a_H) : a_run d MJ1_grow 42 [a0, some (.int x), a2, a3, a4, a5, a6, a7, a8] st h = a_run d MJ1_grow 43 [a0, some (.int x), a2, a3, a4, a5, a6, a7, a8] (.int x :: st) h := w_ldIn dJ1_grow_42 rfl
theorem w_J1_grow_43 (d : Nat) (a0 a1 a2 a3 a5 a6 a7 a8 : Option Value) (x : Int32) (st : List Value) (h : a_H) : a_run d MJ1_grow 43 [a0, a1, a2, a3, some (.int x), a5, a6, a7, a8] st h = a_run d MJ1_grow 45 [a0, a1, a2, a3, some (.int x), a5, a6, a7, a8] (.int x :: st) h := w_ldI dJ1_grow_43 rfl
theorem w_J1_grow_45 (d : Nat) (L : a_L) (i : Nat) (v1 v2 : Value) (st : List Value) (h : a_H) (hk : a_kls h i = some 7) (hc : a_cat st ≤ 8) : a_run d MJ1_grow 45 L (v2 :: v1 :: .ref i :: st) h = a_cont d MJ1_grow (a_bk MJ1_grow 45 L st (a_call d MJ1_newCapacity [.ref i, v1, v2] h)) := w_callV (as := [.ref i, v1, v2]) dJ1_grow_45 rfl rfl rfl hc (a_rcv_of hk rfl)
theorem w_J1_grow_48 (d : Nat) (a0 a1 a2 a3 a4 a5 a6 a7 a8 : Option Value) (x : Int32) (st : List Value) (h : a_H) : a_run d MJ1_grow 48 [a0, a1, a2, a3, a4, a5, a6, a7, a8] (.int x :: st) h = a_run d MJ1_grow 49 [a0, a1, a2, some (.int x), a4, a5, a6, a7, a8] st h := w_stIn dJ1_grow_48 (Nat.le_of_ble_eq_true rfl) rfl
theorem w_J1_grow_49 (d : Nat) (a1 a2 a3 a4 a5 a6 a7 a8 : Option Value) (x : Nat) (st : List Value) (h : a_H) : a_run d MJ1_grow 49 [some (.ref x), a1, a2, a3, a4, a5, a6, a7, a8] st h = a_run d MJ1_grow 50 [some (.ref x), a1, a2, a3, a4, a5, a6, a7, a8] (.ref x :: st) h := w_ldAn dJ1_grow_49 rfl
theorem w_J1_grow_50 (d : Nat) (a1 a2 a3 a4 a5 a6 a7 a8 : Option Value) (x : Nat) (st : List Value) (h : a_H) : a_run d MJ1_grow 50 [some (.ref x), a1, a2, a3, a4, a5, a6, a7, a8] st h = a_run d MJ1_grow 51 [some (.ref x), a1, a2, a3, a4, a5, a6, a7, a8] (.ref x :: st) h := w_ldAn dJ1_grow_50 rfl
theorem w_J1_grow_51 (d : Nat) (L : a_L) (i : Nat) (st : List Value) (h : a_H) : a_run d MJ1_grow 51 L (.ref i :: st) h = (a_gf h i 0 [7]).bind fun v => a_run d MJ1_grow 54 L (v :: st) h := w_getf dJ1_grow_51 rfl
theorem w_J1_grow_54 (d : Nat) (a0 a1 a2 a4 a5 a6 a7 a8 : Option Value) (x : Int32) (st : List Value) (h : a_H) : a_run d MJ1_grow 54 [a0, a1, a2, some (.int x), a4, a5, a6, a7, a8] st h = a_run d MJ1_grow 55 [a0, a1, a2, some (.int x), a4, a5, a6, a7, a8] (.int x :: st) h := w_ldIn dJ1_grow_54 rfl
theorem w_J1_grow_55 (d : Nat) (L : a_L) (v0 v1 : Value) (st : List Value) (h : a_H) (hc : a_cat st ≤ 8) : a_run d MJ1_grow 55 L (v1 :: v0 :: st) h = a_cont d MJ1_grow (a_bk MJ1_grow 55 L st (a_call d MJ13_copyOf [v0, v1] h)) := w_callS (as := [v0, v1]) dJ1_grow_55 rfl rfl rfl hc
theorem w_J1_grow_58 (d : Nat) (L : a_L) (x : Int32) (y : Nat) (st : List Value) (h : a_H) : a_run d MJ1_grow 58 L (.int x :: .ref y :: st) h = a_run d MJ1_grow 59 L (.int x :: .ref y :: .int x :: st) h := w_dupx dJ1_grow_58
theorem w_J1_grow_58R (d : Nat) (L : a_L) (x y : Nat) (st : List Value) (h : a_H) : a_run d MJ1_grow 58 L (.ref x :: .ref y :: st) h = a_run d MJ1_grow 59 L (.ref x :: .ref y :: .ref x :: st) h := w_dupxR dJ1_grow_58
theorem w_J1_grow_59 (d : Nat) (L : a_L) (x : Nat) (i : Nat) (st : List Value) (h : a_H) : a_run d MJ1_grow 59 L (.ref x :: .ref i :: st) h = (a_pf h i 0 [7] (.ref x)).bind fun h' => a_run d MJ1_grow 62 L st h' := w_putf dJ1_grow_59 rfl rfl (Or.inl rfl) rfl rfl
theorem w_J1_grow_59N (d : Nat) (L : a_L) (i : Nat) (st : List Value) (h : a_H) : a_run d MJ1_grow 59 L (.null :: .ref i :: st) h = (a_pf h i 0 [7] (.null)).bind fun h' => a_run d MJ1_grow 62 L st h' := w_putf dJ1_grow_59 rfl rfl (Or.inl rfl) rfl rfl
theorem w_J1_grow_62 (d : Nat) (a0 a1 a2 a3 a4 a5 a6 a7 a8 : Option Value) (x : Nat) (st : List Value) (h : a_H) : a_run d MJ1_grow 62 [a0, a1, a2, a3, a4, a5, a6, a7, a8] (.ref x :: st) h = a_run d MJ1_grow 64 [a0, a1, a2, a3, a4, some (.ref x), a6, a7, a8] st h := w_stA dJ1_grow_62 (Nat.le_of_ble_eq_true rfl) rfl
theorem w_J1_grow_62N (d : Nat) (a0 a1 a2 a3 a4 a5 a6 a7 a8 : Option Value) (st : List Value) (h : a_H) : a_run d MJ1_grow 62 [a0, a1, a2, a3, a4, a5, a6, a7, a8] (.null :: st) h = a_run d MJ1_grow 64 [a0, a1, a2, a3, a4, some .null, a6, a7, a8] st h := w_stN dJ1_grow_62 (Nat.le_of_ble_eq_true rfl) rfl
theorem w_J1_grow_64 (d : Nat) (a1 a2 a3 a4 a5 a6 a7 a8 : Option Value) (x : Nat) (st : List Value) (h : a_H) : a_run d MJ1_grow 64 [some (.ref x), a1, a2, a3, a4, a5, a6, a7, a8] st h = a_run d MJ1_grow 65 [some (.ref x), a1, a2, a3, a4, a5, a6, a7, a8] (.ref x :: st) h := w_ldAn dJ1_grow_64 rfl
theorem w_J1_grow_65 (d : Nat) (L : a_L) (i : Nat) (st : List Value) (h : a_H) : a_run d MJ1_grow 65 L (.ref i :: st) h = (a_gf h i 2 [7]).bind fun v => a_run d MJ1_grow 68 L (v :: st) h := w_getf dJ1_grow_65 rfl
theorem w_J1_grow_68 (d : Nat) (a1 a2 a3 a4 a5 a6 a7 a8 : Option Value) (x : Nat) (st : List Value) (h : a_H) : a_run d MJ1_grow 68 [some (.ref x), a1, a2, a3, a4, a5, a6, a7, a8] st h = a_run d MJ1_grow 69 [some (.ref x), a1, a2, a3, a4, a5, a6, a7, a8] (.ref x :: st) h := w_ldAn dJ1_grow_68 rfl
theorem w_J1_grow_69 (d : Nat) (L : a_L) (i : Nat) (st : List Value) (h : a_H) : a_run d MJ1_grow 69 L (.ref i :: st) h = (a_gf h i 1 [7]).bind fun v => a_run d MJ1_grow 72 L (v :: st) h := w_getf dJ1_grow_69 rfl
theorem w_J1_grow_72 (d : Nat) (L : a_L) (x y : Int32) (st : List Value) (h : a_H) : a_run d MJ1_grow 72 L (.int y :: .int x :: st) h = if x < y then a_run d MJ1_grow 96 L st h else a_run d MJ1_grow 75 L st h := w_icmp_lt dJ1_grow_72 rfl
theorem w_J1_grow_75 (d : Nat) (a1 a2 a3 a4 a5 a6 a7 a8 : Option Value) (x : Nat) (st : List Value) (h : a_H) : a_run d MJ1_grow 75 [some (.ref x), a1, a2, a3, a4, a5, a6, a7, a8] st h = a_run d MJ1_grow 76 [some (.ref x), a1, a2, a3, a4, a5, a6, a7, a8] (.ref x :: st) h := w_ldAn dJ1_grow_75 rfl
theorem w_J1_grow_76 (d : Nat) (L : a_L) (i : Nat) (st : List Value) (h : a_H) : a_run d MJ1_grow 76 L (.ref i :: st) h = (a_gf h i 2 [7]).bind fun v => a_run d MJ1_grow 79 L (v :: st) h := w_getf dJ1_grow_76 rfl
theorem w_J1_grow_79 (d : Nat) (a1 a2 a3 a4 a5 a6 a7 a8 : Option Value) (x : Nat) (st : List Value) (h : a_H) : a_run d MJ1_grow 79 [some (.ref x), a1, a2, a3, a4, a5, a6, a7, a8] st h = a_run d MJ1_grow 80 [some (.ref x), a1, a2, a3, a4, a5, a6, a7, a8] (.ref x :: st) h := w_ldAn dJ1_grow_79 rfl
theorem w_J1_grow_80 (d : Nat) (L : a_L) (i : Nat) (st : List Value) (h : a_H) : a_run d MJ1_grow 80 L (.ref i :: st) h = (a_gf h i 1 [7]).bind fun v => a_run d MJ1_grow 83 L (v :: st) h := w_getf dJ1_grow_80 rfl
theorem w_J1_grow_83 (d : Nat) (L : a_L) (x y : Int32) (st : List Value) (h : a_H) : a_run d MJ1_grow 83 L (.int y :: .int x :: st) h = if x = y then a_run d MJ1_grow 86 L st h else a_run d MJ1_grow 164 L st h := w_icmp_ne dJ1_grow_83 rfl
theorem w_J1_grow_86 (d : Nat) (a0 a1 a2 a3 a4 a6 a7 a8 : Option Value) (x : Nat) (st : List Value) (h : a_H) : a_run d MJ1_grow 86 [a0, a1, a2, a3, a4, some (.ref x), a6, a7, a8] st h = a_run d MJ1_grow 88 [a0, a1, a2, a3, a4, some (.ref x), a6, a7, a8] (.ref x :: st) h := w_ldA dJ1_grow_86 rfl
theorem w_J1_grow_86N (d : Nat) (a0 a1 a2 a3 a4 a6 a7 a8 : Option Value) (st : List Value) (h : a_H) : a_run d MJ1_grow 86 [a0, a1, a2, a3, a4, some .null, a6, a7, a8] st h = a_run d MJ1_grow 88 [a0, a1, a2, a3, a4, some .null, a6, a7, a8] (.null :: st) h := w_ldN dJ1_grow_86 rfl
theorem w_J1_grow_88 (d : Nat) (a1 a2 a3 a4 a5 a6 a7 a8 : Option Value) (x : Nat) (st : List Value) (h : a_H) : a_run d MJ1_grow 88 [some (.ref x), a1, a2, a3, a4, a5, a6, a7, a8] st h = a_run d MJ1_grow 89 [some (.ref x), a1, a2, a3, a4, a5, a6, a7, a8] (.ref x :: st) h := w_ldAn dJ1_grow_88 rfl
theorem w_J1_grow_89 (d : Nat) (L : a_L) (i : Nat) (st : List Value) (h : a_H) : a_run d MJ1_grow 89 L (.ref i :: st) h = (a_gf h i 1 [7]).bind fun v => a_run d MJ1_grow 92 L (v :: st) h := w_getf dJ1_grow_89 rfl
theorem w_J1_grow_92 (d : Nat) (L : a_L) (x : Int32) (i : Nat) (st : List Value) (h : a_H) : a_run d MJ1_grow 92 L (.int x :: .ref i :: st) h = (a_rdq h i x).bind fun v => a_run d MJ1_grow 93 L (v :: st) h := w_aald dJ1_grow_92
theorem w_J1_grow_93 (d : Nat) (L : a_L) (x : Nat) (st : List Value) (h : a_H) (hx : 1024 ≤ x) : a_run d MJ1_grow 93 L (.ref x :: st) h = a_run d MJ1_grow 96 L st h := w_ifnull_r (tgt := 164) dJ1_grow_93 rfl hx
theorem w_J1_grow_93N (d : Nat) (L : a_L) (st : List Value) (h : a_H) : a_run d MJ1_grow 93 L (.null :: st) h = a_run d MJ1_grow 164 L st h := w_ifnull_n dJ1_grow_93 rfl
theorem w_J1_grow_96 (d : Nat) (a0 a1 a2 a4 a5 a6 a7 a8 : Option Value) (x : Int32) (st : List Value) (h : a_H) : a_run d MJ1_grow 96 [a0, a1, a2, some (.int x), a4, a5, a6, a7, a8] st h = a_run d MJ1_grow 97 [a0, a1, a2, some (.int x), a4, a5, a6, a7, a8] (.int x :: st) h := w_ldIn dJ1_grow_96 rfl
theorem w_J1_grow_97 (d : Nat) (a0 a1 a3 a4 a5 a6 a7 a8 : Option Value) (x : Int32) (st : List Value) (h : a_H) : a_run d MJ1_grow 97 [a0, a1, some (.int x), a3, a4, a5, a6, a7, a8] st h = a_run d MJ1_grow 98 [a0, a1, some (.int x), a3, a4, a5, a6, a7, a8] (.int x :: st) h := w_ldIn dJ1_grow_97 rfl
theorem w_J1_grow_98 (d : Nat) (L : a_L) (x y : Int32) (st : List Value) (h : a_H) : a_run d MJ1_grow 98 L (.int y :: .int x :: st) h = a_run d MJ1_grow 99 L (.int (x - y) :: st) h := w_isub dJ1_grow_98
theorem w_J1_grow_99 (d : Nat) (a0 a1 a2 a3 a4 a5 a6 a7 a8 : Option Value) (x : Int32) (st : List Value) (h : a_H) : a_run d MJ1_grow 99 [a0, a1, a2, a3, a4, a5, a6, a7, a8] (.int x :: st) h = a_run d MJ1_grow 101 [a0, a1, a2, a3, a4, a5, some (.int x), a7, a8] st h := w_stI dJ1_grow_99 (Nat.le_of_ble_eq_true rfl) rfl
theorem w_J1_grow_101 (d : Nat) (a0 a1 a2 a3 a4 a6 a7 a8 : Option Value) (x : Nat) (st : List Value) (h : a_H) : a_run d MJ1_grow 101 [a0, a1, a2, a3, a4, some (.ref x), a6, a7, a8] st h = a_run d MJ1_grow 103 [a0, a1, a2, a3, a4, some (.ref x), a6, a7, a8] (.ref x :: st) h := w_ldA dJ1_grow_101 rfl
theorem w_J1_grow_101N (d : Nat) (a0 a1 a2 a3 a4 a6 a7 a8 : Option Value) (st : List Value) (h : a_H) : a_run d MJ1_grow 101 [a0, a1, a2, a3, a4, some .null, a6, a7, a8] st h = a_run d MJ1_grow 103 [a0, a1, a2, a3, a4, some .null, a6, a7, a8] (.null :: st) h := w_ldN dJ1_grow_101 rfl
theorem w_J1_grow_103 (d : Nat) (a1 a2 a3 a4 a5 a6 a7 a8 : Option Value) (x : Nat) (st : List Value) (h : a_H) : a_run d MJ1_grow 103 [some (.ref x), a1, a2, a3, a4, a5, a6, a7, a8] st h = a_run d MJ1_grow 104 [some (.ref x), a1, a2, a3, a4, a5, a6, a7, a8] (.ref x :: st) h := w_ldAn dJ1_grow_103 rfl
theorem w_J1_grow_104 (d : Nat) (L : a_L) (i : Nat) (st : List Value) (h : a_H) : a_run d MJ1_grow 104 L (.ref i :: st) h = (a_gf h i 1 [7]).bind fun v => a_run d MJ1_grow 107 L (v :: st) h := w_getf dJ1_grow_104 rfl
theorem w_J1_grow_107 (d : Nat) (a0 a1 a2 a3 a4 a6 a7 a8 : Option Value) (x : Nat) (st : List Value) (h : a_H) : a_run d MJ1_grow 107 [a0, a1, a2, a3, a4, some (.ref x), a6, a7, a8] st h = a_run d MJ1_grow 109 [a0, a1, a2, a3, a4, some (.ref x), a6, a7, a8] (.ref x :: st) h := w_ldA dJ1_grow_107 rfl
theorem w_J1_grow_107N (d : Nat) (a0 a1 a2 a3 a4 a6 a7 a8 : Option Value) (st : List Value) (h : a_H) : a_run d MJ1_grow 107 [a0, a1, a2, a3, a4, some .null, a6, a7, a8] st h = a_run d MJ1_grow 109 [a0, a1, a2, a3, a4, some .null, a6, a7, a8] (.null :: st) h := w_ldN dJ1_grow_107 rfl
theorem w_J1_grow_109 (d : Nat) (a1 a2 a3 a4 a5 a6 a7 a8 : Option Value) (x : Nat) (st : List Value) (h : a_H) : a_run d MJ1_grow 109 [some (.ref x), a1, a2, a3, a4, a5, a6, a7, a8] st h = a_run d MJ1_grow 110 [some (.ref x), a1, a2, a3, a4, a5, a6, a7, a8] (.ref x :: st) h := w_ldAn dJ1_grow_109 rfl
theorem w_J1_grow_110 (d : Nat) (L : a_L) (i : Nat) (st : List Value) (h : a_H) : a_run d MJ1_grow 110 L (.ref i :: st) h = (a_gf h i 1 [7]).bind fun v => a_run d MJ1_grow 113 L (v :: st) h := w_getf dJ1_grow_110 rfl
theorem w_J1_grow_113 (d : Nat) (a0 a1 a2 a3 a4 a5 a7 a8 : Option Value) (x : Int32) (st : List Value) (h : a_H) : a_run d MJ1_grow 113 [a0, a1, a2, a3, a4, a5, some (.int x), a7, a8] st h = a_run d MJ1_grow 115 [a0, a1, a2, a3, a4, a5, some (.int x), a7, a8] (.int x :: st) h := w_ldI dJ1_grow_113 rfl
theorem w_J1_grow_115 (d : Nat) (L : a_L) (x y : Int32) (st : List Value) (h : a_H) : a_run d MJ1_grow 115 L (.int y :: .int x :: st) h = a_run d MJ1_grow 116 L (.int (x + y) :: st) h := w_iadd dJ1_grow_115
theorem w_J1_grow_116 (d : Nat) (a0 a1 a3 a4 a5 a6 a7 a8 : Option Value) (x : Int32) (st : List Value) (h : a_H) : a_run d MJ1_grow 116 [a0, a1, some (.int x), a3, a4, a5, a6, a7, a8] st h = a_run d MJ1_grow 117 [a0, a1, some (.int x), a3, a4, a5, a6, a7, a8] (.int x :: st) h := w_ldIn dJ1_grow_116 rfl
theorem w_J1_grow_117 (d : Nat) (a1 a2 a3 a4 a5 a6 a7 a8 : Option Value) (x : Nat) (st : List Value) (h : a_H) : a_run d MJ1_grow 117 [some (.ref x), a1, a2, a3, a4, a5, a6, a7, a8] st h = a_run d MJ1_grow 118 [some (.ref x), a1, a2, a3, a4, a5, a6, a7, a8] (.ref x :: st) h := w_ldAn dJ1_grow_117 rfl
theorem w_J1_grow_118 (d : Nat) (L : a_L) (i : Nat) (st : List Value) (h : a_H) : a_run d MJ1_grow 118 L (.ref i :: st) h = (a_gf h i 1 [7]).bind fun v => a_run d MJ1_grow 121 L (v :: st) h := w_getf dJ1_grow_118 rfl
theorem w_J1_grow_121 (d : Nat) (L : a_L) (x y : Int32) (st : List Value) (h : a_H) : a_run d MJ1_grow 121 L (.int y :: .int x :: st) h = a_run d MJ1_grow 122 L (.int (x - y) :: st) h := w_isub dJ1_grow_121
theorem w_J1_grow_125 (d : Nat) (a1 a2 a3 a4 a5 a6 a7 a8 : Option Value) (x : Nat) (st : List Value) (h : a_H) : a_run d MJ1_grow 125 [some (.ref x), a1, a2, a3, a4, a5, a6, a7, a8] st h = a_run d MJ1_grow 126 [some (.ref x), a1, a2, a3, a4, a5, a6, a7, a8] (.ref x :: st) h := w_ldAn dJ1_grow_125 rfl
theorem w_J1_grow_126 (d : Nat) (L : a_L) (i : Nat) (st : List Value) (h : a_H) : a_run d MJ1_grow 126 L (.ref i :: st) h = (a_gf h i 1 [7]).bind fun v => a_run d MJ1_grow 129 L (v :: st) h := w_getf dJ1_grow_126 rfl
theorem w_J1_grow_129 (d : Nat) (a0 a1 a2 a3 a4 a5 a6 a7 a8 : Option Value) (x : Int32) (st : List Value) (h : a_H) : a_run d MJ1_grow 129 [a0, a1, a2, a3, a4, a5, a6, a7, a8] (.int x :: st) h = a_run d MJ1_grow 131 [a0, a1, a2, a3, a4, a5, a6, some (.int x), a8] st h := w_stI dJ1_grow_129 (Nat.le_of_ble_eq_true rfl) rfl
theorem w_J1_grow_131 (d : Nat) (a1 a2 a3 a4 a5 a6 a7 a8 : Option Value) (x : Nat) (st : List Value) (h : a_H) : a_run d MJ1_grow 131 [some (.ref x), a1, a2, a3, a4, a5, a6, a7, a8] st h = a_run d MJ1_grow 132 [some (.ref x), a1, a2, a3, a4, a5, a6, a7, a8] (.ref x :: st) h := w_ldAn dJ1_grow_131 rfl
theorem w_J1_grow_132 (d : Nat) (L : a_L) (x : Nat) (st : List Value) (h : a_H) : a_run d MJ1_grow 132 L (.ref x :: st) h = a_run d MJ1_grow 133 L (.ref x :: .ref x :: st) h := w_dup dJ1_grow_132
theorem w_J1_grow_132I (d : Nat) (L : a_L) (x : Int32) (st : List Value) (h : a_H) : a_run d MJ1_grow 132 L (.int x :: st) h = a_run d MJ1_grow 133 L (.int x :: .int x :: st) h := w_dupI dJ1_grow_132
theorem w_J1_grow_133 (d : Nat) (L : a_L) (i : Nat) (st : List Value) (h : a_H) : a_run d MJ1_grow 133 L (.ref i :: st) h = (a_gf h i 1 [7]).bind fun v => a_run d MJ1_grow 136 L (v :: st) h := w_getf dJ1_grow_133 rfl
theorem w_J1_grow_136 (d : Nat) (a0 a1 a2 a3 a4 a5 a7 a8 : Option Value) (x : Int32) (st : List Value) (h : a_H) : a_run d MJ1_grow 136 [a0, a1, a2, a3, a4, a5, some (.int x), a7, a8] st h = a_run d MJ1_grow 138 [a0, a1, a2, a3, a4, a5, some (.int x), a7, a8] (.int x :: st) h := w_ldI dJ1_grow_136 rfl
theorem w_J1_grow_138 (d : Nat) (L : a_L) (x y : Int32) (st : List Value) (h : a_H) : a_run d MJ1_grow 138 L (.int y :: .int x :: st) h = a_run d MJ1_grow 139 L (.int (x + y) :: st) h := w_iadd dJ1_grow_138
theorem w_J1_grow_139 (d : Nat) (L : a_L) (x : Int32) (y : Nat) (st : List Value) (h : a_H) : a_run d MJ1_grow 139 L (.int x :: .ref y :: st) h = a_run d MJ1_grow 140 L (.int x :: .ref y :: .int x :: st) h := w_dupx dJ1_grow_139
theorem w_J1_grow_139R (d : Nat) (L : a_L) (x y : Nat) (st : List Value) (h : a_H) : a_run d MJ1_grow 139 L (.ref x :: .ref y :: st) h = a_run d MJ1_grow 140 L (.ref x :: .ref y :: .ref x :: st) h := w_dupxR dJ1_grow_139
theorem w_J1_grow_140 (d : Nat) (L : a_L) (x : Int32) (i : Nat) (st : List Value) (h : a_H) : a_run d MJ1_grow 140 L (.int x :: .ref i :: st) h = (a_pf h i 1 [7] (.int x)).bind fun h' => a_run d MJ1_grow 143 L st h' := w_putf dJ1_grow_140 rfl rfl (Or.inl rfl) rfl rfl
theorem w_J1_grow_143 (d : Nat) (a0 a1 a2 a3 a4 a5 a6 a7 a8 : Option Value) (x : Int32) (st : List Value) (h : a_H) : a_run d MJ1_grow 143 [a0, a1, a2, a3, a4, a5, a6, a7, a8] (.int x :: st) h = a_run d MJ1_grow 145 [a0, a1, a2, a3, a4, a5, a6, a7, some (.int x)] st h := w_stI dJ1_grow_143 (Nat.le_of_ble_eq_true rfl) rfl
theorem w_J1_grow_145 (d : Nat) (a0 a1 a2 a3 a4 a5 a6 a8 : Option Value) (x : Int32) (st : List Value) (h : a_H) : a_run d MJ1_grow 145 [a0, a1, a2, a3, a4, a5, a6, some (.int x), a8] st h = a_run d MJ1_grow 147 [a0, a1, a2, a3, a4, a5, a6, some (.int x), a8] (.int x :: st) h := w_ldI dJ1_grow_145 rfl
theorem w_J1_grow_147 (d : Nat) (a0 a1 a2 a3 a4 a5 a6 a7 : Option Value) (x : Int32) (st : List Value) (h : a_H) : a_run d MJ1_grow 147 [a0, a1, a2, a3, a4, a5, a6, a7, some (.int x)] st h = a_run d MJ1_grow 149 [a0, a1, a2, a3, a4, a5, a6, a7, some (.int x)] (.int x :: st) h := w_ldI dJ1_grow_147 rfl
theorem w_J1_grow_149 (d : Nat) (L : a_L) (x y : Int32) (st : List Value) (h : a_H) : a_run d MJ1_grow 149 L (.int y :: .int x :: st) h = if x < y then a_run d MJ1_grow 152 L st h else a_run d MJ1_grow 164 L st h := w_icmp_ge dJ1_grow_149 rfl
theorem w_J1_grow_152 (d : Nat) (a0 a1 a2 a3 a4 a6 a7 a8 : Option Value) (x : Nat) (st : List Value) (h : a_H) : a_run d MJ1_grow 152 [a0, a1, a2, a3, a4, some (.ref x), a6, a7, a8] st h = a_run d MJ1_grow 154 [a0, a1, a2, a3, a4, some (.ref x), a6, a7, a8] (.ref x :: st) h := w_ldA dJ1_grow_152 rfl
theorem w_J1_grow_152N (d : Nat) (a0 a1 a2 a3 a4 a6 a7 a8 : Option Value) (st : List Value) (h : a_H) : a_run d MJ1_grow 152 [a0, a1, a2, a3, a4, some .null, a6, a7, a8] st h = a_run d MJ1_grow 154 [a0, a1, a2, a3, a4, some .null, a6, a7, a8] (.null :: st) h := w_ldN dJ1_grow_152 rfl
theorem w_J1_grow_154 (d : Nat) (a0 a1 a2 a3 a4 a5 a6 a8 : Option Value) (x : Int32) (st : List Value) (h : a_H) : a_run d MJ1_grow 154 [a0, a1, a2, a3, a4, a5, a6, some (.int x), a8] st h = a_run d MJ1_grow 156 [a0, a1, a2, a3, a4, a5, a6, some (.int x), a8] (.int x :: st) h := w_ldI dJ1_grow_154 rfl
theorem w_J1_grow_156 (d : Nat) (L : a_L) (st : List Value) (h : a_H) : a_run d MJ1_grow 156 L st h = a_run d MJ1_grow 157 L (.null :: st) h := w_null dJ1_grow_156
theorem w_J1_grow_157 (d : Nat) (L : a_L) (x : Int32) (v : Value) (i : Nat) (st : List Value) (h : a_H) : a_run d MJ1_grow 157 L (v :: .int x :: .ref i :: st) h = (a_wrq h i x v).bind fun h' => a_run d MJ1_grow 158 L st h' := w_aast dJ1_grow_157
theorem w_J1_grow_158 (d : Nat) (a0 a1 a2 a3 a4 a5 a6 a8 : Option Value) (x : Int32) (st : List Value) (h : a_H) : a_run d MJ1_grow 158 [a0, a1, a2, a3, a4, a5, a6, some (.int x), a8] st h = a_run d MJ1_grow 161 [a0, a1, a2, a3, a4, a5, a6, some (.int (x + nI 1)), a8] st h := w_incL dJ1_grow_158 rfl rfl rfl
theorem w_J1_grow_161 (d : Nat) (L : a_L) (st : List Value) (h : a_H) : a_run d MJ1_grow 161 L st h = a_run d MJ1_grow 145 L st h := w_goto dJ1_grow_161 rfl
theorem w_J1_grow_164 (d : Nat) (L : a_L) (h : a_H) : a_run d MJ1_grow 164 L [] h = some (.inl none, h) := w_vret dJ1_grow_164 rfl
theorem e_J1_newCapacity (d : Nat) (x0 : Nat) (x1 : Int32) (x2 : Int32) (h : a_H) : a_call (d + 1) MJ1_newCapacity [.ref x0, .int x1, .int x2] h = a_run d MJ1_newCapacity 0 [some (.ref x0), some (.int x1), some (.int x2), none, none] [] h := a_call_run rfl (Nat.le_of_ble_eq_true rfl) rfl
theorem w_J1_newCapacity_0 (d : Nat) (a1 a2 a3 a4 : Option Value) (x : Nat) (st : List Value) (h : a_H) : a_run d MJ1_newCapacity 0 [some (.ref x), a1, a2, a3, a4] st h = a_run d MJ1_newCapacity 1 [some (.ref x), a1, a2, a3, a4] (.ref x :: st) h := w_ldAn dJ1_newCapacity_0 rfl
theorem w_J1_newCapacity_1 (d : Nat) (L : a_L) (i : Nat) (st : List Value) (h : a_H) : a_run d MJ1_newCapacity 1 L (.ref i :: st) h = (a_gf h i 0 [7]).bind fun v => a_run d MJ1_newCapacity 4 L (v :: st) h := w_getf dJ1_newCapacity_1 rfl
theorem w_J1_newCapacity_4 (d : Nat) (L : a_L) (i : Nat) (st : List Value) (h : a_H) : a_run d MJ1_newCapacity 4 L (.ref i :: st) h = (a_len h i).bind fun v => a_run d MJ1_newCapacity 5 L (v :: st) h := w_alen dJ1_newCapacity_4
theorem w_J1_newCapacity_5 (d : Nat) (a0 a1 a2 a3 a4 : Option Value) (x : Int32) (st : List Value) (h : a_H) : a_run d MJ1_newCapacity 5 [a0, a1, a2, a3, a4] (.int x :: st) h = a_run d MJ1_newCapacity 6 [a0, a1, a2, some (.int x), a4] st h := w_stIn dJ1_newCapacity_5 (Nat.le_of_ble_eq_true rfl) rfl
theorem w_J1_newCapacity_6 (d : Nat) (a0 a1 a2 a4 : Option Value) (x : Int32) (st : List Value) (h : a_H) : a_run d MJ1_newCapacity 6 [a0, a1, a2, some (.int x), a4] st h = a_run d MJ1_newCapacity 7 [a0, a1, a2, some (.int x), a4] (.int x :: st) h := w_ldIn dJ1_newCapacity_6 rfl
theorem w_J1_newCapacity_7 (d : Nat) (a0 a2 a3 a4 : Option Value) (x : Int32) (st : List Value) (h : a_H) : a_run d MJ1_newCapacity 7 [a0, some (.int x), a2, a3, a4] st h = a_run d MJ1_newCapacity 8 [a0, some (.int x), a2, a3, a4] (.int x :: st) h := w_ldIn dJ1_newCapacity_7 rfl
theorem w_J1_newCapacity_8 (d : Nat) (L : a_L) (x y : Int32) (st : List Value) (h : a_H) : a_run d MJ1_newCapacity 8 L (.int y :: .int x :: st) h = a_run d MJ1_newCapacity 9 L (.int (x + y) :: st) h := w_iadd dJ1_newCapacity_8
theorem w_J1_newCapacity_9 (d : Nat) (L : a_L) (x : Nat) (st : List Value) (h : a_H) : a_run d MJ1_newCapacity 9 L (.ref x :: st) h = a_run d MJ1_newCapacity 10 L (.ref x :: .ref x :: st) h := w_dup dJ1_newCapacity_9
theorem w_J1_newCapacity_9I (d : Nat) (L : a_L) (x : Int32) (st : List Value) (h : a_H) : a_run d MJ1_newCapacity 9 L (.int x :: st) h = a_run d MJ1_newCapacity 10 L (.int x :: .int x :: st) h := w_dupI dJ1_newCapacity_9
theorem w_J1_newCapacity_10 (d : Nat) (a0 a1 a2 a3 a4 : Option Value) (x : Int32) (st : List Value) (h : a_H) : a_run d MJ1_newCapacity 10 [a0, a1, a2, a3, a4] (.int x :: st) h = a_run d MJ1_newCapacity 12 [a0, a1, a2, a3, some (.int x)] st h := w_stI dJ1_newCapacity_10 (Nat.le_of_ble_eq_true rfl) rfl
theorem w_J1_newCapacity_12 (d : Nat) (L : a_L) (st : List Value) (h : a_H) : a_run d MJ1_newCapacity 12 L st h = a_run d MJ1_newCapacity 14 L (.int (nI 2147483639) :: st) h := w_ldc dJ1_newCapacity_12 rfl
theorem w_J1_newCapacity_14 (d : Nat) (L : a_L) (x y : Int32) (st : List Value) (h : a_H) : a_run d MJ1_newCapacity 14 L (.int y :: .int x :: st) h = a_run d MJ1_newCapacity 15 L (.int (x - y) :: st) h := w_isub dJ1_newCapacity_14
theorem w_J1_newCapacity_15 (d : Nat) (L : a_L) (x : Int32) (st : List Value) (h : a_H) : a_run d MJ1_newCapacity 15 L (.int x :: st) h = if 0 < x then a_run d MJ1_newCapacity 18 L st h else a_run d MJ1_newCapacity 36 L st h := w_if_le dJ1_newCapacity_15 rfl
theorem w_J1_newCapacity_18 (d : Nat) (a0 a1 a2 a3 : Option Value) (x : Int32) (st : List Value) (h : a_H) : a_run d MJ1_newCapacity 18 [a0, a1, a2, a3, some (.int x)] st h = a_run d MJ1_newCapacity 20 [a0, a1, a2, a3, some (.int x)] (.int x :: st) h := w_ldI dJ1_newCapacity_18 rfl
theorem w_J1_newCapacity_20 (d : Nat) (L : a_L) (x : Int32) (st : List Value) (h : a_H) : a_run d MJ1_newCapacity 20 L (.int x :: st) h = if x < 0 then a_run d MJ1_newCapacity 23 L st h else a_run d MJ1_newCapacity 33 L st h := w_if_ge dJ1_newCapacity_20 rfl
theorem w_J1_newCapacity_23 (d : Nat) (L : a_L) (st : List Value) (h : a_H) : a_run d MJ1_newCapacity 23 L st h = a_run d MJ1_newCapacity 26 L (.ref h.1 :: st) (a_add h (.inr (9, [.null, .null, .null, .null, .null, .int 0])) 6) := w_new dJ1_newCapacity_23 rfl rfl
theorem w_J1_newCapacity_26 (d : Nat) (L : a_L) (x : Nat) (st : List Value) (h : a_H) : a_run d MJ1_newCapacity 26 L (.ref x :: st) h = a_run d MJ1_newCapacity 27 L (.ref x :: .ref x :: st) h := w_dup dJ1_newCapacity_26
theorem w_J1_newCapacity_26I (d : Nat) (L : a_L) (x : Int32) (st : List Value) (h : a_H) : a_run d MJ1_newCapacity 26 L (.int x :: st) h = a_run d MJ1_newCapacity 27 L (.int x :: .int x :: st) h := w_dupI dJ1_newCapacity_26
theorem w_J1_newCapacity_27 (d : Nat) (L : a_L) (st : List Value) (h : a_H) : a_run d MJ1_newCapacity 27 L st h = a_run d MJ1_newCapacity 29 L (.ref 700 :: st) h := w_ldc dJ1_newCapacity_27 rfl
theorem w_J1_newCapacity_29 (d : Nat) (L : a_L) (i : Nat) (v1 : Value) (st : List Value) (h : a_H) (hi : 1024 ≤ i) (hc : a_cat st ≤ 8) : a_run d MJ1_newCapacity 29 L (v1 :: .ref i :: st) h = a_cont d MJ1_newCapacity (a_bk MJ1_newCapacity 29 L st (a_call d MJ12_init [.ref i, v1] h)) := w_callI (as := [.ref i, v1]) dJ1_newCapacity_29 rfl rfl rfl hc (a_new0_of hi)
theorem w_J1_newCapacity_32 (d : Nat) (L : a_L) (x : Nat) (st : List Value) (h : a_H) : a_run d MJ1_newCapacity 32 L (.ref x :: st) h = a_cont d MJ1_newCapacity (a_thr MJ1_newCapacity 32 L x h) := w_athrow dJ1_newCapacity_32
theorem w_J1_newCapacity_33 (d : Nat) (L : a_L) (st : List Value) (h : a_H) : a_run d MJ1_newCapacity 33 L st h = a_run d MJ1_newCapacity 35 L (.int (nI 2147483647) :: st) h := w_ldc dJ1_newCapacity_33 rfl
theorem w_J1_newCapacity_35 (d : Nat) (L : a_L) (x : Int32) (h : a_H) : a_run d MJ1_newCapacity 35 L [.int x] h = some (.inl (some (.int x)), h) := w_iret dJ1_newCapacity_35 (w_retI rfl)
theorem w_J1_newCapacity_36 (d : Nat) (a0 a2 a3 a4 : Option Value) (x : Int32) (st : List Value) (h : a_H) : a_run d MJ1_newCapacity 36 [a0, some (.int x), a2, a3, a4] st h = a_run d MJ1_newCapacity 37 [a0, some (.int x), a2, a3, a4] (.int x :: st) h := w_ldIn dJ1_newCapacity_36 rfl
theorem w_J1_newCapacity_37 (d : Nat) (a0 a1 a3 a4 : Option Value) (x : Int32) (st : List Value) (h : a_H) : a_run d MJ1_newCapacity 37 [a0, a1, some (.int x), a3, a4] st h = a_run d MJ1_newCapacity 38 [a0, a1, some (.int x), a3, a4] (.int x :: st) h := w_ldIn dJ1_newCapacity_37 rfl
theorem w_J1_newCapacity_38 (d : Nat) (L : a_L) (x y : Int32) (st : List Value) (h : a_H) : a_run d MJ1_newCapacity 38 L (.int y :: .int x :: st) h = if y < x then a_run d MJ1_newCapacity 41 L st h else a_run d MJ1_newCapacity 44 L st h := w_icmp_le dJ1_newCapacity_38 rfl
theorem w_J1_newCapacity_41 (d : Nat) (a0 a1 a2 a3 : Option Value) (x : Int32) (st : List Value) (h : a_H) : a_run d MJ1_newCapacity 41 [a0, a1, a2, a3, some (.int x)] st h = a_run d MJ1_newCapacity 43 [a0, a1, a2, a3, some (.int x)] (.int x :: st) h := w_ldI dJ1_newCapacity_41 rfl
theorem w_J1_newCapacity_43 (d : Nat) (L : a_L) (x : Int32) (h : a_H) : a_run d MJ1_newCapacity 43 L [.int x] h = some (.inl (some (.int x)), h) := w_iret dJ1_newCapacity_43 (w_retI rfl)
theorem w_J1_newCapacity_44 (d : Nat) (a0 a1 a2 a4 : Option Value) (x : Int32) (st : List Value) (h : a_H) : a_run d MJ1_newCapacity 44 [a0, a1, a2, some (.int x), a4] st h = a_run d MJ1_newCapacity 45 [a0, a1, a2, some (.int x), a4] (.int x :: st) h := w_ldIn dJ1_newCapacity_44 rfl
theorem w_J1_newCapacity_45 (d : Nat) (a0 a1 a3 a4 : Option Value) (x : Int32) (st : List Value) (h : a_H) : a_run d MJ1_newCapacity 45 [a0, a1, some (.int x), a3, a4] st h = a_run d MJ1_newCapacity 46 [a0, a1, some (.int x), a3, a4] (.int x :: st) h := w_ldIn dJ1_newCapacity_45 rfl
theorem w_J1_newCapacity_46 (d : Nat) (L : a_L) (x y : Int32) (st : List Value) (h : a_H) : a_run d MJ1_newCapacity 46 L (.int y :: .int x :: st) h = a_run d MJ1_newCapacity 47 L (.int (x + y) :: st) h := w_iadd dJ1_newCapacity_46
theorem w_J1_newCapacity_47 (d : Nat) (L : a_L) (st : List Value) (h : a_H) : a_run d MJ1_newCapacity 47 L st h = a_run d MJ1_newCapacity 49 L (.int (nI 2147483639) :: st) h := w_ldc dJ1_newCapacity_47 rfl
theorem w_J1_newCapacity_49 (d : Nat) (L : a_L) (x y : Int32) (st : List Value) (h : a_H) : a_run d MJ1_newCapacity 49 L (.int y :: .int x :: st) h = a_run d MJ1_newCapacity 50 L (.int (x - y) :: st) h := w_isub dJ1_newCapacity_49
theorem w_J1_newCapacity_50 (d : Nat) (L : a_L) (x : Int32) (st : List Value) (h : a_H) : a_run d MJ1_newCapacity 50 L (.int x :: st) h = if x < 0 then a_run d MJ1_newCapacity 53 L st h else a_run d MJ1_newCapacity 59 L st h := w_if_ge dJ1_newCapacity_50 rfl
theorem w_J1_newCapacity_53 (d : Nat) (a0 a1 a2 a4 : Option Value) (x : Int32) (st : List Value) (h : a_H) : a_run d MJ1_newCapacity 53 [a0, a1, a2, some (.int x), a4] st h = a_run d MJ1_newCapacity 54 [a0, a1, a2, some (.int x), a4] (.int x :: st) h := w_ldIn dJ1_newCapacity_53 rfl
theorem w_J1_newCapacity_54 (d : Nat) (a0 a1 a3 a4 : Option Value) (x : Int32) (st : List Value) (h : a_H) : a_run d MJ1_newCapacity 54 [a0, a1, some (.int x), a3, a4] st h = a_run d MJ1_newCapacity 55 [a0, a1, some (.int x), a3, a4] (.int x :: st) h := w_ldIn dJ1_newCapacity_54 rfl
theorem w_J1_newCapacity_55 (d : Nat) (L : a_L) (x y : Int32) (st : List Value) (h : a_H) : a_run d MJ1_newCapacity 55 L (.int y :: .int x :: st) h = a_run d MJ1_newCapacity 56 L (.int (x + y) :: st) h := w_iadd dJ1_newCapacity_55
theorem w_J1_newCapacity_56 (d : Nat) (L : a_L) (st : List Value) (h : a_H) : a_run d MJ1_newCapacity 56 L st h = a_run d MJ1_newCapacity 61 L st h := w_goto dJ1_newCapacity_56 rfl
theorem w_J1_newCapacity_59 (d : Nat) (L : a_L) (st : List Value) (h : a_H) : a_run d MJ1_newCapacity 59 L st h = a_run d MJ1_newCapacity 61 L (.int (nI 2147483639) :: st) h := w_ldc dJ1_newCapacity_59 rfl
theorem w_J1_newCapacity_61 (d : Nat) (L : a_L) (x : Int32) (h : a_H) : a_run d MJ1_newCapacity 61 L [.int x] h = some (.inl (some (.int x)), h) := w_iret dJ1_newCapacity_61 (w_retI rfl)
theorem e_J1_isEmpty (d : Nat) (x0 : Nat) (h : a_H) : a_call (d + 1) MJ1_isEmpty [.ref x0] h = a_run d MJ1_isEmpty 0 [some (.ref x0)] [] h := a_call_run rfl (Nat.le_of_ble_eq_true rfl) rfl
theorem w_J1_isEmpty_0 (d : Nat) (x : Nat) (st : List Value) (h : a_H) : a_run d MJ1_isEmpty 0 [some (.ref x)] st h = a_run d MJ1_isEmpty 1 [some (.ref x)] (.ref x :: st) h := w_ldAn dJ1_isEmpty_0 rfl
theorem w_J1_isEmpty_1 (d : Nat) (L : a_L) (i : Nat) (st : List Value) (h : a_H) : a_run d MJ1_isEmpty 1 L (.ref i :: st) h = (a_gf h i 1 [7]).bind fun v => a_run d MJ1_isEmpty 4 L (v :: st) h := w_getf dJ1_isEmpty_1 rfl
theorem w_J1_isEmpty_4 (d : Nat) (x : Nat) (st : List Value) (h : a_H) : a_run d MJ1_isEmpty 4 [some (.ref x)] st h = a_run d MJ1_isEmpty 5 [some (.ref x)] (.ref x :: st) h := w_ldAn dJ1_isEmpty_4 rfl
theorem w_J1_isEmpty_5 (d : Nat) (L : a_L) (i : Nat) (st : List Value) (h : a_H) : a_run d MJ1_isEmpty 5 L (.ref i :: st) h = (a_gf h i 2 [7]).bind fun v => a_run d MJ1_isEmpty 8 L (v :: st) h := w_getf dJ1_isEmpty_5 rfl
theorem w_J1_isEmpty_8 (d : Nat) (L : a_L) (x y : Int32) (st : List Value) (h : a_H) : a_run d MJ1_isEmpty 8 L (.int y :: .int x :: st) h = if x = y then a_run d MJ1_isEmpty 11 L st h else a_run d MJ1_isEmpty 15 L st h := w_icmp_ne dJ1_isEmpty_8 rfl
theorem w_J1_isEmpty_11 (d : Nat) (L : a_L) (st : List Value) (h : a_H) : a_run d MJ1_isEmpty 11 L st h = a_run d MJ1_isEmpty 12 L (.int (nI 1) :: st) h := w_iconst dJ1_isEmpty_11 rfl
theorem w_J1_isEmpty_12 (d : Nat) (L : a_L) (st : List Value) (h : a_H) : a_run d MJ1_isEmpty 12 L st h = a_run d MJ1_isEmpty 16 L st h := w_goto dJ1_isEmpty_12 rfl
theorem w_J1_isEmpty_15 (d : Nat) (L : a_L) (st : List Value) (h : a_H) : a_run d MJ1_isEmpty 15 L st h = a_run d MJ1_isEmpty 16 L (.int (nI 0) :: st) h := w_iconst dJ1_isEmpty_15 rfl
theorem w_J1_isEmpty_16 (d : Nat) (L : a_L) (x : Int32) (h : a_H) (hx : x = 0 ∨ x = 1) : a_run d MJ1_isEmpty 16 L [.int x] h = some (.inl (some (.int x)), h) := w_iret dJ1_isEmpty_16 (w_retZ rfl hx)
theorem e_J1_removeFirst (d : Nat) (x0 : Nat) (h : a_H) : a_call (d + 1) MJ1_removeFirst [.ref x0] h = a_run d MJ1_removeFirst 0 [some (.ref x0), none] [] h := a_call_run rfl (Nat.le_of_ble_eq_true rfl) rfl
theorem w_J1_removeFirst_0 (d : Nat) (a1 : Option Value) (x : Nat) (st : List Value) (h : a_H) : a_run d MJ1_removeFirst 0 [some (.ref x), a1] st h = a_run d MJ1_removeFirst 1 [some (.ref x), a1] (.ref x :: st) h := w_ldAn dJ1_removeFirst_0 rfl
theorem w_J1_removeFirst_1 (d : Nat) (L : a_L) (i : Nat) (st : List Value) (h : a_H) (hk : a_kls h i = some 7) (hc : a_cat st ≤ 8) : a_run d MJ1_removeFirst 1 L (.ref i :: st) h = a_cont d MJ1_removeFirst (a_bk MJ1_removeFirst 1 L st (a_call d MJ1_pollFirst [.ref i] h)) := w_callV (as := [.ref i]) dJ1_removeFirst_1 rfl rfl rfl hc (a_rcv_of hk rfl)
theorem w_J1_removeFirst_4 (d : Nat) (a0 a1 : Option Value) (x : Nat) (st : List Value) (h : a_H) : a_run d MJ1_removeFirst 4 [a0, a1] (.ref x :: st) h = a_run d MJ1_removeFirst 5 [a0, some (.ref x)] st h := w_stAn dJ1_removeFirst_4 (Nat.le_of_ble_eq_true rfl) rfl
theorem w_J1_removeFirst_4N (d : Nat) (a0 a1 : Option Value) (st : List Value) (h : a_H) : a_run d MJ1_removeFirst 4 [a0, a1] (.null :: st) h = a_run d MJ1_removeFirst 5 [a0, some .null] st h := w_stNn dJ1_removeFirst_4 (Nat.le_of_ble_eq_true rfl) rfl
theorem w_J1_removeFirst_5 (d : Nat) (a0 : Option Value) (x : Nat) (st : List Value) (h : a_H) : a_run d MJ1_removeFirst 5 [a0, some (.ref x)] st h = a_run d MJ1_removeFirst 6 [a0, some (.ref x)] (.ref x :: st) h := w_ldAn dJ1_removeFirst_5 rfl
theorem w_J1_removeFirst_5N (d : Nat) (a0 : Option Value) (st : List Value) (h : a_H) : a_run d MJ1_removeFirst 5 [a0, some .null] st h = a_run d MJ1_removeFirst 6 [a0, some .null] (.null :: st) h := w_ldNn dJ1_removeFirst_5 rfl
theorem w_J1_removeFirst_6 (d : Nat) (L : a_L) (x : Nat) (st : List Value) (h : a_H) (hx : x < 600 ∨ 1024 ≤ x) : a_run d MJ1_removeFirst 6 L (.ref x :: st) h = a_run d MJ1_removeFirst 17 L st h := w_ifnonnull_r dJ1_removeFirst_6 rfl hx
theorem w_J1_removeFirst_6N (d : Nat) (L : a_L) (st : List Value) (h : a_H) : a_run d MJ1_removeFirst 6 L (.null :: st) h = a_run d MJ1_removeFirst 9 L st h := w_ifnonnull_n (tgt := 17) dJ1_removeFirst_6 rfl
theorem w_J1_removeFirst_9 (d : Nat) (L : a_L) (st : List Value) (h : a_H) : a_run d MJ1_removeFirst 9 L st h = a_run d MJ1_removeFirst 12 L (.ref h.1 :: st) (a_add h (.inr (10, [.null, .null, .null, .null, .null, .int 0])) 6) := w_new dJ1_removeFirst_9 rfl rfl
theorem w_J1_removeFirst_12 (d : Nat) (L : a_L) (x : Nat) (st : List Value) (h : a_H) : a_run d MJ1_removeFirst 12 L (.ref x :: st) h = a_run d MJ1_removeFirst 13 L (.ref x :: .ref x :: st) h := w_dup dJ1_removeFirst_12
theorem w_J1_removeFirst_12I (d : Nat) (L : a_L) (x : Int32) (st : List Value) (h : a_H) : a_run d MJ1_removeFirst 12 L (.int x :: st) h = a_run d MJ1_removeFirst 13 L (.int x :: .int x :: st) h := w_dupI dJ1_removeFirst_12
theorem w_J1_removeFirst_13 (d : Nat) (L : a_L) (i : Nat) (st : List Value) (h : a_H) (hi : 1024 ≤ i) (hc : a_cat st ≤ 8) : a_run d MJ1_removeFirst 13 L (.ref i :: st) h = a_cont d MJ1_removeFirst (a_bk MJ1_removeFirst 13 L st (a_call d MJ14_init [.ref i] h)) := w_callI (as := [.ref i]) dJ1_removeFirst_13 rfl rfl rfl hc (a_new0_of hi)
theorem w_J1_removeFirst_16 (d : Nat) (L : a_L) (x : Nat) (st : List Value) (h : a_H) : a_run d MJ1_removeFirst 16 L (.ref x :: st) h = a_cont d MJ1_removeFirst (a_thr MJ1_removeFirst 16 L x h) := w_athrow dJ1_removeFirst_16
theorem w_J1_removeFirst_17 (d : Nat) (a0 : Option Value) (x : Nat) (st : List Value) (h : a_H) : a_run d MJ1_removeFirst 17 [a0, some (.ref x)] st h = a_run d MJ1_removeFirst 18 [a0, some (.ref x)] (.ref x :: st) h := w_ldAn dJ1_removeFirst_17 rfl
theorem w_J1_removeFirst_17N (d : Nat) (a0 : Option Value) (st : List Value) (h : a_H) : a_run d MJ1_removeFirst 17 [a0, some .null] st h = a_run d MJ1_removeFirst 18 [a0, some .null] (.null :: st) h := w_ldNn dJ1_removeFirst_17 rfl
theorem w_J1_removeFirst_18 (d : Nat) (L : a_L) (x : Nat) (h : a_H) : a_run d MJ1_removeFirst 18 L [.ref x] h = some (.inl (some (.ref x)), h) := w_aret dJ1_removeFirst_18 rfl
theorem w_J1_removeFirst_18N (d : Nat) (L : a_L) (h : a_H) : a_run d MJ1_removeFirst 18 L [.null] h = some (.inl (some .null), h) := w_aretN dJ1_removeFirst_18 rfl
theorem e_J1_pollFirst (d : Nat) (x0 : Nat) (h : a_H) : a_call (d + 1) MJ1_pollFirst [.ref x0] h = a_run d MJ1_pollFirst 0 [some (.ref x0), none, none, none] [] h := a_call_run rfl (Nat.le_of_ble_eq_true rfl) rfl
theorem w_J1_pollFirst_0 (d : Nat) (a1 a2 a3 : Option Value) (x : Nat) (st : List Value) (h : a_H) : a_run d MJ1_pollFirst 0 [some (.ref x), a1, a2, a3] st h = a_run d MJ1_pollFirst 1 [some (.ref x), a1, a2, a3] (.ref x :: st) h := w_ldAn dJ1_pollFirst_0 rfl
theorem w_J1_pollFirst_1 (d : Nat) (L : a_L) (i : Nat) (st : List Value) (h : a_H) : a_run d MJ1_pollFirst 1 L (.ref i :: st) h = (a_gf h i 0 [7]).bind fun v => a_run d MJ1_pollFirst 4 L (v :: st) h := w_getf dJ1_pollFirst_1 rfl
theorem w_J1_pollFirst_4 (d : Nat) (L : a_L) (x : Nat) (st : List Value) (h : a_H) : a_run d MJ1_pollFirst 4 L (.ref x :: st) h = a_run d MJ1_pollFirst 5 L (.ref x :: .ref x :: st) h := w_dup dJ1_pollFirst_4
theorem w_J1_pollFirst_4I (d : Nat) (L : a_L) (x : Int32) (st : List Value) (h : a_H) : a_run d MJ1_pollFirst 4 L (.int x :: st) h = a_run d MJ1_pollFirst 5 L (.int x :: .int x :: st) h := w_dupI dJ1_pollFirst_4
theorem w_J1_pollFirst_5 (d : Nat) (a0 a1 a2 a3 : Option Value) (x : Nat) (st : List Value) (h : a_H) : a_run d MJ1_pollFirst 5 [a0, a1, a2, a3] (.ref x :: st) h = a_run d MJ1_pollFirst 6 [a0, some (.ref x), a2, a3] st h := w_stAn dJ1_pollFirst_5 (Nat.le_of_ble_eq_true rfl) rfl
theorem w_J1_pollFirst_5N (d : Nat) (a0 a1 a2 a3 : Option Value) (st : List Value) (h : a_H) : a_run d MJ1_pollFirst 5 [a0, a1, a2, a3] (.null :: st) h = a_run d MJ1_pollFirst 6 [a0, some .null, a2, a3] st h := w_stNn dJ1_pollFirst_5 (Nat.le_of_ble_eq_true rfl) rfl
theorem w_J1_pollFirst_6 (d : Nat) (a1 a2 a3 : Option Value) (x : Nat) (st : List Value) (h : a_H) : a_run d MJ1_pollFirst 6 [some (.ref x), a1, a2, a3] st h = a_run d MJ1_pollFirst 7 [some (.ref x), a1, a2, a3] (.ref x :: st) h := w_ldAn dJ1_pollFirst_6 rfl
theorem w_J1_pollFirst_7 (d : Nat) (L : a_L) (i : Nat) (st : List Value) (h : a_H) : a_run d MJ1_pollFirst 7 L (.ref i :: st) h = (a_gf h i 1 [7]).bind fun v => a_run d MJ1_pollFirst 10 L (v :: st) h := w_getf dJ1_pollFirst_7 rfl
theorem w_J1_pollFirst_10 (d : Nat) (L : a_L) (x : Nat) (st : List Value) (h : a_H) : a_run d MJ1_pollFirst 10 L (.ref x :: st) h = a_run d MJ1_pollFirst 11 L (.ref x :: .ref x :: st) h := w_dup dJ1_pollFirst_10
theorem w_J1_pollFirst_10I (d : Nat) (L : a_L) (x : Int32) (st : List Value) (h : a_H) : a_run d MJ1_pollFirst 10 L (.int x :: st) h = a_run d MJ1_pollFirst 11 L (.int x :: .int x :: st) h := w_dupI dJ1_pollFirst_10
theorem w_J1_pollFirst_11 (d : Nat) (a0 a1 a2 a3 : Option Value) (x : Int32) (st : List Value) (h : a_H) : a_run d MJ1_pollFirst 11 [a0, a1, a2, a3] (.int x :: st) h = a_run d MJ1_pollFirst 12 [a0, a1, some (.int x), a3] st h := w_stIn dJ1_pollFirst_11 (Nat.le_of_ble_eq_true rfl) rfl
theorem w_J1_pollFirst_12 (d : Nat) (L : a_L) (v0 v1 : Value) (st : List Value) (h : a_H) (hc : a_cat st ≤ 8) : a_run d MJ1_pollFirst 12 L (v1 :: v0 :: st) h = a_cont d MJ1_pollFirst (a_bk MJ1_pollFirst 12 L st (a_call d MJ1_elementAt [v0, v1] h)) := w_callS (as := [v0, v1]) dJ1_pollFirst_12 rfl rfl rfl hc
theorem w_J1_pollFirst_15 (d : Nat) (a0 a1 a2 a3 : Option Value) (x : Nat) (st : List Value) (h : a_H) : a_run d MJ1_pollFirst 15 [a0, a1, a2, a3] (.ref x :: st) h = a_run d MJ1_pollFirst 16 [a0, a1, a2, some (.ref x)] st h := w_stAn dJ1_pollFirst_15 (Nat.le_of_ble_eq_true rfl) rfl
theorem w_J1_pollFirst_15N (d : Nat) (a0 a1 a2 a3 : Option Value) (st : List Value) (h : a_H) : a_run d MJ1_pollFirst 15 [a0, a1, a2, a3] (.null :: st) h = a_run d MJ1_pollFirst 16 [a0, a1, a2, some .null] st h := w_stNn dJ1_pollFirst_15 (Nat.le_of_ble_eq_true rfl) rfl
theorem w_J1_pollFirst_16 (d : Nat) (a0 a1 a2 : Option Value) (x : Nat) (st : List Value) (h : a_H) : a_run d MJ1_pollFirst 16 [a0, a1, a2, some (.ref x)] st h = a_run d MJ1_pollFirst 17 [a0, a1, a2, some (.ref x)] (.ref x :: st) h := w_ldAn dJ1_pollFirst_16 rfl
theorem w_J1_pollFirst_16N (d : Nat) (a0 a1 a2 : Option Value) (st : List Value) (h : a_H) : a_run d MJ1_pollFirst 16 [a0, a1, a2, some .null] st h = a_run d MJ1_pollFirst 17 [a0, a1, a2, some .null] (.null :: st) h := w_ldNn dJ1_pollFirst_16 rfl
theorem w_J1_pollFirst_17 (d : Nat) (L : a_L) (x : Nat) (st : List Value) (h : a_H) (hx : 1024 ≤ x) : a_run d MJ1_pollFirst 17 L (.ref x :: st) h = a_run d MJ1_pollFirst 20 L st h := w_ifnull_r (tgt := 34) dJ1_pollFirst_17 rfl hx
theorem w_J1_pollFirst_17N (d : Nat) (L : a_L) (st : List Value) (h : a_H) : a_run d MJ1_pollFirst 17 L (.null :: st) h = a_run d MJ1_pollFirst 34 L st h := w_ifnull_n dJ1_pollFirst_17 rfl
theorem w_J1_pollFirst_20 (d : Nat) (a0 a2 a3 : Option Value) (x : Nat) (st : List Value) (h : a_H) : a_run d MJ1_pollFirst 20 [a0, some (.ref x), a2, a3] st h = a_run d MJ1_pollFirst 21 [a0, some (.ref x), a2, a3] (.ref x :: st) h := w_ldAn dJ1_pollFirst_20 rfl
theorem w_J1_pollFirst_20N (d : Nat) (a0 a2 a3 : Option Value) (st : List Value) (h : a_H) : a_run d MJ1_pollFirst 20 [a0, some .null, a2, a3] st h = a_run d MJ1_pollFirst 21 [a0, some .null, a2, a3] (.null :: st) h := w_ldNn dJ1_pollFirst_20 rfl
theorem w_J1_pollFirst_21 (d : Nat) (a0 a1 a3 : Option Value) (x : Int32) (st : List Value) (h : a_H) : a_run d MJ1_pollFirst 21 [a0, a1, some (.int x), a3] st h = a_run d MJ1_pollFirst 22 [a0, a1, some (.int x), a3] (.int x :: st) h := w_ldIn dJ1_pollFirst_21 rfl
theorem w_J1_pollFirst_22 (d : Nat) (L : a_L) (st : List Value) (h : a_H) : a_run d MJ1_pollFirst 22 L st h = a_run d MJ1_pollFirst 23 L (.null :: st) h := w_null dJ1_pollFirst_22
theorem w_J1_pollFirst_23 (d : Nat) (L : a_L) (x : Int32) (v : Value) (i : Nat) (st : List Value) (h : a_H) : a_run d MJ1_pollFirst 23 L (v :: .int x :: .ref i :: st) h = (a_wrq h i x v).bind fun h' => a_run d MJ1_pollFirst 24 L st h' := w_aast dJ1_pollFirst_23
theorem w_J1_pollFirst_24 (d : Nat) (a1 a2 a3 : Option Value) (x : Nat) (st : List Value) (h : a_H) : a_run d MJ1_pollFirst 24 [some (.ref x), a1, a2, a3] st h = a_run d MJ1_pollFirst 25 [some (.ref x), a1, a2, a3] (.ref x :: st) h := w_ldAn dJ1_pollFirst_24 rfl
theorem w_J1_pollFirst_25 (d : Nat) (a0 a1 a3 : Option Value) (x : Int32) (st : List Value) (h : a_H) : a_run d MJ1_pollFirst 25 [a0, a1, some (.int x), a3] st h = a_run d MJ1_pollFirst 26 [a0, a1, some (.int x), a3] (.int x :: st) h := w_ldIn dJ1_pollFirst_25 rfl
theorem w_J1_pollFirst_26 (d : Nat) (a0 a2 a3 : Option Value) (x : Nat) (st : List Value) (h : a_H) : a_run d MJ1_pollFirst 26 [a0, some (.ref x), a2, a3] st h = a_run d MJ1_pollFirst 27 [a0, some (.ref x), a2, a3] (.ref x :: st) h := w_ldAn dJ1_pollFirst_26 rfl
theorem w_J1_pollFirst_26N (d : Nat) (a0 a2 a3 : Option Value) (st : List Value) (h : a_H) : a_run d MJ1_pollFirst 26 [a0, some .null, a2, a3] st h = a_run d MJ1_pollFirst 27 [a0, some .null, a2, a3] (.null :: st) h := w_ldNn dJ1_pollFirst_26 rfl
theorem w_J1_pollFirst_27 (d : Nat) (L : a_L) (i : Nat) (st : List Value) (h : a_H) : a_run d MJ1_pollFirst 27 L (.ref i :: st) h = (a_len h i).bind fun v => a_run d MJ1_pollFirst 28 L (v :: st) h := w_alen dJ1_pollFirst_27
theorem w_J1_pollFirst_28 (d : Nat) (L : a_L) (v0 v1 : Value) (st : List Value) (h : a_H) (hc : a_cat st ≤ 8) : a_run d MJ1_pollFirst 28 L (v1 :: v0 :: st) h = a_cont d MJ1_pollFirst (a_bk MJ1_pollFirst 28 L st (a_call d MJ1_inc [v0, v1] h)) := w_callS (as := [v0, v1]) dJ1_pollFirst_28 rfl rfl rfl hc
theorem w_J1_pollFirst_31 (d : Nat) (L : a_L) (x : Int32) (i : Nat) (st : List Value) (h : a_H) : a_run d MJ1_pollFirst 31 L (.int x :: .ref i :: st) h = (a_pf h i 1 [7] (.int x)).bind fun h' => a_run d MJ1_pollFirst 34 L st h' := w_putf dJ1_pollFirst_31 rfl rfl (Or.inl rfl) rfl rfl
theorem w_J1_pollFirst_34 (d : Nat) (a0 a1 a2 : Option Value) (x : Nat) (st : List Value) (h : a_H) : a_run d MJ1_pollFirst 34 [a0, a1, a2, some (.ref x)] st h = a_run d MJ1_pollFirst 35 [a0, a1, a2, some (.ref x)] (.ref x :: st) h := w_ldAn dJ1_pollFirst_34 rfl
theorem w_J1_pollFirst_34N (d : Nat) (a0 a1 a2 : Option Value) (st : List Value) (h : a_H) : a_run d MJ1_pollFirst 34 [a0, a1, a2, some .null] st h = a_run d MJ1_pollFirst 35 [a0, a1, a2, some .null] (.null :: st) h := w_ldNn dJ1_pollFirst_34 rfl
theorem w_J1_pollFirst_35 (d : Nat) (L : a_L) (x : Nat) (h : a_H) : a_run d MJ1_pollFirst 35 L [.ref x] h = some (.inl (some (.ref x)), h) := w_aret dJ1_pollFirst_35 rfl
theorem w_J1_pollFirst_35N (d : Nat) (L : a_L) (h : a_H) : a_run d MJ1_pollFirst 35 L [.null] h = some (.inl (some .null), h) := w_aretN dJ1_pollFirst_35 rfl
theorem e_J1_elementAt (d : Nat) (x0 : Nat) (x1 : Int32) (h : a_H) : a_call (d + 1) MJ1_elementAt [.ref x0, .int x1] h = a_run d MJ1_elementAt 0 [some (.ref x0), some (.int x1)] [] h := a_call_run rfl (Nat.le_of_ble_eq_true rfl) rfl
theorem w_J1_elementAt_0 (d : Nat) (a1 : Option Value) (x : Nat) (st : List Value) (h : a_H) : a_run d MJ1_elementAt 0 [some (.ref x), a1] st h = a_run d MJ1_elementAt 1 [some (.ref x), a1] (.ref x :: st) h := w_ldAn dJ1_elementAt_0 rfl
theorem w_J1_elementAt_1 (d : Nat) (a0 : Option Value) (x : Int32) (st : List Value) (h : a_H) : a_run d MJ1_elementAt 1 [a0, some (.int x)] st h = a_run d MJ1_elementAt 2 [a0, some (.int x)] (.int x :: st) h := w_ldIn dJ1_elementAt_1 rfl
theorem w_J1_elementAt_2 (d : Nat) (L : a_L) (x : Int32) (i : Nat) (st : List Value) (h : a_H) : a_run d MJ1_elementAt 2 L (.int x :: .ref i :: st) h = (a_rdq h i x).bind fun v => a_run d MJ1_elementAt 3 L (v :: st) h := w_aald dJ1_elementAt_2
theorem w_J1_elementAt_3 (d : Nat) (L : a_L) (x : Nat) (h : a_H) : a_run d MJ1_elementAt 3 L [.ref x] h = some (.inl (some (.ref x)), h) := w_aret dJ1_elementAt_3 rfl
theorem w_J1_elementAt_3N (d : Nat) (L : a_L) (h : a_H) : a_run d MJ1_elementAt 3 L [.null] h = some (.inl (some .null), h) := w_aretN dJ1_elementAt_3 rfl
theorem e_J1_size (d : Nat) (x0 : Nat) (h : a_H) : a_call (d + 1) MJ1_size [.ref x0] h = a_run d MJ1_size 0 [some (.ref x0)] [] h := a_call_run rfl (Nat.le_of_ble_eq_true rfl) rfl
theorem w_J1_size_0 (d : Nat) (x : Nat) (st : List Value) (h : a_H) : a_run d MJ1_size 0 [some (.ref x)] st h = a_run d MJ1_size 1 [some (.ref x)] (.ref x :: st) h := w_ldAn dJ1_size_0 rfl
theorem w_J1_size_1 (d : Nat) (L : a_L) (i : Nat) (st : List Value) (h : a_H) : a_run d MJ1_size 1 L (.ref i :: st) h = (a_gf h i 2 [7]).bind fun v => a_run d MJ1_size 4 L (v :: st) h := w_getf dJ1_size_1 rfl
theorem w_J1_size_4 (d : Nat) (x : Nat) (st : List Value) (h : a_H) : a_run d MJ1_size 4 [some (.ref x)] st h = a_run d MJ1_size 5 [some (.ref x)] (.ref x :: st) h := w_ldAn dJ1_size_4 rfl
theorem w_J1_size_5 (d : Nat) (L : a_L) (i : Nat) (st : List Value) (h : a_H) : a_run d MJ1_size 5 L (.ref i :: st) h = (a_gf h i 1 [7]).bind fun v => a_run d MJ1_size 8 L (v :: st) h := w_getf dJ1_size_5 rfl
theorem w_J1_size_8 (d : Nat) (x : Nat) (st : List Value) (h : a_H) : a_run d MJ1_size 8 [some (.ref x)] st h = a_run d MJ1_size 9 [some (.ref x)] (.ref x :: st) h := w_ldAn dJ1_size_8 rfl
theorem w_J1_size_9 (d : Nat) (L : a_L) (i : Nat) (st : List Value) (h : a_H) : a_run d MJ1_size 9 L (.ref i :: st) h = (a_gf h i 0 [7]).bind fun v => a_run d MJ1_size 12 L (v :: st) h := w_getf dJ1_size_9 rfl
theorem w_J1_size_12 (d : Nat) (L : a_L) (i : Nat) (st : List Value) (h : a_H) : a_run d MJ1_size 12 L (.ref i :: st) h = (a_len h i).bind fun v => a_run d MJ1_size 13 L (v :: st) h := w_alen dJ1_size_12
theorem w_J1_size_13 (d : Nat) (L : a_L) (v0 v1 v2 : Value) (st : List Value) (h : a_H) (hc : a_cat st ≤ 8) : a_run d MJ1_size 13 L (v2 :: v1 :: v0 :: st) h = a_cont d MJ1_size (a_bk MJ1_size 13 L st (a_call d MJ1_sub [v0, v1, v2] h)) := w_callS (as := [v0, v1, v2]) dJ1_size_13 rfl rfl rfl hc
theorem w_J1_size_16 (d : Nat) (L : a_L) (x : Int32) (h : a_H) : a_run d MJ1_size 16 L [.int x] h = some (.inl (some (.int x)), h) := w_iret dJ1_size_16 (w_retI rfl)
theorem e_J1_sub (d : Nat) (x0 : Int32) (x1 : Int32) (x2 : Int32) (h : a_H) : a_call (d + 1) MJ1_sub [.int x0, .int x1, .int x2] h = a_run d MJ1_sub 0 [some (.int x0), some (.int x1), some (.int x2)] [] h := a_call_run rfl (Nat.le_of_ble_eq_true rfl) rfl
theorem w_J1_sub_0 (d : Nat) (a1 a2 : Option Value) (x : Int32) (st : List Value) (h : a_H) : a_run d MJ1_sub 0 [some (.int x), a1, a2] st h = a_run d MJ1_sub 1 [some (.int x), a1, a2] (.int x :: st) h := w_ldIn dJ1_sub_0 rfl
theorem w_J1_sub_1 (d : Nat) (a0 a2 : Option Value) (x : Int32) (st : List Value) (h : a_H) : a_run d MJ1_sub 1 [a0, some (.int x), a2] st h = a_run d MJ1_sub 2 [a0, some (.int x), a2] (.int x :: st) h := w_ldIn dJ1_sub_1 rfl
theorem w_J1_sub_2 (d : Nat) (L : a_L) (x y : Int32) (st : List Value) (h : a_H) : a_run d MJ1_sub 2 L (.int y :: .int x :: st) h = a_run d MJ1_sub 3 L (.int (x - y) :: st) h := w_isub dJ1_sub_2
theorem w_J1_sub_3 (d : Nat) (L : a_L) (x : Nat) (st : List Value) (h : a_H) : a_run d MJ1_sub 3 L (.ref x :: st) h = a_run d MJ1_sub 4 L (.ref x :: .ref x :: st) h := w_dup dJ1_sub_3
theorem w_J1_sub_3I (d : Nat) (L : a_L) (x : Int32) (st : List Value) (h : a_H) : a_run d MJ1_sub 3 L (.int x :: st) h = a_run d MJ1_sub 4 L (.int x :: .int x :: st) h := w_dupI dJ1_sub_3
theorem w_J1_sub_4 (d : Nat) (a0 a1 a2 : Option Value) (x : Int32) (st : List Value) (h : a_H) : a_run d MJ1_sub 4 [a0, a1, a2] (.int x :: st) h = a_run d MJ1_sub 5 [some (.int x), a1, a2] st h := w_stIn dJ1_sub_4 (Nat.le_of_ble_eq_true rfl) rfl
theorem w_J1_sub_5 (d : Nat) (L : a_L) (x : Int32) (st : List Value) (h : a_H) : a_run d MJ1_sub 5 L (.int x :: st) h = if x < 0 then a_run d MJ1_sub 8 L st h else a_run d MJ1_sub 12 L st h := w_if_ge dJ1_sub_5 rfl
theorem w_J1_sub_8 (d : Nat) (a1 a2 : Option Value) (x : Int32) (st : List Value) (h : a_H) : a_run d MJ1_sub 8 [some (.int x), a1, a2] st h = a_run d MJ1_sub 9 [some (.int x), a1, a2] (.int x :: st) h := w_ldIn dJ1_sub_8 rfl
theorem w_J1_sub_9 (d : Nat) (a0 a1 : Option Value) (x : Int32) (st : List Value) (h : a_H) : a_run d MJ1_sub 9 [a0, a1, some (.int x)] st h = a_run d MJ1_sub 10 [a0, a1, some (.int x)] (.int x :: st) h := w_ldIn dJ1_sub_9 rfl
theorem w_J1_sub_10 (d : Nat) (L : a_L) (x y : Int32) (st : List Value) (h : a_H) : a_run d MJ1_sub 10 L (.int y :: .int x :: st) h = a_run d MJ1_sub 11 L (.int (x + y) :: st) h := w_iadd dJ1_sub_10
theorem w_J1_sub_11 (d : Nat) (a0 a1 a2 : Option Value) (x : Int32) (st : List Value) (h : a_H) : a_run d MJ1_sub 11 [a0, a1, a2] (.int x :: st) h = a_run d MJ1_sub 12 [some (.int x), a1, a2] st h := w_stIn dJ1_sub_11 (Nat.le_of_ble_eq_true rfl) rfl
theorem w_J1_sub_12 (d : Nat) (a1 a2 : Option Value) (x : Int32) (st : List Value) (h : a_H) : a_run d MJ1_sub 12 [some (.int x), a1, a2] st h = a_run d MJ1_sub 13 [some (.int x), a1, a2] (.int x :: st) h := w_ldIn dJ1_sub_12 rfl
theorem w_J1_sub_13 (d : Nat) (L : a_L) (x : Int32) (h : a_H) : a_run d MJ1_sub 13 L [.int x] h = some (.inl (some (.int x)), h) := w_iret dJ1_sub_13 (w_retI rfl)
theorem e_J1_removeLast (d : Nat) (x0 : Nat) (h : a_H) : a_call (d + 1) MJ1_removeLast [.ref x0] h = a_run d MJ1_removeLast 0 [some (.ref x0), none] [] h := a_call_run rfl (Nat.le_of_ble_eq_true rfl) rfl
theorem w_J1_removeLast_0 (d : Nat) (a1 : Option Value) (x : Nat) (st : List Value) (h : a_H) : a_run d MJ1_removeLast 0 [some (.ref x), a1] st h = a_run d MJ1_removeLast 1 [some (.ref x), a1] (.ref x :: st) h := w_ldAn dJ1_removeLast_0 rfl
theorem w_J1_removeLast_1 (d : Nat) (L : a_L) (i : Nat) (st : List Value) (h : a_H) (hk : a_kls h i = some 7) (hc : a_cat st ≤ 8) : a_run d MJ1_removeLast 1 L (.ref i :: st) h = a_cont d MJ1_removeLast (a_bk MJ1_removeLast 1 L st (a_call d MJ1_pollLast [.ref i] h)) := w_callV (as := [.ref i]) dJ1_removeLast_1 rfl rfl rfl hc (a_rcv_of hk rfl)
theorem w_J1_removeLast_4 (d : Nat) (a0 a1 : Option Value) (x : Nat) (st : List Value) (h : a_H) : a_run d MJ1_removeLast 4 [a0, a1] (.ref x :: st) h = a_run d MJ1_removeLast 5 [a0, some (.ref x)] st h := w_stAn dJ1_removeLast_4 (Nat.le_of_ble_eq_true rfl) rfl
theorem w_J1_removeLast_4N (d : Nat) (a0 a1 : Option Value) (st : List Value) (h : a_H) : a_run d MJ1_removeLast 4 [a0, a1] (.null :: st) h = a_run d MJ1_removeLast 5 [a0, some .null] st h := w_stNn dJ1_removeLast_4 (Nat.le_of_ble_eq_true rfl) rfl
theorem w_J1_removeLast_5 (d : Nat) (a0 : Option Value) (x : Nat) (st : List Value) (h : a_H) : a_run d MJ1_removeLast 5 [a0, some (.ref x)] st h = a_run d MJ1_removeLast 6 [a0, some (.ref x)] (.ref x :: st) h := w_ldAn dJ1_removeLast_5 rfl
theorem w_J1_removeLast_5N (d : Nat) (a0 : Option Value) (st : List Value) (h : a_H) : a_run d MJ1_removeLast 5 [a0, some .null] st h = a_run d MJ1_removeLast 6 [a0, some .null] (.null :: st) h := w_ldNn dJ1_removeLast_5 rfl
theorem w_J1_removeLast_6 (d : Nat) (L : a_L) (x : Nat) (st : List Value) (h : a_H) (hx : x < 600 ∨ 1024 ≤ x) : a_run d MJ1_removeLast 6 L (.ref x :: st) h = a_run d MJ1_removeLast 17 L st h := w_ifnonnull_r dJ1_removeLast_6 rfl hx
theorem w_J1_removeLast_6N (d : Nat) (L : a_L) (st : List Value) (h : a_H) : a_run d MJ1_removeLast 6 L (.null :: st) h = a_run d MJ1_removeLast 9 L st h := w_ifnonnull_n (tgt := 17) dJ1_removeLast_6 rfl
theorem w_J1_removeLast_9 (d : Nat) (L : a_L) (st : List Value) (h : a_H) : a_run d MJ1_removeLast 9 L st h = a_run d MJ1_removeLast 12 L (.ref h.1 :: st) (a_add h (.inr (10, [.null, .null, .null, .null, .null, .int 0])) 6) := w_new dJ1_removeLast_9 rfl rfl
theorem w_J1_removeLast_12 (d : Nat) (L : a_L) (x : Nat) (st : List Value) (h : a_H) : a_run d MJ1_removeLast 12 L (.ref x :: st) h = a_run d MJ1_removeLast 13 L (.ref x :: .ref x :: st) h := w_dup dJ1_removeLast_12
theorem w_J1_removeLast_12I (d : Nat) (L : a_L) (x : Int32) (st : List Value) (h : a_H) : a_run d MJ1_removeLast 12 L (.int x :: st) h = a_run d MJ1_removeLast 13 L (.int x :: .int x :: st) h := w_dupI dJ1_removeLast_12
theorem w_J1_removeLast_13 (d : Nat) (L : a_L) (i : Nat) (st : List Value) (h : a_H) (hi : 1024 ≤ i) (hc : a_cat st ≤ 8) : a_run d MJ1_removeLast 13 L (.ref i :: st) h = a_cont d MJ1_removeLast (a_bk MJ1_removeLast 13 L st (a_call d MJ14_init [.ref i] h)) := w_callI (as := [.ref i]) dJ1_removeLast_13 rfl rfl rfl hc (a_new0_of hi)
theorem w_J1_removeLast_16 (d : Nat) (L : a_L) (x : Nat) (st : List Value) (h : a_H) : a_run d MJ1_removeLast 16 L (.ref x :: st) h = a_cont d MJ1_removeLast (a_thr MJ1_removeLast 16 L x h) := w_athrow dJ1_removeLast_16
theorem w_J1_removeLast_17 (d : Nat) (a0 : Option Value) (x : Nat) (st : List Value) (h : a_H) : a_run d MJ1_removeLast 17 [a0, some (.ref x)] st h = a_run d MJ1_removeLast 18 [a0, some (.ref x)] (.ref x :: st) h := w_ldAn dJ1_removeLast_17 rfl
theorem w_J1_removeLast_17N (d : Nat) (a0 : Option Value) (st : List Value) (h : a_H) : a_run d MJ1_removeLast 17 [a0, some .null] st h = a_run d MJ1_removeLast 18 [a0, some .null] (.null :: st) h := w_ldNn dJ1_removeLast_17 rfl
theorem w_J1_removeLast_18 (d : Nat) (L : a_L) (x : Nat) (h : a_H) : a_run d MJ1_removeLast 18 L [.ref x] h = some (.inl (some (.ref x)), h) := w_aret dJ1_removeLast_18 rfl
theorem w_J1_removeLast_18N (d : Nat) (L : a_L) (h : a_H) : a_run d MJ1_removeLast 18 L [.null] h = some (.inl (some .null), h) := w_aretN dJ1_removeLast_18 rfl
theorem e_J1_pollLast (d : Nat) (x0 : Nat) (h : a_H) : a_call (d + 1) MJ1_pollLast [.ref x0] h = a_run d MJ1_pollLast 0 [some (.ref x0), none, none, none] [] h := a_call_run rfl (Nat.le_of_ble_eq_true rfl) rfl
theorem w_J1_pollLast_0 (d : Nat) (a1 a2 a3 : Option Value) (x : Nat) (st : List Value) (h : a_H) : a_run d MJ1_pollLast 0 [some (.ref x), a1, a2, a3] st h = a_run d MJ1_pollLast 1 [some (.ref x), a1, a2, a3] (.ref x :: st) h := w_ldAn dJ1_pollLast_0 rfl
theorem w_J1_pollLast_1 (d : Nat) (L : a_L) (i : Nat) (st : List Value) (h : a_H) : a_run d MJ1_pollLast 1 L (.ref i :: st) h = (a_gf h i 0 [7]).bind fun v => a_run d MJ1_pollLast 4 L (v :: st) h := w_getf dJ1_pollLast_1 rfl
theorem w_J1_pollLast_4 (d : Nat) (L : a_L) (x : Nat) (st : List Value) (h : a_H) : a_run d MJ1_pollLast 4 L (.ref x :: st) h = a_run d MJ1_pollLast 5 L (.ref x :: .ref x :: st) h := w_dup dJ1_pollLast_4
theorem w_J1_pollLast_4I (d : Nat) (L : a_L) (x : Int32) (st : List Value) (h : a_H) : a_run d MJ1_pollLast 4 L (.int x :: st) h = a_run d MJ1_pollLast 5 L (.int x :: .int x :: st) h := w_dupI dJ1_pollLast_4
theorem w_J1_pollLast_5 (d : Nat) (a0 a1 a2 a3 : Option Value) (x : Nat) (st : List Value) (h : a_H) : a_run d MJ1_pollLast 5 [a0, a1, a2, a3] (.ref x :: st) h = a_run d MJ1_pollLast 6 [a0, some (.ref x), a2, a3] st h := w_stAn dJ1_pollLast_5 (Nat.le_of_ble_eq_true rfl) rfl
theorem w_J1_pollLast_5N (d : Nat) (a0 a1 a2 a3 : Option Value) (st : List Value) (h : a_H) : a_run d MJ1_pollLast 5 [a0, a1, a2, a3] (.null :: st) h = a_run d MJ1_pollLast 6 [a0, some .null, a2, a3] st h := w_stNn dJ1_pollLast_5 (Nat.le_of_ble_eq_true rfl) rfl
theorem w_J1_pollLast_6 (d : Nat) (a1 a2 a3 : Option Value) (x : Nat) (st : List Value) (h : a_H) : a_run d MJ1_pollLast 6 [some (.ref x), a1, a2, a3] st h = a_run d MJ1_pollLast 7 [some (.ref x), a1, a2, a3] (.ref x :: st) h := w_ldAn dJ1_pollLast_6 rfl
theorem w_J1_pollLast_7 (d : Nat) (L : a_L) (i : Nat) (st : List Value) (h : a_H) : a_run d MJ1_pollLast 7 L (.ref i :: st) h = (a_gf h i 2 [7]).bind fun v => a_run d MJ1_pollLast 10 L (v :: st) h := w_getf dJ1_pollLast_7 rfl
theorem w_J1_pollLast_10 (d : Nat) (a0 a2 a3 : Option Value) (x : Nat) (st : List Value) (h : a_H) : a_run d MJ1_pollLast 10 [a0, some (.ref x), a2, a3] st h = a_run d MJ1_pollLast 11 [a0, some (.ref x), a2, a3] (.ref x :: st) h := w_ldAn dJ1_pollLast_10 rfl
theorem w_J1_pollLast_10N (d : Nat) (a0 a2 a3 : Option Value) (st : List Value) (h : a_H) : a_run d MJ1_pollLast 10 [a0, some .null, a2, a3] st h = a_run d MJ1_pollLast 11 [a0, some .null, a2, a3] (.null :: st) h := w_ldNn dJ1_pollLast_10 rfl
theorem w_J1_pollLast_11 (d : Nat) (L : a_L) (i : Nat) (st : List Value) (h : a_H) : a_run d MJ1_pollLast 11 L (.ref i :: st) h = (a_len h i).bind fun v => a_run d MJ1_pollLast 12 L (v :: st) h := w_alen dJ1_pollLast_11
theorem w_J1_pollLast_12 (d : Nat) (L : a_L) (v0 v1 : Value) (st : List Value) (h : a_H) (hc : a_cat st ≤ 8) : a_run d MJ1_pollLast 12 L (v1 :: v0 :: st) h = a_cont d MJ1_pollLast (a_bk MJ1_pollLast 12 L st (a_call d MJ1_dec [v0, v1] h)) := w_callS (as := [v0, v1]) dJ1_pollLast_12 rfl rfl rfl hc
theorem w_J1_pollLast_15 (d : Nat) (L : a_L) (x : Nat) (st : List Value) (h : a_H) : a_run d MJ1_pollLast 15 L (.ref x :: st) h = a_run d MJ1_pollLast 16 L (.ref x :: .ref x :: st) h := w_dup dJ1_pollLast_15
theorem w_J1_pollLast_15I (d : Nat) (L : a_L) (x : Int32) (st : List Value) (h : a_H) : a_run d MJ1_pollLast 15 L (.int x :: st) h = a_run d MJ1_pollLast 16 L (.int x :: .int x :: st) h := w_dupI dJ1_pollLast_15
theorem w_J1_pollLast_16 (d : Nat) (a0 a1 a2 a3 : Option Value) (x : Int32) (st : List Value) (h : a_H) : a_run d MJ1_pollLast 16 [a0, a1, a2, a3] (.int x :: st) h = a_run d MJ1_pollLast 17 [a0, a1, some (.int x), a3] st h := w_stIn dJ1_pollLast_16 (Nat.le_of_ble_eq_true rfl) rfl
theorem w_J1_pollLast_17 (d : Nat) (L : a_L) (v0 v1 : Value) (st : List Value) (h : a_H) (hc : a_cat st ≤ 8) : a_run d MJ1_pollLast 17 L (v1 :: v0 :: st) h = a_cont d MJ1_pollLast (a_bk MJ1_pollLast 17 L st (a_call d MJ1_elementAt [v0, v1] h)) := w_callS (as := [v0, v1]) dJ1_pollLast_17 rfl rfl rfl hc
theorem w_J1_pollLast_20 (d : Nat) (a0 a1 a2 a3 : Option Value) (x : Nat) (st : List Value) (h : a_H) : a_run d MJ1_pollLast 20 [a0, a1, a2, a3] (.ref x :: st) h = a_run d MJ1_pollLast 21 [a0, a1, a2, some (.ref x)] st h := w_stAn dJ1_pollLast_20 (Nat.le_of_ble_eq_true rfl) rfl
theorem w_J1_pollLast_20N (d : Nat) (a0 a1 a2 a3 : Option Value) (st : List Value) (h : a_H) : a_run d MJ1_pollLast 20 [a0, a1, a2, a3] (.null :: st) h = a_run d MJ1_pollLast 21 [a0, a1, a2, some .null] st h := w_stNn dJ1_pollLast_20 (Nat.le_of_ble_eq_true rfl) rfl
theorem w_J1_pollLast_21 (d : Nat) (a0 a1 a2 : Option Value) (x : Nat) (st : List Value) (h : a_H) : a_run d MJ1_pollLast 21 [a0, a1, a2, some (.ref x)] st h = a_run d MJ1_pollLast 22 [a0, a1, a2, some (.ref x)] (.ref x :: st) h := w_ldAn dJ1_pollLast_21 rfl
theorem w_J1_pollLast_21N (d : Nat) (a0 a1 a2 : Option Value) (st : List Value) (h : a_H) : a_run d MJ1_pollLast 21 [a0, a1, a2, some .null] st h = a_run d MJ1_pollLast 22 [a0, a1, a2, some .null] (.null :: st) h := w_ldNn dJ1_pollLast_21 rfl
theorem w_J1_pollLast_22 (d : Nat) (L : a_L) (x : Nat) (st : List Value) (h : a_H) (hx : 1024 ≤ x) : a_run d MJ1_pollLast 22 L (.ref x :: st) h = a_run d MJ1_pollLast 25 L st h := w_ifnull_r (tgt := 34) dJ1_pollLast_22 rfl hx
theorem w_J1_pollLast_22N (d : Nat) (L : a_L) (st : List Value) (h : a_H) : a_run d MJ1_pollLast 22 L (.null :: st) h = a_run d MJ1_pollLast 34 L st h := w_ifnull_n dJ1_pollLast_22 rfl
theorem w_J1_pollLast_25 (d : Nat) (a0 a2 a3 : Option Value) (x : Nat) (st : List Value) (h : a_H) : a_run d MJ1_pollLast 25 [a0, some (.ref x), a2, a3] st h = a_run d MJ1_pollLast 26 [a0, some (.ref x), a2, a3] (.ref x :: st) h := w_ldAn dJ1_pollLast_25 rfl
theorem w_J1_pollLast_25N (d : Nat) (a0 a2 a3 : Option Value) (st : List Value) (h : a_H) : a_run d MJ1_pollLast 25 [a0, some .null, a2, a3] st h = a_run d MJ1_pollLast 26 [a0, some .null, a2, a3] (.null :: st) h := w_ldNn dJ1_pollLast_25 rfl
theorem w_J1_pollLast_26 (d : Nat) (a1 a2 a3 : Option Value) (x : Nat) (st : List Value) (h : a_H) : a_run d MJ1_pollLast 26 [some (.ref x), a1, a2, a3] st h = a_run d MJ1_pollLast 27 [some (.ref x), a1, a2, a3] (.ref x :: st) h := w_ldAn dJ1_pollLast_26 rfl
theorem w_J1_pollLast_27 (d : Nat) (a0 a1 a3 : Option Value) (x : Int32) (st : List Value) (h : a_H) : a_run d MJ1_pollLast 27 [a0, a1, some (.int x), a3] st h = a_run d MJ1_pollLast 28 [a0, a1, some (.int x), a3] (.int x :: st) h := w_ldIn dJ1_pollLast_27 rfl
theorem w_J1_pollLast_28 (d : Nat) (L : a_L) (x : Int32) (y : Nat) (st : List Value) (h : a_H) : a_run d MJ1_pollLast 28 L (.int x :: .ref y :: st) h = a_run d MJ1_pollLast 29 L (.int x :: .ref y :: .int x :: st) h := w_dupx dJ1_pollLast_28
theorem w_J1_pollLast_28R (d : Nat) (L : a_L) (x y : Nat) (st : List Value) (h : a_H) : a_run d MJ1_pollLast 28 L (.ref x :: .ref y :: st) h = a_run d MJ1_pollLast 29 L (.ref x :: .ref y :: .ref x :: st) h := w_dupxR dJ1_pollLast_28
theorem w_J1_pollLast_29 (d : Nat) (L : a_L) (x : Int32) (i : Nat) (st : List Value) (h : a_H) : a_run d MJ1_pollLast 29 L (.int x :: .ref i :: st) h = (a_pf h i 2 [7] (.int x)).bind fun h' => a_run d MJ1_pollLast 32 L st h' := w_putf dJ1_pollLast_29 rfl rfl (Or.inl rfl) rfl rfl
theorem w_J1_pollLast_32 (d : Nat) (L : a_L) (st : List Value) (h : a_H) : a_run d MJ1_pollLast 32 L st h = a_run d MJ1_pollLast 33 L (.null :: st) h := w_null dJ1_pollLast_32
theorem w_J1_pollLast_33 (d : Nat) (L : a_L) (x : Int32) (v : Value) (i : Nat) (st : List Value) (h : a_H) : a_run d MJ1_pollLast 33 L (v :: .int x :: .ref i :: st) h = (a_wrq h i x v).bind fun h' => a_run d MJ1_pollLast 34 L st h' := w_aast dJ1_pollLast_33
theorem w_J1_pollLast_34 (d : Nat) (a0 a1 a2 : Option Value) (x : Nat) (st : List Value) (h : a_H) : a_run d MJ1_pollLast 34 [a0, a1, a2, some (.ref x)] st h = a_run d MJ1_pollLast 35 [a0, a1, a2, some (.ref x)] (.ref x :: st) h := w_ldAn dJ1_pollLast_34 rfl
theorem w_J1_pollLast_34N (d : Nat) (a0 a1 a2 : Option Value) (st : List Value) (h : a_H) : a_run d MJ1_pollLast 34 [a0, a1, a2, some .null] st h = a_run d MJ1_pollLast 35 [a0, a1, a2, some .null] (.null :: st) h := w_ldNn dJ1_pollLast_34 rfl
theorem w_J1_pollLast_35 (d : Nat) (L : a_L) (x : Nat) (h : a_H) : a_run d MJ1_pollLast 35 L [.ref x] h = some (.inl (some (.ref x)), h) := w_aret dJ1_pollLast_35 rfl
theorem w_J1_pollLast_35N (d : Nat) (L : a_L) (h : a_H) : a_run d MJ1_pollLast 35 L [.null] h = some (.inl (some .null), h) := w_aretN dJ1_pollLast_35 rfl
theorem e_J1_dec (d : Nat) (x0 : Int32) (x1 : Int32) (h : a_H) : a_call (d + 1) MJ1_dec [.int x0, .int x1] h = a_run d MJ1_dec 0 [some (.int x0), some (.int x1)] [] h := a_call_run rfl (Nat.le_of_ble_eq_true rfl) rfl
theorem w_J1_dec_0 (d : Nat) (a1 : Option Value) (x : Int32) (st : List Value) (h : a_H) : a_run d MJ1_dec 0 [some (.int x), a1] st h = a_run d MJ1_dec 3 [some (.int (x + (-1))), a1] st h := w_incL dJ1_dec_0 rfl rfl rfl
theorem w_J1_dec_3 (d : Nat) (a1 : Option Value) (x : Int32) (st : List Value) (h : a_H) : a_run d MJ1_dec 3 [some (.int x), a1] st h = a_run d MJ1_dec 4 [some (.int x), a1] (.int x :: st) h := w_ldIn dJ1_dec_3 rfl
theorem w_J1_dec_4 (d : Nat) (L : a_L) (x : Int32) (st : List Value) (h : a_H) : a_run d MJ1_dec 4 L (.int x :: st) h = if x < 0 then a_run d MJ1_dec 7 L st h else a_run d MJ1_dec 11 L st h := w_if_ge dJ1_dec_4 rfl
theorem w_J1_dec_7 (d : Nat) (a0 : Option Value) (x : Int32) (st : List Value) (h : a_H) : a_run d MJ1_dec 7 [a0, some (.int x)] st h = a_run d MJ1_dec 8 [a0, some (.int x)] (.int x :: st) h := w_ldIn dJ1_dec_7 rfl
theorem w_J1_dec_8 (d : Nat) (L : a_L) (st : List Value) (h : a_H) : a_run d MJ1_dec 8 L st h = a_run d MJ1_dec 9 L (.int (nI 1) :: st) h := w_iconst dJ1_dec_8 rfl
theorem w_J1_dec_9 (d : Nat) (L : a_L) (x y : Int32) (st : List Value) (h : a_H) : a_run d MJ1_dec 9 L (.int y :: .int x :: st) h = a_run d MJ1_dec 10 L (.int (x - y) :: st) h := w_isub dJ1_dec_9
theorem w_J1_dec_10 (d : Nat) (a0 a1 : Option Value) (x : Int32) (st : List Value) (h : a_H) : a_run d MJ1_dec 10 [a0, a1] (.int x :: st) h = a_run d MJ1_dec 11 [some (.int x), a1] st h := w_stIn dJ1_dec_10 (Nat.le_of_ble_eq_true rfl) rfl
theorem w_J1_dec_11 (d : Nat) (a1 : Option Value) (x : Int32) (st : List Value) (h : a_H) : a_run d MJ1_dec 11 [some (.int x), a1] st h = a_run d MJ1_dec 12 [some (.int x), a1] (.int x :: st) h := w_ldIn dJ1_dec_11 rfl
theorem w_J1_dec_12 (d : Nat) (L : a_L) (x : Int32) (h : a_H) : a_run d MJ1_dec 12 L [.int x] h = some (.inl (some (.int x)), h) := w_iret dJ1_dec_12 (w_retI rfl)
