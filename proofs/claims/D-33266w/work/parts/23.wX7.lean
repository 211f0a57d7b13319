set_option maxRecDepth 100000
set_option maxRecDepth 100000
def dkwX7_init_1 : List UInt8 := [181, 0, 24, 42, 5, 188, 10, 181, 0, 27, 177]
abbrev dktX7_init_1 : List UInt8 := dkwX7_init_1 ++ []
def dkwX7_init_0 : List UInt8 := [42, 43, 181, 0, 3, 42, 183, 0, 9, 42, 187, 0, 15, 89, 42, 180, 0, 3, 180, 0, 17, 183, 0, 21]
abbrev dktX7_init_0 : List UInt8 := dkwX7_init_0 ++ dktX7_init_1
theorem dksX7_init_0 : cX7_init.data.toList.drop 0 = dktX7_init_0 := by decide +kernel
theorem dksX7_init_1 : cX7_init.data.toList.drop 24 = dktX7_init_1 := dk_seg dksX7_init_0 24 rfl rfl
theorem dX7_init_0 : decode cX7_init 0 = .ok (.aload_n 0, 1) := dk_42 (dk_at dksX7_init_0 0 rfl rfl)
theorem dX7_init_1 : decode cX7_init 1 = .ok (.aload_n 1, 1) := dk_43 (dk_at dksX7_init_0 1 rfl rfl)
theorem dX7_init_2 : decode cX7_init 2 = .ok (.putfield 3, 3) := dk_181 0 3 (dk_at dksX7_init_0 2 rfl rfl)
theorem dX7_init_5 : decode cX7_init 5 = .ok (.aload_n 0, 1) := dk_42 (dk_at dksX7_init_0 5 rfl rfl)
theorem dX7_init_6 : decode cX7_init 6 = .ok (.invokespecial 9, 3) := dk_183 0 9 (dk_at dksX7_init_0 6 rfl rfl)
theorem dX7_init_9 : decode cX7_init 9 = .ok (.aload_n 0, 1) := dk_42 (dk_at dksX7_init_0 9 rfl rfl)
theorem dX7_init_10 : decode cX7_init 10 = .ok (.new 15, 3) := dk_187 0 15 (dk_at dksX7_init_0 10 rfl rfl)
theorem dX7_init_13 : decode cX7_init 13 = .ok (.dup, 1) := dk_89 (dk_at dksX7_init_0 13 rfl rfl)
theorem dX7_init_14 : decode cX7_init 14 = .ok (.aload_n 0, 1) := dk_42 (dk_at dksX7_init_0 14 rfl rfl)
theorem dX7_init_15 : decode cX7_init 15 = .ok (.getfield 3, 3) := dk_180 0 3 (dk_at dksX7_init_0 15 rfl rfl)
theorem dX7_init_18 : decode cX7_init 18 = .ok (.getfield 17, 3) := dk_180 0 17 (dk_at dksX7_init_0 18 rfl rfl)
theorem dX7_init_21 : decode cX7_init 21 = .ok (.invokespecial 21, 3) := dk_183 0 21 (dk_at dksX7_init_0 21 rfl rfl)
theorem dX7_init_24 : decode cX7_init 24 = .ok (.putfield 24, 3) := dk_181 0 24 (dk_at dksX7_init_1 0 rfl rfl)
theorem dX7_init_27 : decode cX7_init 27 = .ok (.aload_n 0, 1) := dk_42 (dk_at dksX7_init_1 3 rfl rfl)
theorem dX7_init_28 : decode cX7_init 28 = .ok (.iconst 2, 1) := dk_5 (dk_at dksX7_init_1 4 rfl rfl)
theorem dX7_init_29 : decode cX7_init 29 = .ok (.newarray .int, 2) := dk_188_10 (dk_at dksX7_init_1 5 rfl rfl)
theorem dX7_init_31 : decode cX7_init 31 = .ok (.putfield 27, 3) := dk_181 0 27 (dk_at dksX7_init_1 7 rfl rfl)
theorem dX7_init_34 : decode cX7_init 34 = .ok (.return_, 1) := dk_177 (dk_at dksX7_init_1 10 rfl rfl)
def dkwX7_isWell_2 : List UInt8 := [167, 0, 4, 3, 172]
abbrev dktX7_isWell_2 : List UInt8 := dkwX7_isWell_2 ++ []
def dkwX7_isWell_1 : List UInt8 := [42, 42, 180, 0, 31, 181, 0, 81, 42, 182, 0, 99, 167, 255, 220, 42, 180, 0, 78, 154, 0, 7, 4]
abbrev dktX7_isWell_1 : List UInt8 := dkwX7_isWell_1 ++ dktX7_isWell_2
def dkwX7_isWell_0 : List UInt8 := [42, 180, 0, 78, 154, 0, 35, 42, 180, 0, 31, 42, 180, 0, 3, 180, 0, 35, 182, 0, 39, 162, 0, 18]
abbrev dktX7_isWell_0 : List UInt8 := dkwX7_isWell_0 ++ dktX7_isWell_1
theorem dksX7_isWell_0 : cX7_isWell.data.toList.drop 0 = dktX7_isWell_0 := by decide +kernel
theorem dksX7_isWell_1 : cX7_isWell.data.toList.drop 24 = dktX7_isWell_1 := dk_seg dksX7_isWell_0 24 rfl rfl
theorem dksX7_isWell_2 : cX7_isWell.data.toList.drop 47 = dktX7_isWell_2 := dk_seg dksX7_isWell_1 23 rfl rfl
theorem dX7_isWell_0 : decode cX7_isWell 0 = .ok (.aload_n 0, 1) := dk_42 (dk_at dksX7_isWell_0 0 rfl rfl)
theorem dX7_isWell_1 : decode cX7_isWell 1 = .ok (.getfield 78, 3) := dk_180 0 78 (dk_at dksX7_isWell_0 1 rfl rfl)
theorem dX7_isWell_4 : decode cX7_isWell 4 = .ok (.ifCond .ne 35, 3) := dk_154 0 35 (dk_at dksX7_isWell_0 4 rfl rfl)
theorem dX7_isWell_7 : decode cX7_isWell 7 = .ok (.aload_n 0, 1) := dk_42 (dk_at dksX7_isWell_0 7 rfl rfl)
theorem dX7_isWell_8 : decode cX7_isWell 8 = .ok (.getfield 31, 3) := dk_180 0 31 (dk_at dksX7_isWell_0 8 rfl rfl)
theorem dX7_isWell_11 : decode cX7_isWell 11 = .ok (.aload_n 0, 1) := dk_42 (dk_at dksX7_isWell_0 11 rfl rfl)
theorem dX7_isWell_12 : decode cX7_isWell 12 = .ok (.getfield 3, 3) := dk_180 0 3 (dk_at dksX7_isWell_0 12 rfl rfl)
theorem dX7_isWell_15 : decode cX7_isWell 15 = .ok (.getfield 35, 3) := dk_180 0 35 (dk_at dksX7_isWell_0 15 rfl rfl)
theorem dX7_isWell_18 : decode cX7_isWell 18 = .ok (.invokevirtual 39, 3) := dk_182 0 39 (dk_at dksX7_isWell_0 18 rfl rfl)
theorem dX7_isWell_21 : decode cX7_isWell 21 = .ok (.if_icmp .ge 18, 3) := dk_162 0 18 (dk_at dksX7_isWell_0 21 rfl rfl)
theorem dX7_isWell_24 : decode cX7_isWell 24 = .ok (.aload_n 0, 1) := dk_42 (dk_at dksX7_isWell_1 0 rfl rfl)
theorem dX7_isWell_25 : decode cX7_isWell 25 = .ok (.aload_n 0, 1) := dk_42 (dk_at dksX7_isWell_1 1 rfl rfl)
theorem dX7_isWell_26 : decode cX7_isWell 26 = .ok (.getfield 31, 3) := dk_180 0 31 (dk_at dksX7_isWell_1 2 rfl rfl)
theorem dX7_isWell_29 : decode cX7_isWell 29 = .ok (.putfield 81, 3) := dk_181 0 81 (dk_at dksX7_isWell_1 5 rfl rfl)
theorem dX7_isWell_32 : decode cX7_isWell 32 = .ok (.aload_n 0, 1) := dk_42 (dk_at dksX7_isWell_1 8 rfl rfl)
theorem dX7_isWell_33 : decode cX7_isWell 33 = .ok (.invokevirtual 99, 3) := dk_182 0 99 (dk_at dksX7_isWell_1 9 rfl rfl)
theorem dX7_isWell_36 : decode cX7_isWell 36 = .ok (.goto (-36), 3) := dk_167 255 220 (dk_at dksX7_isWell_1 12 rfl rfl)
theorem dX7_isWell_39 : decode cX7_isWell 39 = .ok (.aload_n 0, 1) := dk_42 (dk_at dksX7_isWell_1 15 rfl rfl)
theorem dX7_isWell_40 : decode cX7_isWell 40 = .ok (.getfield 78, 3) := dk_180 0 78 (dk_at dksX7_isWell_1 16 rfl rfl)
theorem dX7_isWell_43 : decode cX7_isWell 43 = .ok (.ifCond .ne 7, 3) := dk_154 0 7 (dk_at dksX7_isWell_1 19 rfl rfl)
theorem dX7_isWell_46 : decode cX7_isWell 46 = .ok (.iconst 1, 1) := dk_4 (dk_at dksX7_isWell_1 22 rfl rfl)
theorem dX7_isWell_47 : decode cX7_isWell 47 = .ok (.goto 4, 3) := dk_167 0 4 (dk_at dksX7_isWell_2 0 rfl rfl)
theorem dX7_isWell_50 : decode cX7_isWell 50 = .ok (.iconst 0, 1) := dk_3 (dk_at dksX7_isWell_2 3 rfl rfl)
theorem dX7_isWell_51 : decode cX7_isWell 51 = .ok (.ireturn, 1) := dk_172 (dk_at dksX7_isWell_2 4 rfl rfl)
def dkwX7_one_5 : List UInt8 := [181, 0, 91, 167, 0, 17, 78, 42, 5, 181, 0, 78, 42, 45, 180, 0, 96, 181, 0, 84, 177]
abbrev dktX7_one_5 : List UInt8 := dkwX7_one_5 ++ []
def dkwX7_one_4 : List UInt8 := [181, 0, 84, 177, 42, 180, 0, 24, 27, 42, 180, 0, 27, 184, 0, 87, 62, 42, 89, 180, 0, 91, 4, 96]
abbrev dktX7_one_4 : List UInt8 := dkwX7_one_4 ++ dktX7_one_5
def dkwX7_one_3 : List UInt8 := [28, 182, 0, 75, 154, 0, 22, 42, 4, 181, 0, 78, 42, 42, 180, 0, 31, 42, 180, 0, 81, 100]
abbrev dktX7_one_3 : List UInt8 := dkwX7_one_3 ++ dktX7_one_4
def dkwX7_one_2 : List UInt8 := [167, 0, 4, 2, 61, 42, 89, 180, 0, 31, 28, 156, 0, 7, 3, 167, 0, 4, 4, 96, 181, 0, 31, 42]
abbrev dktX7_one_2 : List UInt8 := dkwX7_one_2 ++ dktX7_one_3
def dkwX7_one_1 : List UInt8 := [5, 167, 0, 27, 27, 16, 120, 160, 0, 7, 4, 167, 0, 17, 18, 73, 27, 182, 0, 67, 155, 0, 7, 3]
abbrev dktX7_one_1 : List UInt8 := dkwX7_one_1 ++ dktX7_one_2
def dkwX7_one_0 : List UInt8 := [42, 180, 0, 3, 180, 0, 35, 42, 180, 0, 31, 182, 0, 45, 60, 18, 65, 27, 182, 0, 67, 155, 0, 7]
abbrev dktX7_one_0 : List UInt8 := dkwX7_one_0 ++ dktX7_one_1
theorem dksX7_one_0 : cX7_one.data.toList.drop 0 = dktX7_one_0 := by decide +kernel
theorem dksX7_one_1 : cX7_one.data.toList.drop 24 = dktX7_one_1 := dk_seg dksX7_one_0 24 rfl rfl
theorem dksX7_one_2 : cX7_one.data.toList.drop 48 = dktX7_one_2 := dk_seg dksX7_one_1 24 rfl rfl
theorem dksX7_one_3 : cX7_one.data.toList.drop 72 = dktX7_one_3 := dk_seg dksX7_one_2 24 rfl rfl
theorem dksX7_one_4 : cX7_one.data.toList.drop 94 = dktX7_one_4 := dk_seg dksX7_one_3 22 rfl rfl
theorem dksX7_one_5 : cX7_one.data.toList.drop 118 = dktX7_one_5 := dk_seg dksX7_one_4 24 rfl rfl
theorem dX7_one_0 : decode cX7_one 0 = .ok (.aload_n 0, 1) := dk_42 (dk_at dksX7_one_0 0 rfl rfl)
theorem dX7_one_1 : decode cX7_one 1 = .ok (.getfield 3, 3) := dk_180 0 3 (dk_at dksX7_one_0 1 rfl rfl)
theorem dX7_one_4 : decode cX7_one 4 = .ok (.getfield 35, 3) := dk_180 0 35 (dk_at dksX7_one_0 4 rfl rfl)
theorem dX7_one_7 : decode cX7_one 7 = .ok (.aload_n 0, 1) := dk_42 (dk_at dksX7_one_0 7 rfl rfl)
theorem dX7_one_8 : decode cX7_one 8 = .ok (.getfield 31, 3) := dk_180 0 31 (dk_at dksX7_one_0 8 rfl rfl)
theorem dX7_one_11 : decode cX7_one 11 = .ok (.invokevirtual 45, 3) := dk_182 0 45 (dk_at dksX7_one_0 11 rfl rfl)
theorem dX7_one_14 : decode cX7_one 14 = .ok (.istore_n 1, 1) := dk_60 (dk_at dksX7_one_0 14 rfl rfl)
theorem dX7_one_15 : decode cX7_one 15 = .ok (.ldc 65, 2) := dk_18 65 (dk_at dksX7_one_0 15 rfl rfl)
theorem dX7_one_17 : decode cX7_one 17 = .ok (.iload_n 1, 1) := dk_27 (dk_at dksX7_one_0 17 rfl rfl)
theorem dX7_one_18 : decode cX7_one 18 = .ok (.invokevirtual 67, 3) := dk_182 0 67 (dk_at dksX7_one_0 18 rfl rfl)
theorem dX7_one_21 : decode cX7_one 21 = .ok (.ifCond .lt 7, 3) := dk_155 0 7 (dk_at dksX7_one_0 21 rfl rfl)
theorem dX7_one_24 : decode cX7_one 24 = .ok (.iconst 2, 1) := dk_5 (dk_at dksX7_one_1 0 rfl rfl)
theorem dX7_one_25 : decode cX7_one 25 = .ok (.goto 27, 3) := dk_167 0 27 (dk_at dksX7_one_1 1 rfl rfl)
theorem dX7_one_28 : decode cX7_one 28 = .ok (.iload_n 1, 1) := dk_27 (dk_at dksX7_one_1 4 rfl rfl)
theorem dX7_one_29 : decode cX7_one 29 = .ok (.bipush 120, 2) := dk_16 120 (dk_at dksX7_one_1 5 rfl rfl)
theorem dX7_one_31 : decode cX7_one 31 = .ok (.if_icmp .ne 7, 3) := dk_160 0 7 (dk_at dksX7_one_1 7 rfl rfl)
theorem dX7_one_34 : decode cX7_one 34 = .ok (.iconst 1, 1) := dk_4 (dk_at dksX7_one_1 10 rfl rfl)
theorem dX7_one_35 : decode cX7_one 35 = .ok (.goto 17, 3) := dk_167 0 17 (dk_at dksX7_one_1 11 rfl rfl)
theorem dX7_one_38 : decode cX7_one 38 = .ok (.ldc 73, 2) := dk_18 73 (dk_at dksX7_one_1 14 rfl rfl)
theorem dX7_one_40 : decode cX7_one 40 = .ok (.iload_n 1, 1) := dk_27 (dk_at dksX7_one_1 16 rfl rfl)
theorem dX7_one_41 : decode cX7_one 41 = .ok (.invokevirtual 67, 3) := dk_182 0 67 (dk_at dksX7_one_1 17 rfl rfl)
theorem dX7_one_44 : decode cX7_one 44 = .ok (.ifCond .lt 7, 3) := dk_155 0 7 (dk_at dksX7_one_1 20 rfl rfl)
theorem dX7_one_47 : decode cX7_one 47 = .ok (.iconst 0, 1) := dk_3 (dk_at dksX7_one_1 23 rfl rfl)
theorem dX7_one_48 : decode cX7_one 48 = .ok (.goto 4, 3) := dk_167 0 4 (dk_at dksX7_one_2 0 rfl rfl)
theorem dX7_one_51 : decode cX7_one 51 = .ok (.iconst (-1), 1) := dk_2 (dk_at dksX7_one_2 3 rfl rfl)
theorem dX7_one_52 : decode cX7_one 52 = .ok (.istore_n 2, 1) := dk_61 (dk_at dksX7_one_2 4 rfl rfl)
theorem dX7_one_53 : decode cX7_one 53 = .ok (.aload_n 0, 1) := dk_42 (dk_at dksX7_one_2 5 rfl rfl)
theorem dX7_one_54 : decode cX7_one 54 = .ok (.dup, 1) := dk_89 (dk_at dksX7_one_2 6 rfl rfl)
theorem dX7_one_55 : decode cX7_one 55 = .ok (.getfield 31, 3) := dk_180 0 31 (dk_at dksX7_one_2 7 rfl rfl)
theorem dX7_one_58 : decode cX7_one 58 = .ok (.iload_n 2, 1) := dk_28 (dk_at dksX7_one_2 10 rfl rfl)
theorem dX7_one_59 : decode cX7_one 59 = .ok (.ifCond .ge 7, 3) := dk_156 0 7 (dk_at dksX7_one_2 11 rfl rfl)
theorem dX7_one_62 : decode cX7_one 62 = .ok (.iconst 0, 1) := dk_3 (dk_at dksX7_one_2 14 rfl rfl)
theorem dX7_one_63 : decode cX7_one 63 = .ok (.goto 4, 3) := dk_167 0 4 (dk_at dksX7_one_2 15 rfl rfl)
theorem dX7_one_66 : decode cX7_one 66 = .ok (.iconst 1, 1) := dk_4 (dk_at dksX7_one_2 18 rfl rfl)
theorem dX7_one_67 : decode cX7_one 67 = .ok (.iadd, 1) := dk_96 (dk_at dksX7_one_2 19 rfl rfl)
theorem dX7_one_68 : decode cX7_one 68 = .ok (.putfield 31, 3) := dk_181 0 31 (dk_at dksX7_one_2 20 rfl rfl)
theorem dX7_one_71 : decode cX7_one 71 = .ok (.aload_n 0, 1) := dk_42 (dk_at dksX7_one_2 23 rfl rfl)
theorem dX7_one_72 : decode cX7_one 72 = .ok (.iload_n 2, 1) := dk_28 (dk_at dksX7_one_3 0 rfl rfl)
theorem dX7_one_73 : decode cX7_one 73 = .ok (.invokevirtual 75, 3) := dk_182 0 75 (dk_at dksX7_one_3 1 rfl rfl)
theorem dX7_one_76 : decode cX7_one 76 = .ok (.ifCond .ne 22, 3) := dk_154 0 22 (dk_at dksX7_one_3 4 rfl rfl)
theorem dX7_one_79 : decode cX7_one 79 = .ok (.aload_n 0, 1) := dk_42 (dk_at dksX7_one_3 7 rfl rfl)
theorem dX7_one_80 : decode cX7_one 80 = .ok (.iconst 1, 1) := dk_4 (dk_at dksX7_one_3 8 rfl rfl)
theorem dX7_one_81 : decode cX7_one 81 = .ok (.putfield 78, 3) := dk_181 0 78 (dk_at dksX7_one_3 9 rfl rfl)
theorem dX7_one_84 : decode cX7_one 84 = .ok (.aload_n 0, 1) := dk_42 (dk_at dksX7_one_3 12 rfl rfl)
theorem dX7_one_85 : decode cX7_one 85 = .ok (.aload_n 0, 1) := dk_42 (dk_at dksX7_one_3 13 rfl rfl)
theorem dX7_one_86 : decode cX7_one 86 = .ok (.getfield 31, 3) := dk_180 0 31 (dk_at dksX7_one_3 14 rfl rfl)
theorem dX7_one_89 : decode cX7_one 89 = .ok (.aload_n 0, 1) := dk_42 (dk_at dksX7_one_3 17 rfl rfl)
theorem dX7_one_90 : decode cX7_one 90 = .ok (.getfield 81, 3) := dk_180 0 81 (dk_at dksX7_one_3 18 rfl rfl)
theorem dX7_one_93 : decode cX7_one 93 = .ok (.isub, 1) := dk_100 (dk_at dksX7_one_3 21 rfl rfl)
theorem dX7_one_94 : decode cX7_one 94 = .ok (.putfield 84, 3) := dk_181 0 84 (dk_at dksX7_one_4 0 rfl rfl)
theorem dX7_one_97 : decode cX7_one 97 = .ok (.return_, 1) := dk_177 (dk_at dksX7_one_4 3 rfl rfl)
theorem dX7_one_98 : decode cX7_one 98 = .ok (.aload_n 0, 1) := dk_42 (dk_at dksX7_one_4 4 rfl rfl)
theorem dX7_one_99 : decode cX7_one 99 = .ok (.getfield 24, 3) := dk_180 0 24 (dk_at dksX7_one_4 5 rfl rfl)
theorem dX7_one_102 : decode cX7_one 102 = .ok (.iload_n 1, 1) := dk_27 (dk_at dksX7_one_4 8 rfl rfl)
theorem dX7_one_103 : decode cX7_one 103 = .ok (.aload_n 0, 1) := dk_42 (dk_at dksX7_one_4 9 rfl rfl)
theorem dX7_one_104 : decode cX7_one 104 = .ok (.getfield 27, 3) := dk_180 0 27 (dk_at dksX7_one_4 10 rfl rfl)
theorem dX7_one_107 : decode cX7_one 107 = .ok (.invokestatic 87, 3) := dk_184 0 87 (dk_at dksX7_one_4 13 rfl rfl)
theorem dX7_one_110 : decode cX7_one 110 = .ok (.istore_n 3, 1) := dk_62 (dk_at dksX7_one_4 16 rfl rfl)
theorem dX7_one_111 : decode cX7_one 111 = .ok (.aload_n 0, 1) := dk_42 (dk_at dksX7_one_4 17 rfl rfl)
theorem dX7_one_112 : decode cX7_one 112 = .ok (.dup, 1) := dk_89 (dk_at dksX7_one_4 18 rfl rfl)
theorem dX7_one_113 : decode cX7_one 113 = .ok (.getfield 91, 3) := dk_180 0 91 (dk_at dksX7_one_4 19 rfl rfl)
theorem dX7_one_116 : decode cX7_one 116 = .ok (.iconst 1, 1) := dk_4 (dk_at dksX7_one_4 22 rfl rfl)
theorem dX7_one_117 : decode cX7_one 117 = .ok (.iadd, 1) := dk_96 (dk_at dksX7_one_4 23 rfl rfl)
theorem dX7_one_118 : decode cX7_one 118 = .ok (.putfield 91, 3) := dk_181 0 91 (dk_at dksX7_one_5 0 rfl rfl)
theorem dX7_one_121 : decode cX7_one 121 = .ok (.goto 17, 3) := dk_167 0 17 (dk_at dksX7_one_5 3 rfl rfl)
theorem dX7_one_124 : decode cX7_one 124 = .ok (.astore_n 3, 1) := dk_78 (dk_at dksX7_one_5 6 rfl rfl)
theorem dX7_one_125 : decode cX7_one 125 = .ok (.aload_n 0, 1) := dk_42 (dk_at dksX7_one_5 7 rfl rfl)
theorem dX7_one_126 : decode cX7_one 126 = .ok (.iconst 2, 1) := dk_5 (dk_at dksX7_one_5 8 rfl rfl)
theorem dX7_one_127 : decode cX7_one 127 = .ok (.putfield 78, 3) := dk_181 0 78 (dk_at dksX7_one_5 9 rfl rfl)
theorem dX7_one_130 : decode cX7_one 130 = .ok (.aload_n 0, 1) := dk_42 (dk_at dksX7_one_5 12 rfl rfl)
theorem dX7_one_131 : decode cX7_one 131 = .ok (.aload_n 3, 1) := dk_45 (dk_at dksX7_one_5 13 rfl rfl)
theorem dX7_one_132 : decode cX7_one 132 = .ok (.getfield 96, 3) := dk_180 0 96 (dk_at dksX7_one_5 14 rfl rfl)
theorem dX7_one_135 : decode cX7_one 135 = .ok (.putfield 84, 3) := dk_181 0 84 (dk_at dksX7_one_5 17 rfl rfl)
theorem dX7_one_138 : decode cX7_one 138 = .ok (.return_, 1) := dk_177 (dk_at dksX7_one_5 20 rfl rfl)
def dkwX7_isOfForm_3 : List UInt8 := [167, 0, 4, 3, 172]
abbrev dktX7_isOfForm_3 : List UInt8 := dkwX7_isOfForm_3 ++ []
def dkwX7_isOfForm_2 : List UInt8 := [3, 61, 132, 3, 1, 167, 255, 217, 28, 153, 0, 16, 42, 16, 59, 182, 0, 57, 153, 0, 7, 4]
abbrev dktX7_isOfForm_2 : List UInt8 := dkwX7_isOfForm_2 ++ dktX7_isOfForm_3
def dkwX7_isOfForm_1 : List UInt8 := [153, 0, 12, 42, 16, 44, 182, 0, 57, 153, 0, 15, 42, 29, 182, 0, 61, 153, 0, 7, 4, 167, 0, 4]
abbrev dktX7_isOfForm_1 : List UInt8 := dkwX7_isOfForm_1 ++ dktX7_isOfForm_2
def dkwX7_isOfForm_0 : List UInt8 := [27, 155, 0, 7, 4, 167, 0, 4, 3, 61, 3, 62, 29, 27, 162, 0, 40, 28, 153, 0, 36, 29]
abbrev dktX7_isOfForm_0 : List UInt8 := dkwX7_isOfForm_0 ++ dktX7_isOfForm_1
theorem dksX7_isOfForm_0 : cX7_isOfForm.data.toList.drop 0 = dktX7_isOfForm_0 := by decide +kernel
theorem dksX7_isOfForm_1 : cX7_isOfForm.data.toList.drop 22 = dktX7_isOfForm_1 := dk_seg dksX7_isOfForm_0 22 rfl rfl
theorem dksX7_isOfForm_2 : cX7_isOfForm.data.toList.drop 46 = dktX7_isOfForm_2 := dk_seg dksX7_isOfForm_1 24 rfl rfl
theorem dksX7_isOfForm_3 : cX7_isOfForm.data.toList.drop 68 = dktX7_isOfForm_3 := dk_seg dksX7_isOfForm_2 22 rfl rfl
theorem dX7_isOfForm_0 : decode cX7_isOfForm 0 = .ok (.iload_n 1, 1) := dk_27 (dk_at dksX7_isOfForm_0 0 rfl rfl)
theorem dX7_isOfForm_1 : decode cX7_isOfForm 1 = .ok (.ifCond .lt 7, 3) := dk_155 0 7 (dk_at dksX7_isOfForm_0 1 rfl rfl)
theorem dX7_isOfForm_4 : decode cX7_isOfForm 4 = .ok (.iconst 1, 1) := dk_4 (dk_at dksX7_isOfForm_0 4 rfl rfl)
theorem dX7_isOfForm_5 : decode cX7_isOfForm 5 = .ok (.goto 4, 3) := dk_167 0 4 (dk_at dksX7_isOfForm_0 5 rfl rfl)
theorem dX7_isOfForm_8 : decode cX7_isOfForm 8 = .ok (.iconst 0, 1) := dk_3 (dk_at dksX7_isOfForm_0 8 rfl rfl)
theorem dX7_isOfForm_9 : decode cX7_isOfForm 9 = .ok (.istore_n 2, 1) := dk_61 (dk_at dksX7_isOfForm_0 9 rfl rfl)
theorem dX7_isOfForm_10 : decode cX7_isOfForm 10 = .ok (.iconst 0, 1) := dk_3 (dk_at dksX7_isOfForm_0 10 rfl rfl)
theorem dX7_isOfForm_11 : decode cX7_isOfForm 11 = .ok (.istore_n 3, 1) := dk_62 (dk_at dksX7_isOfForm_0 11 rfl rfl)
theorem dX7_isOfForm_12 : decode cX7_isOfForm 12 = .ok (.iload_n 3, 1) := dk_29 (dk_at dksX7_isOfForm_0 12 rfl rfl)
theorem dX7_isOfForm_13 : decode cX7_isOfForm 13 = .ok (.iload_n 1, 1) := dk_27 (dk_at dksX7_isOfForm_0 13 rfl rfl)
theorem dX7_isOfForm_14 : decode cX7_isOfForm 14 = .ok (.if_icmp .ge 40, 3) := dk_162 0 40 (dk_at dksX7_isOfForm_0 14 rfl rfl)
theorem dX7_isOfForm_17 : decode cX7_isOfForm 17 = .ok (.iload_n 2, 1) := dk_28 (dk_at dksX7_isOfForm_0 17 rfl rfl)
theorem dX7_isOfForm_18 : decode cX7_isOfForm 18 = .ok (.ifCond .eq 36, 3) := dk_153 0 36 (dk_at dksX7_isOfForm_0 18 rfl rfl)
theorem dX7_isOfForm_21 : decode cX7_isOfForm 21 = .ok (.iload_n 3, 1) := dk_29 (dk_at dksX7_isOfForm_0 21 rfl rfl)
theorem dX7_isOfForm_22 : decode cX7_isOfForm 22 = .ok (.ifCond .eq 12, 3) := dk_153 0 12 (dk_at dksX7_isOfForm_1 0 rfl rfl)
theorem dX7_isOfForm_25 : decode cX7_isOfForm 25 = .ok (.aload_n 0, 1) := dk_42 (dk_at dksX7_isOfForm_1 3 rfl rfl)
theorem dX7_isOfForm_26 : decode cX7_isOfForm 26 = .ok (.bipush 44, 2) := dk_16 44 (dk_at dksX7_isOfForm_1 4 rfl rfl)
theorem dX7_isOfForm_28 : decode cX7_isOfForm 28 = .ok (.invokevirtual 57, 3) := dk_182 0 57 (dk_at dksX7_isOfForm_1 6 rfl rfl)
theorem dX7_isOfForm_31 : decode cX7_isOfForm 31 = .ok (.ifCond .eq 15, 3) := dk_153 0 15 (dk_at dksX7_isOfForm_1 9 rfl rfl)
theorem dX7_isOfForm_34 : decode cX7_isOfForm 34 = .ok (.aload_n 0, 1) := dk_42 (dk_at dksX7_isOfForm_1 12 rfl rfl)
theorem dX7_isOfForm_35 : decode cX7_isOfForm 35 = .ok (.iload_n 3, 1) := dk_29 (dk_at dksX7_isOfForm_1 13 rfl rfl)
theorem dX7_isOfForm_36 : decode cX7_isOfForm 36 = .ok (.invokevirtual 61, 3) := dk_182 0 61 (dk_at dksX7_isOfForm_1 14 rfl rfl)
theorem dX7_isOfForm_39 : decode cX7_isOfForm 39 = .ok (.ifCond .eq 7, 3) := dk_153 0 7 (dk_at dksX7_isOfForm_1 17 rfl rfl)
theorem dX7_isOfForm_42 : decode cX7_isOfForm 42 = .ok (.iconst 1, 1) := dk_4 (dk_at dksX7_isOfForm_1 20 rfl rfl)
theorem dX7_isOfForm_43 : decode cX7_isOfForm 43 = .ok (.goto 4, 3) := dk_167 0 4 (dk_at dksX7_isOfForm_1 21 rfl rfl)
theorem dX7_isOfForm_46 : decode cX7_isOfForm 46 = .ok (.iconst 0, 1) := dk_3 (dk_at dksX7_isOfForm_2 0 rfl rfl)
theorem dX7_isOfForm_47 : decode cX7_isOfForm 47 = .ok (.istore_n 2, 1) := dk_61 (dk_at dksX7_isOfForm_2 1 rfl rfl)
theorem dX7_isOfForm_48 : decode cX7_isOfForm 48 = .ok (.iinc 3 1, 3) := dk_132 3 1 (dk_at dksX7_isOfForm_2 2 rfl rfl)
theorem dX7_isOfForm_51 : decode cX7_isOfForm 51 = .ok (.goto (-39), 3) := dk_167 255 217 (dk_at dksX7_isOfForm_2 5 rfl rfl)
theorem dX7_isOfForm_54 : decode cX7_isOfForm 54 = .ok (.iload_n 2, 1) := dk_28 (dk_at dksX7_isOfForm_2 8 rfl rfl)
theorem dX7_isOfForm_55 : decode cX7_isOfForm 55 = .ok (.ifCond .eq 16, 3) := dk_153 0 16 (dk_at dksX7_isOfForm_2 9 rfl rfl)
theorem dX7_isOfForm_58 : decode cX7_isOfForm 58 = .ok (.aload_n 0, 1) := dk_42 (dk_at dksX7_isOfForm_2 12 rfl rfl)
theorem dX7_isOfForm_59 : decode cX7_isOfForm 59 = .ok (.bipush 59, 2) := dk_16 59 (dk_at dksX7_isOfForm_2 13 rfl rfl)
theorem dX7_isOfForm_61 : decode cX7_isOfForm 61 = .ok (.invokevirtual 57, 3) := dk_182 0 57 (dk_at dksX7_isOfForm_2 15 rfl rfl)
theorem dX7_isOfForm_64 : decode cX7_isOfForm 64 = .ok (.ifCond .eq 7, 3) := dk_153 0 7 (dk_at dksX7_isOfForm_2 18 rfl rfl)
theorem dX7_isOfForm_67 : decode cX7_isOfForm 67 = .ok (.iconst 1, 1) := dk_4 (dk_at dksX7_isOfForm_2 21 rfl rfl)
theorem dX7_isOfForm_68 : decode cX7_isOfForm 68 = .ok (.goto 4, 3) := dk_167 0 4 (dk_at dksX7_isOfForm_3 0 rfl rfl)
theorem dX7_isOfForm_71 : decode cX7_isOfForm 71 = .ok (.iconst 0, 1) := dk_3 (dk_at dksX7_isOfForm_3 3 rfl rfl)
theorem dX7_isOfForm_72 : decode cX7_isOfForm 72 = .ok (.ireturn, 1) := dk_172 (dk_at dksX7_isOfForm_3 4 rfl rfl)
def dkwX7_accepts_2 : List UInt8 := [153, 0, 7, 4, 167, 0, 4, 3, 96, 181, 0, 31, 28, 172]
abbrev dktX7_accepts_2 : List UInt8 := dkwX7_accepts_2 ++ []
def dkwX7_accepts_1 : List UInt8 := [42, 180, 0, 31, 182, 0, 45, 27, 160, 0, 7, 4, 167, 0, 4, 3, 61, 42, 89, 180, 0, 31, 28]
abbrev dktX7_accepts_1 : List UInt8 := dkwX7_accepts_1 ++ dktX7_accepts_2
def dkwX7_accepts_0 : List UInt8 := [42, 180, 0, 31, 42, 180, 0, 3, 180, 0, 35, 182, 0, 39, 162, 0, 25, 42, 180, 0, 3, 180, 0, 35]
abbrev dktX7_accepts_0 : List UInt8 := dkwX7_accepts_0 ++ dktX7_accepts_1
theorem dksX7_accepts_0 : cX7_accepts.data.toList.drop 0 = dktX7_accepts_0 := by decide +kernel
theorem dksX7_accepts_1 : cX7_accepts.data.toList.drop 24 = dktX7_accepts_1 := dk_seg dksX7_accepts_0 24 rfl rfl
theorem dksX7_accepts_2 : cX7_accepts.data.toList.drop 47 = dktX7_accepts_2 := dk_seg dksX7_accepts_1 23 rfl rfl
theorem dX7_accepts_0 : decode cX7_accepts 0 = .ok (.aload_n 0, 1) := dk_42 (dk_at dksX7_accepts_0 0 rfl rfl)
theorem dX7_accepts_1 : decode cX7_accepts 1 = .ok (.getfield 31, 3) := dk_180 0 31 (dk_at dksX7_accepts_0 1 rfl rfl)
theorem dX7_accepts_4 : decode cX7_accepts 4 = .ok (.aload_n 0, 1) := dk_42 (dk_at dksX7_accepts_0 4 rfl rfl)
theorem dX7_accepts_5 : decode cX7_accepts 5 = .ok (.getfield 3, 3) := dk_180 0 3 (dk_at dksX7_accepts_0 5 rfl rfl)
theorem dX7_accepts_8 : decode cX7_accepts 8 = .ok (.getfield 35, 3) := dk_180 0 35 (dk_at dksX7_accepts_0 8 rfl rfl)
theorem dX7_accepts_11 : decode cX7_accepts 11 = .ok (.invokevirtual 39, 3) := dk_182 0 39 (dk_at dksX7_accepts_0 11 rfl rfl)
theorem dX7_accepts_14 : decode cX7_accepts 14 = .ok (.if_icmp .ge 25, 3) := dk_162 0 25 (dk_at dksX7_accepts_0 14 rfl rfl)
theorem dX7_accepts_17 : decode cX7_accepts 17 = .ok (.aload_n 0, 1) := dk_42 (dk_at dksX7_accepts_0 17 rfl rfl)
theorem dX7_accepts_18 : decode cX7_accepts 18 = .ok (.getfield 3, 3) := dk_180 0 3 (dk_at dksX7_accepts_0 18 rfl rfl)
theorem dX7_accepts_21 : decode cX7_accepts 21 = .ok (.getfield 35, 3) := dk_180 0 35 (dk_at dksX7_accepts_0 21 rfl rfl)
theorem dX7_accepts_24 : decode cX7_accepts 24 = .ok (.aload_n 0, 1) := dk_42 (dk_at dksX7_accepts_1 0 rfl rfl)
theorem dX7_accepts_25 : decode cX7_accepts 25 = .ok (.getfield 31, 3) := dk_180 0 31 (dk_at dksX7_accepts_1 1 rfl rfl)
theorem dX7_accepts_28 : decode cX7_accepts 28 = .ok (.invokevirtual 45, 3) := dk_182 0 45 (dk_at dksX7_accepts_1 4 rfl rfl)
theorem dX7_accepts_31 : decode cX7_accepts 31 = .ok (.iload_n 1, 1) := dk_27 (dk_at dksX7_accepts_1 7 rfl rfl)
theorem dX7_accepts_32 : decode cX7_accepts 32 = .ok (.if_icmp .ne 7, 3) := dk_160 0 7 (dk_at dksX7_accepts_1 8 rfl rfl)
theorem dX7_accepts_35 : decode cX7_accepts 35 = .ok (.iconst 1, 1) := dk_4 (dk_at dksX7_accepts_1 11 rfl rfl)
theorem dX7_accepts_36 : decode cX7_accepts 36 = .ok (.goto 4, 3) := dk_167 0 4 (dk_at dksX7_accepts_1 12 rfl rfl)
theorem dX7_accepts_39 : decode cX7_accepts 39 = .ok (.iconst 0, 1) := dk_3 (dk_at dksX7_accepts_1 15 rfl rfl)
theorem dX7_accepts_40 : decode cX7_accepts 40 = .ok (.istore_n 2, 1) := dk_61 (dk_at dksX7_accepts_1 16 rfl rfl)
theorem dX7_accepts_41 : decode cX7_accepts 41 = .ok (.aload_n 0, 1) := dk_42 (dk_at dksX7_accepts_1 17 rfl rfl)
theorem dX7_accepts_42 : decode cX7_accepts 42 = .ok (.dup, 1) := dk_89 (dk_at dksX7_accepts_1 18 rfl rfl)
theorem dX7_accepts_43 : decode cX7_accepts 43 = .ok (.getfield 31, 3) := dk_180 0 31 (dk_at dksX7_accepts_1 19 rfl rfl)
theorem dX7_accepts_46 : decode cX7_accepts 46 = .ok (.iload_n 2, 1) := dk_28 (dk_at dksX7_accepts_1 22 rfl rfl)
theorem dX7_accepts_47 : decode cX7_accepts 47 = .ok (.ifCond .eq 7, 3) := dk_153 0 7 (dk_at dksX7_accepts_2 0 rfl rfl)
theorem dX7_accepts_50 : decode cX7_accepts 50 = .ok (.iconst 1, 1) := dk_4 (dk_at dksX7_accepts_2 3 rfl rfl)
theorem dX7_accepts_51 : decode cX7_accepts 51 = .ok (.goto 4, 3) := dk_167 0 4 (dk_at dksX7_accepts_2 4 rfl rfl)
theorem dX7_accepts_54 : decode cX7_accepts 54 = .ok (.iconst 0, 1) := dk_3 (dk_at dksX7_accepts_2 7 rfl rfl)
theorem dX7_accepts_55 : decode cX7_accepts 55 = .ok (.iadd, 1) := dk_96 (dk_at dksX7_accepts_2 8 rfl rfl)
theorem dX7_accepts_56 : decode cX7_accepts 56 = .ok (.putfield 31, 3) := dk_181 0 31 (dk_at dksX7_accepts_2 9 rfl rfl)
theorem dX7_accepts_59 : decode cX7_accepts 59 = .ok (.iload_n 2, 1) := dk_28 (dk_at dksX7_accepts_2 12 rfl rfl)
theorem dX7_accepts_60 : decode cX7_accepts 60 = .ok (.ireturn, 1) := dk_172 (dk_at dksX7_accepts_2 13 rfl rfl)
def dkwX7_reads_4 : List UInt8 := [42, 89, 180, 0, 31, 4, 96, 181, 0, 31, 167, 255, 161, 28, 158, 0, 7, 4, 167, 0, 4, 3, 172]
abbrev dktX7_reads_4 : List UInt8 := dkwX7_reads_4 ++ []
def dkwX7_reads_3 : List UInt8 := [46, 104, 42, 180, 0, 3, 180, 0, 35, 42, 180, 0, 31, 182, 0, 45, 96, 16, 48, 100, 79, 132, 2, 1]
abbrev dktX7_reads_3 : List UInt8 := dkwX7_reads_3 ++ dktX7_reads_4
def dkwX7_reads_2 : List UInt8 := [20, 0, 49, 20, 0, 51, 184, 0, 53, 153, 0, 52, 42, 180, 0, 27, 27, 16, 10, 42, 180, 0, 27, 27]
abbrev dktX7_reads_2 : List UInt8 := dkwX7_reads_2 ++ dktX7_reads_3
def dkwX7_reads_1 : List UInt8 := [180, 0, 35, 182, 0, 39, 162, 0, 79, 42, 180, 0, 3, 180, 0, 35, 42, 180, 0, 31, 182, 0, 45, 133]
abbrev dktX7_reads_1 : List UInt8 := dkwX7_reads_1 ++ dktX7_reads_2
def dkwX7_reads_0 : List UInt8 := [3, 61, 42, 180, 0, 27, 27, 3, 79, 28, 5, 162, 0, 96, 42, 180, 0, 31, 42, 180, 0, 3]
abbrev dktX7_reads_0 : List UInt8 := dkwX7_reads_0 ++ dktX7_reads_1
theorem dksX7_reads_0 : cX7_reads.data.toList.drop 0 = dktX7_reads_0 := by decide +kernel
theorem dksX7_reads_1 : cX7_reads.data.toList.drop 22 = dktX7_reads_1 := dk_seg dksX7_reads_0 22 rfl rfl
theorem dksX7_reads_2 : cX7_reads.data.toList.drop 46 = dktX7_reads_2 := dk_seg dksX7_reads_1 24 rfl rfl
theorem dksX7_reads_3 : cX7_reads.data.toList.drop 70 = dktX7_reads_3 := dk_seg dksX7_reads_2 24 rfl rfl
theorem dksX7_reads_4 : cX7_reads.data.toList.drop 94 = dktX7_reads_4 := dk_seg dksX7_reads_3 24 rfl rfl
theorem dX7_reads_0 : decode cX7_reads 0 = .ok (.iconst 0, 1) := dk_3 (dk_at dksX7_reads_0 0 rfl rfl)
theorem dX7_reads_1 : decode cX7_reads 1 = .ok (.istore_n 2, 1) := dk_61 (dk_at dksX7_reads_0 1 rfl rfl)
theorem dX7_reads_2 : decode cX7_reads 2 = .ok (.aload_n 0, 1) := dk_42 (dk_at dksX7_reads_0 2 rfl rfl)
theorem dX7_reads_3 : decode cX7_reads 3 = .ok (.getfield 27, 3) := dk_180 0 27 (dk_at dksX7_reads_0 3 rfl rfl)
theorem dX7_reads_6 : decode cX7_reads 6 = .ok (.iload_n 1, 1) := dk_27 (dk_at dksX7_reads_0 6 rfl rfl)
theorem dX7_reads_7 : decode cX7_reads 7 = .ok (.iconst 0, 1) := dk_3 (dk_at dksX7_reads_0 7 rfl rfl)
theorem dX7_reads_8 : decode cX7_reads 8 = .ok (.iastore, 1) := dk_79 (dk_at dksX7_reads_0 8 rfl rfl)
theorem dX7_reads_9 : decode cX7_reads 9 = .ok (.iload_n 2, 1) := dk_28 (dk_at dksX7_reads_0 9 rfl rfl)
theorem dX7_reads_10 : decode cX7_reads 10 = .ok (.iconst 2, 1) := dk_5 (dk_at dksX7_reads_0 10 rfl rfl)
theorem dX7_reads_11 : decode cX7_reads 11 = .ok (.if_icmp .ge 96, 3) := dk_162 0 96 (dk_at dksX7_reads_0 11 rfl rfl)
theorem dX7_reads_14 : decode cX7_reads 14 = .ok (.aload_n 0, 1) := dk_42 (dk_at dksX7_reads_0 14 rfl rfl)
theorem dX7_reads_15 : decode cX7_reads 15 = .ok (.getfield 31, 3) := dk_180 0 31 (dk_at dksX7_reads_0 15 rfl rfl)
theorem dX7_reads_18 : decode cX7_reads 18 = .ok (.aload_n 0, 1) := dk_42 (dk_at dksX7_reads_0 18 rfl rfl)
theorem dX7_reads_19 : decode cX7_reads 19 = .ok (.getfield 3, 3) := dk_180 0 3 (dk_at dksX7_reads_0 19 rfl rfl)
theorem dX7_reads_22 : decode cX7_reads 22 = .ok (.getfield 35, 3) := dk_180 0 35 (dk_at dksX7_reads_1 0 rfl rfl)
theorem dX7_reads_25 : decode cX7_reads 25 = .ok (.invokevirtual 39, 3) := dk_182 0 39 (dk_at dksX7_reads_1 3 rfl rfl)
theorem dX7_reads_28 : decode cX7_reads 28 = .ok (.if_icmp .ge 79, 3) := dk_162 0 79 (dk_at dksX7_reads_1 6 rfl rfl)
theorem dX7_reads_31 : decode cX7_reads 31 = .ok (.aload_n 0, 1) := dk_42 (dk_at dksX7_reads_1 9 rfl rfl)
theorem dX7_reads_32 : decode cX7_reads 32 = .ok (.getfield 3, 3) := dk_180 0 3 (dk_at dksX7_reads_1 10 rfl rfl)
theorem dX7_reads_35 : decode cX7_reads 35 = .ok (.getfield 35, 3) := dk_180 0 35 (dk_at dksX7_reads_1 13 rfl rfl)
theorem dX7_reads_38 : decode cX7_reads 38 = .ok (.aload_n 0, 1) := dk_42 (dk_at dksX7_reads_1 16 rfl rfl)
theorem dX7_reads_39 : decode cX7_reads 39 = .ok (.getfield 31, 3) := dk_180 0 31 (dk_at dksX7_reads_1 17 rfl rfl)
theorem dX7_reads_42 : decode cX7_reads 42 = .ok (.invokevirtual 45, 3) := dk_182 0 45 (dk_at dksX7_reads_1 20 rfl rfl)
theorem dX7_reads_45 : decode cX7_reads 45 = .ok (.i2l, 1) := dk_133 (dk_at dksX7_reads_1 23 rfl rfl)
theorem dX7_reads_46 : decode cX7_reads 46 = .ok (.ldc2_w 49, 3) := dk_20 0 49 (dk_at dksX7_reads_2 0 rfl rfl)
theorem dX7_reads_49 : decode cX7_reads 49 = .ok (.ldc2_w 51, 3) := dk_20 0 51 (dk_at dksX7_reads_2 3 rfl rfl)
theorem dX7_reads_52 : decode cX7_reads 52 = .ok (.invokestatic 53, 3) := dk_184 0 53 (dk_at dksX7_reads_2 6 rfl rfl)
theorem dX7_reads_55 : decode cX7_reads 55 = .ok (.ifCond .eq 52, 3) := dk_153 0 52 (dk_at dksX7_reads_2 9 rfl rfl)
theorem dX7_reads_58 : decode cX7_reads 58 = .ok (.aload_n 0, 1) := dk_42 (dk_at dksX7_reads_2 12 rfl rfl)
theorem dX7_reads_59 : decode cX7_reads 59 = .ok (.getfield 27, 3) := dk_180 0 27 (dk_at dksX7_reads_2 13 rfl rfl)
theorem dX7_reads_62 : decode cX7_reads 62 = .ok (.iload_n 1, 1) := dk_27 (dk_at dksX7_reads_2 16 rfl rfl)
theorem dX7_reads_63 : decode cX7_reads 63 = .ok (.bipush 10, 2) := dk_16 10 (dk_at dksX7_reads_2 17 rfl rfl)
theorem dX7_reads_65 : decode cX7_reads 65 = .ok (.aload_n 0, 1) := dk_42 (dk_at dksX7_reads_2 19 rfl rfl)
theorem dX7_reads_66 : decode cX7_reads 66 = .ok (.getfield 27, 3) := dk_180 0 27 (dk_at dksX7_reads_2 20 rfl rfl)
theorem dX7_reads_69 : decode cX7_reads 69 = .ok (.iload_n 1, 1) := dk_27 (dk_at dksX7_reads_2 23 rfl rfl)
theorem dX7_reads_70 : decode cX7_reads 70 = .ok (.iaload, 1) := dk_46 (dk_at dksX7_reads_3 0 rfl rfl)
theorem dX7_reads_71 : decode cX7_reads 71 = .ok (.imul, 1) := dk_104 (dk_at dksX7_reads_3 1 rfl rfl)
theorem dX7_reads_72 : decode cX7_reads 72 = .ok (.aload_n 0, 1) := dk_42 (dk_at dksX7_reads_3 2 rfl rfl)
theorem dX7_reads_73 : decode cX7_reads 73 = .ok (.getfield 3, 3) := dk_180 0 3 (dk_at dksX7_reads_3 3 rfl rfl)
theorem dX7_reads_76 : decode cX7_reads 76 = .ok (.getfield 35, 3) := dk_180 0 35 (dk_at dksX7_reads_3 6 rfl rfl)
theorem dX7_reads_79 : decode cX7_reads 79 = .ok (.aload_n 0, 1) := dk_42 (dk_at dksX7_reads_3 9 rfl rfl)
theorem dX7_reads_80 : decode cX7_reads 80 = .ok (.getfield 31, 3) := dk_180 0 31 (dk_at dksX7_reads_3 10 rfl rfl)
theorem dX7_reads_83 : decode cX7_reads 83 = .ok (.invokevirtual 45, 3) := dk_182 0 45 (dk_at dksX7_reads_3 13 rfl rfl)
theorem dX7_reads_86 : decode cX7_reads 86 = .ok (.iadd, 1) := dk_96 (dk_at dksX7_reads_3 16 rfl rfl)
theorem dX7_reads_87 : decode cX7_reads 87 = .ok (.bipush 48, 2) := dk_16 48 (dk_at dksX7_reads_3 17 rfl rfl)
theorem dX7_reads_89 : decode cX7_reads 89 = .ok (.isub, 1) := dk_100 (dk_at dksX7_reads_3 19 rfl rfl)
theorem dX7_reads_90 : decode cX7_reads 90 = .ok (.iastore, 1) := dk_79 (dk_at dksX7_reads_3 20 rfl rfl)
theorem dX7_reads_91 : decode cX7_reads 91 = .ok (.iinc 2 1, 3) := dk_132 2 1 (dk_at dksX7_reads_3 21 rfl rfl)
theorem dX7_reads_94 : decode cX7_reads 94 = .ok (.aload_n 0, 1) := dk_42 (dk_at dksX7_reads_4 0 rfl rfl)
theorem dX7_reads_95 : decode cX7_reads 95 = .ok (.dup, 1) := dk_89 (dk_at dksX7_reads_4 1 rfl rfl)
theorem dX7_reads_96 : decode cX7_reads 96 = .ok (.getfield 31, 3) := dk_180 0 31 (dk_at dksX7_reads_4 2 rfl rfl)
theorem dX7_reads_99 : decode cX7_reads 99 = .ok (.iconst 1, 1) := dk_4 (dk_at dksX7_reads_4 5 rfl rfl)
theorem dX7_reads_100 : decode cX7_reads 100 = .ok (.iadd, 1) := dk_96 (dk_at dksX7_reads_4 6 rfl rfl)
theorem dX7_reads_101 : decode cX7_reads 101 = .ok (.putfield 31, 3) := dk_181 0 31 (dk_at dksX7_reads_4 7 rfl rfl)
theorem dX7_reads_104 : decode cX7_reads 104 = .ok (.goto (-95), 3) := dk_167 255 161 (dk_at dksX7_reads_4 10 rfl rfl)
theorem dX7_reads_107 : decode cX7_reads 107 = .ok (.iload_n 2, 1) := dk_28 (dk_at dksX7_reads_4 13 rfl rfl)
theorem dX7_reads_108 : decode cX7_reads 108 = .ok (.ifCond .le 7, 3) := dk_158 0 7 (dk_at dksX7_reads_4 14 rfl rfl)
theorem dX7_reads_111 : decode cX7_reads 111 = .ok (.iconst 1, 1) := dk_4 (dk_at dksX7_reads_4 17 rfl rfl)
theorem dX7_reads_112 : decode cX7_reads 112 = .ok (.goto 4, 3) := dk_167 0 4 (dk_at dksX7_reads_4 18 rfl rfl)
theorem dX7_reads_115 : decode cX7_reads 115 = .ok (.iconst 0, 1) := dk_3 (dk_at dksX7_reads_4 21 rfl rfl)
theorem dX7_reads_116 : decode cX7_reads 116 = .ok (.ireturn, 1) := dk_172 (dk_at dksX7_reads_4 22 rfl rfl)
theorem e_X7_init (d : Nat) (x0 : Nat) (x1 : Nat) (h : a_H) : a_call (d + 1) MX7_init [.ref x0, .ref x1] h = a_run d MX7_init 0 [some (.ref x0), some (.ref x1)] [] h := a_call_run rfl (Nat.le_of_ble_eq_true rfl) rfl
theorem w_X7_init_0 (d : Nat) (a1 : Option Value) (x : Nat) (st : List Value) (h : a_H) : a_run d MX7_init 0 [some (.ref x), a1] st h = a_run d MX7_init 1 [some (.ref x), a1] (.ref x :: st) h := w_ldAn dX7_init_0 rfl
theorem w_X7_init_1 (d : Nat) (a0 : Option Value) (x : Nat) (st : List Value) (h : a_H) : a_run d MX7_init 1 [a0, some (.ref x)] st h = a_run d MX7_init 2 [a0, some (.ref x)] (.ref x :: st) h := w_ldAn dX7_init_1 rfl
theorem w_X7_init_1N (d : Nat) (a0 : Option Value) (st : List Value) (h : a_H) : a_run d MX7_init 1 [a0, some .null] st h = a_run d MX7_init 2 [a0, some .null] (.null :: st) h := w_ldNn dX7_init_1 rfl
theorem w_X7_init_2 (d : Nat) (L : a_L) (x : Nat) (i : Nat) (st : List Value) (h : a_H) : a_run d MX7_init 2 L (.ref x :: .ref i :: st) h = (a_pf h i 7 [6] (.ref x)).bind fun h' => a_run d MX7_init 5 L st h' := w_putf dX7_init_2 rfl rfl (Or.inr ⟨rfl, rfl⟩) rfl rfl
theorem w_X7_init_2N (d : Nat) (L : a_L) (i : Nat) (st : List Value) (h : a_H) : a_run d MX7_init 2 L (.null :: .ref i :: st) h = (a_pf h i 7 [6] (.null)).bind fun h' => a_run d MX7_init 5 L st h' := w_putf dX7_init_2 rfl rfl (Or.inr ⟨rfl, rfl⟩) rfl rfl
theorem w_X7_init_5 (d : Nat) (a1 : Option Value) (x : Nat) (st : List Value) (h : a_H) : a_run d MX7_init 5 [some (.ref x), a1] st h = a_run d MX7_init 6 [some (.ref x), a1] (.ref x :: st) h := w_ldAn dX7_init_5 rfl
theorem w_X7_init_6 (d : Nat) (L : a_L) (i : Nat) (st : List Value) (h : a_H) (hi : 1024 ≤ i) (hc : a_cat st ≤ 8) : a_run d MX7_init 6 L (.ref i :: st) h = a_run d MX7_init 9 L st h := w_obj dX7_init_6 rfl hi hc
theorem w_X7_init_9 (d : Nat) (a1 : Option Value) (x : Nat) (st : List Value) (h : a_H) : a_run d MX7_init 9 [some (.ref x), a1] st h = a_run d MX7_init 10 [some (.ref x), a1] (.ref x :: st) h := w_ldAn dX7_init_9 rfl
theorem w_X7_init_10 (d : Nat) (L : a_L) (st : List Value) (h : a_H) : a_run d MX7_init 10 L st h = a_run d MX7_init 13 L (.ref h.1 :: st) (a_add h (.inr (1, [.null, .null, .null, .null, .null, .null, .null, .null, .null, .null, .null, .int 0, .int 0, .int 0, .int 0, .int 0])) 16) := w_new dX7_init_10 rfl rfl
theorem w_X7_init_13 (d : Nat) (L : a_L) (x : Nat) (st : List Value) (h : a_H) : a_run d MX7_init 13 L (.ref x :: st) h = a_run d MX7_init 14 L (.ref x :: .ref x :: st) h := w_dup dX7_init_13
theorem w_X7_init_13I (d : Nat) (L : a_L) (x : Int32) (st : List Value) (h : a_H) : a_run d MX7_init 13 L (.int x :: st) h = a_run d MX7_init 14 L (.int x :: .int x :: st) h := w_dupI dX7_init_13
theorem w_X7_init_14 (d : Nat) (a1 : Option Value) (x : Nat) (st : List Value) (h : a_H) : a_run d MX7_init 14 [some (.ref x), a1] st h = a_run d MX7_init 15 [some (.ref x), a1] (.ref x :: st) h := w_ldAn dX7_init_14 rfl
theorem w_X7_init_15 (d : Nat) (L : a_L) (i : Nat) (st : List Value) (h : a_H) : a_run d MX7_init 15 L (.ref i :: st) h = (a_gf h i 7 [6]).bind fun v => a_run d MX7_init 18 L (v :: st) h := w_getf dX7_init_15 rfl
theorem w_X7_init_18 (d : Nat) (L : a_L) (i : Nat) (st : List Value) (h : a_H) : a_run d MX7_init 18 L (.ref i :: st) h = (a_gf h i 0 [0]).bind fun v => a_run d MX7_init 21 L (v :: st) h := w_getf dX7_init_18 rfl
theorem w_X7_init_21 (d : Nat) (L : a_L) (i : Nat) (v1 : Value) (st : List Value) (h : a_H) (hi : 1024 ≤ i) (hc : a_cat st ≤ 8) : a_run d MX7_init 21 L (v1 :: .ref i :: st) h = a_cont d MX7_init (a_bk MX7_init 21 L st (a_call d MX2_init_2 [.ref i, v1] h)) := w_callI (as := [.ref i, v1]) dX7_init_21 rfl rfl rfl hc (a_new0_of hi)
theorem w_X7_init_24 (d : Nat) (L : a_L) (x : Nat) (i : Nat) (st : List Value) (h : a_H) : a_run d MX7_init 24 L (.ref x :: .ref i :: st) h = (a_pf h i 0 [6] (.ref x)).bind fun h' => a_run d MX7_init 27 L st h' := w_putf dX7_init_24 rfl rfl (Or.inr ⟨rfl, rfl⟩) rfl rfl
theorem w_X7_init_24N (d : Nat) (L : a_L) (i : Nat) (st : List Value) (h : a_H) : a_run d MX7_init 24 L (.null :: .ref i :: st) h = (a_pf h i 0 [6] (.null)).bind fun h' => a_run d MX7_init 27 L st h' := w_putf dX7_init_24 rfl rfl (Or.inr ⟨rfl, rfl⟩) rfl rfl
theorem w_X7_init_27 (d : Nat) (a1 : Option Value) (x : Nat) (st : List Value) (h : a_H) : a_run d MX7_init 27 [some (.ref x), a1] st h = a_run d MX7_init 28 [some (.ref x), a1] (.ref x :: st) h := w_ldAn dX7_init_27 rfl
theorem w_X7_init_28 (d : Nat) (L : a_L) (st : List Value) (h : a_H) : a_run d MX7_init 28 L st h = a_run d MX7_init 29 L (.int (nI 2) :: st) h := w_iconst dX7_init_28 rfl
theorem w_X7_init_29 (d : Nat) (L : a_L) (x : Int32) (st : List Value) (h : a_H) : a_run d MX7_init 29 L (.int x :: st) h = (a_newa h (newarray.typeOf .int) x).bind fun q => a_run d MX7_init 31 L (.ref q.1 :: st) q.2 := w_newa dX7_init_29
theorem w_X7_init_31 (d : Nat) (L : a_L) (x : Nat) (i : Nat) (st : List Value) (h : a_H) : a_run d MX7_init 31 L (.ref x :: .ref i :: st) h = (a_pf h i 1 [6] (.ref x)).bind fun h' => a_run d MX7_init 34 L st h' := w_putf dX7_init_31 rfl rfl (Or.inr ⟨rfl, rfl⟩) rfl rfl
theorem w_X7_init_31N (d : Nat) (L : a_L) (i : Nat) (st : List Value) (h : a_H) : a_run d MX7_init 31 L (.null :: .ref i :: st) h = (a_pf h i 1 [6] (.null)).bind fun h' => a_run d MX7_init 34 L st h' := w_putf dX7_init_31 rfl rfl (Or.inr ⟨rfl, rfl⟩) rfl rfl
theorem w_X7_init_34 (d : Nat) (L : a_L) (h : a_H) : a_run d MX7_init 34 L [] h = some (.inl none, h) := w_vret dX7_init_34 rfl
theorem e_X7_isWell (d : Nat) (x0 : Nat) (h : a_H) : a_call (d + 1) MX7_isWell [.ref x0] h = a_run d MX7_isWell 0 [some (.ref x0)] [] h := a_call_run rfl (Nat.le_of_ble_eq_true rfl) rfl
theorem w_X7_isWell_0 (d : Nat) (x : Nat) (st : List Value) (h : a_H) : a_run d MX7_isWell 0 [some (.ref x)] st h = a_run d MX7_isWell 1 [some (.ref x)] (.ref x :: st) h := w_ldAn dX7_isWell_0 rfl
theorem w_X7_isWell_1 (d : Nat) (L : a_L) (i : Nat) (st : List Value) (h : a_H) : a_run d MX7_isWell 1 L (.ref i :: st) h = (a_gf h i 4 [6]).bind fun v => a_run d MX7_isWell 4 L (v :: st) h := w_getf dX7_isWell_1 rfl
theorem w_X7_isWell_4 (d : Nat) (L : a_L) (x : Int32) (st : List Value) (h : a_H) : a_run d MX7_isWell 4 L (.int x :: st) h = if x = 0 then a_run d MX7_isWell 7 L st h else a_run d MX7_isWell 39 L st h := w_if_ne dX7_isWell_4 rfl
theorem w_X7_isWell_7 (d : Nat) (x : Nat) (st : List Value) (h : a_H) : a_run d MX7_isWell 7 [some (.ref x)] st h = a_run d MX7_isWell 8 [some (.ref x)] (.ref x :: st) h := w_ldAn dX7_isWell_7 rfl
theorem w_X7_isWell_8 (d : Nat) (L : a_L) (i : Nat) (st : List Value) (h : a_H) : a_run d MX7_isWell 8 L (.ref i :: st) h = (a_gf h i 2 [6]).bind fun v => a_run d MX7_isWell 11 L (v :: st) h := w_getf dX7_isWell_8 rfl
theorem w_X7_isWell_11 (d : Nat) (x : Nat) (st : List Value) (h : a_H) : a_run d MX7_isWell 11 [some (.ref x)] st h = a_run d MX7_isWell 12 [some (.ref x)] (.ref x :: st) h := w_ldAn dX7_isWell_11 rfl
theorem w_X7_isWell_12 (d : Nat) (L : a_L) (i : Nat) (st : List Value) (h : a_H) : a_run d MX7_isWell 12 L (.ref i :: st) h = (a_gf h i 7 [6]).bind fun v => a_run d MX7_isWell 15 L (v :: st) h := w_getf dX7_isWell_12 rfl
theorem w_X7_isWell_15 (d : Nat) (L : a_L) (i : Nat) (st : List Value) (h : a_H) : a_run d MX7_isWell 15 L (.ref i :: st) h = (a_gf h i 3 [0]).bind fun v => a_run d MX7_isWell 18 L (v :: st) h := w_getf dX7_isWell_15 rfl
theorem w_X7_isWell_18 (d : Nat) (L : a_L) (i : Nat) (st : List Value) (h : a_H) (hk : a_kls h i = some 8) (hc : a_cat st ≤ 8) : a_run d MX7_isWell 18 L (.ref i :: st) h = a_cont d MX7_isWell (a_bk MX7_isWell 18 L st (a_call d MJ3_length [.ref i] h)) := w_callV (as := [.ref i]) dX7_isWell_18 rfl rfl rfl hc (a_rcv_of hk rfl)
theorem w_X7_isWell_21 (d : Nat) (L : a_L) (x y : Int32) (st : List Value) (h : a_H) : a_run d MX7_isWell 21 L (.int y :: .int x :: st) h = if x < y then a_run d MX7_isWell 24 L st h else a_run d MX7_isWell 39 L st h := w_icmp_ge dX7_isWell_21 rfl
theorem w_X7_isWell_24 (d : Nat) (x : Nat) (st : List Value) (h : a_H) : a_run d MX7_isWell 24 [some (.ref x)] st h = a_run d MX7_isWell 25 [some (.ref x)] (.ref x :: st) h := w_ldAn dX7_isWell_24 rfl
theorem w_X7_isWell_25 (d : Nat) (x : Nat) (st : List Value) (h : a_H) : a_run d MX7_isWell 25 [some (.ref x)] st h = a_run d MX7_isWell 26 [some (.ref x)] (.ref x :: st) h := w_ldAn dX7_isWell_25 rfl
theorem w_X7_isWell_26 (d : Nat) (L : a_L) (i : Nat) (st : List Value) (h : a_H) : a_run d MX7_isWell 26 L (.ref i :: st) h = (a_gf h i 2 [6]).bind fun v => a_run d MX7_isWell 29 L (v :: st) h := w_getf dX7_isWell_26 rfl
theorem w_X7_isWell_29 (d : Nat) (L : a_L) (x : Int32) (i : Nat) (st : List Value) (h : a_H) : a_run d MX7_isWell 29 L (.int x :: .ref i :: st) h = (a_pf h i 3 [6] (.int x)).bind fun h' => a_run d MX7_isWell 32 L st h' := w_putf dX7_isWell_29 rfl rfl (Or.inl rfl) rfl rfl
theorem w_X7_isWell_32 (d : Nat) (x : Nat) (st : List Value) (h : a_H) : a_run d MX7_isWell 32 [some (.ref x)] st h = a_run d MX7_isWell 33 [some (.ref x)] (.ref x :: st) h := w_ldAn dX7_isWell_32 rfl
theorem w_X7_isWell_33 (d : Nat) (L : a_L) (i : Nat) (st : List Value) (h : a_H) (hk : a_kls h i = some 6) (hc : a_cat st ≤ 8) : a_run d MX7_isWell 33 L (.ref i :: st) h = a_cont d MX7_isWell (a_bk MX7_isWell 33 L st (a_call d MX7_one [.ref i] h)) := w_callV (as := [.ref i]) dX7_isWell_33 rfl rfl rfl hc (a_rcv_of hk rfl)
theorem w_X7_isWell_36 (d : Nat) (L : a_L) (st : List Value) (h : a_H) : a_run d MX7_isWell 36 L st h = a_run d MX7_isWell 0 L st h := w_goto dX7_isWell_36 rfl
theorem w_X7_isWell_39 (d : Nat) (x : Nat) (st : List Value) (h : a_H) : a_run d MX7_isWell 39 [some (.ref x)] st h = a_run d MX7_isWell 40 [some (.ref x)] (.ref x :: st) h := w_ldAn dX7_isWell_39 rfl
theorem w_X7_isWell_40 (d : Nat) (L : a_L) (i : Nat) (st : List Value) (h : a_H) : a_run d MX7_isWell 40 L (.ref i :: st) h = (a_gf h i 4 [6]).bind fun v => a_run d MX7_isWell 43 L (v :: st) h := w_getf dX7_isWell_40 rfl
theorem w_X7_isWell_43 (d : Nat) (L : a_L) (x : Int32) (st : List Value) (h : a_H) : a_run d MX7_isWell 43 L (.int x :: st) h = if x = 0 then a_run d MX7_isWell 46 L st h else a_run d MX7_isWell 50 L st h := w_if_ne dX7_isWell_43 rfl
theorem w_X7_isWell_46 (d : Nat) (L : a_L) (st : List Value) (h : a_H) : a_run d MX7_isWell 46 L st h = a_run d MX7_isWell 47 L (.int (nI 1) :: st) h := w_iconst dX7_isWell_46 rfl
theorem w_X7_isWell_47 (d : Nat) (L : a_L) (st : List Value) (h : a_H) : a_run d MX7_isWell 47 L st h = a_run d MX7_isWell 51 L st h := w_goto dX7_isWell_47 rfl
theorem w_X7_isWell_50 (d : Nat) (L : a_L) (st : List Value) (h : a_H) : a_run d MX7_isWell 50 L st h = a_run d MX7_isWell 51 L (.int (nI 0) :: st) h := w_iconst dX7_isWell_50 rfl
theorem w_X7_isWell_51 (d : Nat) (L : a_L) (x : Int32) (h : a_H) (hx : x = 0 ∨ x = 1) : a_run d MX7_isWell 51 L [.int x] h = some (.inl (some (.int x)), h) := w_iret dX7_isWell_51 (w_retZ rfl hx)
theorem e_X7_one (d : Nat) (x0 : Nat) (h : a_H) : a_call (d + 1) MX7_one [.ref x0] h = a_run d MX7_one 0 [some (.ref x0), none, none, none] [] h := a_call_run rfl (Nat.le_of_ble_eq_true rfl) rfl
theorem w_X7_one_0 (d : Nat) (a1 a2 a3 : Option Value) (x : Nat) (st : List Value) (h : a_H) : a_run d MX7_one 0 [some (.ref x), a1, a2, a3] st h = a_run d MX7_one 1 [some (.ref x), a1, a2, a3] (.ref x :: st) h := w_ldAn dX7_one_0 rfl
theorem w_X7_one_1 (d : Nat) (L : a_L) (i : Nat) (st : List Value) (h : a_H) : a_run d MX7_one 1 L (.ref i :: st) h = (a_gf h i 7 [6]).bind fun v => a_run d MX7_one 4 L (v :: st) h := w_getf dX7_one_1 rfl
theorem w_X7_one_4 (d : Nat) (L : a_L) (i : Nat) (st : List Value) (h : a_H) : a_run d MX7_one 4 L (.ref i :: st) h = (a_gf h i 3 [0]).bind fun v => a_run d MX7_one 7 L (v :: st) h := w_getf dX7_one_4 rfl
theorem w_X7_one_7 (d : Nat) (a1 a2 a3 : Option Value) (x : Nat) (st : List Value) (h : a_H) : a_run d MX7_one 7 [some (.ref x), a1, a2, a3] st h = a_run d MX7_one 8 [some (.ref x), a1, a2, a3] (.ref x :: st) h := w_ldAn dX7_one_7 rfl
theorem w_X7_one_8 (d : Nat) (L : a_L) (i : Nat) (st : List Value) (h : a_H) : a_run d MX7_one 8 L (.ref i :: st) h = (a_gf h i 2 [6]).bind fun v => a_run d MX7_one 11 L (v :: st) h := w_getf dX7_one_8 rfl
theorem w_X7_one_11 (d : Nat) (L : a_L) (i : Nat) (v1 : Value) (st : List Value) (h : a_H) (hk : a_kls h i = some 8) (hc : a_cat st ≤ 8) : a_run d MX7_one 11 L (v1 :: .ref i :: st) h = a_cont d MX7_one (a_bk MX7_one 11 L st (a_call d MJ3_charAt [.ref i, v1] h)) := w_callV (as := [.ref i, v1]) dX7_one_11 rfl rfl rfl hc (a_rcv_of hk rfl)
theorem w_X7_one_14 (d : Nat) (a0 a1 a2 a3 : Option Value) (x : Int32) (st : List Value) (h : a_H) : a_run d MX7_one 14 [a0, a1, a2, a3] (.int x :: st) h = a_run d MX7_one 15 [a0, some (.int x), a2, a3] st h := w_stIn dX7_one_14 (Nat.le_of_ble_eq_true rfl) rfl
theorem w_X7_one_15 (d : Nat) (L : a_L) (st : List Value) (h : a_H) : a_run d MX7_one 15 L st h = a_run d MX7_one 17 L (.ref 711 :: st) h := w_ldc dX7_one_15 rfl
theorem w_X7_one_17 (d : Nat) (a0 a2 a3 : Option Value) (x : Int32) (st : List Value) (h : a_H) : a_run d MX7_one 17 [a0, some (.int x), a2, a3] st h = a_run d MX7_one 18 [a0, some (.int x), a2, a3] (.int x :: st) h := w_ldIn dX7_one_17 rfl
theorem w_X7_one_18 (d : Nat) (L : a_L) (i : Nat) (v1 : Value) (st : List Value) (h : a_H) (hk : a_kls h i = some 15) (hc : a_cat st ≤ 8) : a_run d MX7_one 18 L (v1 :: .ref i :: st) h = a_cont d MX7_one (a_bk MX7_one 18 L st (a_call d MJ4_indexOf [.ref i, v1] h)) := w_callV (as := [.ref i, v1]) dX7_one_18 rfl rfl rfl hc (a_rcv_of hk rfl)
theorem w_X7_one_21 (d : Nat) (L : a_L) (x : Int32) (st : List Value) (h : a_H) : a_run d MX7_one 21 L (.int x :: st) h = if x < 0 then a_run d MX7_one 28 L st h else a_run d MX7_one 24 L st h := w_if_lt dX7_one_21 rfl
theorem w_X7_one_24 (d : Nat) (L : a_L) (st : List Value) (h : a_H) : a_run d MX7_one 24 L st h = a_run d MX7_one 25 L (.int (nI 2) :: st) h := w_iconst dX7_one_24 rfl
theorem w_X7_one_25 (d : Nat) (L : a_L) (st : List Value) (h : a_H) : a_run d MX7_one 25 L st h = a_run d MX7_one 52 L st h := w_goto dX7_one_25 rfl
theorem w_X7_one_28 (d : Nat) (a0 a2 a3 : Option Value) (x : Int32) (st : List Value) (h : a_H) : a_run d MX7_one 28 [a0, some (.int x), a2, a3] st h = a_run d MX7_one 29 [a0, some (.int x), a2, a3] (.int x :: st) h := w_ldIn dX7_one_28 rfl
theorem w_X7_one_29 (d : Nat) (L : a_L) (st : List Value) (h : a_H) : a_run d MX7_one 29 L st h = a_run d MX7_one 31 L (.int (nI 120) :: st) h := w_bipush dX7_one_29 rfl
theorem w_X7_one_31 (d : Nat) (L : a_L) (x y : Int32) (st : List Value) (h : a_H) : a_run d MX7_one 31 L (.int y :: .int x :: st) h = if x = y then a_run d MX7_one 34 L st h else a_run d MX7_one 38 L st h := w_icmp_ne dX7_one_31 rfl
theorem w_X7_one_34 (d : Nat) (L : a_L) (st : List Value) (h : a_H) : a_run d MX7_one 34 L st h = a_run d MX7_one 35 L (.int (nI 1) :: st) h := w_iconst dX7_one_34 rfl
theorem w_X7_one_35 (d : Nat) (L : a_L) (st : List Value) (h : a_H) : a_run d MX7_one 35 L st h = a_run d MX7_one 52 L st h := w_goto dX7_one_35 rfl
theorem w_X7_one_38 (d : Nat) (L : a_L) (st : List Value) (h : a_H) : a_run d MX7_one 38 L st h = a_run d MX7_one 40 L (.ref 712 :: st) h := w_ldc dX7_one_38 rfl
theorem w_X7_one_40 (d : Nat) (a0 a2 a3 : Option Value) (x : Int32) (st : List Value) (h : a_H) : a_run d MX7_one 40 [a0, some (.int x), a2, a3] st h = a_run d MX7_one 41 [a0, some (.int x), a2, a3] (.int x :: st) h := w_ldIn dX7_one_40 rfl
theorem w_X7_one_41 (d : Nat) (L : a_L) (i : Nat) (v1 : Value) (st : List Value) (h : a_H) (hk : a_kls h i = some 15) (hc : a_cat st ≤ 8) : a_run d MX7_one 41 L (v1 :: .ref i :: st) h = a_cont d MX7_one (a_bk MX7_one 41 L st (a_call d MJ4_indexOf [.ref i, v1] h)) := w_callV (as := [.ref i, v1]) dX7_one_41 rfl rfl rfl hc (a_rcv_of hk rfl)
theorem w_X7_one_44 (d : Nat) (L : a_L) (x : Int32) (st : List Value) (h : a_H) : a_run d MX7_one 44 L (.int x :: st) h = if x < 0 then a_run d MX7_one 51 L st h else a_run d MX7_one 47 L st h := w_if_lt dX7_one_44 rfl
theorem w_X7_one_47 (d : Nat) (L : a_L) (st : List Value) (h : a_H) : a_run d MX7_one 47 L st h = a_run d MX7_one 48 L (.int (nI 0) :: st) h := w_iconst dX7_one_47 rfl
theorem w_X7_one_48 (d : Nat) (L : a_L) (st : List Value) (h : a_H) : a_run d MX7_one 48 L st h = a_run d MX7_one 52 L st h := w_goto dX7_one_48 rfl
theorem w_X7_one_51 (d : Nat) (L : a_L) (st : List Value) (h : a_H) : a_run d MX7_one 51 L st h = a_run d MX7_one 52 L (.int ((-1)) :: st) h := w_iconst dX7_one_51 rfl
theorem w_X7_one_52 (d : Nat) (a0 a1 a2 a3 : Option Value) (x : Int32) (st : List Value) (h : a_H) : a_run d MX7_one 52 [a0, a1, a2, a3] (.int x :: st) h = a_run d MX7_one 53 [a0, a1, some (.int x), a3] st h := w_stIn dX7_one_52 (Nat.le_of_ble_eq_true rfl) rfl
theorem w_X7_one_53 (d : Nat) (a1 a2 a3 : Option Value) (x : Nat) (st : List Value) (h : a_H) : a_run d MX7_one 53 [some (.ref x), a1, a2, a3] st h = a_run d MX7_one 54 [some (.ref x), a1, a2, a3] (.ref x :: st) h := w_ldAn dX7_one_53 rfl
theorem w_X7_one_54 (d : Nat) (L : a_L) (x : Nat) (st : List Value) (h : a_H) : a_run d MX7_one 54 L (.ref x :: st) h = a_run d MX7_one 55 L (.ref x :: .ref x :: st) h := w_dup dX7_one_54
theorem w_X7_one_54I (d : Nat) (L : a_L) (x : Int32) (st : List Value) (h : a_H) : a_run d MX7_one 54 L (.int x :: st) h = a_run d MX7_one 55 L (.int x :: .int x :: st) h := w_dupI dX7_one_54
theorem w_X7_one_55 (d : Nat) (L : a_L) (i : Nat) (st : List Value) (h : a_H) : a_run d MX7_one 55 L (.ref i :: st) h = (a_gf h i 2 [6]).bind fun v => a_run d MX7_one 58 L (v :: st) h := w_getf dX7_one_55 rfl
theorem w_X7_one_58 (d : Nat) (a0 a1 a3 : Option Value) (x : Int32) (st : List Value) (h : a_H) : a_run d MX7_one 58 [a0, a1, some (.int x), a3] st h = a_run d MX7_one 59 [a0, a1, some (.int x), a3] (.int x :: st) h := w_ldIn dX7_one_58 rfl
theorem w_X7_one_59 (d : Nat) (L : a_L) (x : Int32) (st : List Value) (h : a_H) : a_run d MX7_one 59 L (.int x :: st) h = if x < 0 then a_run d MX7_one 62 L st h else a_run d MX7_one 66 L st h := w_if_ge dX7_one_59 rfl
theorem w_X7_one_62 (d : Nat) (L : a_L) (st : List Value) (h : a_H) : a_run d MX7_one 62 L st h = a_run d MX7_one 63 L (.int (nI 0) :: st) h := w_iconst dX7_one_62 rfl
theorem w_X7_one_63 (d : Nat) (L : a_L) (st : List Value) (h : a_H) : a_run d MX7_one 63 L st h = a_run d MX7_one 67 L st h := w_goto dX7_one_63 rfl
theorem w_X7_one_66 (d : Nat) (L : a_L) (st : List Value) (h : a_H) : a_run d MX7_one 66 L st h = a_run d MX7_one 67 L (.int (nI 1) :: st) h := w_iconst dX7_one_66 rfl
theorem w_X7_one_67 (d : Nat) (L : a_L) (x y : Int32) (st : List Value) (h : a_H) : a_run d MX7_one 67 L (.int y :: .int x :: st) h = a_run d MX7_one 68 L (.int (x + y) :: st) h := w_iadd dX7_one_67
theorem w_X7_one_68 (d : Nat) (L : a_L) (x : Int32) (i : Nat) (st : List Value) (h : a_H) : a_run d MX7_one 68 L (.int x :: .ref i :: st) h = (a_pf h i 2 [6] (.int x)).bind fun h' => a_run d MX7_one 71 L st h' := w_putf dX7_one_68 rfl rfl (Or.inl rfl) rfl rfl
theorem w_X7_one_71 (d : Nat) (a1 a2 a3 : Option Value) (x : Nat) (st : List Value) (h : a_H) : a_run d MX7_one 71 [some (.ref x), a1, a2, a3] st h = a_run d MX7_one 72 [some (.ref x), a1, a2, a3] (.ref x :: st) h := w_ldAn dX7_one_71 rfl
theorem w_X7_one_72 (d : Nat) (a0 a1 a3 : Option Value) (x : Int32) (st : List Value) (h : a_H) : a_run d MX7_one 72 [a0, a1, some (.int x), a3] st h = a_run d MX7_one 73 [a0, a1, some (.int x), a3] (.int x :: st) h := w_ldIn dX7_one_72 rfl
theorem w_X7_one_73 (d : Nat) (L : a_L) (i : Nat) (v1 : Value) (st : List Value) (h : a_H) (hk : a_kls h i = some 6) (hc : a_cat st ≤ 8) : a_run d MX7_one 73 L (v1 :: .ref i :: st) h = a_cont d MX7_one (a_bk MX7_one 73 L st (a_call d MX7_isOfForm [.ref i, v1] h)) := w_callV (as := [.ref i, v1]) dX7_one_73 rfl rfl rfl hc (a_rcv_of hk rfl)
theorem w_X7_one_76 (d : Nat) (L : a_L) (x : Int32) (st : List Value) (h : a_H) : a_run d MX7_one 76 L (.int x :: st) h = if x = 0 then a_run d MX7_one 79 L st h else a_run d MX7_one 98 L st h := w_if_ne dX7_one_76 rfl
theorem w_X7_one_79 (d : Nat) (a1 a2 a3 : Option Value) (x : Nat) (st : List Value) (h : a_H) : a_run d MX7_one 79 [some (.ref x), a1, a2, a3] st h = a_run d MX7_one 80 [some (.ref x), a1, a2, a3] (.ref x :: st) h := w_ldAn dX7_one_79 rfl
theorem w_X7_one_80 (d : Nat) (L : a_L) (st : List Value) (h : a_H) : a_run d MX7_one 80 L st h = a_run d MX7_one 81 L (.int (nI 1) :: st) h := w_iconst dX7_one_80 rfl
theorem w_X7_one_81 (d : Nat) (L : a_L) (x : Int32) (i : Nat) (st : List Value) (h : a_H) : a_run d MX7_one 81 L (.int x :: .ref i :: st) h = (a_pf h i 4 [6] (.int x)).bind fun h' => a_run d MX7_one 84 L st h' := w_putf dX7_one_81 rfl rfl (Or.inl rfl) rfl rfl
theorem w_X7_one_84 (d : Nat) (a1 a2 a3 : Option Value) (x : Nat) (st : List Value) (h : a_H) : a_run d MX7_one 84 [some (.ref x), a1, a2, a3] st h = a_run d MX7_one 85 [some (.ref x), a1, a2, a3] (.ref x :: st) h := w_ldAn dX7_one_84 rfl
theorem w_X7_one_85 (d : Nat) (a1 a2 a3 : Option Value) (x : Nat) (st : List Value) (h : a_H) : a_run d MX7_one 85 [some (.ref x), a1, a2, a3] st h = a_run d MX7_one 86 [some (.ref x), a1, a2, a3] (.ref x :: st) h := w_ldAn dX7_one_85 rfl
theorem w_X7_one_86 (d : Nat) (L : a_L) (i : Nat) (st : List Value) (h : a_H) : a_run d MX7_one 86 L (.ref i :: st) h = (a_gf h i 2 [6]).bind fun v => a_run d MX7_one 89 L (v :: st) h := w_getf dX7_one_86 rfl
theorem w_X7_one_89 (d : Nat) (a1 a2 a3 : Option Value) (x : Nat) (st : List Value) (h : a_H) : a_run d MX7_one 89 [some (.ref x), a1, a2, a3] st h = a_run d MX7_one 90 [some (.ref x), a1, a2, a3] (.ref x :: st) h := w_ldAn dX7_one_89 rfl
theorem w_X7_one_90 (d : Nat) (L : a_L) (i : Nat) (st : List Value) (h : a_H) : a_run d MX7_one 90 L (.ref i :: st) h = (a_gf h i 3 [6]).bind fun v => a_run d MX7_one 93 L (v :: st) h := w_getf dX7_one_90 rfl
theorem w_X7_one_93 (d : Nat) (L : a_L) (x y : Int32) (st : List Value) (h : a_H) : a_run d MX7_one 93 L (.int y :: .int x :: st) h = a_run d MX7_one 94 L (.int (x - y) :: st) h := w_isub dX7_one_93
theorem w_X7_one_94 (d : Nat) (L : a_L) (x : Int32) (i : Nat) (st : List Value) (h : a_H) : a_run d MX7_one 94 L (.int x :: .ref i :: st) h = (a_pf h i 5 [6] (.int x)).bind fun h' => a_run d MX7_one 97 L st h' := w_putf dX7_one_94 rfl rfl (Or.inl rfl) rfl rfl
theorem w_X7_one_97 (d : Nat) (L : a_L) (h : a_H) : a_run d MX7_one 97 L [] h = some (.inl none, h) := w_vret dX7_one_97 rfl
theorem w_X7_one_98 (d : Nat) (a1 a2 a3 : Option Value) (x : Nat) (st : List Value) (h : a_H) : a_run d MX7_one 98 [some (.ref x), a1, a2, a3] st h = a_run d MX7_one 99 [some (.ref x), a1, a2, a3] (.ref x :: st) h := w_ldAn dX7_one_98 rfl
theorem w_X7_one_99 (d : Nat) (L : a_L) (i : Nat) (st : List Value) (h : a_H) : a_run d MX7_one 99 L (.ref i :: st) h = (a_gf h i 0 [6]).bind fun v => a_run d MX7_one 102 L (v :: st) h := w_getf dX7_one_99 rfl
theorem w_X7_one_102 (d : Nat) (a0 a2 a3 : Option Value) (x : Int32) (st : List Value) (h : a_H) : a_run d MX7_one 102 [a0, some (.int x), a2, a3] st h = a_run d MX7_one 103 [a0, some (.int x), a2, a3] (.int x :: st) h := w_ldIn dX7_one_102 rfl
theorem w_X7_one_103 (d : Nat) (a1 a2 a3 : Option Value) (x : Nat) (st : List Value) (h : a_H) : a_run d MX7_one 103 [some (.ref x), a1, a2, a3] st h = a_run d MX7_one 104 [some (.ref x), a1, a2, a3] (.ref x :: st) h := w_ldAn dX7_one_103 rfl
theorem w_X7_one_104 (d : Nat) (L : a_L) (i : Nat) (st : List Value) (h : a_H) : a_run d MX7_one 104 L (.ref i :: st) h = (a_gf h i 1 [6]).bind fun v => a_run d MX7_one 107 L (v :: st) h := w_getf dX7_one_104 rfl
theorem w_X7_one_107 (d : Nat) (L : a_L) (v0 v1 v2 : Value) (st : List Value) (h : a_H) (hc : a_cat st ≤ 8) : a_run d MX7_one 107 L (v2 :: v1 :: v0 :: st) h = a_cont d MX7_one (a_bk MX7_one 107 L st (a_call d MX1_done [v0, v1, v2] h)) := w_callS (as := [v0, v1, v2]) dX7_one_107 rfl rfl rfl hc
theorem w_X7_one_110 (d : Nat) (a0 a1 a2 a3 : Option Value) (x : Int32) (st : List Value) (h : a_H) : a_run d MX7_one 110 [a0, a1, a2, a3] (.int x :: st) h = a_run d MX7_one 111 [a0, a1, a2, some (.int x)] st h := w_stIn dX7_one_110 (Nat.le_of_ble_eq_true rfl) rfl
theorem w_X7_one_111 (d : Nat) (a1 a2 a3 : Option Value) (x : Nat) (st : List Value) (h : a_H) : a_run d MX7_one 111 [some (.ref x), a1, a2, a3] st h = a_run d MX7_one 112 [some (.ref x), a1, a2, a3] (.ref x :: st) h := w_ldAn dX7_one_111 rfl
theorem w_X7_one_112 (d : Nat) (L : a_L) (x : Nat) (st : List Value) (h : a_H) : a_run d MX7_one 112 L (.ref x :: st) h = a_run d MX7_one 113 L (.ref x :: .ref x :: st) h := w_dup dX7_one_112
theorem w_X7_one_112I (d : Nat) (L : a_L) (x : Int32) (st : List Value) (h : a_H) : a_run d MX7_one 112 L (.int x :: st) h = a_run d MX7_one 113 L (.int x :: .int x :: st) h := w_dupI dX7_one_112
theorem w_X7_one_113 (d : Nat) (L : a_L) (i : Nat) (st : List Value) (h : a_H) : a_run d MX7_one 113 L (.ref i :: st) h = (a_gf h i 6 [6]).bind fun v => a_run d MX7_one 116 L (v :: st) h := w_getf dX7_one_113 rfl
theorem w_X7_one_116 (d : Nat) (L : a_L) (st : List Value) (h : a_H) : a_run d MX7_one 116 L st h = a_run d MX7_one 117 L (.int (nI 1) :: st) h := w_iconst dX7_one_116 rfl
theorem w_X7_one_117 (d : Nat) (L : a_L) (x y : Int32) (st : List Value) (h : a_H) : a_run d MX7_one 117 L (.int y :: .int x :: st) h = a_run d MX7_one 118 L (.int (x + y) :: st) h := w_iadd dX7_one_117
theorem w_X7_one_118 (d : Nat) (L : a_L) (x : Int32) (i : Nat) (st : List Value) (h : a_H) : a_run d MX7_one 118 L (.int x :: .ref i :: st) h = (a_pf h i 6 [6] (.int x)).bind fun h' => a_run d MX7_one 121 L st h' := w_putf dX7_one_118 rfl rfl (Or.inl rfl) rfl rfl
theorem w_X7_one_121 (d : Nat) (L : a_L) (st : List Value) (h : a_H) : a_run d MX7_one 121 L st h = a_run d MX7_one 138 L st h := w_goto dX7_one_121 rfl
theorem w_X7_one_124 (d : Nat) (a0 a1 a2 a3 : Option Value) (x : Nat) (st : List Value) (h : a_H) : a_run d MX7_one 124 [a0, a1, a2, a3] (.ref x :: st) h = a_run d MX7_one 125 [a0, a1, a2, some (.ref x)] st h := w_stAn dX7_one_124 (Nat.le_of_ble_eq_true rfl) rfl
theorem w_X7_one_124N (d : Nat) (a0 a1 a2 a3 : Option Value) (st : List Value) (h : a_H) : a_run d MX7_one 124 [a0, a1, a2, a3] (.null :: st) h = a_run d MX7_one 125 [a0, a1, a2, some .null] st h := w_stNn dX7_one_124 (Nat.le_of_ble_eq_true rfl) rfl
theorem w_X7_one_125 (d : Nat) (a1 a2 a3 : Option Value) (x : Nat) (st : List Value) (h : a_H) : a_run d MX7_one 125 [some (.ref x), a1, a2, a3] st h = a_run d MX7_one 126 [some (.ref x), a1, a2, a3] (.ref x :: st) h := w_ldAn dX7_one_125 rfl
theorem w_X7_one_126 (d : Nat) (L : a_L) (st : List Value) (h : a_H) : a_run d MX7_one 126 L st h = a_run d MX7_one 127 L (.int (nI 2) :: st) h := w_iconst dX7_one_126 rfl
theorem w_X7_one_127 (d : Nat) (L : a_L) (x : Int32) (i : Nat) (st : List Value) (h : a_H) : a_run d MX7_one 127 L (.int x :: .ref i :: st) h = (a_pf h i 4 [6] (.int x)).bind fun h' => a_run d MX7_one 130 L st h' := w_putf dX7_one_127 rfl rfl (Or.inl rfl) rfl rfl
theorem w_X7_one_130 (d : Nat) (a1 a2 a3 : Option Value) (x : Nat) (st : List Value) (h : a_H) : a_run d MX7_one 130 [some (.ref x), a1, a2, a3] st h = a_run d MX7_one 131 [some (.ref x), a1, a2, a3] (.ref x :: st) h := w_ldAn dX7_one_130 rfl
theorem w_X7_one_131 (d : Nat) (a0 a1 a2 : Option Value) (x : Nat) (st : List Value) (h : a_H) : a_run d MX7_one 131 [a0, a1, a2, some (.ref x)] st h = a_run d MX7_one 132 [a0, a1, a2, some (.ref x)] (.ref x :: st) h := w_ldAn dX7_one_131 rfl
theorem w_X7_one_131N (d : Nat) (a0 a1 a2 : Option Value) (st : List Value) (h : a_H) : a_run d MX7_one 131 [a0, a1, a2, some .null] st h = a_run d MX7_one 132 [a0, a1, a2, some .null] (.null :: st) h := w_ldNn dX7_one_131 rfl
theorem w_X7_one_132 (d : Nat) (L : a_L) (i : Nat) (st : List Value) (h : a_H) : a_run d MX7_one 132 L (.ref i :: st) h = (a_gf h i 6 [3]).bind fun v => a_run d MX7_one 135 L (v :: st) h := w_getf dX7_one_132 rfl
theorem w_X7_one_135 (d : Nat) (L : a_L) (x : Int32) (i : Nat) (st : List Value) (h : a_H) : a_run d MX7_one 135 L (.int x :: .ref i :: st) h = (a_pf h i 5 [6] (.int x)).bind fun h' => a_run d MX7_one 138 L st h' := w_putf dX7_one_135 rfl rfl (Or.inl rfl) rfl rfl
theorem w_X7_one_138 (d : Nat) (L : a_L) (h : a_H) : a_run d MX7_one 138 L [] h = some (.inl none, h) := w_vret dX7_one_138 rfl
theorem e_X7_isOfForm (d : Nat) (x0 : Nat) (x1 : Int32) (h : a_H) : a_call (d + 1) MX7_isOfForm [.ref x0, .int x1] h = a_run d MX7_isOfForm 0 [some (.ref x0), some (.int x1), none, none] [] h := a_call_run rfl (Nat.le_of_ble_eq_true rfl) rfl
theorem w_X7_isOfForm_0 (d : Nat) (a0 a2 a3 : Option Value) (x : Int32) (st : List Value) (h : a_H) : a_run d MX7_isOfForm 0 [a0, some (.int x), a2, a3] st h = a_run d MX7_isOfForm 1 [a0, some (.int x), a2, a3] (.int x :: st) h := w_ldIn dX7_isOfForm_0 rfl
theorem w_X7_isOfForm_1 (d : Nat) (L : a_L) (x : Int32) (st : List Value) (h : a_H) : a_run d MX7_isOfForm 1 L (.int x :: st) h = if x < 0 then a_run d MX7_isOfForm 8 L st h else a_run d MX7_isOfForm 4 L st h := w_if_lt dX7_isOfForm_1 rfl
theorem w_X7_isOfForm_4 (d : Nat) (L : a_L) (st : List Value) (h : a_H) : a_run d MX7_isOfForm 4 L st h = a_run d MX7_isOfForm 5 L (.int (nI 1) :: st) h := w_iconst dX7_isOfForm_4 rfl
theorem w_X7_isOfForm_5 (d : Nat) (L : a_L) (st : List Value) (h : a_H) : a_run d MX7_isOfForm 5 L st h = a_run d MX7_isOfForm 9 L st h := w_goto dX7_isOfForm_5 rfl
theorem w_X7_isOfForm_8 (d : Nat) (L : a_L) (st : List Value) (h : a_H) : a_run d MX7_isOfForm 8 L st h = a_run d MX7_isOfForm 9 L (.int (nI 0) :: st) h := w_iconst dX7_isOfForm_8 rfl
theorem w_X7_isOfForm_9 (d : Nat) (a0 a1 a2 a3 : Option Value) (x : Int32) (st : List Value) (h : a_H) : a_run d MX7_isOfForm 9 [a0, a1, a2, a3] (.int x :: st) h = a_run d MX7_isOfForm 10 [a0, a1, some (.int x), a3] st h := w_stIn dX7_isOfForm_9 (Nat.le_of_ble_eq_true rfl) rfl
theorem w_X7_isOfForm_10 (d : Nat) (L : a_L) (st : List Value) (h : a_H) : a_run d MX7_isOfForm 10 L st h = a_run d MX7_isOfForm 11 L (.int (nI 0) :: st) h := w_iconst dX7_isOfForm_10 rfl
theorem w_X7_isOfForm_11 (d : Nat) (a0 a1 a2 a3 : Option Value) (x : Int32) (st : List Value) (h : a_H) : a_run d MX7_isOfForm 11 [a0, a1, a2, a3] (.int x :: st) h = a_run d MX7_isOfForm 12 [a0, a1, a2, some (.int x)] st h := w_stIn dX7_isOfForm_11 (Nat.le_of_ble_eq_true rfl) rfl
theorem w_X7_isOfForm_12 (d : Nat) (a0 a1 a2 : Option Value) (x : Int32) (st : List Value) (h : a_H) : a_run d MX7_isOfForm 12 [a0, a1, a2, some (.int x)] st h = a_run d MX7_isOfForm 13 [a0, a1, a2, some (.int x)] (.int x :: st) h := w_ldIn dX7_isOfForm_12 rfl
theorem w_X7_isOfForm_13 (d : Nat) (a0 a2 a3 : Option Value) (x : Int32) (st : List Value) (h : a_H) : a_run d MX7_isOfForm 13 [a0, some (.int x), a2, a3] st h = a_run d MX7_isOfForm 14 [a0, some (.int x), a2, a3] (.int x :: st) h := w_ldIn dX7_isOfForm_13 rfl
theorem w_X7_isOfForm_14 (d : Nat) (L : a_L) (x y : Int32) (st : List Value) (h : a_H) : a_run d MX7_isOfForm 14 L (.int y :: .int x :: st) h = if x < y then a_run d MX7_isOfForm 17 L st h else a_run d MX7_isOfForm 54 L st h := w_icmp_ge dX7_isOfForm_14 rfl
theorem w_X7_isOfForm_17 (d : Nat) (a0 a1 a3 : Option Value) (x : Int32) (st : List Value) (h : a_H) : a_run d MX7_isOfForm 17 [a0, a1, some (.int x), a3] st h = a_run d MX7_isOfForm 18 [a0, a1, some (.int x), a3] (.int x :: st) h := w_ldIn dX7_isOfForm_17 rfl
theorem w_X7_isOfForm_18 (d : Nat) (L : a_L) (x : Int32) (st : List Value) (h : a_H) : a_run d MX7_isOfForm 18 L (.int x :: st) h = if x = 0 then a_run d MX7_isOfForm 54 L st h else a_run d MX7_isOfForm 21 L st h := w_if_eq dX7_isOfForm_18 rfl
theorem w_X7_isOfForm_21 (d : Nat) (a0 a1 a2 : Option Value) (x : Int32) (st : List Value) (h : a_H) : a_run d MX7_isOfForm 21 [a0, a1, a2, some (.int x)] st h = a_run d MX7_isOfForm 22 [a0, a1, a2, some (.int x)] (.int x :: st) h := w_ldIn dX7_isOfForm_21 rfl
theorem w_X7_isOfForm_22 (d : Nat) (L : a_L) (x : Int32) (st : List Value) (h : a_H) : a_run d MX7_isOfForm 22 L (.int x :: st) h = if x = 0 then a_run d MX7_isOfForm 34 L st h else a_run d MX7_isOfForm 25 L st h := w_if_eq dX7_isOfForm_22 rfl
theorem w_X7_isOfForm_25 (d : Nat) (a1 a2 a3 : Option Value) (x : Nat) (st : List Value) (h : a_H) : a_run d MX7_isOfForm 25 [some (.ref x), a1, a2, a3] st h = a_run d MX7_isOfForm 26 [some (.ref x), a1, a2, a3] (.ref x :: st) h := w_ldAn dX7_isOfForm_25 rfl
theorem w_X7_isOfForm_26 (d : Nat) (L : a_L) (st : List Value) (h : a_H) : a_run d MX7_isOfForm 26 L st h = a_run d MX7_isOfForm 28 L (.int (nI 44) :: st) h := w_bipush dX7_isOfForm_26 rfl
theorem w_X7_isOfForm_28 (d : Nat) (L : a_L) (i : Nat) (v1 : Value) (st : List Value) (h : a_H) (hk : a_kls h i = some 6) (hc : a_cat st ≤ 8) : a_run d MX7_isOfForm 28 L (v1 :: .ref i :: st) h = a_cont d MX7_isOfForm (a_bk MX7_isOfForm 28 L st (a_call d MX7_accepts [.ref i, v1] h)) := w_callV (as := [.ref i, v1]) dX7_isOfForm_28 rfl rfl rfl hc (a_rcv_of hk rfl)
theorem w_X7_isOfForm_31 (d : Nat) (L : a_L) (x : Int32) (st : List Value) (h : a_H) : a_run d MX7_isOfForm 31 L (.int x :: st) h = if x = 0 then a_run d MX7_isOfForm 46 L st h else a_run d MX7_isOfForm 34 L st h := w_if_eq dX7_isOfForm_31 rfl
theorem w_X7_isOfForm_34 (d : Nat) (a1 a2 a3 : Option Value) (x : Nat) (st : List Value) (h : a_H) : a_run d MX7_isOfForm 34 [some (.ref x), a1, a2, a3] st h = a_run d MX7_isOfForm 35 [some (.ref x), a1, a2, a3] (.ref x :: st) h := w_ldAn dX7_isOfForm_34 rfl
theorem w_X7_isOfForm_35 (d : Nat) (a0 a1 a2 : Option Value) (x : Int32) (st : List Value) (h : a_H) : a_run d MX7_isOfForm 35 [a0, a1, a2, some (.int x)] st h = a_run d MX7_isOfForm 36 [a0, a1, a2, some (.int x)] (.int x :: st) h := w_ldIn dX7_isOfForm_35 rfl
theorem w_X7_isOfForm_36 (d : Nat) (L : a_L) (i : Nat) (v1 : Value) (st : List Value) (h : a_H) (hk : a_kls h i = some 6) (hc : a_cat st ≤ 8) : a_run d MX7_isOfForm 36 L (v1 :: .ref i :: st) h = a_cont d MX7_isOfForm (a_bk MX7_isOfForm 36 L st (a_call d MX7_reads [.ref i, v1] h)) := w_callV (as := [.ref i, v1]) dX7_isOfForm_36 rfl rfl rfl hc (a_rcv_of hk rfl)
theorem w_X7_isOfForm_39 (d : Nat) (L : a_L) (x : Int32) (st : List Value) (h : a_H) : a_run d MX7_isOfForm 39 L (.int x :: st) h = if x = 0 then a_run d MX7_isOfForm 46 L st h else a_run d MX7_isOfForm 42 L st h := w_if_eq dX7_isOfForm_39 rfl
theorem w_X7_isOfForm_42 (d : Nat) (L : a_L) (st : List Value) (h : a_H) : a_run d MX7_isOfForm 42 L st h = a_run d MX7_isOfForm 43 L (.int (nI 1) :: st) h := w_iconst dX7_isOfForm_42 rfl
theorem w_X7_isOfForm_43 (d : Nat) (L : a_L) (st : List Value) (h : a_H) : a_run d MX7_isOfForm 43 L st h = a_run d MX7_isOfForm 47 L st h := w_goto dX7_isOfForm_43 rfl
theorem w_X7_isOfForm_46 (d : Nat) (L : a_L) (st : List Value) (h : a_H) : a_run d MX7_isOfForm 46 L st h = a_run d MX7_isOfForm 47 L (.int (nI 0) :: st) h := w_iconst dX7_isOfForm_46 rfl
theorem w_X7_isOfForm_47 (d : Nat) (a0 a1 a2 a3 : Option Value) (x : Int32) (st : List Value) (h : a_H) : a_run d MX7_isOfForm 47 [a0, a1, a2, a3] (.int x :: st) h = a_run d MX7_isOfForm 48 [a0, a1, some (.int x), a3] st h := w_stIn dX7_isOfForm_47 (Nat.le_of_ble_eq_true rfl) rfl
theorem w_X7_isOfForm_48 (d : Nat) (a0 a1 a2 : Option Value) (x : Int32) (st : List Value) (h : a_H) : a_run d MX7_isOfForm 48 [a0, a1, a2, some (.int x)] st h = a_run d MX7_isOfForm 51 [a0, a1, a2, some (.int (x + nI 1))] st h := w_incL dX7_isOfForm_48 rfl rfl rfl
theorem w_X7_isOfForm_51 (d : Nat) (L : a_L) (st : List Value) (h : a_H) : a_run d MX7_isOfForm 51 L st h = a_run d MX7_isOfForm 12 L st h := w_goto dX7_isOfForm_51 rfl
theorem w_X7_isOfForm_54 (d : Nat) (a0 a1 a3 : Option Value) (x : Int32) (st : List Value) (h : a_H) : a_run d MX7_isOfForm 54 [a0, a1, some (.int x), a3] st h = a_run d MX7_isOfForm 55 [a0, a1, some (.int x), a3] (.int x :: st) h := w_ldIn dX7_isOfForm_54 rfl
theorem w_X7_isOfForm_55 (d : Nat) (L : a_L) (x : Int32) (st : List Value) (h : a_H) : a_run d MX7_isOfForm 55 L (.int x :: st) h = if x = 0 then a_run d MX7_isOfForm 71 L st h else a_run d MX7_isOfForm 58 L st h := w_if_eq dX7_isOfForm_55 rfl
theorem w_X7_isOfForm_58 (d : Nat) (a1 a2 a3 : Option Value) (x : Nat) (st : List Value) (h : a_H) : a_run d MX7_isOfForm 58 [some (.ref x), a1, a2, a3] st h = a_run d MX7_isOfForm 59 [some (.ref x), a1, a2, a3] (.ref x :: st) h := w_ldAn dX7_isOfForm_58 rfl
theorem w_X7_isOfForm_59 (d : Nat) (L : a_L) (st : List Value) (h : a_H) : a_run d MX7_isOfForm 59 L st h = a_run d MX7_isOfForm 61 L (.int (nI 59) :: st) h := w_bipush dX7_isOfForm_59 rfl
theorem w_X7_isOfForm_61 (d : Nat) (L : a_L) (i : Nat) (v1 : Value) (st : List Value) (h : a_H) (hk : a_kls h i = some 6) (hc : a_cat st ≤ 8) : a_run d MX7_isOfForm 61 L (v1 :: .ref i :: st) h = a_cont d MX7_isOfForm (a_bk MX7_isOfForm 61 L st (a_call d MX7_accepts [.ref i, v1] h)) := w_callV (as := [.ref i, v1]) dX7_isOfForm_61 rfl rfl rfl hc (a_rcv_of hk rfl)
theorem w_X7_isOfForm_64 (d : Nat) (L : a_L) (x : Int32) (st : List Value) (h : a_H) : a_run d MX7_isOfForm 64 L (.int x :: st) h = if x = 0 then a_run d MX7_isOfForm 71 L st h else a_run d MX7_isOfForm 67 L st h := w_if_eq dX7_isOfForm_64 rfl
theorem w_X7_isOfForm_67 (d : Nat) (L : a_L) (st : List Value) (h : a_H) : a_run d MX7_isOfForm 67 L st h = a_run d MX7_isOfForm 68 L (.int (nI 1) :: st) h := w_iconst dX7_isOfForm_67 rfl
theorem w_X7_isOfForm_68 (d : Nat) (L : a_L) (st : List Value) (h : a_H) : a_run d MX7_isOfForm 68 L st h = a_run d MX7_isOfForm 72 L st h := w_goto dX7_isOfForm_68 rfl
theorem w_X7_isOfForm_71 (d : Nat) (L : a_L) (st : List Value) (h : a_H) : a_run d MX7_isOfForm 71 L st h = a_run d MX7_isOfForm 72 L (.int (nI 0) :: st) h := w_iconst dX7_isOfForm_71 rfl
theorem w_X7_isOfForm_72 (d : Nat) (L : a_L) (x : Int32) (h : a_H) (hx : x = 0 ∨ x = 1) : a_run d MX7_isOfForm 72 L [.int x] h = some (.inl (some (.int x)), h) := w_iret dX7_isOfForm_72 (w_retZ rfl hx)
theorem e_X7_accepts (d : Nat) (x0 : Nat) (x1 : Int32) (h : a_H) : a_call (d + 1) MX7_accepts [.ref x0, .int x1] h = a_run d MX7_accepts 0 [some (.ref x0), some (.int x1), none] [] h := a_call_run rfl (Nat.le_of_ble_eq_true rfl) rfl
theorem w_X7_accepts_0 (d : Nat) (a1 a2 : Option Value) (x : Nat) (st : List Value) (h : a_H) : a_run d MX7_accepts 0 [some (.ref x), a1, a2] st h = a_run d MX7_accepts 1 [some (.ref x), a1, a2] (.ref x :: st) h := w_ldAn dX7_accepts_0 rfl
theorem w_X7_accepts_1 (d : Nat) (L : a_L) (i : Nat) (st : List Value) (h : a_H) : a_run d MX7_accepts 1 L (.ref i :: st) h = (a_gf h i 2 [6]).bind fun v => a_run d MX7_accepts 4 L (v :: st) h := w_getf dX7_accepts_1 rfl
theorem w_X7_accepts_4 (d : Nat) (a1 a2 : Option Value) (x : Nat) (st : List Value) (h : a_H) : a_run d MX7_accepts 4 [some (.ref x), a1, a2] st h = a_run d MX7_accepts 5 [some (.ref x), a1, a2] (.ref x :: st) h := w_ldAn dX7_accepts_4 rfl
theorem w_X7_accepts_5 (d : Nat) (L : a_L) (i : Nat) (st : List Value) (h : a_H) : a_run d MX7_accepts 5 L (.ref i :: st) h = (a_gf h i 7 [6]).bind fun v => a_run d MX7_accepts 8 L (v :: st) h := w_getf dX7_accepts_5 rfl
theorem w_X7_accepts_8 (d : Nat) (L : a_L) (i : Nat) (st : List Value) (h : a_H) : a_run d MX7_accepts 8 L (.ref i :: st) h = (a_gf h i 3 [0]).bind fun v => a_run d MX7_accepts 11 L (v :: st) h := w_getf dX7_accepts_8 rfl
theorem w_X7_accepts_11 (d : Nat) (L : a_L) (i : Nat) (st : List Value) (h : a_H) (hk : a_kls h i = some 8) (hc : a_cat st ≤ 8) : a_run d MX7_accepts 11 L (.ref i :: st) h = a_cont d MX7_accepts (a_bk MX7_accepts 11 L st (a_call d MJ3_length [.ref i] h)) := w_callV (as := [.ref i]) dX7_accepts_11 rfl rfl rfl hc (a_rcv_of hk rfl)
theorem w_X7_accepts_14 (d : Nat) (L : a_L) (x y : Int32) (st : List Value) (h : a_H) : a_run d MX7_accepts 14 L (.int y :: .int x :: st) h = if x < y then a_run d MX7_accepts 17 L st h else a_run d MX7_accepts 39 L st h := w_icmp_ge dX7_accepts_14 rfl
theorem w_X7_accepts_17 (d : Nat) (a1 a2 : Option Value) (x : Nat) (st : List Value) (h : a_H) : a_run d MX7_accepts 17 [some (.ref x), a1, a2] st h = a_run d MX7_accepts 18 [some (.ref x), a1, a2] (.ref x :: st) h := w_ldAn dX7_accepts_17 rfl
theorem w_X7_accepts_18 (d : Nat) (L : a_L) (i : Nat) (st : List Value) (h : a_H) : a_run d MX7_accepts 18 L (.ref i :: st) h = (a_gf h i 7 [6]).bind fun v => a_run d MX7_accepts 21 L (v :: st) h := w_getf dX7_accepts_18 rfl
theorem w_X7_accepts_21 (d : Nat) (L : a_L) (i : Nat) (st : List Value) (h : a_H) : a_run d MX7_accepts 21 L (.ref i :: st) h = (a_gf h i 3 [0]).bind fun v => a_run d MX7_accepts 24 L (v :: st) h := w_getf dX7_accepts_21 rfl
theorem w_X7_accepts_24 (d : Nat) (a1 a2 : Option Value) (x : Nat) (st : List Value) (h : a_H) : a_run d MX7_accepts 24 [some (.ref x), a1, a2] st h = a_run d MX7_accepts 25 [some (.ref x), a1, a2] (.ref x :: st) h := w_ldAn dX7_accepts_24 rfl
theorem w_X7_accepts_25 (d : Nat) (L : a_L) (i : Nat) (st : List Value) (h : a_H) : a_run d MX7_accepts 25 L (.ref i :: st) h = (a_gf h i 2 [6]).bind fun v => a_run d MX7_accepts 28 L (v :: st) h := w_getf dX7_accepts_25 rfl
theorem w_X7_accepts_28 (d : Nat) (L : a_L) (i : Nat) (v1 : Value) (st : List Value) (h : a_H) (hk : a_kls h i = some 8) (hc : a_cat st ≤ 8) : a_run d MX7_accepts 28 L (v1 :: .ref i :: st) h = a_cont d MX7_accepts (a_bk MX7_accepts 28 L st (a_call d MJ3_charAt [.ref i, v1] h)) := w_callV (as := [.ref i, v1]) dX7_accepts_28 rfl rfl rfl hc (a_rcv_of hk rfl)
theorem w_X7_accepts_31 (d : Nat) (a0 a2 : Option Value) (x : Int32) (st : List Value) (h : a_H) : a_run d MX7_accepts 31 [a0, some (.int x), a2] st h = a_run d MX7_accepts 32 [a0, some (.int x), a2] (.int x :: st) h := w_ldIn dX7_accepts_31 rfl
theorem w_X7_accepts_32 (d : Nat) (L : a_L) (x y : Int32) (st : List Value) (h : a_H) : a_run d MX7_accepts 32 L (.int y :: .int x :: st) h = if x = y then a_run d MX7_accepts 35 L st h else a_run d MX7_accepts 39 L st h := w_icmp_ne dX7_accepts_32 rfl
theorem w_X7_accepts_35 (d : Nat) (L : a_L) (st : List Value) (h : a_H) : a_run d MX7_accepts 35 L st h = a_run d MX7_accepts 36 L (.int (nI 1) :: st) h := w_iconst dX7_accepts_35 rfl
theorem w_X7_accepts_36 (d : Nat) (L : a_L) (st : List Value) (h : a_H) : a_run d MX7_accepts 36 L st h = a_run d MX7_accepts 40 L st h := w_goto dX7_accepts_36 rfl
theorem w_X7_accepts_39 (d : Nat) (L : a_L) (st : List Value) (h : a_H) : a_run d MX7_accepts 39 L st h = a_run d MX7_accepts 40 L (.int (nI 0) :: st) h := w_iconst dX7_accepts_39 rfl
theorem w_X7_accepts_40 (d : Nat) (a0 a1 a2 : Option Value) (x : Int32) (st : List Value) (h : a_H) : a_run d MX7_accepts 40 [a0, a1, a2] (.int x :: st) h = a_run d MX7_accepts 41 [a0, a1, some (.int x)] st h := w_stIn dX7_accepts_40 (Nat.le_of_ble_eq_true rfl) rfl
theorem w_X7_accepts_41 (d : Nat) (a1 a2 : Option Value) (x : Nat) (st : List Value) (h : a_H) : a_run d MX7_accepts 41 [some (.ref x), a1, a2] st h = a_run d MX7_accepts 42 [some (.ref x), a1, a2] (.ref x :: st) h := w_ldAn dX7_accepts_41 rfl
theorem w_X7_accepts_42 (d : Nat) (L : a_L) (x : Nat) (st : List Value) (h : a_H) : a_run d MX7_accepts 42 L (.ref x :: st) h = a_run d MX7_accepts 43 L (.ref x :: .ref x :: st) h := w_dup dX7_accepts_42
theorem w_X7_accepts_42I (d : Nat) (L : a_L) (x : Int32) (st : List Value) (h : a_H) : a_run d MX7_accepts 42 L (.int x :: st) h = a_run d MX7_accepts 43 L (.int x :: .int x :: st) h := w_dupI dX7_accepts_42
theorem w_X7_accepts_43 (d : Nat) (L : a_L) (i : Nat) (st : List Value) (h : a_H) : a_run d MX7_accepts 43 L (.ref i :: st) h = (a_gf h i 2 [6]).bind fun v => a_run d MX7_accepts 46 L (v :: st) h := w_getf dX7_accepts_43 rfl
theorem w_X7_accepts_46 (d : Nat) (a0 a1 : Option Value) (x : Int32) (st : List Value) (h : a_H) : a_run d MX7_accepts 46 [a0, a1, some (.int x)] st h = a_run d MX7_accepts 47 [a0, a1, some (.int x)] (.int x :: st) h := w_ldIn dX7_accepts_46 rfl
theorem w_X7_accepts_47 (d : Nat) (L : a_L) (x : Int32) (st : List Value) (h : a_H) : a_run d MX7_accepts 47 L (.int x :: st) h = if x = 0 then a_run d MX7_accepts 54 L st h else a_run d MX7_accepts 50 L st h := w_if_eq dX7_accepts_47 rfl
theorem w_X7_accepts_50 (d : Nat) (L : a_L) (st : List Value) (h : a_H) : a_run d MX7_accepts 50 L st h = a_run d MX7_accepts 51 L (.int (nI 1) :: st) h := w_iconst dX7_accepts_50 rfl
theorem w_X7_accepts_51 (d : Nat) (L : a_L) (st : List Value) (h : a_H) : a_run d MX7_accepts 51 L st h = a_run d MX7_accepts 55 L st h := w_goto dX7_accepts_51 rfl
theorem w_X7_accepts_54 (d : Nat) (L : a_L) (st : List Value) (h : a_H) : a_run d MX7_accepts 54 L st h = a_run d MX7_accepts 55 L (.int (nI 0) :: st) h := w_iconst dX7_accepts_54 rfl
theorem w_X7_accepts_55 (d : Nat) (L : a_L) (x y : Int32) (st : List Value) (h : a_H) : a_run d MX7_accepts 55 L (.int y :: .int x :: st) h = a_run d MX7_accepts 56 L (.int (x + y) :: st) h := w_iadd dX7_accepts_55
theorem w_X7_accepts_56 (d : Nat) (L : a_L) (x : Int32) (i : Nat) (st : List Value) (h : a_H) : a_run d MX7_accepts 56 L (.int x :: .ref i :: st) h = (a_pf h i 2 [6] (.int x)).bind fun h' => a_run d MX7_accepts 59 L st h' := w_putf dX7_accepts_56 rfl rfl (Or.inl rfl) rfl rfl
theorem w_X7_accepts_59 (d : Nat) (a0 a1 : Option Value) (x : Int32) (st : List Value) (h : a_H) : a_run d MX7_accepts 59 [a0, a1, some (.int x)] st h = a_run d MX7_accepts 60 [a0, a1, some (.int x)] (.int x :: st) h := w_ldIn dX7_accepts_59 rfl
theorem w_X7_accepts_60 (d : Nat) (L : a_L) (x : Int32) (h : a_H) (hx : x = 0 ∨ x = 1) : a_run d MX7_accepts 60 L [.int x] h = some (.inl (some (.int x)), h) := w_iret dX7_accepts_60 (w_retZ rfl hx)
theorem e_X7_reads (d : Nat) (x0 : Nat) (x1 : Int32) (h : a_H) : a_call (d + 1) MX7_reads [.ref x0, .int x1] h = a_run d MX7_reads 0 [some (.ref x0), some (.int x1), none] [] h := a_call_run rfl (Nat.le_of_ble_eq_true rfl) rfl
theorem w_X7_reads_0 (d : Nat) (L : a_L) (st : List Value) (h : a_H) : a_run d MX7_reads 0 L st h = a_run d MX7_reads 1 L (.int (nI 0) :: st) h := w_iconst dX7_reads_0 rfl
theorem w_X7_reads_1 (d : Nat) (a0 a1 a2 : Option Value) (x : Int32) (st : List Value) (h : a_H) : a_run d MX7_reads 1 [a0, a1, a2] (.int x :: st) h = a_run d MX7_reads 2 [a0, a1, some (.int x)] st h := w_stIn dX7_reads_1 (Nat.le_of_ble_eq_true rfl) rfl
theorem w_X7_reads_2 (d : Nat) (a1 a2 : Option Value) (x : Nat) (st : List Value) (h : a_H) : a_run d MX7_reads 2 [some (.ref x), a1, a2] st h = a_run d MX7_reads 3 [some (.ref x), a1, a2] (.ref x :: st) h := w_ldAn dX7_reads_2 rfl
theorem w_X7_reads_3 (d : Nat) (L : a_L) (i : Nat) (st : List Value) (h : a_H) : a_run d MX7_reads 3 L (.ref i :: st) h = (a_gf h i 1 [6]).bind fun v => a_run d MX7_reads 6 L (v :: st) h := w_getf dX7_reads_3 rfl
theorem w_X7_reads_6 (d : Nat) (a0 a2 : Option Value) (x : Int32) (st : List Value) (h : a_H) : a_run d MX7_reads 6 [a0, some (.int x), a2] st h = a_run d MX7_reads 7 [a0, some (.int x), a2] (.int x :: st) h := w_ldIn dX7_reads_6 rfl
theorem w_X7_reads_7 (d : Nat) (L : a_L) (st : List Value) (h : a_H) : a_run d MX7_reads 7 L st h = a_run d MX7_reads 8 L (.int (nI 0) :: st) h := w_iconst dX7_reads_7 rfl
theorem w_X7_reads_8 (d : Nat) (L : a_L) (x y : Int32) (i : Nat) (st : List Value) (h : a_H) : a_run d MX7_reads 8 L (.int y :: .int x :: .ref i :: st) h = (a_wri h i a_int x y).bind fun h' => a_run d MX7_reads 9 L st h' := w_iast dX7_reads_8
theorem w_X7_reads_9 (d : Nat) (a0 a1 : Option Value) (x : Int32) (st : List Value) (h : a_H) : a_run d MX7_reads 9 [a0, a1, some (.int x)] st h = a_run d MX7_reads 10 [a0, a1, some (.int x)] (.int x :: st) h := w_ldIn dX7_reads_9 rfl
theorem w_X7_reads_10 (d : Nat) (L : a_L) (st : List Value) (h : a_H) : a_run d MX7_reads 10 L st h = a_run d MX7_reads 11 L (.int (nI 2) :: st) h := w_iconst dX7_reads_10 rfl
theorem w_X7_reads_11 (d : Nat) (L : a_L) (x y : Int32) (st : List Value) (h : a_H) : a_run d MX7_reads 11 L (.int y :: .int x :: st) h = if x < y then a_run d MX7_reads 14 L st h else a_run d MX7_reads 107 L st h := w_icmp_ge dX7_reads_11 rfl
theorem w_X7_reads_14 (d : Nat) (a1 a2 : Option Value) (x : Nat) (st : List Value) (h : a_H) : a_run d MX7_reads 14 [some (.ref x), a1, a2] st h = a_run d MX7_reads 15 [some (.ref x), a1, a2] (.ref x :: st) h := w_ldAn dX7_reads_14 rfl
theorem w_X7_reads_15 (d : Nat) (L : a_L) (i : Nat) (st : List Value) (h : a_H) : a_run d MX7_reads 15 L (.ref i :: st) h = (a_gf h i 2 [6]).bind fun v => a_run d MX7_reads 18 L (v :: st) h := w_getf dX7_reads_15 rfl
theorem w_X7_reads_18 (d : Nat) (a1 a2 : Option Value) (x : Nat) (st : List Value) (h : a_H) : a_run d MX7_reads 18 [some (.ref x), a1, a2] st h = a_run d MX7_reads 19 [some (.ref x), a1, a2] (.ref x :: st) h := w_ldAn dX7_reads_18 rfl
theorem w_X7_reads_19 (d : Nat) (L : a_L) (i : Nat) (st : List Value) (h : a_H) : a_run d MX7_reads 19 L (.ref i :: st) h = (a_gf h i 7 [6]).bind fun v => a_run d MX7_reads 22 L (v :: st) h := w_getf dX7_reads_19 rfl
theorem w_X7_reads_22 (d : Nat) (L : a_L) (i : Nat) (st : List Value) (h : a_H) : a_run d MX7_reads 22 L (.ref i :: st) h = (a_gf h i 3 [0]).bind fun v => a_run d MX7_reads 25 L (v :: st) h := w_getf dX7_reads_22 rfl
theorem w_X7_reads_25 (d : Nat) (L : a_L) (i : Nat) (st : List Value) (h : a_H) (hk : a_kls h i = some 8) (hc : a_cat st ≤ 8) : a_run d MX7_reads 25 L (.ref i :: st) h = a_cont d MX7_reads (a_bk MX7_reads 25 L st (a_call d MJ3_length [.ref i] h)) := w_callV (as := [.ref i]) dX7_reads_25 rfl rfl rfl hc (a_rcv_of hk rfl)
theorem w_X7_reads_28 (d : Nat) (L : a_L) (x y : Int32) (st : List Value) (h : a_H) : a_run d MX7_reads 28 L (.int y :: .int x :: st) h = if x < y then a_run d MX7_reads 31 L st h else a_run d MX7_reads 107 L st h := w_icmp_ge dX7_reads_28 rfl
theorem w_X7_reads_31 (d : Nat) (a1 a2 : Option Value) (x : Nat) (st : List Value) (h : a_H) : a_run d MX7_reads 31 [some (.ref x), a1, a2] st h = a_run d MX7_reads 32 [some (.ref x), a1, a2] (.ref x :: st) h := w_ldAn dX7_reads_31 rfl
theorem w_X7_reads_32 (d : Nat) (L : a_L) (i : Nat) (st : List Value) (h : a_H) : a_run d MX7_reads 32 L (.ref i :: st) h = (a_gf h i 7 [6]).bind fun v => a_run d MX7_reads 35 L (v :: st) h := w_getf dX7_reads_32 rfl
theorem w_X7_reads_35 (d : Nat) (L : a_L) (i : Nat) (st : List Value) (h : a_H) : a_run d MX7_reads 35 L (.ref i :: st) h = (a_gf h i 3 [0]).bind fun v => a_run d MX7_reads 38 L (v :: st) h := w_getf dX7_reads_35 rfl
theorem w_X7_reads_38 (d : Nat) (a1 a2 : Option Value) (x : Nat) (st : List Value) (h : a_H) : a_run d MX7_reads 38 [some (.ref x), a1, a2] st h = a_run d MX7_reads 39 [some (.ref x), a1, a2] (.ref x :: st) h := w_ldAn dX7_reads_38 rfl
theorem w_X7_reads_39 (d : Nat) (L : a_L) (i : Nat) (st : List Value) (h : a_H) : a_run d MX7_reads 39 L (.ref i :: st) h = (a_gf h i 2 [6]).bind fun v => a_run d MX7_reads 42 L (v :: st) h := w_getf dX7_reads_39 rfl
theorem w_X7_reads_42 (d : Nat) (L : a_L) (i : Nat) (v1 : Value) (st : List Value) (h : a_H) (hk : a_kls h i = some 8) (hc : a_cat st ≤ 8) : a_run d MX7_reads 42 L (v1 :: .ref i :: st) h = a_cont d MX7_reads (a_bk MX7_reads 42 L st (a_call d MJ3_charAt [.ref i, v1] h)) := w_callV (as := [.ref i, v1]) dX7_reads_42 rfl rfl rfl hc (a_rcv_of hk rfl)
theorem w_X7_reads_45 (d : Nat) (L : a_L) (x : Int32) (st : List Value) (h : a_H) : a_run d MX7_reads 45 L (.int x :: st) h = a_run d MX7_reads 46 L (.long x.toInt64 :: st) h := w_i2l dX7_reads_45
theorem w_X7_reads_46 (d : Nat) (L : a_L) (st : List Value) (h : a_H) : a_run d MX7_reads 46 L st h = a_run d MX7_reads 49 L (.long (48 : Int64) :: st) h := w_ldc2 dX7_reads_46 rfl
theorem w_X7_reads_49 (d : Nat) (L : a_L) (st : List Value) (h : a_H) : a_run d MX7_reads 49 L st h = a_run d MX7_reads 52 L (.long (57 : Int64) :: st) h := w_ldc2 dX7_reads_49 rfl
theorem w_X7_reads_52 (d : Nat) (L : a_L) (v0 v1 v2 : Value) (st : List Value) (h : a_H) (hc : a_cat st ≤ 8) : a_run d MX7_reads 52 L (v2 :: v1 :: v0 :: st) h = a_cont d MX7_reads (a_bk MX7_reads 52 L st (a_call d MX1_isBetween [v0, v1, v2] h)) := w_callS (as := [v0, v1, v2]) dX7_reads_52 rfl rfl rfl hc
theorem w_X7_reads_55 (d : Nat) (L : a_L) (x : Int32) (st : List Value) (h : a_H) : a_run d MX7_reads 55 L (.int x :: st) h = if x = 0 then a_run d MX7_reads 107 L st h else a_run d MX7_reads 58 L st h := w_if_eq dX7_reads_55 rfl
theorem w_X7_reads_58 (d : Nat) (a1 a2 : Option Value) (x : Nat) (st : List Value) (h : a_H) : a_run d MX7_reads 58 [some (.ref x), a1, a2] st h = a_run d MX7_reads 59 [some (.ref x), a1, a2] (.ref x :: st) h := w_ldAn dX7_reads_58 rfl
theorem w_X7_reads_59 (d : Nat) (L : a_L) (i : Nat) (st : List Value) (h : a_H) : a_run d MX7_reads 59 L (.ref i :: st) h = (a_gf h i 1 [6]).bind fun v => a_run d MX7_reads 62 L (v :: st) h := w_getf dX7_reads_59 rfl
theorem w_X7_reads_62 (d : Nat) (a0 a2 : Option Value) (x : Int32) (st : List Value) (h : a_H) : a_run d MX7_reads 62 [a0, some (.int x), a2] st h = a_run d MX7_reads 63 [a0, some (.int x), a2] (.int x :: st) h := w_ldIn dX7_reads_62 rfl
theorem w_X7_reads_63 (d : Nat) (L : a_L) (st : List Value) (h : a_H) : a_run d MX7_reads 63 L st h = a_run d MX7_reads 65 L (.int (nI 10) :: st) h := w_bipush dX7_reads_63 rfl
theorem w_X7_reads_65 (d : Nat) (a1 a2 : Option Value) (x : Nat) (st : List Value) (h : a_H) : a_run d MX7_reads 65 [some (.ref x), a1, a2] st h = a_run d MX7_reads 66 [some (.ref x), a1, a2] (.ref x :: st) h := w_ldAn dX7_reads_65 rfl
theorem w_X7_reads_66 (d : Nat) (L : a_L) (i : Nat) (st : List Value) (h : a_H) : a_run d MX7_reads 66 L (.ref i :: st) h = (a_gf h i 1 [6]).bind fun v => a_run d MX7_reads 69 L (v :: st) h := w_getf dX7_reads_66 rfl
theorem w_X7_reads_69 (d : Nat) (a0 a2 : Option Value) (x : Int32) (st : List Value) (h : a_H) : a_run d MX7_reads 69 [a0, some (.int x), a2] st h = a_run d MX7_reads 70 [a0, some (.int x), a2] (.int x :: st) h := w_ldIn dX7_reads_69 rfl
theorem w_X7_reads_70 (d : Nat) (L : a_L) (x : Int32) (i : Nat) (st : List Value) (h : a_H) : a_run d MX7_reads 70 L (.int x :: .ref i :: st) h = (a_rdi h i a_int x).bind fun v => a_run d MX7_reads 71 L (v :: st) h := w_iald dX7_reads_70
theorem w_X7_reads_71 (d : Nat) (L : a_L) (x y : Int32) (st : List Value) (h : a_H) : a_run d MX7_reads 71 L (.int y :: .int x :: st) h = a_run d MX7_reads 72 L (.int (x * y) :: st) h := w_imul dX7_reads_71
theorem w_X7_reads_72 (d : Nat) (a1 a2 : Option Value) (x : Nat) (st : List Value) (h : a_H) : a_run d MX7_reads 72 [some (.ref x), a1, a2] st h = a_run d MX7_reads 73 [some (.ref x), a1, a2] (.ref x :: st) h := w_ldAn dX7_reads_72 rfl
theorem w_X7_reads_73 (d : Nat) (L : a_L) (i : Nat) (st : List Value) (h : a_H) : a_run d MX7_reads 73 L (.ref i :: st) h = (a_gf h i 7 [6]).bind fun v => a_run d MX7_reads 76 L (v :: st) h := w_getf dX7_reads_73 rfl
theorem w_X7_reads_76 (d : Nat) (L : a_L) (i : Nat) (st : List Value) (h : a_H) : a_run d MX7_reads 76 L (.ref i :: st) h = (a_gf h i 3 [0]).bind fun v => a_run d MX7_reads 79 L (v :: st) h := w_getf dX7_reads_76 rfl
theorem w_X7_reads_79 (d : Nat) (a1 a2 : Option Value) (x : Nat) (st : List Value) (h : a_H) : a_run d MX7_reads 79 [some (.ref x), a1, a2] st h = a_run d MX7_reads 80 [some (.ref x), a1, a2] (.ref x :: st) h := w_ldAn dX7_reads_79 rfl
theorem w_X7_reads_80 (d : Nat) (L : a_L) (i : Nat) (st : List Value) (h : a_H) : a_run d MX7_reads 80 L (.ref i :: st) h = (a_gf h i 2 [6]).bind fun v => a_run d MX7_reads 83 L (v :: st) h := w_getf dX7_reads_80 rfl
theorem w_X7_reads_83 (d : Nat) (L : a_L) (i : Nat) (v1 : Value) (st : List Value) (h : a_H) (hk : a_kls h i = some 8) (hc : a_cat st ≤ 8) : a_run d MX7_reads 83 L (v1 :: .ref i :: st) h = a_cont d MX7_reads (a_bk MX7_reads 83 L st (a_call d MJ3_charAt [.ref i, v1] h)) := w_callV (as := [.ref i, v1]) dX7_reads_83 rfl rfl rfl hc (a_rcv_of hk rfl)
theorem w_X7_reads_86 (d : Nat) (L : a_L) (x y : Int32) (st : List Value) (h : a_H) : a_run d MX7_reads 86 L (.int y :: .int x :: st) h = a_run d MX7_reads 87 L (.int (x + y) :: st) h := w_iadd dX7_reads_86
theorem w_X7_reads_87 (d : Nat) (L : a_L) (st : List Value) (h : a_H) : a_run d MX7_reads 87 L st h = a_run d MX7_reads 89 L (.int (nI 48) :: st) h := w_bipush dX7_reads_87 rfl
theorem w_X7_reads_89 (d : Nat) (L : a_L) (x y : Int32) (st : List Value) (h : a_H) : a_run d MX7_reads 89 L (.int y :: .int x :: st) h = a_run d MX7_reads 90 L (.int (x - y) :: st) h := w_isub dX7_reads_89
theorem w_X7_reads_90 (d : Nat) (L : a_L) (x y : Int32) (i : Nat) (st : List Value) (h : a_H) : a_run d MX7_reads 90 L (.int y :: .int x :: .ref i :: st) h = (a_wri h i a_int x y).bind fun h' => a_run d MX7_reads 91 L st h' := w_iast dX7_reads_90
theorem w_X7_reads_91 (d : Nat) (a0 a1 : Option Value) (x : Int32) (st : List Value) (h : a_H) : a_run d MX7_reads 91 [a0, a1, some (.int x)] st h = a_run d MX7_reads 94 [a0, a1, some (.int (x + nI 1))] st h := w_incL dX7_reads_91 rfl rfl rfl
theorem w_X7_reads_94 (d : Nat) (a1 a2 : Option Value) (x : Nat) (st : List Value) (h : a_H) : a_run d MX7_reads 94 [some (.ref x), a1, a2] st h = a_run d MX7_reads 95 [some (.ref x), a1, a2] (.ref x :: st) h := w_ldAn dX7_reads_94 rfl
theorem w_X7_reads_95 (d : Nat) (L : a_L) (x : Nat) (st : List Value) (h : a_H) : a_run d MX7_reads 95 L (.ref x :: st) h = a_run d MX7_reads 96 L (.ref x :: .ref x :: st) h := w_dup dX7_reads_95
theorem w_X7_reads_95I (d : Nat) (L : a_L) (x : Int32) (st : List Value) (h : a_H) : a_run d MX7_reads 95 L (.int x :: st) h = a_run d MX7_reads 96 L (.int x :: .int x :: st) h := w_dupI dX7_reads_95
theorem w_X7_reads_96 (d : Nat) (L : a_L) (i : Nat) (st : List Value) (h : a_H) : a_run d MX7_reads 96 L (.ref i :: st) h = (a_gf h i 2 [6]).bind fun v => a_run d MX7_reads 99 L (v :: st) h := w_getf dX7_reads_96 rfl
theorem w_X7_reads_99 (d : Nat) (L : a_L) (st : List Value) (h : a_H) : a_run d MX7_reads 99 L st h = a_run d MX7_reads 100 L (.int (nI 1) :: st) h := w_iconst dX7_reads_99 rfl
theorem w_X7_reads_100 (d : Nat) (L : a_L) (x y : Int32) (st : List Value) (h : a_H) : a_run d MX7_reads 100 L (.int y :: .int x :: st) h = a_run d MX7_reads 101 L (.int (x + y) :: st) h := w_iadd dX7_reads_100
theorem w_X7_reads_101 (d : Nat) (L : a_L) (x : Int32) (i : Nat) (st : List Value) (h : a_H) : a_run d MX7_reads 101 L (.int x :: .ref i :: st) h = (a_pf h i 2 [6] (.int x)).bind fun h' => a_run d MX7_reads 104 L st h' := w_putf dX7_reads_101 rfl rfl (Or.inl rfl) rfl rfl
theorem w_X7_reads_104 (d : Nat) (L : a_L) (st : List Value) (h : a_H) : a_run d MX7_reads 104 L st h = a_run d MX7_reads 9 L st h := w_goto dX7_reads_104 rfl
theorem w_X7_reads_107 (d : Nat) (a0 a1 : Option Value) (x : Int32) (st : List Value) (h : a_H) : a_run d MX7_reads 107 [a0, a1, some (.int x)] st h = a_run d MX7_reads 108 [a0, a1, some (.int x)] (.int x :: st) h := w_ldIn dX7_reads_107 rfl
theorem w_X7_reads_108 (d : Nat) (L : a_L) (x : Int32) (st : List Value) (h : a_H) : a_run d MX7_reads 108 L (.int x :: st) h = if 0 < x then a_run d MX7_reads 111 L st h else a_run d MX7_reads 115 L st h := w_if_le dX7_reads_108 rfl
theorem w_X7_reads_111 (d : Nat) (L : a_L) (st : List Value) (h : a_H) : a_run d MX7_reads 111 L st h = a_run d MX7_reads 112 L (.int (nI 1) :: st) h := w_iconst dX7_reads_111 rfl
theorem w_X7_reads_112 (d : Nat) (L : a_L) (st : List Value) (h : a_H) : a_run d MX7_reads 112 L st h = a_run d MX7_reads 116 L st h := w_goto dX7_reads_112 rfl
theorem w_X7_reads_115 (d : Nat) (L : a_L) (st : List Value) (h : a_H) : a_run d MX7_reads 115 L st h = a_run d MX7_reads 116 L (.int (nI 0) :: st) h := w_iconst dX7_reads_115 rfl
theorem w_X7_reads_116 (d : Nat) (L : a_L) (x : Int32) (h : a_H) (hx : x = 0 ∨ x = 1) : a_run d MX7_reads 116 L [.int x] h = some (.inl (some (.int x)), h) := w_iret dX7_reads_116 (w_retZ rfl hx)
