set_option maxRecDepth 100000
set_option maxRecDepth 100000
def dkwX1_init_1 : List UInt8 := [181, 0, 45, 42, 187, 0, 49, 89, 183, 0, 51, 181, 0, 52, 177]
abbrev dktX1_init_1 : List UInt8 := dkwX1_init_1 ++ []
def dkwX1_init_0 : List UInt8 := [42, 183, 0, 30, 42, 187, 0, 35, 89, 183, 0, 37, 181, 0, 38, 42, 187, 0, 42, 89, 183, 0, 44]
abbrev dktX1_init_0 : List UInt8 := dkwX1_init_0 ++ dktX1_init_1
theorem dksX1_init_0 : cX1_init.data.toList.drop 0 = dktX1_init_0 := by decide +kernel
theorem dksX1_init_1 : cX1_init.data.toList.drop 23 = dktX1_init_1 := dk_seg dksX1_init_0 23 rfl rfl
theorem dX1_init_0 : decode cX1_init 0 = .ok (.aload_n 0, 1) := dk_42 (dk_at dksX1_init_0 0 rfl rfl)
theorem dX1_init_1 : decode cX1_init 1 = .ok (.invokespecial 30, 3) := dk_183 0 30 (dk_at dksX1_init_0 1 rfl rfl)
theorem dX1_init_4 : decode cX1_init 4 = .ok (.aload_n 0, 1) := dk_42 (dk_at dksX1_init_0 4 rfl rfl)
theorem dX1_init_5 : decode cX1_init 5 = .ok (.new 35, 3) := dk_187 0 35 (dk_at dksX1_init_0 5 rfl rfl)
theorem dX1_init_8 : decode cX1_init 8 = .ok (.dup, 1) := dk_89 (dk_at dksX1_init_0 8 rfl rfl)
theorem dX1_init_9 : decode cX1_init 9 = .ok (.invokespecial 37, 3) := dk_183 0 37 (dk_at dksX1_init_0 9 rfl rfl)
theorem dX1_init_12 : decode cX1_init 12 = .ok (.putfield 38, 3) := dk_181 0 38 (dk_at dksX1_init_0 12 rfl rfl)
theorem dX1_init_15 : decode cX1_init 15 = .ok (.aload_n 0, 1) := dk_42 (dk_at dksX1_init_0 15 rfl rfl)
theorem dX1_init_16 : decode cX1_init 16 = .ok (.new 42, 3) := dk_187 0 42 (dk_at dksX1_init_0 16 rfl rfl)
theorem dX1_init_19 : decode cX1_init 19 = .ok (.dup, 1) := dk_89 (dk_at dksX1_init_0 19 rfl rfl)
theorem dX1_init_20 : decode cX1_init 20 = .ok (.invokespecial 44, 3) := dk_183 0 44 (dk_at dksX1_init_0 20 rfl rfl)
theorem dX1_init_23 : decode cX1_init 23 = .ok (.putfield 45, 3) := dk_181 0 45 (dk_at dksX1_init_1 0 rfl rfl)
theorem dX1_init_26 : decode cX1_init 26 = .ok (.aload_n 0, 1) := dk_42 (dk_at dksX1_init_1 3 rfl rfl)
theorem dX1_init_27 : decode cX1_init 27 = .ok (.new 49, 3) := dk_187 0 49 (dk_at dksX1_init_1 4 rfl rfl)
theorem dX1_init_30 : decode cX1_init 30 = .ok (.dup, 1) := dk_89 (dk_at dksX1_init_1 7 rfl rfl)
theorem dX1_init_31 : decode cX1_init 31 = .ok (.invokespecial 51, 3) := dk_183 0 51 (dk_at dksX1_init_1 8 rfl rfl)
theorem dX1_init_34 : decode cX1_init 34 = .ok (.putfield 52, 3) := dk_181 0 52 (dk_at dksX1_init_1 11 rfl rfl)
theorem dX1_init_37 : decode cX1_init 37 = .ok (.return_, 1) := dk_177 (dk_at dksX1_init_1 14 rfl rfl)
def dkwX1_prune_0 : List UInt8 := [42, 16, 112, 3, 188, 10, 182, 0, 135, 172]
abbrev dktX1_prune_0 : List UInt8 := dkwX1_prune_0 ++ []
theorem dksX1_prune_0 : cX1_prune.data.toList.drop 0 = dktX1_prune_0 := by decide +kernel
theorem dX1_prune_0 : decode cX1_prune 0 = .ok (.aload_n 0, 1) := dk_42 (dk_at dksX1_prune_0 0 rfl rfl)
theorem dX1_prune_1 : decode cX1_prune 1 = .ok (.bipush 112, 2) := dk_16 112 (dk_at dksX1_prune_0 1 rfl rfl)
theorem dX1_prune_3 : decode cX1_prune 3 = .ok (.iconst 0, 1) := dk_3 (dk_at dksX1_prune_0 3 rfl rfl)
theorem dX1_prune_4 : decode cX1_prune 4 = .ok (.newarray .int, 2) := dk_188_10 (dk_at dksX1_prune_0 4 rfl rfl)
theorem dX1_prune_6 : decode cX1_prune 6 = .ok (.invokevirtual 135, 3) := dk_182 0 135 (dk_at dksX1_prune_0 6 rfl rfl)
theorem dX1_prune_9 : decode cX1_prune 9 = .ok (.ireturn, 1) := dk_172 (dk_at dksX1_prune_0 9 rfl rfl)
def dkwX1_act_2 : List UInt8 := [187, 0, 126, 89, 18, 128, 25, 4, 183, 0, 130, 191]
abbrev dktX1_act_2 : List UInt8 := dkwX1_act_2 ++ []
def dkwX1_act_1 : List UInt8 := [58, 4, 25, 4, 180, 0, 116, 4, 160, 0, 15, 187, 0, 119, 89, 18, 121, 25, 4, 183, 0, 123, 191]
abbrev dktX1_act_1 : List UInt8 := dkwX1_act_1 ++ dktX1_act_2
def dkwX1_act_0 : List UInt8 := [187, 0, 35, 89, 42, 180, 0, 38, 183, 0, 105, 78, 42, 45, 45, 27, 44, 184, 0, 108, 182, 0, 112, 172]
abbrev dktX1_act_0 : List UInt8 := dkwX1_act_0 ++ dktX1_act_1
theorem dksX1_act_0 : cX1_act.data.toList.drop 0 = dktX1_act_0 := by decide +kernel
theorem dksX1_act_1 : cX1_act.data.toList.drop 24 = dktX1_act_1 := dk_seg dksX1_act_0 24 rfl rfl
theorem dksX1_act_2 : cX1_act.data.toList.drop 47 = dktX1_act_2 := dk_seg dksX1_act_1 23 rfl rfl
theorem dX1_act_0 : decode cX1_act 0 = .ok (.new 35, 3) := dk_187 0 35 (dk_at dksX1_act_0 0 rfl rfl)
theorem dX1_act_3 : decode cX1_act 3 = .ok (.dup, 1) := dk_89 (dk_at dksX1_act_0 3 rfl rfl)
theorem dX1_act_4 : decode cX1_act 4 = .ok (.aload_n 0, 1) := dk_42 (dk_at dksX1_act_0 4 rfl rfl)
theorem dX1_act_5 : decode cX1_act 5 = .ok (.getfield 38, 3) := dk_180 0 38 (dk_at dksX1_act_0 5 rfl rfl)
theorem dX1_act_8 : decode cX1_act 8 = .ok (.invokespecial 105, 3) := dk_183 0 105 (dk_at dksX1_act_0 8 rfl rfl)
theorem dX1_act_11 : decode cX1_act 11 = .ok (.astore_n 3, 1) := dk_78 (dk_at dksX1_act_0 11 rfl rfl)
theorem dX1_act_12 : decode cX1_act 12 = .ok (.aload_n 0, 1) := dk_42 (dk_at dksX1_act_0 12 rfl rfl)
theorem dX1_act_13 : decode cX1_act 13 = .ok (.aload_n 3, 1) := dk_45 (dk_at dksX1_act_0 13 rfl rfl)
theorem dX1_act_14 : decode cX1_act 14 = .ok (.aload_n 3, 1) := dk_45 (dk_at dksX1_act_0 14 rfl rfl)
theorem dX1_act_15 : decode cX1_act 15 = .ok (.iload_n 1, 1) := dk_27 (dk_at dksX1_act_0 15 rfl rfl)
theorem dX1_act_16 : decode cX1_act 16 = .ok (.aload_n 2, 1) := dk_44 (dk_at dksX1_act_0 16 rfl rfl)
theorem dX1_act_17 : decode cX1_act 17 = .ok (.invokestatic 108, 3) := dk_184 0 108 (dk_at dksX1_act_0 17 rfl rfl)
theorem dX1_act_20 : decode cX1_act 20 = .ok (.invokevirtual 112, 3) := dk_182 0 112 (dk_at dksX1_act_0 20 rfl rfl)
theorem dX1_act_23 : decode cX1_act 23 = .ok (.ireturn, 1) := dk_172 (dk_at dksX1_act_0 23 rfl rfl)
theorem dX1_act_24 : decode cX1_act 24 = .ok (.astore 4, 2) := dk_58 4 (dk_at dksX1_act_1 0 rfl rfl)
theorem dX1_act_26 : decode cX1_act 26 = .ok (.aload 4, 2) := dk_25 4 (dk_at dksX1_act_1 2 rfl rfl)
theorem dX1_act_28 : decode cX1_act 28 = .ok (.getfield 116, 3) := dk_180 0 116 (dk_at dksX1_act_1 4 rfl rfl)
theorem dX1_act_31 : decode cX1_act 31 = .ok (.iconst 1, 1) := dk_4 (dk_at dksX1_act_1 7 rfl rfl)
theorem dX1_act_32 : decode cX1_act 32 = .ok (.if_icmp .ne 15, 3) := dk_160 0 15 (dk_at dksX1_act_1 8 rfl rfl)
theorem dX1_act_35 : decode cX1_act 35 = .ok (.new 119, 3) := dk_187 0 119 (dk_at dksX1_act_1 11 rfl rfl)
theorem dX1_act_38 : decode cX1_act 38 = .ok (.dup, 1) := dk_89 (dk_at dksX1_act_1 14 rfl rfl)
theorem dX1_act_39 : decode cX1_act 39 = .ok (.ldc 121, 2) := dk_18 121 (dk_at dksX1_act_1 15 rfl rfl)
theorem dX1_act_41 : decode cX1_act 41 = .ok (.aload 4, 2) := dk_25 4 (dk_at dksX1_act_1 17 rfl rfl)
theorem dX1_act_43 : decode cX1_act 43 = .ok (.invokespecial 123, 3) := dk_183 0 123 (dk_at dksX1_act_1 19 rfl rfl)
theorem dX1_act_46 : decode cX1_act 46 = .ok (.athrow, 1) := dk_191 (dk_at dksX1_act_1 22 rfl rfl)
theorem dX1_act_47 : decode cX1_act 47 = .ok (.new 126, 3) := dk_187 0 126 (dk_at dksX1_act_2 0 rfl rfl)
theorem dX1_act_50 : decode cX1_act 50 = .ok (.dup, 1) := dk_89 (dk_at dksX1_act_2 3 rfl rfl)
theorem dX1_act_51 : decode cX1_act 51 = .ok (.ldc 128, 2) := dk_18 128 (dk_at dksX1_act_2 4 rfl rfl)
theorem dX1_act_53 : decode cX1_act 53 = .ok (.aload 4, 2) := dk_25 4 (dk_at dksX1_act_2 6 rfl rfl)
theorem dX1_act_55 : decode cX1_act 55 = .ok (.invokespecial 130, 3) := dk_183 0 130 (dk_at dksX1_act_2 8 rfl rfl)
theorem dX1_act_58 : decode cX1_act 58 = .ok (.athrow, 1) := dk_191 (dk_at dksX1_act_2 11 rfl rfl)
def dkwX1_done_5 : List UInt8 := [182, 0, 96, 172, 42, 44, 3, 46, 44, 4, 46, 44, 5, 46, 182, 0, 99, 172, 42, 182, 0, 102, 172]
abbrev dktX1_done_5 : List UInt8 := dkwX1_done_5 ++ []
def dkwX1_done_4 : List UInt8 := [172, 42, 182, 0, 86, 172, 42, 182, 0, 89, 172, 42, 4, 182, 0, 92, 172, 42, 3, 182, 0, 92, 172, 42]
abbrev dktX1_done_4 : List UInt8 := dkwX1_done_4 ++ dktX1_done_5
def dkwX1_done_3 : List UInt8 := [5, 46, 182, 0, 75, 172, 42, 44, 3, 46, 182, 0, 79, 172, 42, 44, 3, 46, 44, 4, 46, 182, 0, 83]
abbrev dktX1_done_3 : List UInt8 := dkwX1_done_3 ++ dktX1_done_4
def dkwX1_done_2 : List UInt8 := [42, 182, 0, 68, 172, 42, 44, 3, 46, 44, 4, 46, 182, 0, 71, 172, 42, 44, 3, 46, 44, 4, 46, 44]
abbrev dktX1_done_2 : List UInt8 := dkwX1_done_2 ++ dktX1_done_3
def dkwX1_done_1 : List UInt8 := [170, 0, 0, 0, 0, 0, 201, 0, 0, 0, 97, 0, 0, 0, 120, 0, 0, 0, 116, 0, 0, 0, 111, 0, 0, 0, 127, 0, 0, 0, 170, 0, 0, 0, 187, 0, 0, 0, 201, 0, 0, 0, 201, 0, 0, 0, 149, 0, 0, 0, 201, 0, 0, 0, 201, 0, 0, 0, 201, 0, 0, 0, 201, 0, 0, 0, 201, 0, 0, 0, 201, 0, 0, 0, 201, 0, 0, 0, 160, 0, 0, 0, 201, 0, 0, 0, 165, 0, 0, 0, 201, 0, 0, 0, 182, 0, 0, 0, 176, 0, 0, 0, 201, 0, 0, 0, 201, 0, 0, 0, 141]
abbrev dktX1_done_1 : List UInt8 := dkwX1_done_1 ++ dktX1_done_2
def dkwX1_done_0 : List UInt8 := [27]
abbrev dktX1_done_0 : List UInt8 := dkwX1_done_0 ++ dktX1_done_1
theorem dksX1_done_0 : cX1_done.data.toList.drop 0 = dktX1_done_0 := by decide +kernel
theorem dksX1_done_1 : cX1_done.data.toList.drop 1 = dktX1_done_1 := dk_seg dksX1_done_0 1 rfl rfl
theorem dksX1_done_2 : cX1_done.data.toList.drop 112 = dktX1_done_2 := dk_seg dksX1_done_1 111 rfl rfl
theorem dksX1_done_3 : cX1_done.data.toList.drop 136 = dktX1_done_3 := dk_seg dksX1_done_2 24 rfl rfl
theorem dksX1_done_4 : cX1_done.data.toList.drop 160 = dktX1_done_4 := dk_seg dksX1_done_3 24 rfl rfl
theorem dksX1_done_5 : cX1_done.data.toList.drop 184 = dktX1_done_5 := dk_seg dksX1_done_4 24 rfl rfl
theorem dX1_done_0 : decode cX1_done 0 = .ok (.iload_n 1, 1) := dk_27 (dk_at dksX1_done_0 0 rfl rfl)
theorem dX1_done_1 : decode cX1_done 1 = .ok (.tableswitch 201 97 120 #[116, 111, 127, 170, 187, 201, 201, 149, 201, 201, 201, 201, 201, 201, 201, 160, 201, 165, 201, 182, 176, 201, 201, 141], 111) := by decide +kernel
theorem dX1_done_112 : decode cX1_done 112 = .ok (.aload_n 0, 1) := dk_42 (dk_at dksX1_done_2 0 rfl rfl)
theorem dX1_done_113 : decode cX1_done 113 = .ok (.invokevirtual 68, 3) := dk_182 0 68 (dk_at dksX1_done_2 1 rfl rfl)
theorem dX1_done_116 : decode cX1_done 116 = .ok (.ireturn, 1) := dk_172 (dk_at dksX1_done_2 4 rfl rfl)
theorem dX1_done_117 : decode cX1_done 117 = .ok (.aload_n 0, 1) := dk_42 (dk_at dksX1_done_2 5 rfl rfl)
theorem dX1_done_118 : decode cX1_done 118 = .ok (.aload_n 2, 1) := dk_44 (dk_at dksX1_done_2 6 rfl rfl)
theorem dX1_done_119 : decode cX1_done 119 = .ok (.iconst 0, 1) := dk_3 (dk_at dksX1_done_2 7 rfl rfl)
theorem dX1_done_120 : decode cX1_done 120 = .ok (.iaload, 1) := dk_46 (dk_at dksX1_done_2 8 rfl rfl)
theorem dX1_done_121 : decode cX1_done 121 = .ok (.aload_n 2, 1) := dk_44 (dk_at dksX1_done_2 9 rfl rfl)
theorem dX1_done_122 : decode cX1_done 122 = .ok (.iconst 1, 1) := dk_4 (dk_at dksX1_done_2 10 rfl rfl)
theorem dX1_done_123 : decode cX1_done 123 = .ok (.iaload, 1) := dk_46 (dk_at dksX1_done_2 11 rfl rfl)
theorem dX1_done_124 : decode cX1_done 124 = .ok (.invokevirtual 71, 3) := dk_182 0 71 (dk_at dksX1_done_2 12 rfl rfl)
theorem dX1_done_127 : decode cX1_done 127 = .ok (.ireturn, 1) := dk_172 (dk_at dksX1_done_2 15 rfl rfl)
theorem dX1_done_128 : decode cX1_done 128 = .ok (.aload_n 0, 1) := dk_42 (dk_at dksX1_done_2 16 rfl rfl)
theorem dX1_done_129 : decode cX1_done 129 = .ok (.aload_n 2, 1) := dk_44 (dk_at dksX1_done_2 17 rfl rfl)
theorem dX1_done_130 : decode cX1_done 130 = .ok (.iconst 0, 1) := dk_3 (dk_at dksX1_done_2 18 rfl rfl)
theorem dX1_done_131 : decode cX1_done 131 = .ok (.iaload, 1) := dk_46 (dk_at dksX1_done_2 19 rfl rfl)
theorem dX1_done_132 : decode cX1_done 132 = .ok (.aload_n 2, 1) := dk_44 (dk_at dksX1_done_2 20 rfl rfl)
theorem dX1_done_133 : decode cX1_done 133 = .ok (.iconst 1, 1) := dk_4 (dk_at dksX1_done_2 21 rfl rfl)
theorem dX1_done_134 : decode cX1_done 134 = .ok (.iaload, 1) := dk_46 (dk_at dksX1_done_2 22 rfl rfl)
theorem dX1_done_135 : decode cX1_done 135 = .ok (.aload_n 2, 1) := dk_44 (dk_at dksX1_done_2 23 rfl rfl)
theorem dX1_done_136 : decode cX1_done 136 = .ok (.iconst 2, 1) := dk_5 (dk_at dksX1_done_3 0 rfl rfl)
theorem dX1_done_137 : decode cX1_done 137 = .ok (.iaload, 1) := dk_46 (dk_at dksX1_done_3 1 rfl rfl)
theorem dX1_done_138 : decode cX1_done 138 = .ok (.invokevirtual 75, 3) := dk_182 0 75 (dk_at dksX1_done_3 2 rfl rfl)
theorem dX1_done_141 : decode cX1_done 141 = .ok (.ireturn, 1) := dk_172 (dk_at dksX1_done_3 5 rfl rfl)
theorem dX1_done_142 : decode cX1_done 142 = .ok (.aload_n 0, 1) := dk_42 (dk_at dksX1_done_3 6 rfl rfl)
theorem dX1_done_143 : decode cX1_done 143 = .ok (.aload_n 2, 1) := dk_44 (dk_at dksX1_done_3 7 rfl rfl)
theorem dX1_done_144 : decode cX1_done 144 = .ok (.iconst 0, 1) := dk_3 (dk_at dksX1_done_3 8 rfl rfl)
theorem dX1_done_145 : decode cX1_done 145 = .ok (.iaload, 1) := dk_46 (dk_at dksX1_done_3 9 rfl rfl)
theorem dX1_done_146 : decode cX1_done 146 = .ok (.invokevirtual 79, 3) := dk_182 0 79 (dk_at dksX1_done_3 10 rfl rfl)
theorem dX1_done_149 : decode cX1_done 149 = .ok (.ireturn, 1) := dk_172 (dk_at dksX1_done_3 13 rfl rfl)
theorem dX1_done_150 : decode cX1_done 150 = .ok (.aload_n 0, 1) := dk_42 (dk_at dksX1_done_3 14 rfl rfl)
theorem dX1_done_151 : decode cX1_done 151 = .ok (.aload_n 2, 1) := dk_44 (dk_at dksX1_done_3 15 rfl rfl)
theorem dX1_done_152 : decode cX1_done 152 = .ok (.iconst 0, 1) := dk_3 (dk_at dksX1_done_3 16 rfl rfl)
theorem dX1_done_153 : decode cX1_done 153 = .ok (.iaload, 1) := dk_46 (dk_at dksX1_done_3 17 rfl rfl)
theorem dX1_done_154 : decode cX1_done 154 = .ok (.aload_n 2, 1) := dk_44 (dk_at dksX1_done_3 18 rfl rfl)
theorem dX1_done_155 : decode cX1_done 155 = .ok (.iconst 1, 1) := dk_4 (dk_at dksX1_done_3 19 rfl rfl)
theorem dX1_done_156 : decode cX1_done 156 = .ok (.iaload, 1) := dk_46 (dk_at dksX1_done_3 20 rfl rfl)
theorem dX1_done_157 : decode cX1_done 157 = .ok (.invokevirtual 83, 3) := dk_182 0 83 (dk_at dksX1_done_3 21 rfl rfl)
theorem dX1_done_160 : decode cX1_done 160 = .ok (.ireturn, 1) := dk_172 (dk_at dksX1_done_4 0 rfl rfl)
theorem dX1_done_161 : decode cX1_done 161 = .ok (.aload_n 0, 1) := dk_42 (dk_at dksX1_done_4 1 rfl rfl)
theorem dX1_done_162 : decode cX1_done 162 = .ok (.invokevirtual 86, 3) := dk_182 0 86 (dk_at dksX1_done_4 2 rfl rfl)
theorem dX1_done_165 : decode cX1_done 165 = .ok (.ireturn, 1) := dk_172 (dk_at dksX1_done_4 5 rfl rfl)
theorem dX1_done_166 : decode cX1_done 166 = .ok (.aload_n 0, 1) := dk_42 (dk_at dksX1_done_4 6 rfl rfl)
theorem dX1_done_167 : decode cX1_done 167 = .ok (.invokevirtual 89, 3) := dk_182 0 89 (dk_at dksX1_done_4 7 rfl rfl)
theorem dX1_done_170 : decode cX1_done 170 = .ok (.ireturn, 1) := dk_172 (dk_at dksX1_done_4 10 rfl rfl)
theorem dX1_done_171 : decode cX1_done 171 = .ok (.aload_n 0, 1) := dk_42 (dk_at dksX1_done_4 11 rfl rfl)
theorem dX1_done_172 : decode cX1_done 172 = .ok (.iconst 1, 1) := dk_4 (dk_at dksX1_done_4 12 rfl rfl)
theorem dX1_done_173 : decode cX1_done 173 = .ok (.invokevirtual 92, 3) := dk_182 0 92 (dk_at dksX1_done_4 13 rfl rfl)
theorem dX1_done_176 : decode cX1_done 176 = .ok (.ireturn, 1) := dk_172 (dk_at dksX1_done_4 16 rfl rfl)
theorem dX1_done_177 : decode cX1_done 177 = .ok (.aload_n 0, 1) := dk_42 (dk_at dksX1_done_4 17 rfl rfl)
theorem dX1_done_178 : decode cX1_done 178 = .ok (.iconst 0, 1) := dk_3 (dk_at dksX1_done_4 18 rfl rfl)
theorem dX1_done_179 : decode cX1_done 179 = .ok (.invokevirtual 92, 3) := dk_182 0 92 (dk_at dksX1_done_4 19 rfl rfl)
theorem dX1_done_182 : decode cX1_done 182 = .ok (.ireturn, 1) := dk_172 (dk_at dksX1_done_4 22 rfl rfl)
theorem dX1_done_183 : decode cX1_done 183 = .ok (.aload_n 0, 1) := dk_42 (dk_at dksX1_done_4 23 rfl rfl)
theorem dX1_done_184 : decode cX1_done 184 = .ok (.invokevirtual 96, 3) := dk_182 0 96 (dk_at dksX1_done_5 0 rfl rfl)
theorem dX1_done_187 : decode cX1_done 187 = .ok (.ireturn, 1) := dk_172 (dk_at dksX1_done_5 3 rfl rfl)
theorem dX1_done_188 : decode cX1_done 188 = .ok (.aload_n 0, 1) := dk_42 (dk_at dksX1_done_5 4 rfl rfl)
theorem dX1_done_189 : decode cX1_done 189 = .ok (.aload_n 2, 1) := dk_44 (dk_at dksX1_done_5 5 rfl rfl)
theorem dX1_done_190 : decode cX1_done 190 = .ok (.iconst 0, 1) := dk_3 (dk_at dksX1_done_5 6 rfl rfl)
theorem dX1_done_191 : decode cX1_done 191 = .ok (.iaload, 1) := dk_46 (dk_at dksX1_done_5 7 rfl rfl)
theorem dX1_done_192 : decode cX1_done 192 = .ok (.aload_n 2, 1) := dk_44 (dk_at dksX1_done_5 8 rfl rfl)
theorem dX1_done_193 : decode cX1_done 193 = .ok (.iconst 1, 1) := dk_4 (dk_at dksX1_done_5 9 rfl rfl)
theorem dX1_done_194 : decode cX1_done 194 = .ok (.iaload, 1) := dk_46 (dk_at dksX1_done_5 10 rfl rfl)
theorem dX1_done_195 : decode cX1_done 195 = .ok (.aload_n 2, 1) := dk_44 (dk_at dksX1_done_5 11 rfl rfl)
theorem dX1_done_196 : decode cX1_done 196 = .ok (.iconst 2, 1) := dk_5 (dk_at dksX1_done_5 12 rfl rfl)
theorem dX1_done_197 : decode cX1_done 197 = .ok (.iaload, 1) := dk_46 (dk_at dksX1_done_5 13 rfl rfl)
theorem dX1_done_198 : decode cX1_done 198 = .ok (.invokevirtual 99, 3) := dk_182 0 99 (dk_at dksX1_done_5 14 rfl rfl)
theorem dX1_done_201 : decode cX1_done 201 = .ok (.ireturn, 1) := dk_172 (dk_at dksX1_done_5 17 rfl rfl)
theorem dX1_done_202 : decode cX1_done 202 = .ok (.aload_n 0, 1) := dk_42 (dk_at dksX1_done_5 18 rfl rfl)
theorem dX1_done_203 : decode cX1_done 203 = .ok (.invokevirtual 102, 3) := dk_182 0 102 (dk_at dksX1_done_5 19 rfl rfl)
theorem dX1_done_206 : decode cX1_done 206 = .ok (.ireturn, 1) := dk_172 (dk_at dksX1_done_5 22 rfl rfl)
def dkwX1_need_0 : List UInt8 := [26, 154, 0, 12, 187, 0, 18, 89, 27, 183, 0, 20, 191, 177]
abbrev dktX1_need_0 : List UInt8 := dkwX1_need_0 ++ []
theorem dksX1_need_0 : cX1_need.data.toList.drop 0 = dktX1_need_0 := by decide +kernel
theorem dX1_need_0 : decode cX1_need 0 = .ok (.iload_n 0, 1) := dk_26 (dk_at dksX1_need_0 0 rfl rfl)
theorem dX1_need_1 : decode cX1_need 1 = .ok (.ifCond .ne 12, 3) := dk_154 0 12 (dk_at dksX1_need_0 1 rfl rfl)
theorem dX1_need_4 : decode cX1_need 4 = .ok (.new 18, 3) := dk_187 0 18 (dk_at dksX1_need_0 4 rfl rfl)
theorem dX1_need_7 : decode cX1_need 7 = .ok (.dup, 1) := dk_89 (dk_at dksX1_need_0 7 rfl rfl)
theorem dX1_need_8 : decode cX1_need 8 = .ok (.iload_n 1, 1) := dk_27 (dk_at dksX1_need_0 8 rfl rfl)
theorem dX1_need_9 : decode cX1_need 9 = .ok (.invokespecial 20, 3) := dk_183 0 20 (dk_at dksX1_need_0 9 rfl rfl)
theorem dX1_need_12 : decode cX1_need 12 = .ok (.athrow, 1) := dk_191 (dk_at dksX1_need_0 12 rfl rfl)
theorem dX1_need_13 : decode cX1_need 13 = .ok (.return_, 1) := dk_177 (dk_at dksX1_need_0 13 rfl rfl)
def dkwX1_isBetween_0 : List UInt8 := [30, 32, 148, 155, 0, 14, 30, 22, 4, 148, 157, 0, 7, 4, 167, 0, 4, 3, 172]
abbrev dktX1_isBetween_0 : List UInt8 := dkwX1_isBetween_0 ++ []
theorem dksX1_isBetween_0 : cX1_isBetween.data.toList.drop 0 = dktX1_isBetween_0 := by decide +kernel
theorem dX1_isBetween_0 : decode cX1_isBetween 0 = .ok (.lload_n 0, 1) := dk_30 (dk_at dksX1_isBetween_0 0 rfl rfl)
theorem dX1_isBetween_1 : decode cX1_isBetween 1 = .ok (.lload_n 2, 1) := dk_32 (dk_at dksX1_isBetween_0 1 rfl rfl)
theorem dX1_isBetween_2 : decode cX1_isBetween 2 = .ok (.lcmp, 1) := dk_148 (dk_at dksX1_isBetween_0 2 rfl rfl)
theorem dX1_isBetween_3 : decode cX1_isBetween 3 = .ok (.ifCond .lt 14, 3) := dk_155 0 14 (dk_at dksX1_isBetween_0 3 rfl rfl)
theorem dX1_isBetween_6 : decode cX1_isBetween 6 = .ok (.lload_n 0, 1) := dk_30 (dk_at dksX1_isBetween_0 6 rfl rfl)
theorem dX1_isBetween_7 : decode cX1_isBetween 7 = .ok (.lload 4, 2) := dk_22 4 (dk_at dksX1_isBetween_0 7 rfl rfl)
theorem dX1_isBetween_9 : decode cX1_isBetween 9 = .ok (.lcmp, 1) := dk_148 (dk_at dksX1_isBetween_0 9 rfl rfl)
theorem dX1_isBetween_10 : decode cX1_isBetween 10 = .ok (.ifCond .gt 7, 3) := dk_157 0 7 (dk_at dksX1_isBetween_0 10 rfl rfl)
theorem dX1_isBetween_13 : decode cX1_isBetween 13 = .ok (.iconst 1, 1) := dk_4 (dk_at dksX1_isBetween_0 13 rfl rfl)
theorem dX1_isBetween_14 : decode cX1_isBetween 14 = .ok (.goto 4, 3) := dk_167 0 4 (dk_at dksX1_isBetween_0 14 rfl rfl)
theorem dX1_isBetween_17 : decode cX1_isBetween 17 = .ok (.iconst 0, 1) := dk_3 (dk_at dksX1_isBetween_0 17 rfl rfl)
theorem dX1_isBetween_18 : decode cX1_isBetween 18 = .ok (.ireturn, 1) := dk_172 (dk_at dksX1_isBetween_0 18 rfl rfl)
def dkwX1_needReason_0 : List UInt8 := [26, 154, 0, 20, 187, 0, 18, 89, 5, 187, 0, 7, 89, 27, 183, 0, 26, 183, 0, 27, 191, 177]
abbrev dktX1_needReason_0 : List UInt8 := dkwX1_needReason_0 ++ []
theorem dksX1_needReason_0 : cX1_needReason.data.toList.drop 0 = dktX1_needReason_0 := by decide +kernel
theorem dX1_needReason_0 : decode cX1_needReason 0 = .ok (.iload_n 0, 1) := dk_26 (dk_at dksX1_needReason_0 0 rfl rfl)
theorem dX1_needReason_1 : decode cX1_needReason 1 = .ok (.ifCond .ne 20, 3) := dk_154 0 20 (dk_at dksX1_needReason_0 1 rfl rfl)
theorem dX1_needReason_4 : decode cX1_needReason 4 = .ok (.new 18, 3) := dk_187 0 18 (dk_at dksX1_needReason_0 4 rfl rfl)
theorem dX1_needReason_7 : decode cX1_needReason 7 = .ok (.dup, 1) := dk_89 (dk_at dksX1_needReason_0 7 rfl rfl)
theorem dX1_needReason_8 : decode cX1_needReason 8 = .ok (.iconst 2, 1) := dk_5 (dk_at dksX1_needReason_0 8 rfl rfl)
theorem dX1_needReason_9 : decode cX1_needReason 9 = .ok (.new 7, 3) := dk_187 0 7 (dk_at dksX1_needReason_0 9 rfl rfl)
theorem dX1_needReason_12 : decode cX1_needReason 12 = .ok (.dup, 1) := dk_89 (dk_at dksX1_needReason_0 12 rfl rfl)
theorem dX1_needReason_13 : decode cX1_needReason 13 = .ok (.iload_n 1, 1) := dk_27 (dk_at dksX1_needReason_0 13 rfl rfl)
theorem dX1_needReason_14 : decode cX1_needReason 14 = .ok (.invokespecial 26, 3) := dk_183 0 26 (dk_at dksX1_needReason_0 14 rfl rfl)
theorem dX1_needReason_17 : decode cX1_needReason 17 = .ok (.invokespecial 27, 3) := dk_183 0 27 (dk_at dksX1_needReason_0 17 rfl rfl)
theorem dX1_needReason_20 : decode cX1_needReason 20 = .ok (.athrow, 1) := dk_191 (dk_at dksX1_needReason_0 20 rfl rfl)
theorem dX1_needReason_21 : decode cX1_needReason 21 = .ok (.return_, 1) := dk_177 (dk_at dksX1_needReason_0 21 rfl rfl)
def dkwX1_changed_1 : List UInt8 := [180, 0, 45, 182, 0, 64, 87, 42, 43, 181, 0, 38, 28, 172]
abbrev dktX1_changed_1 : List UInt8 := dkwX1_changed_1 ++ []
def dkwX1_changed_0 : List UInt8 := [42, 180, 0, 45, 42, 180, 0, 38, 182, 0, 56, 42, 180, 0, 45, 182, 0, 60, 7, 164, 0, 11, 42]
abbrev dktX1_changed_0 : List UInt8 := dkwX1_changed_0 ++ dktX1_changed_1
theorem dksX1_changed_0 : cX1_changed.data.toList.drop 0 = dktX1_changed_0 := by decide +kernel
theorem dksX1_changed_1 : cX1_changed.data.toList.drop 23 = dktX1_changed_1 := dk_seg dksX1_changed_0 23 rfl rfl
theorem dX1_changed_0 : decode cX1_changed 0 = .ok (.aload_n 0, 1) := dk_42 (dk_at dksX1_changed_0 0 rfl rfl)
theorem dX1_changed_1 : decode cX1_changed 1 = .ok (.getfield 45, 3) := dk_180 0 45 (dk_at dksX1_changed_0 1 rfl rfl)
theorem dX1_changed_4 : decode cX1_changed 4 = .ok (.aload_n 0, 1) := dk_42 (dk_at dksX1_changed_0 4 rfl rfl)
theorem dX1_changed_5 : decode cX1_changed 5 = .ok (.getfield 38, 3) := dk_180 0 38 (dk_at dksX1_changed_0 5 rfl rfl)
theorem dX1_changed_8 : decode cX1_changed 8 = .ok (.invokevirtual 56, 3) := dk_182 0 56 (dk_at dksX1_changed_0 8 rfl rfl)
theorem dX1_changed_11 : decode cX1_changed 11 = .ok (.aload_n 0, 1) := dk_42 (dk_at dksX1_changed_0 11 rfl rfl)
theorem dX1_changed_12 : decode cX1_changed 12 = .ok (.getfield 45, 3) := dk_180 0 45 (dk_at dksX1_changed_0 12 rfl rfl)
theorem dX1_changed_15 : decode cX1_changed 15 = .ok (.invokevirtual 60, 3) := dk_182 0 60 (dk_at dksX1_changed_0 15 rfl rfl)
theorem dX1_changed_18 : decode cX1_changed 18 = .ok (.iconst 4, 1) := dk_7 (dk_at dksX1_changed_0 18 rfl rfl)
theorem dX1_changed_19 : decode cX1_changed 19 = .ok (.if_icmp .le 11, 3) := dk_164 0 11 (dk_at dksX1_changed_0 19 rfl rfl)
theorem dX1_changed_22 : decode cX1_changed 22 = .ok (.aload_n 0, 1) := dk_42 (dk_at dksX1_changed_0 22 rfl rfl)
theorem dX1_changed_23 : decode cX1_changed 23 = .ok (.getfield 45, 3) := dk_180 0 45 (dk_at dksX1_changed_1 0 rfl rfl)
theorem dX1_changed_26 : decode cX1_changed 26 = .ok (.invokevirtual 64, 3) := dk_182 0 64 (dk_at dksX1_changed_1 3 rfl rfl)
theorem dX1_changed_29 : decode cX1_changed 29 = .ok (.pop, 1) := dk_87 (dk_at dksX1_changed_1 6 rfl rfl)
theorem dX1_changed_30 : decode cX1_changed 30 = .ok (.aload_n 0, 1) := dk_42 (dk_at dksX1_changed_1 7 rfl rfl)
theorem dX1_changed_31 : decode cX1_changed 31 = .ok (.aload_n 1, 1) := dk_43 (dk_at dksX1_changed_1 8 rfl rfl)
theorem dX1_changed_32 : decode cX1_changed 32 = .ok (.putfield 38, 3) := dk_181 0 38 (dk_at dksX1_changed_1 9 rfl rfl)
theorem dX1_changed_35 : decode cX1_changed 35 = .ok (.iload_n 2, 1) := dk_28 (dk_at dksX1_changed_1 12 rfl rfl)
theorem dX1_changed_36 : decode cX1_changed 36 = .ok (.ireturn, 1) := dk_172 (dk_at dksX1_changed_1 13 rfl rfl)
def dkwX1_turnRound_0 : List UInt8 := [42, 16, 114, 3, 188, 10, 182, 0, 135, 172]
abbrev dktX1_turnRound_0 : List UInt8 := dkwX1_turnRound_0 ++ []
theorem dksX1_turnRound_0 : cX1_turnRound.data.toList.drop 0 = dktX1_turnRound_0 := by decide +kernel
theorem dX1_turnRound_0 : decode cX1_turnRound 0 = .ok (.aload_n 0, 1) := dk_42 (dk_at dksX1_turnRound_0 0 rfl rfl)
theorem dX1_turnRound_1 : decode cX1_turnRound 1 = .ok (.bipush 114, 2) := dk_16 114 (dk_at dksX1_turnRound_0 1 rfl rfl)
theorem dX1_turnRound_3 : decode cX1_turnRound 3 = .ok (.iconst 0, 1) := dk_3 (dk_at dksX1_turnRound_0 3 rfl rfl)
theorem dX1_turnRound_4 : decode cX1_turnRound 4 = .ok (.newarray .int, 2) := dk_188_10 (dk_at dksX1_turnRound_0 4 rfl rfl)
theorem dX1_turnRound_6 : decode cX1_turnRound 6 = .ok (.invokevirtual 135, 3) := dk_182 0 135 (dk_at dksX1_turnRound_0 6 rfl rfl)
theorem dX1_turnRound_9 : decode cX1_turnRound 9 = .ok (.ireturn, 1) := dk_172 (dk_at dksX1_turnRound_0 9 rfl rfl)
def dkwX1_sweepDown_0 : List UInt8 := [42, 16, 100, 3, 188, 10, 182, 0, 135, 172]
abbrev dktX1_sweepDown_0 : List UInt8 := dkwX1_sweepDown_0 ++ []
theorem dksX1_sweepDown_0 : cX1_sweepDown.data.toList.drop 0 = dktX1_sweepDown_0 := by decide +kernel
theorem dX1_sweepDown_0 : decode cX1_sweepDown 0 = .ok (.aload_n 0, 1) := dk_42 (dk_at dksX1_sweepDown_0 0 rfl rfl)
theorem dX1_sweepDown_1 : decode cX1_sweepDown 1 = .ok (.bipush 100, 2) := dk_16 100 (dk_at dksX1_sweepDown_0 1 rfl rfl)
theorem dX1_sweepDown_3 : decode cX1_sweepDown 3 = .ok (.iconst 0, 1) := dk_3 (dk_at dksX1_sweepDown_0 3 rfl rfl)
theorem dX1_sweepDown_4 : decode cX1_sweepDown 4 = .ok (.newarray .int, 2) := dk_188_10 (dk_at dksX1_sweepDown_0 4 rfl rfl)
theorem dX1_sweepDown_6 : decode cX1_sweepDown 6 = .ok (.invokevirtual 135, 3) := dk_182 0 135 (dk_at dksX1_sweepDown_0 6 rfl rfl)
theorem dX1_sweepDown_9 : decode cX1_sweepDown 9 = .ok (.ireturn, 1) := dk_172 (dk_at dksX1_sweepDown_0 9 rfl rfl)
def dkwX1_sweepUp_0 : List UInt8 := [42, 16, 117, 3, 188, 10, 182, 0, 135, 172]
abbrev dktX1_sweepUp_0 : List UInt8 := dkwX1_sweepUp_0 ++ []
theorem dksX1_sweepUp_0 : cX1_sweepUp.data.toList.drop 0 = dktX1_sweepUp_0 := by decide +kernel
theorem dX1_sweepUp_0 : decode cX1_sweepUp 0 = .ok (.aload_n 0, 1) := dk_42 (dk_at dksX1_sweepUp_0 0 rfl rfl)
theorem dX1_sweepUp_1 : decode cX1_sweepUp 1 = .ok (.bipush 117, 2) := dk_16 117 (dk_at dksX1_sweepUp_0 1 rfl rfl)
theorem dX1_sweepUp_3 : decode cX1_sweepUp 3 = .ok (.iconst 0, 1) := dk_3 (dk_at dksX1_sweepUp_0 3 rfl rfl)
theorem dX1_sweepUp_4 : decode cX1_sweepUp 4 = .ok (.newarray .int, 2) := dk_188_10 (dk_at dksX1_sweepUp_0 4 rfl rfl)
theorem dX1_sweepUp_6 : decode cX1_sweepUp 6 = .ok (.invokevirtual 135, 3) := dk_182 0 135 (dk_at dksX1_sweepUp_0 6 rfl rfl)
theorem dX1_sweepUp_9 : decode cX1_sweepUp 9 = .ok (.ireturn, 1) := dk_172 (dk_at dksX1_sweepUp_0 9 rfl rfl)
def dkwX1_untangle_0 : List UInt8 := [42, 16, 116, 3, 188, 10, 182, 0, 135, 172]
abbrev dktX1_untangle_0 : List UInt8 := dkwX1_untangle_0 ++ []
theorem dksX1_untangle_0 : cX1_untangle.data.toList.drop 0 = dktX1_untangle_0 := by decide +kernel
theorem dX1_untangle_0 : decode cX1_untangle 0 = .ok (.aload_n 0, 1) := dk_42 (dk_at dksX1_untangle_0 0 rfl rfl)
theorem dX1_untangle_1 : decode cX1_untangle 1 = .ok (.bipush 116, 2) := dk_16 116 (dk_at dksX1_untangle_0 1 rfl rfl)
theorem dX1_untangle_3 : decode cX1_untangle 3 = .ok (.iconst 0, 1) := dk_3 (dk_at dksX1_untangle_0 3 rfl rfl)
theorem dX1_untangle_4 : decode cX1_untangle 4 = .ok (.newarray .int, 2) := dk_188_10 (dk_at dksX1_untangle_0 4 rfl rfl)
theorem dX1_untangle_6 : decode cX1_untangle 6 = .ok (.invokevirtual 135, 3) := dk_182 0 135 (dk_at dksX1_untangle_0 6 rfl rfl)
theorem dX1_untangle_9 : decode cX1_untangle 9 = .ok (.ireturn, 1) := dk_172 (dk_at dksX1_untangle_0 9 rfl rfl)
def dkwX1_settle_0 : List UInt8 := [42, 16, 115, 3, 188, 10, 182, 0, 135, 172]
abbrev dktX1_settle_0 : List UInt8 := dkwX1_settle_0 ++ []
theorem dksX1_settle_0 : cX1_settle.data.toList.drop 0 = dktX1_settle_0 := by decide +kernel
theorem dX1_settle_0 : decode cX1_settle 0 = .ok (.aload_n 0, 1) := dk_42 (dk_at dksX1_settle_0 0 rfl rfl)
theorem dX1_settle_1 : decode cX1_settle 1 = .ok (.bipush 115, 2) := dk_16 115 (dk_at dksX1_settle_0 1 rfl rfl)
theorem dX1_settle_3 : decode cX1_settle 3 = .ok (.iconst 0, 1) := dk_3 (dk_at dksX1_settle_0 3 rfl rfl)
theorem dX1_settle_4 : decode cX1_settle 4 = .ok (.newarray .int, 2) := dk_188_10 (dk_at dksX1_settle_0 4 rfl rfl)
theorem dX1_settle_6 : decode cX1_settle 6 = .ok (.invokevirtual 135, 3) := dk_182 0 135 (dk_at dksX1_settle_0 6 rfl rfl)
theorem dX1_settle_9 : decode cX1_settle 9 = .ok (.ireturn, 1) := dk_172 (dk_at dksX1_settle_0 9 rfl rfl)
def dkwX1_boxes_0 : List UInt8 := [42, 180, 0, 38, 180, 0, 165, 172]
abbrev dktX1_boxes_0 : List UInt8 := dkwX1_boxes_0 ++ []
theorem dksX1_boxes_0 : cX1_boxes.data.toList.drop 0 = dktX1_boxes_0 := by decide +kernel
theorem dX1_boxes_0 : decode cX1_boxes 0 = .ok (.aload_n 0, 1) := dk_42 (dk_at dksX1_boxes_0 0 rfl rfl)
theorem dX1_boxes_1 : decode cX1_boxes 1 = .ok (.getfield 38, 3) := dk_180 0 38 (dk_at dksX1_boxes_0 1 rfl rfl)
theorem dX1_boxes_4 : decode cX1_boxes 4 = .ok (.getfield 165, 3) := dk_180 0 165 (dk_at dksX1_boxes_0 4 rfl rfl)
theorem dX1_boxes_7 : decode cX1_boxes 7 = .ok (.ireturn, 1) := dk_172 (dk_at dksX1_boxes_0 7 rfl rfl)
def dkwX1_arrows_0 : List UInt8 := [42, 180, 0, 38, 180, 0, 168, 172]
abbrev dktX1_arrows_0 : List UInt8 := dkwX1_arrows_0 ++ []
theorem dksX1_arrows_0 : cX1_arrows.data.toList.drop 0 = dktX1_arrows_0 := by decide +kernel
theorem dX1_arrows_0 : decode cX1_arrows 0 = .ok (.aload_n 0, 1) := dk_42 (dk_at dksX1_arrows_0 0 rfl rfl)
theorem dX1_arrows_1 : decode cX1_arrows 1 = .ok (.getfield 38, 3) := dk_180 0 38 (dk_at dksX1_arrows_0 1 rfl rfl)
theorem dX1_arrows_4 : decode cX1_arrows 4 = .ok (.getfield 168, 3) := dk_180 0 168 (dk_at dksX1_arrows_0 4 rfl rfl)
theorem dX1_arrows_7 : decode cX1_arrows 7 = .ok (.ireturn, 1) := dk_172 (dk_at dksX1_arrows_0 7 rfl rfl)
def dkwX1_needless_0 : List UInt8 := [42, 180, 0, 38, 182, 0, 194, 172]
abbrev dktX1_needless_0 : List UInt8 := dkwX1_needless_0 ++ []
theorem dksX1_needless_0 : cX1_needless.data.toList.drop 0 = dktX1_needless_0 := by decide +kernel
theorem dX1_needless_0 : decode cX1_needless 0 = .ok (.aload_n 0, 1) := dk_42 (dk_at dksX1_needless_0 0 rfl rfl)
theorem dX1_needless_1 : decode cX1_needless 1 = .ok (.getfield 38, 3) := dk_180 0 38 (dk_at dksX1_needless_0 1 rfl rfl)
theorem dX1_needless_4 : decode cX1_needless 4 = .ok (.invokevirtual 194, 3) := dk_182 0 194 (dk_at dksX1_needless_0 4 rfl rfl)
theorem dX1_needless_7 : decode cX1_needless 7 = .ok (.ireturn, 1) := dk_172 (dk_at dksX1_needless_0 7 rfl rfl)
def dkwX1_firstTellers_0 : List UInt8 := [42, 180, 0, 38, 4, 182, 0, 214, 172]
abbrev dktX1_firstTellers_0 : List UInt8 := dkwX1_firstTellers_0 ++ []
theorem dksX1_firstTellers_0 : cX1_firstTellers.data.toList.drop 0 = dktX1_firstTellers_0 := by decide +kernel
theorem dX1_firstTellers_0 : decode cX1_firstTellers 0 = .ok (.aload_n 0, 1) := dk_42 (dk_at dksX1_firstTellers_0 0 rfl rfl)
theorem dX1_firstTellers_1 : decode cX1_firstTellers 1 = .ok (.getfield 38, 3) := dk_180 0 38 (dk_at dksX1_firstTellers_0 1 rfl rfl)
theorem dX1_firstTellers_4 : decode cX1_firstTellers 4 = .ok (.iconst 1, 1) := dk_4 (dk_at dksX1_firstTellers_0 4 rfl rfl)
theorem dX1_firstTellers_5 : decode cX1_firstTellers 5 = .ok (.invokevirtual 214, 3) := dk_182 0 214 (dk_at dksX1_firstTellers_0 5 rfl rfl)
theorem dX1_firstTellers_8 : decode cX1_firstTellers 8 = .ok (.ireturn, 1) := dk_172 (dk_at dksX1_firstTellers_0 8 rfl rfl)
def dkwX1_lastHearers_0 : List UInt8 := [42, 180, 0, 38, 3, 182, 0, 214, 172]
abbrev dktX1_lastHearers_0 : List UInt8 := dkwX1_lastHearers_0 ++ []
theorem dksX1_lastHearers_0 : cX1_lastHearers.data.toList.drop 0 = dktX1_lastHearers_0 := by decide +kernel
theorem dX1_lastHearers_0 : decode cX1_lastHearers 0 = .ok (.aload_n 0, 1) := dk_42 (dk_at dksX1_lastHearers_0 0 rfl rfl)
theorem dX1_lastHearers_1 : decode cX1_lastHearers 1 = .ok (.getfield 38, 3) := dk_180 0 38 (dk_at dksX1_lastHearers_0 1 rfl rfl)
theorem dX1_lastHearers_4 : decode cX1_lastHearers 4 = .ok (.iconst 0, 1) := dk_3 (dk_at dksX1_lastHearers_0 4 rfl rfl)
theorem dX1_lastHearers_5 : decode cX1_lastHearers 5 = .ok (.invokevirtual 214, 3) := dk_182 0 214 (dk_at dksX1_lastHearers_0 5 rfl rfl)
theorem dX1_lastHearers_8 : decode cX1_lastHearers 8 = .ok (.ireturn, 1) := dk_172 (dk_at dksX1_lastHearers_0 8 rfl rfl)
def dkwX1_layers_0 : List UInt8 := [42, 180, 0, 38, 180, 0, 226, 172]
abbrev dktX1_layers_0 : List UInt8 := dkwX1_layers_0 ++ []
theorem dksX1_layers_0 : cX1_layers.data.toList.drop 0 = dktX1_layers_0 := by decide +kernel
theorem dX1_layers_0 : decode cX1_layers 0 = .ok (.aload_n 0, 1) := dk_42 (dk_at dksX1_layers_0 0 rfl rfl)
theorem dX1_layers_1 : decode cX1_layers 1 = .ok (.getfield 38, 3) := dk_180 0 38 (dk_at dksX1_layers_0 1 rfl rfl)
theorem dX1_layers_4 : decode cX1_layers 4 = .ok (.getfield 226, 3) := dk_180 0 226 (dk_at dksX1_layers_0 4 rfl rfl)
theorem dX1_layers_7 : decode cX1_layers 7 = .ok (.ireturn, 1) := dk_172 (dk_at dksX1_layers_0 7 rfl rfl)
def dkwX1_arrowPoints_0 : List UInt8 := [42, 180, 0, 38, 182, 0, 235, 42, 180, 0, 38, 180, 0, 165, 100, 172]
abbrev dktX1_arrowPoints_0 : List UInt8 := dkwX1_arrowPoints_0 ++ []
theorem dksX1_arrowPoints_0 : cX1_arrowPoints.data.toList.drop 0 = dktX1_arrowPoints_0 := by decide +kernel
theorem dX1_arrowPoints_0 : decode cX1_arrowPoints 0 = .ok (.aload_n 0, 1) := dk_42 (dk_at dksX1_arrowPoints_0 0 rfl rfl)
theorem dX1_arrowPoints_1 : decode cX1_arrowPoints 1 = .ok (.getfield 38, 3) := dk_180 0 38 (dk_at dksX1_arrowPoints_0 1 rfl rfl)
theorem dX1_arrowPoints_4 : decode cX1_arrowPoints 4 = .ok (.invokevirtual 235, 3) := dk_182 0 235 (dk_at dksX1_arrowPoints_0 4 rfl rfl)
theorem dX1_arrowPoints_7 : decode cX1_arrowPoints 7 = .ok (.aload_n 0, 1) := dk_42 (dk_at dksX1_arrowPoints_0 7 rfl rfl)
theorem dX1_arrowPoints_8 : decode cX1_arrowPoints 8 = .ok (.getfield 38, 3) := dk_180 0 38 (dk_at dksX1_arrowPoints_0 8 rfl rfl)
theorem dX1_arrowPoints_11 : decode cX1_arrowPoints 11 = .ok (.getfield 165, 3) := dk_180 0 165 (dk_at dksX1_arrowPoints_0 11 rfl rfl)
theorem dX1_arrowPoints_14 : decode cX1_arrowPoints 14 = .ok (.isub, 1) := dk_100 (dk_at dksX1_arrowPoints_0 14 rfl rfl)
theorem dX1_arrowPoints_15 : decode cX1_arrowPoints 15 = .ok (.ireturn, 1) := dk_172 (dk_at dksX1_arrowPoints_0 15 rfl rfl)
def dkwX1_crossings_0 : List UInt8 := [42, 180, 0, 38, 182, 0, 250, 172]
abbrev dktX1_crossings_0 : List UInt8 := dkwX1_crossings_0 ++ []
theorem dksX1_crossings_0 : cX1_crossings.data.toList.drop 0 = dktX1_crossings_0 := by decide +kernel
theorem dX1_crossings_0 : decode cX1_crossings 0 = .ok (.aload_n 0, 1) := dk_42 (dk_at dksX1_crossings_0 0 rfl rfl)
theorem dX1_crossings_1 : decode cX1_crossings 1 = .ok (.getfield 38, 3) := dk_180 0 38 (dk_at dksX1_crossings_0 1 rfl rfl)
theorem dX1_crossings_4 : decode cX1_crossings 4 = .ok (.invokevirtual 250, 3) := dk_182 0 250 (dk_at dksX1_crossings_0 4 rfl rfl)
theorem dX1_crossings_7 : decode cX1_crossings 7 = .ok (.ireturn, 1) := dk_172 (dk_at dksX1_crossings_0 7 rfl rfl)
def dkwX1_crossingsByPuttingIn_1 : List UInt8 := [182, 0, 253, 96, 60, 132, 2, 1, 167, 255, 229, 27, 172]
abbrev dktX1_crossingsByPuttingIn_1 : List UInt8 := dkwX1_crossingsByPuttingIn_1 ++ []
def dkwX1_crossingsByPuttingIn_0 : List UInt8 := [3, 60, 3, 61, 28, 4, 96, 42, 180, 0, 38, 180, 0, 226, 162, 0, 20, 27, 42, 180, 0, 38, 28]
abbrev dktX1_crossingsByPuttingIn_0 : List UInt8 := dkwX1_crossingsByPuttingIn_0 ++ dktX1_crossingsByPuttingIn_1
theorem dksX1_crossingsByPuttingIn_0 : cX1_crossingsByPuttingIn.data.toList.drop 0 = dktX1_crossingsByPuttingIn_0 := by decide +kernel
theorem dksX1_crossingsByPuttingIn_1 : cX1_crossingsByPuttingIn.data.toList.drop 23 = dktX1_crossingsByPuttingIn_1 := dk_seg dksX1_crossingsByPuttingIn_0 23 rfl rfl
theorem dX1_crossingsByPuttingIn_0 : decode cX1_crossingsByPuttingIn 0 = .ok (.iconst 0, 1) := dk_3 (dk_at dksX1_crossingsByPuttingIn_0 0 rfl rfl)
theorem dX1_crossingsByPuttingIn_1 : decode cX1_crossingsByPuttingIn 1 = .ok (.istore_n 1, 1) := dk_60 (dk_at dksX1_crossingsByPuttingIn_0 1 rfl rfl)
theorem dX1_crossingsByPuttingIn_2 : decode cX1_crossingsByPuttingIn 2 = .ok (.iconst 0, 1) := dk_3 (dk_at dksX1_crossingsByPuttingIn_0 2 rfl rfl)
theorem dX1_crossingsByPuttingIn_3 : decode cX1_crossingsByPuttingIn 3 = .ok (.istore_n 2, 1) := dk_61 (dk_at dksX1_crossingsByPuttingIn_0 3 rfl rfl)
theorem dX1_crossingsByPuttingIn_4 : decode cX1_crossingsByPuttingIn 4 = .ok (.iload_n 2, 1) := dk_28 (dk_at dksX1_crossingsByPuttingIn_0 4 rfl rfl)
theorem dX1_crossingsByPuttingIn_5 : decode cX1_crossingsByPuttingIn 5 = .ok (.iconst 1, 1) := dk_4 (dk_at dksX1_crossingsByPuttingIn_0 5 rfl rfl)
theorem dX1_crossingsByPuttingIn_6 : decode cX1_crossingsByPuttingIn 6 = .ok (.iadd, 1) := dk_96 (dk_at dksX1_crossingsByPuttingIn_0 6 rfl rfl)
theorem dX1_crossingsByPuttingIn_7 : decode cX1_crossingsByPuttingIn 7 = .ok (.aload_n 0, 1) := dk_42 (dk_at dksX1_crossingsByPuttingIn_0 7 rfl rfl)
theorem dX1_crossingsByPuttingIn_8 : decode cX1_crossingsByPuttingIn 8 = .ok (.getfield 38, 3) := dk_180 0 38 (dk_at dksX1_crossingsByPuttingIn_0 8 rfl rfl)
theorem dX1_crossingsByPuttingIn_11 : decode cX1_crossingsByPuttingIn 11 = .ok (.getfield 226, 3) := dk_180 0 226 (dk_at dksX1_crossingsByPuttingIn_0 11 rfl rfl)
theorem dX1_crossingsByPuttingIn_14 : decode cX1_crossingsByPuttingIn 14 = .ok (.if_icmp .ge 20, 3) := dk_162 0 20 (dk_at dksX1_crossingsByPuttingIn_0 14 rfl rfl)
theorem dX1_crossingsByPuttingIn_17 : decode cX1_crossingsByPuttingIn 17 = .ok (.iload_n 1, 1) := dk_27 (dk_at dksX1_crossingsByPuttingIn_0 17 rfl rfl)
theorem dX1_crossingsByPuttingIn_18 : decode cX1_crossingsByPuttingIn 18 = .ok (.aload_n 0, 1) := dk_42 (dk_at dksX1_crossingsByPuttingIn_0 18 rfl rfl)
theorem dX1_crossingsByPuttingIn_19 : decode cX1_crossingsByPuttingIn 19 = .ok (.getfield 38, 3) := dk_180 0 38 (dk_at dksX1_crossingsByPuttingIn_0 19 rfl rfl)
theorem dX1_crossingsByPuttingIn_22 : decode cX1_crossingsByPuttingIn 22 = .ok (.iload_n 2, 1) := dk_28 (dk_at dksX1_crossingsByPuttingIn_0 22 rfl rfl)
theorem dX1_crossingsByPuttingIn_23 : decode cX1_crossingsByPuttingIn 23 = .ok (.invokevirtual 253, 3) := dk_182 0 253 (dk_at dksX1_crossingsByPuttingIn_1 0 rfl rfl)
theorem dX1_crossingsByPuttingIn_26 : decode cX1_crossingsByPuttingIn 26 = .ok (.iadd, 1) := dk_96 (dk_at dksX1_crossingsByPuttingIn_1 3 rfl rfl)
theorem dX1_crossingsByPuttingIn_27 : decode cX1_crossingsByPuttingIn 27 = .ok (.istore_n 1, 1) := dk_60 (dk_at dksX1_crossingsByPuttingIn_1 4 rfl rfl)
theorem dX1_crossingsByPuttingIn_28 : decode cX1_crossingsByPuttingIn 28 = .ok (.iinc 2 1, 3) := dk_132 2 1 (dk_at dksX1_crossingsByPuttingIn_1 5 rfl rfl)
theorem dX1_crossingsByPuttingIn_31 : decode cX1_crossingsByPuttingIn 31 = .ok (.goto (-27), 3) := dk_167 255 229 (dk_at dksX1_crossingsByPuttingIn_1 8 rfl rfl)
theorem dX1_crossingsByPuttingIn_34 : decode cX1_crossingsByPuttingIn 34 = .ok (.iload_n 1, 1) := dk_27 (dk_at dksX1_crossingsByPuttingIn_1 11 rfl rfl)
theorem dX1_crossingsByPuttingIn_35 : decode cX1_crossingsByPuttingIn 35 = .ok (.ireturn, 1) := dk_172 (dk_at dksX1_crossingsByPuttingIn_1 12 rfl rfl)
def dkwX1_ifSweptDown_0 : List UInt8 := [187, 0, 35, 89, 42, 180, 0, 38, 183, 0, 105, 4, 182, 0, 92, 172]
abbrev dktX1_ifSweptDown_0 : List UInt8 := dkwX1_ifSweptDown_0 ++ []
theorem dksX1_ifSweptDown_0 : cX1_ifSweptDown.data.toList.drop 0 = dktX1_ifSweptDown_0 := by decide +kernel
theorem dX1_ifSweptDown_0 : decode cX1_ifSweptDown 0 = .ok (.new 35, 3) := dk_187 0 35 (dk_at dksX1_ifSweptDown_0 0 rfl rfl)
theorem dX1_ifSweptDown_3 : decode cX1_ifSweptDown 3 = .ok (.dup, 1) := dk_89 (dk_at dksX1_ifSweptDown_0 3 rfl rfl)
theorem dX1_ifSweptDown_4 : decode cX1_ifSweptDown 4 = .ok (.aload_n 0, 1) := dk_42 (dk_at dksX1_ifSweptDown_0 4 rfl rfl)
theorem dX1_ifSweptDown_5 : decode cX1_ifSweptDown 5 = .ok (.getfield 38, 3) := dk_180 0 38 (dk_at dksX1_ifSweptDown_0 5 rfl rfl)
theorem dX1_ifSweptDown_8 : decode cX1_ifSweptDown 8 = .ok (.invokespecial 105, 3) := dk_183 0 105 (dk_at dksX1_ifSweptDown_0 8 rfl rfl)
theorem dX1_ifSweptDown_11 : decode cX1_ifSweptDown 11 = .ok (.iconst 1, 1) := dk_4 (dk_at dksX1_ifSweptDown_0 11 rfl rfl)
theorem dX1_ifSweptDown_12 : decode cX1_ifSweptDown 12 = .ok (.invokevirtual 92, 3) := dk_182 0 92 (dk_at dksX1_ifSweptDown_0 12 rfl rfl)
theorem dX1_ifSweptDown_15 : decode cX1_ifSweptDown 15 = .ok (.ireturn, 1) := dk_172 (dk_at dksX1_ifSweptDown_0 15 rfl rfl)
def dkwX1_ifSweptUp_0 : List UInt8 := [187, 0, 35, 89, 42, 180, 0, 38, 183, 0, 105, 3, 182, 0, 92, 172]
abbrev dktX1_ifSweptUp_0 : List UInt8 := dkwX1_ifSweptUp_0 ++ []
theorem dksX1_ifSweptUp_0 : cX1_ifSweptUp.data.toList.drop 0 = dktX1_ifSweptUp_0 := by decide +kernel
theorem dX1_ifSweptUp_0 : decode cX1_ifSweptUp 0 = .ok (.new 35, 3) := dk_187 0 35 (dk_at dksX1_ifSweptUp_0 0 rfl rfl)
theorem dX1_ifSweptUp_3 : decode cX1_ifSweptUp 3 = .ok (.dup, 1) := dk_89 (dk_at dksX1_ifSweptUp_0 3 rfl rfl)
theorem dX1_ifSweptUp_4 : decode cX1_ifSweptUp 4 = .ok (.aload_n 0, 1) := dk_42 (dk_at dksX1_ifSweptUp_0 4 rfl rfl)
theorem dX1_ifSweptUp_5 : decode cX1_ifSweptUp 5 = .ok (.getfield 38, 3) := dk_180 0 38 (dk_at dksX1_ifSweptUp_0 5 rfl rfl)
theorem dX1_ifSweptUp_8 : decode cX1_ifSweptUp 8 = .ok (.invokespecial 105, 3) := dk_183 0 105 (dk_at dksX1_ifSweptUp_0 8 rfl rfl)
theorem dX1_ifSweptUp_11 : decode cX1_ifSweptUp 11 = .ok (.iconst 0, 1) := dk_3 (dk_at dksX1_ifSweptUp_0 11 rfl rfl)
theorem dX1_ifSweptUp_12 : decode cX1_ifSweptUp 12 = .ok (.invokevirtual 92, 3) := dk_182 0 92 (dk_at dksX1_ifSweptUp_0 12 rfl rfl)
theorem dX1_ifSweptUp_15 : decode cX1_ifSweptUp 15 = .ok (.ireturn, 1) := dk_172 (dk_at dksX1_ifSweptUp_0 15 rfl rfl)
def dkwX1_bends_1 : List UInt8 := [42, 180, 0, 38, 29, 43, 182, 1, 10, 96, 61, 132, 3, 1, 167, 255, 230, 28, 172]
abbrev dktX1_bends_1 : List UInt8 := dkwX1_bends_1 ++ []
def dkwX1_bends_0 : List UInt8 := [42, 180, 0, 38, 182, 1, 6, 76, 3, 61, 3, 62, 29, 42, 180, 0, 38, 180, 0, 168, 162, 0, 21, 28]
abbrev dktX1_bends_0 : List UInt8 := dkwX1_bends_0 ++ dktX1_bends_1
theorem dksX1_bends_0 : cX1_bends.data.toList.drop 0 = dktX1_bends_0 := by decide +kernel
theorem dksX1_bends_1 : cX1_bends.data.toList.drop 24 = dktX1_bends_1 := dk_seg dksX1_bends_0 24 rfl rfl
theorem dX1_bends_0 : decode cX1_bends 0 = .ok (.aload_n 0, 1) := dk_42 (dk_at dksX1_bends_0 0 rfl rfl)
theorem dX1_bends_1 : decode cX1_bends 1 = .ok (.getfield 38, 3) := dk_180 0 38 (dk_at dksX1_bends_0 1 rfl rfl)
theorem dX1_bends_4 : decode cX1_bends 4 = .ok (.invokevirtual 262, 3) := dk_182 1 6 (dk_at dksX1_bends_0 4 rfl rfl)
theorem dX1_bends_7 : decode cX1_bends 7 = .ok (.astore_n 1, 1) := dk_76 (dk_at dksX1_bends_0 7 rfl rfl)
theorem dX1_bends_8 : decode cX1_bends 8 = .ok (.iconst 0, 1) := dk_3 (dk_at dksX1_bends_0 8 rfl rfl)
theorem dX1_bends_9 : decode cX1_bends 9 = .ok (.istore_n 2, 1) := dk_61 (dk_at dksX1_bends_0 9 rfl rfl)
theorem dX1_bends_10 : decode cX1_bends 10 = .ok (.iconst 0, 1) := dk_3 (dk_at dksX1_bends_0 10 rfl rfl)
theorem dX1_bends_11 : decode cX1_bends 11 = .ok (.istore_n 3, 1) := dk_62 (dk_at dksX1_bends_0 11 rfl rfl)
theorem dX1_bends_12 : decode cX1_bends 12 = .ok (.iload_n 3, 1) := dk_29 (dk_at dksX1_bends_0 12 rfl rfl)
theorem dX1_bends_13 : decode cX1_bends 13 = .ok (.aload_n 0, 1) := dk_42 (dk_at dksX1_bends_0 13 rfl rfl)
theorem dX1_bends_14 : decode cX1_bends 14 = .ok (.getfield 38, 3) := dk_180 0 38 (dk_at dksX1_bends_0 14 rfl rfl)
theorem dX1_bends_17 : decode cX1_bends 17 = .ok (.getfield 168, 3) := dk_180 0 168 (dk_at dksX1_bends_0 17 rfl rfl)
theorem dX1_bends_20 : decode cX1_bends 20 = .ok (.if_icmp .ge 21, 3) := dk_162 0 21 (dk_at dksX1_bends_0 20 rfl rfl)
theorem dX1_bends_23 : decode cX1_bends 23 = .ok (.iload_n 2, 1) := dk_28 (dk_at dksX1_bends_0 23 rfl rfl)
theorem dX1_bends_24 : decode cX1_bends 24 = .ok (.aload_n 0, 1) := dk_42 (dk_at dksX1_bends_1 0 rfl rfl)
theorem dX1_bends_25 : decode cX1_bends 25 = .ok (.getfield 38, 3) := dk_180 0 38 (dk_at dksX1_bends_1 1 rfl rfl)
theorem dX1_bends_28 : decode cX1_bends 28 = .ok (.iload_n 3, 1) := dk_29 (dk_at dksX1_bends_1 4 rfl rfl)
theorem dX1_bends_29 : decode cX1_bends 29 = .ok (.aload_n 1, 1) := dk_43 (dk_at dksX1_bends_1 5 rfl rfl)
theorem dX1_bends_30 : decode cX1_bends 30 = .ok (.invokevirtual 266, 3) := dk_182 1 10 (dk_at dksX1_bends_1 6 rfl rfl)
theorem dX1_bends_33 : decode cX1_bends 33 = .ok (.iadd, 1) := dk_96 (dk_at dksX1_bends_1 9 rfl rfl)
theorem dX1_bends_34 : decode cX1_bends 34 = .ok (.istore_n 2, 1) := dk_61 (dk_at dksX1_bends_1 10 rfl rfl)
theorem dX1_bends_35 : decode cX1_bends 35 = .ok (.iinc 3 1, 3) := dk_132 3 1 (dk_at dksX1_bends_1 11 rfl rfl)
theorem dX1_bends_38 : decode cX1_bends 38 = .ok (.goto (-26), 3) := dk_167 255 230 (dk_at dksX1_bends_1 14 rfl rfl)
theorem dX1_bends_41 : decode cX1_bends 41 = .ok (.iload_n 2, 1) := dk_28 (dk_at dksX1_bends_1 17 rfl rfl)
theorem dX1_bends_42 : decode cX1_bends 42 = .ok (.ireturn, 1) := dk_172 (dk_at dksX1_bends_1 18 rfl rfl)
def dkwX1_widest_1 : List UInt8 := [21, 4, 46, 54, 5, 27, 21, 5, 184, 1, 14, 60, 132, 4, 1, 167, 255, 234, 27, 172]
abbrev dktX1_widest_1 : List UInt8 := dkwX1_widest_1 ++ []
def dkwX1_widest_0 : List UInt8 := [3, 60, 42, 180, 0, 38, 182, 1, 6, 77, 44, 190, 62, 3, 54, 4, 21, 4, 29, 162, 0, 22, 44]
abbrev dktX1_widest_0 : List UInt8 := dkwX1_widest_0 ++ dktX1_widest_1
theorem dksX1_widest_0 : cX1_widest.data.toList.drop 0 = dktX1_widest_0 := by decide +kernel
theorem dksX1_widest_1 : cX1_widest.data.toList.drop 23 = dktX1_widest_1 := dk_seg dksX1_widest_0 23 rfl rfl
theorem dX1_widest_0 : decode cX1_widest 0 = .ok (.iconst 0, 1) := dk_3 (dk_at dksX1_widest_0 0 rfl rfl)
theorem dX1_widest_1 : decode cX1_widest 1 = .ok (.istore_n 1, 1) := dk_60 (dk_at dksX1_widest_0 1 rfl rfl)
theorem dX1_widest_2 : decode cX1_widest 2 = .ok (.aload_n 0, 1) := dk_42 (dk_at dksX1_widest_0 2 rfl rfl)
theorem dX1_widest_3 : decode cX1_widest 3 = .ok (.getfield 38, 3) := dk_180 0 38 (dk_at dksX1_widest_0 3 rfl rfl)
theorem dX1_widest_6 : decode cX1_widest 6 = .ok (.invokevirtual 262, 3) := dk_182 1 6 (dk_at dksX1_widest_0 6 rfl rfl)
theorem dX1_widest_9 : decode cX1_widest 9 = .ok (.astore_n 2, 1) := dk_77 (dk_at dksX1_widest_0 9 rfl rfl)
theorem dX1_widest_10 : decode cX1_widest 10 = .ok (.aload_n 2, 1) := dk_44 (dk_at dksX1_widest_0 10 rfl rfl)
theorem dX1_widest_11 : decode cX1_widest 11 = .ok (.arraylength, 1) := dk_190 (dk_at dksX1_widest_0 11 rfl rfl)
theorem dX1_widest_12 : decode cX1_widest 12 = .ok (.istore_n 3, 1) := dk_62 (dk_at dksX1_widest_0 12 rfl rfl)
theorem dX1_widest_13 : decode cX1_widest 13 = .ok (.iconst 0, 1) := dk_3 (dk_at dksX1_widest_0 13 rfl rfl)
theorem dX1_widest_14 : decode cX1_widest 14 = .ok (.istore 4, 2) := dk_54 4 (dk_at dksX1_widest_0 14 rfl rfl)
theorem dX1_widest_16 : decode cX1_widest 16 = .ok (.iload 4, 2) := dk_21 4 (dk_at dksX1_widest_0 16 rfl rfl)
theorem dX1_widest_18 : decode cX1_widest 18 = .ok (.iload_n 3, 1) := dk_29 (dk_at dksX1_widest_0 18 rfl rfl)
theorem dX1_widest_19 : decode cX1_widest 19 = .ok (.if_icmp .ge 22, 3) := dk_162 0 22 (dk_at dksX1_widest_0 19 rfl rfl)
theorem dX1_widest_22 : decode cX1_widest 22 = .ok (.aload_n 2, 1) := dk_44 (dk_at dksX1_widest_0 22 rfl rfl)
theorem dX1_widest_23 : decode cX1_widest 23 = .ok (.iload 4, 2) := dk_21 4 (dk_at dksX1_widest_1 0 rfl rfl)
theorem dX1_widest_25 : decode cX1_widest 25 = .ok (.iaload, 1) := dk_46 (dk_at dksX1_widest_1 2 rfl rfl)
theorem dX1_widest_26 : decode cX1_widest 26 = .ok (.istore 5, 2) := dk_54 5 (dk_at dksX1_widest_1 3 rfl rfl)
theorem dX1_widest_28 : decode cX1_widest 28 = .ok (.iload_n 1, 1) := dk_27 (dk_at dksX1_widest_1 5 rfl rfl)
theorem dX1_widest_29 : decode cX1_widest 29 = .ok (.iload 5, 2) := dk_21 5 (dk_at dksX1_widest_1 6 rfl rfl)
theorem dX1_widest_31 : decode cX1_widest 31 = .ok (.invokestatic 270, 3) := dk_184 1 14 (dk_at dksX1_widest_1 8 rfl rfl)
theorem dX1_widest_34 : decode cX1_widest 34 = .ok (.istore_n 1, 1) := dk_60 (dk_at dksX1_widest_1 11 rfl rfl)
theorem dX1_widest_35 : decode cX1_widest 35 = .ok (.iinc 4 1, 3) := dk_132 4 1 (dk_at dksX1_widest_1 12 rfl rfl)
theorem dX1_widest_38 : decode cX1_widest 38 = .ok (.goto (-22), 3) := dk_167 255 234 (dk_at dksX1_widest_1 15 rfl rfl)
theorem dX1_widest_41 : decode cX1_widest 41 = .ok (.iload_n 1, 1) := dk_27 (dk_at dksX1_widest_1 18 rfl rfl)
theorem dX1_widest_42 : decode cX1_widest 42 = .ok (.ireturn, 1) := dk_172 (dk_at dksX1_widest_1 19 rfl rfl)
def dkwX1_straightLines_0 : List UInt8 := [42, 180, 0, 38, 42, 180, 0, 38, 182, 1, 6, 182, 1, 19, 172]
abbrev dktX1_straightLines_0 : List UInt8 := dkwX1_straightLines_0 ++ []
theorem dksX1_straightLines_0 : cX1_straightLines.data.toList.drop 0 = dktX1_straightLines_0 := by decide +kernel
theorem dX1_straightLines_0 : decode cX1_straightLines 0 = .ok (.aload_n 0, 1) := dk_42 (dk_at dksX1_straightLines_0 0 rfl rfl)
theorem dX1_straightLines_1 : decode cX1_straightLines 1 = .ok (.getfield 38, 3) := dk_180 0 38 (dk_at dksX1_straightLines_0 1 rfl rfl)
theorem dX1_straightLines_4 : decode cX1_straightLines 4 = .ok (.aload_n 0, 1) := dk_42 (dk_at dksX1_straightLines_0 4 rfl rfl)
theorem dX1_straightLines_5 : decode cX1_straightLines 5 = .ok (.getfield 38, 3) := dk_180 0 38 (dk_at dksX1_straightLines_0 5 rfl rfl)
theorem dX1_straightLines_8 : decode cX1_straightLines 8 = .ok (.invokevirtual 262, 3) := dk_182 1 6 (dk_at dksX1_straightLines_0 8 rfl rfl)
theorem dX1_straightLines_11 : decode cX1_straightLines 11 = .ok (.invokevirtual 275, 3) := dk_182 1 19 (dk_at dksX1_straightLines_0 11 rfl rfl)
theorem dX1_straightLines_14 : decode cX1_straightLines 14 = .ok (.ireturn, 1) := dk_172 (dk_at dksX1_straightLines_0 14 rfl rfl)
def dkwX1_slant_0 : List UInt8 := [42, 180, 0, 38, 42, 180, 0, 38, 182, 1, 6, 182, 1, 23, 172]
abbrev dktX1_slant_0 : List UInt8 := dkwX1_slant_0 ++ []
theorem dksX1_slant_0 : cX1_slant.data.toList.drop 0 = dktX1_slant_0 := by decide +kernel
theorem dX1_slant_0 : decode cX1_slant 0 = .ok (.aload_n 0, 1) := dk_42 (dk_at dksX1_slant_0 0 rfl rfl)
theorem dX1_slant_1 : decode cX1_slant 1 = .ok (.getfield 38, 3) := dk_180 0 38 (dk_at dksX1_slant_0 1 rfl rfl)
theorem dX1_slant_4 : decode cX1_slant 4 = .ok (.aload_n 0, 1) := dk_42 (dk_at dksX1_slant_0 4 rfl rfl)
theorem dX1_slant_5 : decode cX1_slant 5 = .ok (.getfield 38, 3) := dk_180 0 38 (dk_at dksX1_slant_0 5 rfl rfl)
theorem dX1_slant_8 : decode cX1_slant 8 = .ok (.invokevirtual 262, 3) := dk_182 1 6 (dk_at dksX1_slant_0 8 rfl rfl)
theorem dX1_slant_11 : decode cX1_slant 11 = .ok (.invokevirtual 279, 3) := dk_182 1 23 (dk_at dksX1_slant_0 11 rfl rfl)
theorem dX1_slant_14 : decode cX1_slant 14 = .ok (.ireturn, 1) := dk_172 (dk_at dksX1_slant_0 14 rfl rfl)
def dkwX1_sweeps_0 : List UInt8 := [42, 180, 0, 38, 180, 1, 26, 172]
abbrev dktX1_sweeps_0 : List UInt8 := dkwX1_sweeps_0 ++ []
theorem dksX1_sweeps_0 : cX1_sweeps.data.toList.drop 0 = dktX1_sweeps_0 := by decide +kernel
theorem dX1_sweeps_0 : decode cX1_sweeps 0 = .ok (.aload_n 0, 1) := dk_42 (dk_at dksX1_sweeps_0 0 rfl rfl)
theorem dX1_sweeps_1 : decode cX1_sweeps 1 = .ok (.getfield 38, 3) := dk_180 0 38 (dk_at dksX1_sweeps_0 1 rfl rfl)
theorem dX1_sweeps_4 : decode cX1_sweeps 4 = .ok (.getfield 282, 3) := dk_180 1 26 (dk_at dksX1_sweeps_0 4 rfl rfl)
theorem dX1_sweeps_7 : decode cX1_sweeps 7 = .ok (.ireturn, 1) := dk_172 (dk_at dksX1_sweeps_0 7 rfl rfl)
def dkwX1_came_0 : List UInt8 := [42, 180, 0, 38, 180, 1, 29, 172]
abbrev dktX1_came_0 : List UInt8 := dkwX1_came_0 ++ []
theorem dksX1_came_0 : cX1_came.data.toList.drop 0 = dktX1_came_0 := by decide +kernel
theorem dX1_came_0 : decode cX1_came 0 = .ok (.aload_n 0, 1) := dk_42 (dk_at dksX1_came_0 0 rfl rfl)
theorem dX1_came_1 : decode cX1_came 1 = .ok (.getfield 38, 3) := dk_180 0 38 (dk_at dksX1_came_0 1 rfl rfl)
theorem dX1_came_4 : decode cX1_came 4 = .ok (.getfield 285, 3) := dk_180 1 29 (dk_at dksX1_came_0 4 rfl rfl)
theorem dX1_came_7 : decode cX1_came 7 = .ok (.ireturn, 1) := dk_172 (dk_at dksX1_came_0 7 rfl rfl)
def dkwX1_keep_0 : List UInt8 := [42, 42, 180, 0, 38, 181, 1, 32, 42, 180, 0, 38, 180, 0, 165, 172]
abbrev dktX1_keep_0 : List UInt8 := dkwX1_keep_0 ++ []
theorem dksX1_keep_0 : cX1_keep.data.toList.drop 0 = dktX1_keep_0 := by decide +kernel
theorem dX1_keep_0 : decode cX1_keep 0 = .ok (.aload_n 0, 1) := dk_42 (dk_at dksX1_keep_0 0 rfl rfl)
theorem dX1_keep_1 : decode cX1_keep 1 = .ok (.aload_n 0, 1) := dk_42 (dk_at dksX1_keep_0 1 rfl rfl)
theorem dX1_keep_2 : decode cX1_keep 2 = .ok (.getfield 38, 3) := dk_180 0 38 (dk_at dksX1_keep_0 2 rfl rfl)
theorem dX1_keep_5 : decode cX1_keep 5 = .ok (.putfield 288, 3) := dk_181 1 32 (dk_at dksX1_keep_0 5 rfl rfl)
theorem dX1_keep_8 : decode cX1_keep 8 = .ok (.aload_n 0, 1) := dk_42 (dk_at dksX1_keep_0 8 rfl rfl)
theorem dX1_keep_9 : decode cX1_keep 9 = .ok (.getfield 38, 3) := dk_180 0 38 (dk_at dksX1_keep_0 9 rfl rfl)
theorem dX1_keep_12 : decode cX1_keep 12 = .ok (.getfield 165, 3) := dk_180 0 165 (dk_at dksX1_keep_0 12 rfl rfl)
theorem dX1_keep_15 : decode cX1_keep 15 = .ok (.ireturn, 1) := dk_172 (dk_at dksX1_keep_0 15 rfl rfl)
def dkwX1_states_0 : List UInt8 := [42, 180, 0, 45, 182, 0, 60, 172]
abbrev dktX1_states_0 : List UInt8 := dkwX1_states_0 ++ []
theorem dksX1_states_0 : cX1_states.data.toList.drop 0 = dktX1_states_0 := by decide +kernel
theorem dX1_states_0 : decode cX1_states 0 = .ok (.aload_n 0, 1) := dk_42 (dk_at dksX1_states_0 0 rfl rfl)
theorem dX1_states_1 : decode cX1_states 1 = .ok (.getfield 45, 3) := dk_180 0 45 (dk_at dksX1_states_0 1 rfl rfl)
theorem dX1_states_4 : decode cX1_states 4 = .ok (.invokevirtual 60, 3) := dk_182 0 60 (dk_at dksX1_states_0 4 rfl rfl)
theorem dX1_states_7 : decode cX1_states 7 = .ok (.ireturn, 1) := dk_172 (dk_at dksX1_states_0 7 rfl rfl)
def dkwX1_clearText_0 : List UInt8 := [42, 180, 0, 52, 182, 1, 53, 60, 42, 180, 0, 52, 3, 182, 1, 60, 27, 172]
abbrev dktX1_clearText_0 : List UInt8 := dkwX1_clearText_0 ++ []
theorem dksX1_clearText_0 : cX1_clearText.data.toList.drop 0 = dktX1_clearText_0 := by decide +kernel
theorem dX1_clearText_0 : decode cX1_clearText 0 = .ok (.aload_n 0, 1) := dk_42 (dk_at dksX1_clearText_0 0 rfl rfl)
theorem dX1_clearText_1 : decode cX1_clearText 1 = .ok (.getfield 52, 3) := dk_180 0 52 (dk_at dksX1_clearText_0 1 rfl rfl)
theorem dX1_clearText_4 : decode cX1_clearText 4 = .ok (.invokevirtual 309, 3) := dk_182 1 53 (dk_at dksX1_clearText_0 4 rfl rfl)
theorem dX1_clearText_7 : decode cX1_clearText 7 = .ok (.istore_n 1, 1) := dk_60 (dk_at dksX1_clearText_0 7 rfl rfl)
theorem dX1_clearText_8 : decode cX1_clearText 8 = .ok (.aload_n 0, 1) := dk_42 (dk_at dksX1_clearText_0 8 rfl rfl)
theorem dX1_clearText_9 : decode cX1_clearText 9 = .ok (.getfield 52, 3) := dk_180 0 52 (dk_at dksX1_clearText_0 9 rfl rfl)
theorem dX1_clearText_12 : decode cX1_clearText 12 = .ok (.iconst 0, 1) := dk_3 (dk_at dksX1_clearText_0 12 rfl rfl)
theorem dX1_clearText_13 : decode cX1_clearText 13 = .ok (.invokevirtual 316, 3) := dk_182 1 60 (dk_at dksX1_clearText_0 13 rfl rfl)
theorem dX1_clearText_16 : decode cX1_clearText 16 = .ok (.iload_n 1, 1) := dk_27 (dk_at dksX1_clearText_0 16 rfl rfl)
theorem dX1_clearText_17 : decode cX1_clearText 17 = .ok (.ireturn, 1) := dk_172 (dk_at dksX1_clearText_0 17 rfl rfl)
def dkwX1_addBox_0 : List UInt8 := [42, 16, 98, 3, 188, 10, 182, 0, 135, 172]
abbrev dktX1_addBox_0 : List UInt8 := dkwX1_addBox_0 ++ []
theorem dksX1_addBox_0 : cX1_addBox.data.toList.drop 0 = dktX1_addBox_0 := by decide +kernel
theorem dX1_addBox_0 : decode cX1_addBox 0 = .ok (.aload_n 0, 1) := dk_42 (dk_at dksX1_addBox_0 0 rfl rfl)
theorem dX1_addBox_1 : decode cX1_addBox 1 = .ok (.bipush 98, 2) := dk_16 98 (dk_at dksX1_addBox_0 1 rfl rfl)
theorem dX1_addBox_3 : decode cX1_addBox 3 = .ok (.iconst 0, 1) := dk_3 (dk_at dksX1_addBox_0 3 rfl rfl)
theorem dX1_addBox_4 : decode cX1_addBox 4 = .ok (.newarray .int, 2) := dk_188_10 (dk_at dksX1_addBox_0 4 rfl rfl)
theorem dX1_addBox_6 : decode cX1_addBox 6 = .ok (.invokevirtual 135, 3) := dk_182 0 135 (dk_at dksX1_addBox_0 6 rfl rfl)
theorem dX1_addBox_9 : decode cX1_addBox 9 = .ok (.ireturn, 1) := dk_172 (dk_at dksX1_addBox_0 9 rfl rfl)
def dkwX1_addArrow_0 : List UInt8 := [42, 16, 97, 5, 188, 10, 89, 3, 27, 79, 89, 4, 28, 79, 182, 0, 135, 172]
abbrev dktX1_addArrow_0 : List UInt8 := dkwX1_addArrow_0 ++ []
theorem dksX1_addArrow_0 : cX1_addArrow.data.toList.drop 0 = dktX1_addArrow_0 := by decide +kernel
theorem dX1_addArrow_0 : decode cX1_addArrow 0 = .ok (.aload_n 0, 1) := dk_42 (dk_at dksX1_addArrow_0 0 rfl rfl)
theorem dX1_addArrow_1 : decode cX1_addArrow 1 = .ok (.bipush 97, 2) := dk_16 97 (dk_at dksX1_addArrow_0 1 rfl rfl)
theorem dX1_addArrow_3 : decode cX1_addArrow 3 = .ok (.iconst 2, 1) := dk_5 (dk_at dksX1_addArrow_0 3 rfl rfl)
theorem dX1_addArrow_4 : decode cX1_addArrow 4 = .ok (.newarray .int, 2) := dk_188_10 (dk_at dksX1_addArrow_0 4 rfl rfl)
theorem dX1_addArrow_6 : decode cX1_addArrow 6 = .ok (.dup, 1) := dk_89 (dk_at dksX1_addArrow_0 6 rfl rfl)
theorem dX1_addArrow_7 : decode cX1_addArrow 7 = .ok (.iconst 0, 1) := dk_3 (dk_at dksX1_addArrow_0 7 rfl rfl)
theorem dX1_addArrow_8 : decode cX1_addArrow 8 = .ok (.iload_n 1, 1) := dk_27 (dk_at dksX1_addArrow_0 8 rfl rfl)
theorem dX1_addArrow_9 : decode cX1_addArrow 9 = .ok (.iastore, 1) := dk_79 (dk_at dksX1_addArrow_0 9 rfl rfl)
theorem dX1_addArrow_10 : decode cX1_addArrow 10 = .ok (.dup, 1) := dk_89 (dk_at dksX1_addArrow_0 10 rfl rfl)
theorem dX1_addArrow_11 : decode cX1_addArrow 11 = .ok (.iconst 1, 1) := dk_4 (dk_at dksX1_addArrow_0 11 rfl rfl)
theorem dX1_addArrow_12 : decode cX1_addArrow 12 = .ok (.iload_n 2, 1) := dk_28 (dk_at dksX1_addArrow_0 12 rfl rfl)
theorem dX1_addArrow_13 : decode cX1_addArrow 13 = .ok (.iastore, 1) := dk_79 (dk_at dksX1_addArrow_0 13 rfl rfl)
theorem dX1_addArrow_14 : decode cX1_addArrow 14 = .ok (.invokevirtual 135, 3) := dk_182 0 135 (dk_at dksX1_addArrow_0 14 rfl rfl)
theorem dX1_addArrow_17 : decode cX1_addArrow 17 = .ok (.ireturn, 1) := dk_172 (dk_at dksX1_addArrow_0 17 rfl rfl)
def dkwX1_addChain_0 : List UInt8 := [42, 16, 99, 6, 188, 10, 89, 3, 27, 79, 89, 4, 28, 79, 89, 5, 29, 79, 182, 0, 135, 172]
abbrev dktX1_addChain_0 : List UInt8 := dkwX1_addChain_0 ++ []
theorem dksX1_addChain_0 : cX1_addChain.data.toList.drop 0 = dktX1_addChain_0 := by decide +kernel
theorem dX1_addChain_0 : decode cX1_addChain 0 = .ok (.aload_n 0, 1) := dk_42 (dk_at dksX1_addChain_0 0 rfl rfl)
theorem dX1_addChain_1 : decode cX1_addChain 1 = .ok (.bipush 99, 2) := dk_16 99 (dk_at dksX1_addChain_0 1 rfl rfl)
theorem dX1_addChain_3 : decode cX1_addChain 3 = .ok (.iconst 3, 1) := dk_6 (dk_at dksX1_addChain_0 3 rfl rfl)
theorem dX1_addChain_4 : decode cX1_addChain 4 = .ok (.newarray .int, 2) := dk_188_10 (dk_at dksX1_addChain_0 4 rfl rfl)
theorem dX1_addChain_6 : decode cX1_addChain 6 = .ok (.dup, 1) := dk_89 (dk_at dksX1_addChain_0 6 rfl rfl)
theorem dX1_addChain_7 : decode cX1_addChain 7 = .ok (.iconst 0, 1) := dk_3 (dk_at dksX1_addChain_0 7 rfl rfl)
theorem dX1_addChain_8 : decode cX1_addChain 8 = .ok (.iload_n 1, 1) := dk_27 (dk_at dksX1_addChain_0 8 rfl rfl)
theorem dX1_addChain_9 : decode cX1_addChain 9 = .ok (.iastore, 1) := dk_79 (dk_at dksX1_addChain_0 9 rfl rfl)
theorem dX1_addChain_10 : decode cX1_addChain 10 = .ok (.dup, 1) := dk_89 (dk_at dksX1_addChain_0 10 rfl rfl)
theorem dX1_addChain_11 : decode cX1_addChain 11 = .ok (.iconst 1, 1) := dk_4 (dk_at dksX1_addChain_0 11 rfl rfl)
theorem dX1_addChain_12 : decode cX1_addChain 12 = .ok (.iload_n 2, 1) := dk_28 (dk_at dksX1_addChain_0 12 rfl rfl)
theorem dX1_addChain_13 : decode cX1_addChain 13 = .ok (.iastore, 1) := dk_79 (dk_at dksX1_addChain_0 13 rfl rfl)
theorem dX1_addChain_14 : decode cX1_addChain 14 = .ok (.dup, 1) := dk_89 (dk_at dksX1_addChain_0 14 rfl rfl)
theorem dX1_addChain_15 : decode cX1_addChain 15 = .ok (.iconst 2, 1) := dk_5 (dk_at dksX1_addChain_0 15 rfl rfl)
theorem dX1_addChain_16 : decode cX1_addChain 16 = .ok (.iload_n 3, 1) := dk_29 (dk_at dksX1_addChain_0 16 rfl rfl)
theorem dX1_addChain_17 : decode cX1_addChain 17 = .ok (.iastore, 1) := dk_79 (dk_at dksX1_addChain_0 17 rfl rfl)
theorem dX1_addChain_18 : decode cX1_addChain 18 = .ok (.invokevirtual 135, 3) := dk_182 0 135 (dk_at dksX1_addChain_0 18 rfl rfl)
theorem dX1_addChain_21 : decode cX1_addChain 21 = .ok (.ireturn, 1) := dk_172 (dk_at dksX1_addChain_0 21 rfl rfl)
def dkwX1_removeArrow_0 : List UInt8 := [42, 16, 120, 4, 188, 10, 89, 3, 27, 79, 182, 0, 135, 172]
abbrev dktX1_removeArrow_0 : List UInt8 := dkwX1_removeArrow_0 ++ []
theorem dksX1_removeArrow_0 : cX1_removeArrow.data.toList.drop 0 = dktX1_removeArrow_0 := by decide +kernel
theorem dX1_removeArrow_0 : decode cX1_removeArrow 0 = .ok (.aload_n 0, 1) := dk_42 (dk_at dksX1_removeArrow_0 0 rfl rfl)
theorem dX1_removeArrow_1 : decode cX1_removeArrow 1 = .ok (.bipush 120, 2) := dk_16 120 (dk_at dksX1_removeArrow_0 1 rfl rfl)
theorem dX1_removeArrow_3 : decode cX1_removeArrow 3 = .ok (.iconst 1, 1) := dk_4 (dk_at dksX1_removeArrow_0 3 rfl rfl)
theorem dX1_removeArrow_4 : decode cX1_removeArrow 4 = .ok (.newarray .int, 2) := dk_188_10 (dk_at dksX1_removeArrow_0 4 rfl rfl)
theorem dX1_removeArrow_6 : decode cX1_removeArrow 6 = .ok (.dup, 1) := dk_89 (dk_at dksX1_removeArrow_0 6 rfl rfl)
theorem dX1_removeArrow_7 : decode cX1_removeArrow 7 = .ok (.iconst 0, 1) := dk_3 (dk_at dksX1_removeArrow_0 7 rfl rfl)
theorem dX1_removeArrow_8 : decode cX1_removeArrow 8 = .ok (.iload_n 1, 1) := dk_27 (dk_at dksX1_removeArrow_0 8 rfl rfl)
theorem dX1_removeArrow_9 : decode cX1_removeArrow 9 = .ok (.iastore, 1) := dk_79 (dk_at dksX1_removeArrow_0 9 rfl rfl)
theorem dX1_removeArrow_10 : decode cX1_removeArrow 10 = .ok (.invokevirtual 135, 3) := dk_182 0 135 (dk_at dksX1_removeArrow_0 10 rfl rfl)
theorem dX1_removeArrow_13 : decode cX1_removeArrow 13 = .ok (.ireturn, 1) := dk_172 (dk_at dksX1_removeArrow_0 13 rfl rfl)
def dkwX1_holdDown_0 : List UInt8 := [42, 16, 104, 5, 188, 10, 89, 3, 27, 79, 89, 4, 28, 79, 182, 0, 135, 172]
abbrev dktX1_holdDown_0 : List UInt8 := dkwX1_holdDown_0 ++ []
theorem dksX1_holdDown_0 : cX1_holdDown.data.toList.drop 0 = dktX1_holdDown_0 := by decide +kernel
theorem dX1_holdDown_0 : decode cX1_holdDown 0 = .ok (.aload_n 0, 1) := dk_42 (dk_at dksX1_holdDown_0 0 rfl rfl)
theorem dX1_holdDown_1 : decode cX1_holdDown 1 = .ok (.bipush 104, 2) := dk_16 104 (dk_at dksX1_holdDown_0 1 rfl rfl)
theorem dX1_holdDown_3 : decode cX1_holdDown 3 = .ok (.iconst 2, 1) := dk_5 (dk_at dksX1_holdDown_0 3 rfl rfl)
theorem dX1_holdDown_4 : decode cX1_holdDown 4 = .ok (.newarray .int, 2) := dk_188_10 (dk_at dksX1_holdDown_0 4 rfl rfl)
theorem dX1_holdDown_6 : decode cX1_holdDown 6 = .ok (.dup, 1) := dk_89 (dk_at dksX1_holdDown_0 6 rfl rfl)
theorem dX1_holdDown_7 : decode cX1_holdDown 7 = .ok (.iconst 0, 1) := dk_3 (dk_at dksX1_holdDown_0 7 rfl rfl)
theorem dX1_holdDown_8 : decode cX1_holdDown 8 = .ok (.iload_n 1, 1) := dk_27 (dk_at dksX1_holdDown_0 8 rfl rfl)
theorem dX1_holdDown_9 : decode cX1_holdDown 9 = .ok (.iastore, 1) := dk_79 (dk_at dksX1_holdDown_0 9 rfl rfl)
theorem dX1_holdDown_10 : decode cX1_holdDown 10 = .ok (.dup, 1) := dk_89 (dk_at dksX1_holdDown_0 10 rfl rfl)
theorem dX1_holdDown_11 : decode cX1_holdDown 11 = .ok (.iconst 1, 1) := dk_4 (dk_at dksX1_holdDown_0 11 rfl rfl)
theorem dX1_holdDown_12 : decode cX1_holdDown 12 = .ok (.iload_n 2, 1) := dk_28 (dk_at dksX1_holdDown_0 12 rfl rfl)
theorem dX1_holdDown_13 : decode cX1_holdDown 13 = .ok (.iastore, 1) := dk_79 (dk_at dksX1_holdDown_0 13 rfl rfl)
theorem dX1_holdDown_14 : decode cX1_holdDown 14 = .ok (.invokevirtual 135, 3) := dk_182 0 135 (dk_at dksX1_holdDown_0 14 rfl rfl)
theorem dX1_holdDown_17 : decode cX1_holdDown 17 = .ok (.ireturn, 1) := dk_172 (dk_at dksX1_holdDown_0 17 rfl rfl)
def dkwX1_exchange_0 : List UInt8 := [42, 16, 101, 6, 188, 10, 89, 3, 27, 79, 89, 4, 28, 79, 89, 5, 29, 79, 182, 0, 135, 172]
abbrev dktX1_exchange_0 : List UInt8 := dkwX1_exchange_0 ++ []
theorem dksX1_exchange_0 : cX1_exchange.data.toList.drop 0 = dktX1_exchange_0 := by decide +kernel
theorem dX1_exchange_0 : decode cX1_exchange 0 = .ok (.aload_n 0, 1) := dk_42 (dk_at dksX1_exchange_0 0 rfl rfl)
theorem dX1_exchange_1 : decode cX1_exchange 1 = .ok (.bipush 101, 2) := dk_16 101 (dk_at dksX1_exchange_0 1 rfl rfl)
theorem dX1_exchange_3 : decode cX1_exchange 3 = .ok (.iconst 3, 1) := dk_6 (dk_at dksX1_exchange_0 3 rfl rfl)
theorem dX1_exchange_4 : decode cX1_exchange 4 = .ok (.newarray .int, 2) := dk_188_10 (dk_at dksX1_exchange_0 4 rfl rfl)
theorem dX1_exchange_6 : decode cX1_exchange 6 = .ok (.dup, 1) := dk_89 (dk_at dksX1_exchange_0 6 rfl rfl)
theorem dX1_exchange_7 : decode cX1_exchange 7 = .ok (.iconst 0, 1) := dk_3 (dk_at dksX1_exchange_0 7 rfl rfl)
theorem dX1_exchange_8 : decode cX1_exchange 8 = .ok (.iload_n 1, 1) := dk_27 (dk_at dksX1_exchange_0 8 rfl rfl)
theorem dX1_exchange_9 : decode cX1_exchange 9 = .ok (.iastore, 1) := dk_79 (dk_at dksX1_exchange_0 9 rfl rfl)
theorem dX1_exchange_10 : decode cX1_exchange 10 = .ok (.dup, 1) := dk_89 (dk_at dksX1_exchange_0 10 rfl rfl)
theorem dX1_exchange_11 : decode cX1_exchange 11 = .ok (.iconst 1, 1) := dk_4 (dk_at dksX1_exchange_0 11 rfl rfl)
theorem dX1_exchange_12 : decode cX1_exchange 12 = .ok (.iload_n 2, 1) := dk_28 (dk_at dksX1_exchange_0 12 rfl rfl)
theorem dX1_exchange_13 : decode cX1_exchange 13 = .ok (.iastore, 1) := dk_79 (dk_at dksX1_exchange_0 13 rfl rfl)
theorem dX1_exchange_14 : decode cX1_exchange 14 = .ok (.dup, 1) := dk_89 (dk_at dksX1_exchange_0 14 rfl rfl)
theorem dX1_exchange_15 : decode cX1_exchange 15 = .ok (.iconst 2, 1) := dk_5 (dk_at dksX1_exchange_0 15 rfl rfl)
theorem dX1_exchange_16 : decode cX1_exchange 16 = .ok (.iload_n 3, 1) := dk_29 (dk_at dksX1_exchange_0 16 rfl rfl)
theorem dX1_exchange_17 : decode cX1_exchange 17 = .ok (.iastore, 1) := dk_79 (dk_at dksX1_exchange_0 17 rfl rfl)
theorem dX1_exchange_18 : decode cX1_exchange 18 = .ok (.invokevirtual 135, 3) := dk_182 0 135 (dk_at dksX1_exchange_0 18 rfl rfl)
theorem dX1_exchange_21 : decode cX1_exchange 21 = .ok (.ireturn, 1) := dk_172 (dk_at dksX1_exchange_0 21 rfl rfl)
def dkwX1_fromOf_0 : List UInt8 := [42, 180, 0, 38, 180, 0, 171, 42, 27, 182, 0, 175, 46, 172]
abbrev dktX1_fromOf_0 : List UInt8 := dkwX1_fromOf_0 ++ []
theorem dksX1_fromOf_0 : cX1_fromOf.data.toList.drop 0 = dktX1_fromOf_0 := by decide +kernel
theorem dX1_fromOf_0 : decode cX1_fromOf 0 = .ok (.aload_n 0, 1) := dk_42 (dk_at dksX1_fromOf_0 0 rfl rfl)
theorem dX1_fromOf_1 : decode cX1_fromOf 1 = .ok (.getfield 38, 3) := dk_180 0 38 (dk_at dksX1_fromOf_0 1 rfl rfl)
theorem dX1_fromOf_4 : decode cX1_fromOf 4 = .ok (.getfield 171, 3) := dk_180 0 171 (dk_at dksX1_fromOf_0 4 rfl rfl)
theorem dX1_fromOf_7 : decode cX1_fromOf 7 = .ok (.aload_n 0, 1) := dk_42 (dk_at dksX1_fromOf_0 7 rfl rfl)
theorem dX1_fromOf_8 : decode cX1_fromOf 8 = .ok (.iload_n 1, 1) := dk_27 (dk_at dksX1_fromOf_0 8 rfl rfl)
theorem dX1_fromOf_9 : decode cX1_fromOf 9 = .ok (.invokevirtual 175, 3) := dk_182 0 175 (dk_at dksX1_fromOf_0 9 rfl rfl)
theorem dX1_fromOf_12 : decode cX1_fromOf 12 = .ok (.iaload, 1) := dk_46 (dk_at dksX1_fromOf_0 12 rfl rfl)
theorem dX1_fromOf_13 : decode cX1_fromOf 13 = .ok (.ireturn, 1) := dk_172 (dk_at dksX1_fromOf_0 13 rfl rfl)
def dkwX1_arrowThere_0 : List UInt8 := [42, 180, 0, 38, 27, 182, 0, 159, 184, 0, 156, 27, 172]
abbrev dktX1_arrowThere_0 : List UInt8 := dkwX1_arrowThere_0 ++ []
theorem dksX1_arrowThere_0 : cX1_arrowThere.data.toList.drop 0 = dktX1_arrowThere_0 := by decide +kernel
theorem dX1_arrowThere_0 : decode cX1_arrowThere 0 = .ok (.aload_n 0, 1) := dk_42 (dk_at dksX1_arrowThere_0 0 rfl rfl)
theorem dX1_arrowThere_1 : decode cX1_arrowThere 1 = .ok (.getfield 38, 3) := dk_180 0 38 (dk_at dksX1_arrowThere_0 1 rfl rfl)
theorem dX1_arrowThere_4 : decode cX1_arrowThere 4 = .ok (.iload_n 1, 1) := dk_27 (dk_at dksX1_arrowThere_0 4 rfl rfl)
theorem dX1_arrowThere_5 : decode cX1_arrowThere 5 = .ok (.invokevirtual 159, 3) := dk_182 0 159 (dk_at dksX1_arrowThere_0 5 rfl rfl)
theorem dX1_arrowThere_8 : decode cX1_arrowThere 8 = .ok (.invokestatic 156, 3) := dk_184 0 156 (dk_at dksX1_arrowThere_0 8 rfl rfl)
theorem dX1_arrowThere_11 : decode cX1_arrowThere 11 = .ok (.iload_n 1, 1) := dk_27 (dk_at dksX1_arrowThere_0 11 rfl rfl)
theorem dX1_arrowThere_12 : decode cX1_arrowThere 12 = .ok (.ireturn, 1) := dk_172 (dk_at dksX1_arrowThere_0 12 rfl rfl)
def dkwX1_needArgument_0 : List UInt8 := [26, 154, 0, 13, 187, 0, 119, 89, 18, 121, 183, 0, 139, 191, 177]
abbrev dktX1_needArgument_0 : List UInt8 := dkwX1_needArgument_0 ++ []
theorem dksX1_needArgument_0 : cX1_needArgument.data.toList.drop 0 = dktX1_needArgument_0 := by decide +kernel
theorem dX1_needArgument_0 : decode cX1_needArgument 0 = .ok (.iload_n 0, 1) := dk_26 (dk_at dksX1_needArgument_0 0 rfl rfl)
theorem dX1_needArgument_1 : decode cX1_needArgument 1 = .ok (.ifCond .ne 13, 3) := dk_154 0 13 (dk_at dksX1_needArgument_0 1 rfl rfl)
theorem dX1_needArgument_4 : decode cX1_needArgument 4 = .ok (.new 119, 3) := dk_187 0 119 (dk_at dksX1_needArgument_0 4 rfl rfl)
theorem dX1_needArgument_7 : decode cX1_needArgument 7 = .ok (.dup, 1) := dk_89 (dk_at dksX1_needArgument_0 7 rfl rfl)
theorem dX1_needArgument_8 : decode cX1_needArgument 8 = .ok (.ldc 121, 2) := dk_18 121 (dk_at dksX1_needArgument_0 8 rfl rfl)
theorem dX1_needArgument_10 : decode cX1_needArgument 10 = .ok (.invokespecial 139, 3) := dk_183 0 139 (dk_at dksX1_needArgument_0 10 rfl rfl)
theorem dX1_needArgument_13 : decode cX1_needArgument 13 = .ok (.athrow, 1) := dk_191 (dk_at dksX1_needArgument_0 13 rfl rfl)
theorem dX1_needArgument_14 : decode cX1_needArgument 14 = .ok (.return_, 1) := dk_177 (dk_at dksX1_needArgument_0 14 rfl rfl)
def dkwX1_toOf_0 : List UInt8 := [42, 180, 0, 38, 180, 0, 178, 42, 27, 182, 0, 175, 46, 172]
abbrev dktX1_toOf_0 : List UInt8 := dkwX1_toOf_0 ++ []
theorem dksX1_toOf_0 : cX1_toOf.data.toList.drop 0 = dktX1_toOf_0 := by decide +kernel
theorem dX1_toOf_0 : decode cX1_toOf 0 = .ok (.aload_n 0, 1) := dk_42 (dk_at dksX1_toOf_0 0 rfl rfl)
theorem dX1_toOf_1 : decode cX1_toOf 1 = .ok (.getfield 38, 3) := dk_180 0 38 (dk_at dksX1_toOf_0 1 rfl rfl)
theorem dX1_toOf_4 : decode cX1_toOf 4 = .ok (.getfield 178, 3) := dk_180 0 178 (dk_at dksX1_toOf_0 4 rfl rfl)
theorem dX1_toOf_7 : decode cX1_toOf 7 = .ok (.aload_n 0, 1) := dk_42 (dk_at dksX1_toOf_0 7 rfl rfl)
theorem dX1_toOf_8 : decode cX1_toOf 8 = .ok (.iload_n 1, 1) := dk_27 (dk_at dksX1_toOf_0 8 rfl rfl)
theorem dX1_toOf_9 : decode cX1_toOf 9 = .ok (.invokevirtual 175, 3) := dk_182 0 175 (dk_at dksX1_toOf_0 9 rfl rfl)
theorem dX1_toOf_12 : decode cX1_toOf 12 = .ok (.iaload, 1) := dk_46 (dk_at dksX1_toOf_0 12 rfl rfl)
theorem dX1_toOf_13 : decode cX1_toOf 13 = .ok (.ireturn, 1) := dk_172 (dk_at dksX1_toOf_0 13 rfl rfl)
def dkwX1_whyRefused_0 : List UInt8 := [42, 16, 97, 5, 188, 10, 89, 3, 27, 79, 89, 4, 28, 79, 182, 0, 181, 172]
abbrev dktX1_whyRefused_0 : List UInt8 := dkwX1_whyRefused_0 ++ []
theorem dksX1_whyRefused_0 : cX1_whyRefused.data.toList.drop 0 = dktX1_whyRefused_0 := by decide +kernel
theorem dX1_whyRefused_0 : decode cX1_whyRefused 0 = .ok (.aload_n 0, 1) := dk_42 (dk_at dksX1_whyRefused_0 0 rfl rfl)
theorem dX1_whyRefused_1 : decode cX1_whyRefused 1 = .ok (.bipush 97, 2) := dk_16 97 (dk_at dksX1_whyRefused_0 1 rfl rfl)
theorem dX1_whyRefused_3 : decode cX1_whyRefused 3 = .ok (.iconst 2, 1) := dk_5 (dk_at dksX1_whyRefused_0 3 rfl rfl)
theorem dX1_whyRefused_4 : decode cX1_whyRefused 4 = .ok (.newarray .int, 2) := dk_188_10 (dk_at dksX1_whyRefused_0 4 rfl rfl)
theorem dX1_whyRefused_6 : decode cX1_whyRefused 6 = .ok (.dup, 1) := dk_89 (dk_at dksX1_whyRefused_0 6 rfl rfl)
theorem dX1_whyRefused_7 : decode cX1_whyRefused 7 = .ok (.iconst 0, 1) := dk_3 (dk_at dksX1_whyRefused_0 7 rfl rfl)
theorem dX1_whyRefused_8 : decode cX1_whyRefused 8 = .ok (.iload_n 1, 1) := dk_27 (dk_at dksX1_whyRefused_0 8 rfl rfl)
theorem dX1_whyRefused_9 : decode cX1_whyRefused 9 = .ok (.iastore, 1) := dk_79 (dk_at dksX1_whyRefused_0 9 rfl rfl)
theorem dX1_whyRefused_10 : decode cX1_whyRefused 10 = .ok (.dup, 1) := dk_89 (dk_at dksX1_whyRefused_0 10 rfl rfl)
theorem dX1_whyRefused_11 : decode cX1_whyRefused 11 = .ok (.iconst 1, 1) := dk_4 (dk_at dksX1_whyRefused_0 11 rfl rfl)
theorem dX1_whyRefused_12 : decode cX1_whyRefused 12 = .ok (.iload_n 2, 1) := dk_28 (dk_at dksX1_whyRefused_0 12 rfl rfl)
theorem dX1_whyRefused_13 : decode cX1_whyRefused 13 = .ok (.iastore, 1) := dk_79 (dk_at dksX1_whyRefused_0 13 rfl rfl)
theorem dX1_whyRefused_14 : decode cX1_whyRefused 14 = .ok (.invokevirtual 181, 3) := dk_182 0 181 (dk_at dksX1_whyRefused_0 14 rfl rfl)
theorem dX1_whyRefused_17 : decode cX1_whyRefused 17 = .ok (.ireturn, 1) := dk_172 (dk_at dksX1_whyRefused_0 17 rfl rfl)
def dkwX1_why_2 : List UInt8 := [184, 0, 131, 172]
abbrev dktX1_why_2 : List UInt8 := dkwX1_why_2 ++ []
def dkwX1_why_1 : List UInt8 := [25, 4, 180, 0, 116, 4, 160, 0, 15, 187, 0, 119, 89, 18, 121, 25, 4, 183, 0, 123, 191, 25, 4]
abbrev dktX1_why_1 : List UInt8 := dkwX1_why_1 ++ dktX1_why_2
def dkwX1_why_0 : List UInt8 := [187, 0, 35, 89, 42, 180, 0, 38, 183, 0, 105, 78, 45, 27, 44, 184, 0, 108, 54, 4, 3, 172, 58, 4]
abbrev dktX1_why_0 : List UInt8 := dkwX1_why_0 ++ dktX1_why_1
theorem dksX1_why_0 : cX1_why.data.toList.drop 0 = dktX1_why_0 := by decide +kernel
theorem dksX1_why_1 : cX1_why.data.toList.drop 24 = dktX1_why_1 := dk_seg dksX1_why_0 24 rfl rfl
theorem dksX1_why_2 : cX1_why.data.toList.drop 47 = dktX1_why_2 := dk_seg dksX1_why_1 23 rfl rfl
theorem dX1_why_0 : decode cX1_why 0 = .ok (.new 35, 3) := dk_187 0 35 (dk_at dksX1_why_0 0 rfl rfl)
theorem dX1_why_3 : decode cX1_why 3 = .ok (.dup, 1) := dk_89 (dk_at dksX1_why_0 3 rfl rfl)
theorem dX1_why_4 : decode cX1_why 4 = .ok (.aload_n 0, 1) := dk_42 (dk_at dksX1_why_0 4 rfl rfl)
theorem dX1_why_5 : decode cX1_why 5 = .ok (.getfield 38, 3) := dk_180 0 38 (dk_at dksX1_why_0 5 rfl rfl)
theorem dX1_why_8 : decode cX1_why 8 = .ok (.invokespecial 105, 3) := dk_183 0 105 (dk_at dksX1_why_0 8 rfl rfl)
theorem dX1_why_11 : decode cX1_why 11 = .ok (.astore_n 3, 1) := dk_78 (dk_at dksX1_why_0 11 rfl rfl)
theorem dX1_why_12 : decode cX1_why 12 = .ok (.aload_n 3, 1) := dk_45 (dk_at dksX1_why_0 12 rfl rfl)
theorem dX1_why_13 : decode cX1_why 13 = .ok (.iload_n 1, 1) := dk_27 (dk_at dksX1_why_0 13 rfl rfl)
theorem dX1_why_14 : decode cX1_why 14 = .ok (.aload_n 2, 1) := dk_44 (dk_at dksX1_why_0 14 rfl rfl)
theorem dX1_why_15 : decode cX1_why 15 = .ok (.invokestatic 108, 3) := dk_184 0 108 (dk_at dksX1_why_0 15 rfl rfl)
theorem dX1_why_18 : decode cX1_why 18 = .ok (.istore 4, 2) := dk_54 4 (dk_at dksX1_why_0 18 rfl rfl)
theorem dX1_why_20 : decode cX1_why 20 = .ok (.iconst 0, 1) := dk_3 (dk_at dksX1_why_0 20 rfl rfl)
theorem dX1_why_21 : decode cX1_why 21 = .ok (.ireturn, 1) := dk_172 (dk_at dksX1_why_0 21 rfl rfl)
theorem dX1_why_22 : decode cX1_why 22 = .ok (.astore 4, 2) := dk_58 4 (dk_at dksX1_why_0 22 rfl rfl)
theorem dX1_why_24 : decode cX1_why 24 = .ok (.aload 4, 2) := dk_25 4 (dk_at dksX1_why_1 0 rfl rfl)
theorem dX1_why_26 : decode cX1_why 26 = .ok (.getfield 116, 3) := dk_180 0 116 (dk_at dksX1_why_1 2 rfl rfl)
theorem dX1_why_29 : decode cX1_why 29 = .ok (.iconst 1, 1) := dk_4 (dk_at dksX1_why_1 5 rfl rfl)
theorem dX1_why_30 : decode cX1_why 30 = .ok (.if_icmp .ne 15, 3) := dk_160 0 15 (dk_at dksX1_why_1 6 rfl rfl)
theorem dX1_why_33 : decode cX1_why 33 = .ok (.new 119, 3) := dk_187 0 119 (dk_at dksX1_why_1 9 rfl rfl)
theorem dX1_why_36 : decode cX1_why 36 = .ok (.dup, 1) := dk_89 (dk_at dksX1_why_1 12 rfl rfl)
theorem dX1_why_37 : decode cX1_why 37 = .ok (.ldc 121, 2) := dk_18 121 (dk_at dksX1_why_1 13 rfl rfl)
theorem dX1_why_39 : decode cX1_why 39 = .ok (.aload 4, 2) := dk_25 4 (dk_at dksX1_why_1 15 rfl rfl)
theorem dX1_why_41 : decode cX1_why 41 = .ok (.invokespecial 123, 3) := dk_183 0 123 (dk_at dksX1_why_1 17 rfl rfl)
theorem dX1_why_44 : decode cX1_why 44 = .ok (.athrow, 1) := dk_191 (dk_at dksX1_why_1 20 rfl rfl)
theorem dX1_why_45 : decode cX1_why 45 = .ok (.aload 4, 2) := dk_25 4 (dk_at dksX1_why_1 21 rfl rfl)
theorem dX1_why_47 : decode cX1_why 47 = .ok (.invokestatic 131, 3) := dk_184 0 131 (dk_at dksX1_why_2 0 rfl rfl)
theorem dX1_why_50 : decode cX1_why 50 = .ok (.ireturn, 1) := dk_172 (dk_at dksX1_why_2 3 rfl rfl)
def dkwX1_told_2 : List UInt8 := [3, 96, 60, 44, 182, 0, 12, 77, 167, 255, 206, 27, 172]
abbrev dktX1_told_2 : List UInt8 := dkwX1_told_2 ++ []
def dkwX1_told_1 : List UInt8 := [180, 0, 3, 104, 167, 0, 21, 44, 193, 0, 7, 153, 0, 13, 44, 192, 0, 7, 180, 0, 9, 167, 0, 4]
abbrev dktX1_told_1 : List UInt8 := dkwX1_told_1 ++ dktX1_told_2
def dkwX1_told_0 : List UInt8 := [3, 60, 42, 77, 44, 198, 0, 52, 27, 44, 193, 0, 1, 153, 0, 16, 16, 10, 44, 192, 0, 1]
abbrev dktX1_told_0 : List UInt8 := dkwX1_told_0 ++ dktX1_told_1
theorem dksX1_told_0 : cX1_told.data.toList.drop 0 = dktX1_told_0 := by decide +kernel
theorem dksX1_told_1 : cX1_told.data.toList.drop 22 = dktX1_told_1 := dk_seg dksX1_told_0 22 rfl rfl
theorem dksX1_told_2 : cX1_told.data.toList.drop 46 = dktX1_told_2 := dk_seg dksX1_told_1 24 rfl rfl
theorem dX1_told_0 : decode cX1_told 0 = .ok (.iconst 0, 1) := dk_3 (dk_at dksX1_told_0 0 rfl rfl)
theorem dX1_told_1 : decode cX1_told 1 = .ok (.istore_n 1, 1) := dk_60 (dk_at dksX1_told_0 1 rfl rfl)
theorem dX1_told_2 : decode cX1_told 2 = .ok (.aload_n 0, 1) := dk_42 (dk_at dksX1_told_0 2 rfl rfl)
theorem dX1_told_3 : decode cX1_told 3 = .ok (.astore_n 2, 1) := dk_77 (dk_at dksX1_told_0 3 rfl rfl)
theorem dX1_told_4 : decode cX1_told 4 = .ok (.aload_n 2, 1) := dk_44 (dk_at dksX1_told_0 4 rfl rfl)
theorem dX1_told_5 : decode cX1_told 5 = .ok (.ifnull 52, 3) := dk_198 0 52 (dk_at dksX1_told_0 5 rfl rfl)
theorem dX1_told_8 : decode cX1_told 8 = .ok (.iload_n 1, 1) := dk_27 (dk_at dksX1_told_0 8 rfl rfl)
theorem dX1_told_9 : decode cX1_told 9 = .ok (.aload_n 2, 1) := dk_44 (dk_at dksX1_told_0 9 rfl rfl)
theorem dX1_told_10 : decode cX1_told 10 = .ok (.instanceof 1, 3) := dk_193 0 1 (dk_at dksX1_told_0 10 rfl rfl)
theorem dX1_told_13 : decode cX1_told 13 = .ok (.ifCond .eq 16, 3) := dk_153 0 16 (dk_at dksX1_told_0 13 rfl rfl)
theorem dX1_told_16 : decode cX1_told 16 = .ok (.bipush 10, 2) := dk_16 10 (dk_at dksX1_told_0 16 rfl rfl)
theorem dX1_told_18 : decode cX1_told 18 = .ok (.aload_n 2, 1) := dk_44 (dk_at dksX1_told_0 18 rfl rfl)
theorem dX1_told_19 : decode cX1_told 19 = .ok (.checkcast 1, 3) := dk_192 0 1 (dk_at dksX1_told_0 19 rfl rfl)
theorem dX1_told_22 : decode cX1_told 22 = .ok (.getfield 3, 3) := dk_180 0 3 (dk_at dksX1_told_1 0 rfl rfl)
theorem dX1_told_25 : decode cX1_told 25 = .ok (.imul, 1) := dk_104 (dk_at dksX1_told_1 3 rfl rfl)
theorem dX1_told_26 : decode cX1_told 26 = .ok (.goto 21, 3) := dk_167 0 21 (dk_at dksX1_told_1 4 rfl rfl)
theorem dX1_told_29 : decode cX1_told 29 = .ok (.aload_n 2, 1) := dk_44 (dk_at dksX1_told_1 7 rfl rfl)
theorem dX1_told_30 : decode cX1_told 30 = .ok (.instanceof 7, 3) := dk_193 0 7 (dk_at dksX1_told_1 8 rfl rfl)
theorem dX1_told_33 : decode cX1_told 33 = .ok (.ifCond .eq 13, 3) := dk_153 0 13 (dk_at dksX1_told_1 11 rfl rfl)
theorem dX1_told_36 : decode cX1_told 36 = .ok (.aload_n 2, 1) := dk_44 (dk_at dksX1_told_1 14 rfl rfl)
theorem dX1_told_37 : decode cX1_told 37 = .ok (.checkcast 7, 3) := dk_192 0 7 (dk_at dksX1_told_1 15 rfl rfl)
theorem dX1_told_40 : decode cX1_told 40 = .ok (.getfield 9, 3) := dk_180 0 9 (dk_at dksX1_told_1 18 rfl rfl)
theorem dX1_told_43 : decode cX1_told 43 = .ok (.goto 4, 3) := dk_167 0 4 (dk_at dksX1_told_1 21 rfl rfl)
theorem dX1_told_46 : decode cX1_told 46 = .ok (.iconst 0, 1) := dk_3 (dk_at dksX1_told_2 0 rfl rfl)
theorem dX1_told_47 : decode cX1_told 47 = .ok (.iadd, 1) := dk_96 (dk_at dksX1_told_2 1 rfl rfl)
theorem dX1_told_48 : decode cX1_told 48 = .ok (.istore_n 1, 1) := dk_60 (dk_at dksX1_told_2 2 rfl rfl)
theorem dX1_told_49 : decode cX1_told 49 = .ok (.aload_n 2, 1) := dk_44 (dk_at dksX1_told_2 3 rfl rfl)
theorem dX1_told_50 : decode cX1_told 50 = .ok (.invokevirtual 12, 3) := dk_182 0 12 (dk_at dksX1_told_2 4 rfl rfl)
theorem dX1_told_53 : decode cX1_told 53 = .ok (.astore_n 2, 1) := dk_77 (dk_at dksX1_told_2 7 rfl rfl)
theorem dX1_told_54 : decode cX1_told 54 = .ok (.goto (-50), 3) := dk_167 255 206 (dk_at dksX1_told_2 8 rfl rfl)
theorem dX1_told_57 : decode cX1_told 57 = .ok (.iload_n 1, 1) := dk_27 (dk_at dksX1_told_2 11 rfl rfl)
theorem dX1_told_58 : decode cX1_told 58 = .ok (.ireturn, 1) := dk_172 (dk_at dksX1_told_2 12 rfl rfl)
def dkwX1_whyNoChain_0 : List UInt8 := [42, 16, 99, 6, 188, 10, 89, 3, 27, 79, 89, 4, 28, 79, 89, 5, 29, 79, 182, 0, 181, 172]
abbrev dktX1_whyNoChain_0 : List UInt8 := dkwX1_whyNoChain_0 ++ []
theorem dksX1_whyNoChain_0 : cX1_whyNoChain.data.toList.drop 0 = dktX1_whyNoChain_0 := by decide +kernel
theorem dX1_whyNoChain_0 : decode cX1_whyNoChain 0 = .ok (.aload_n 0, 1) := dk_42 (dk_at dksX1_whyNoChain_0 0 rfl rfl)
theorem dX1_whyNoChain_1 : decode cX1_whyNoChain 1 = .ok (.bipush 99, 2) := dk_16 99 (dk_at dksX1_whyNoChain_0 1 rfl rfl)
theorem dX1_whyNoChain_3 : decode cX1_whyNoChain 3 = .ok (.iconst 3, 1) := dk_6 (dk_at dksX1_whyNoChain_0 3 rfl rfl)
theorem dX1_whyNoChain_4 : decode cX1_whyNoChain 4 = .ok (.newarray .int, 2) := dk_188_10 (dk_at dksX1_whyNoChain_0 4 rfl rfl)
theorem dX1_whyNoChain_6 : decode cX1_whyNoChain 6 = .ok (.dup, 1) := dk_89 (dk_at dksX1_whyNoChain_0 6 rfl rfl)
theorem dX1_whyNoChain_7 : decode cX1_whyNoChain 7 = .ok (.iconst 0, 1) := dk_3 (dk_at dksX1_whyNoChain_0 7 rfl rfl)
theorem dX1_whyNoChain_8 : decode cX1_whyNoChain 8 = .ok (.iload_n 1, 1) := dk_27 (dk_at dksX1_whyNoChain_0 8 rfl rfl)
theorem dX1_whyNoChain_9 : decode cX1_whyNoChain 9 = .ok (.iastore, 1) := dk_79 (dk_at dksX1_whyNoChain_0 9 rfl rfl)
theorem dX1_whyNoChain_10 : decode cX1_whyNoChain 10 = .ok (.dup, 1) := dk_89 (dk_at dksX1_whyNoChain_0 10 rfl rfl)
theorem dX1_whyNoChain_11 : decode cX1_whyNoChain 11 = .ok (.iconst 1, 1) := dk_4 (dk_at dksX1_whyNoChain_0 11 rfl rfl)
theorem dX1_whyNoChain_12 : decode cX1_whyNoChain 12 = .ok (.iload_n 2, 1) := dk_28 (dk_at dksX1_whyNoChain_0 12 rfl rfl)
theorem dX1_whyNoChain_13 : decode cX1_whyNoChain 13 = .ok (.iastore, 1) := dk_79 (dk_at dksX1_whyNoChain_0 13 rfl rfl)
theorem dX1_whyNoChain_14 : decode cX1_whyNoChain 14 = .ok (.dup, 1) := dk_89 (dk_at dksX1_whyNoChain_0 14 rfl rfl)
theorem dX1_whyNoChain_15 : decode cX1_whyNoChain 15 = .ok (.iconst 2, 1) := dk_5 (dk_at dksX1_whyNoChain_0 15 rfl rfl)
theorem dX1_whyNoChain_16 : decode cX1_whyNoChain 16 = .ok (.iload_n 3, 1) := dk_29 (dk_at dksX1_whyNoChain_0 16 rfl rfl)
theorem dX1_whyNoChain_17 : decode cX1_whyNoChain 17 = .ok (.iastore, 1) := dk_79 (dk_at dksX1_whyNoChain_0 17 rfl rfl)
theorem dX1_whyNoChain_18 : decode cX1_whyNoChain 18 = .ok (.invokevirtual 181, 3) := dk_182 0 181 (dk_at dksX1_whyNoChain_0 18 rfl rfl)
theorem dX1_whyNoChain_21 : decode cX1_whyNoChain 21 = .ok (.ireturn, 1) := dk_172 (dk_at dksX1_whyNoChain_0 21 rfl rfl)
def dkwX1_doesHear_1 : List UInt8 := [167, 0, 4, 3, 184, 0, 156, 42, 180, 0, 38, 27, 28, 2, 182, 0, 184, 172]
abbrev dktX1_doesHear_1 : List UInt8 := dkwX1_doesHear_1 ++ []
def dkwX1_doesHear_0 : List UInt8 := [42, 180, 0, 38, 27, 182, 0, 152, 153, 0, 18, 42, 180, 0, 38, 28, 182, 0, 152, 153, 0, 7, 4]
abbrev dktX1_doesHear_0 : List UInt8 := dkwX1_doesHear_0 ++ dktX1_doesHear_1
theorem dksX1_doesHear_0 : cX1_doesHear.data.toList.drop 0 = dktX1_doesHear_0 := by decide +kernel
theorem dksX1_doesHear_1 : cX1_doesHear.data.toList.drop 23 = dktX1_doesHear_1 := dk_seg dksX1_doesHear_0 23 rfl rfl
theorem dX1_doesHear_0 : decode cX1_doesHear 0 = .ok (.aload_n 0, 1) := dk_42 (dk_at dksX1_doesHear_0 0 rfl rfl)
theorem dX1_doesHear_1 : decode cX1_doesHear 1 = .ok (.getfield 38, 3) := dk_180 0 38 (dk_at dksX1_doesHear_0 1 rfl rfl)
theorem dX1_doesHear_4 : decode cX1_doesHear 4 = .ok (.iload_n 1, 1) := dk_27 (dk_at dksX1_doesHear_0 4 rfl rfl)
theorem dX1_doesHear_5 : decode cX1_doesHear 5 = .ok (.invokevirtual 152, 3) := dk_182 0 152 (dk_at dksX1_doesHear_0 5 rfl rfl)
theorem dX1_doesHear_8 : decode cX1_doesHear 8 = .ok (.ifCond .eq 18, 3) := dk_153 0 18 (dk_at dksX1_doesHear_0 8 rfl rfl)
theorem dX1_doesHear_11 : decode cX1_doesHear 11 = .ok (.aload_n 0, 1) := dk_42 (dk_at dksX1_doesHear_0 11 rfl rfl)
theorem dX1_doesHear_12 : decode cX1_doesHear 12 = .ok (.getfield 38, 3) := dk_180 0 38 (dk_at dksX1_doesHear_0 12 rfl rfl)
theorem dX1_doesHear_15 : decode cX1_doesHear 15 = .ok (.iload_n 2, 1) := dk_28 (dk_at dksX1_doesHear_0 15 rfl rfl)
theorem dX1_doesHear_16 : decode cX1_doesHear 16 = .ok (.invokevirtual 152, 3) := dk_182 0 152 (dk_at dksX1_doesHear_0 16 rfl rfl)
theorem dX1_doesHear_19 : decode cX1_doesHear 19 = .ok (.ifCond .eq 7, 3) := dk_153 0 7 (dk_at dksX1_doesHear_0 19 rfl rfl)
theorem dX1_doesHear_22 : decode cX1_doesHear 22 = .ok (.iconst 1, 1) := dk_4 (dk_at dksX1_doesHear_0 22 rfl rfl)
theorem dX1_doesHear_23 : decode cX1_doesHear 23 = .ok (.goto 4, 3) := dk_167 0 4 (dk_at dksX1_doesHear_1 0 rfl rfl)
theorem dX1_doesHear_26 : decode cX1_doesHear 26 = .ok (.iconst 0, 1) := dk_3 (dk_at dksX1_doesHear_1 3 rfl rfl)
theorem dX1_doesHear_27 : decode cX1_doesHear 27 = .ok (.invokestatic 156, 3) := dk_184 0 156 (dk_at dksX1_doesHear_1 4 rfl rfl)
theorem dX1_doesHear_30 : decode cX1_doesHear 30 = .ok (.aload_n 0, 1) := dk_42 (dk_at dksX1_doesHear_1 7 rfl rfl)
theorem dX1_doesHear_31 : decode cX1_doesHear 31 = .ok (.getfield 38, 3) := dk_180 0 38 (dk_at dksX1_doesHear_1 8 rfl rfl)
theorem dX1_doesHear_34 : decode cX1_doesHear 34 = .ok (.iload_n 1, 1) := dk_27 (dk_at dksX1_doesHear_1 11 rfl rfl)
theorem dX1_doesHear_35 : decode cX1_doesHear 35 = .ok (.iload_n 2, 1) := dk_28 (dk_at dksX1_doesHear_1 12 rfl rfl)
theorem dX1_doesHear_36 : decode cX1_doesHear 36 = .ok (.iconst (-1), 1) := dk_2 (dk_at dksX1_doesHear_1 13 rfl rfl)
theorem dX1_doesHear_37 : decode cX1_doesHear 37 = .ok (.invokevirtual 184, 3) := dk_182 0 184 (dk_at dksX1_doesHear_1 14 rfl rfl)
theorem dX1_doesHear_40 : decode cX1_doesHear 40 = .ok (.ireturn, 1) := dk_172 (dk_at dksX1_doesHear_1 17 rfl rfl)
def dkwX1_hears_0 : List UInt8 := [42, 180, 0, 38, 42, 27, 182, 0, 188, 182, 0, 191, 172]
abbrev dktX1_hears_0 : List UInt8 := dkwX1_hears_0 ++ []
theorem dksX1_hears_0 : cX1_hears.data.toList.drop 0 = dktX1_hears_0 := by decide +kernel
theorem dX1_hears_0 : decode cX1_hears 0 = .ok (.aload_n 0, 1) := dk_42 (dk_at dksX1_hears_0 0 rfl rfl)
theorem dX1_hears_1 : decode cX1_hears 1 = .ok (.getfield 38, 3) := dk_180 0 38 (dk_at dksX1_hears_0 1 rfl rfl)
theorem dX1_hears_4 : decode cX1_hears 4 = .ok (.aload_n 0, 1) := dk_42 (dk_at dksX1_hears_0 4 rfl rfl)
theorem dX1_hears_5 : decode cX1_hears 5 = .ok (.iload_n 1, 1) := dk_27 (dk_at dksX1_hears_0 5 rfl rfl)
theorem dX1_hears_6 : decode cX1_hears 6 = .ok (.invokevirtual 188, 3) := dk_182 0 188 (dk_at dksX1_hears_0 6 rfl rfl)
theorem dX1_hears_9 : decode cX1_hears 9 = .ok (.invokevirtual 191, 3) := dk_182 0 191 (dk_at dksX1_hears_0 9 rfl rfl)
theorem dX1_hears_12 : decode cX1_hears 12 = .ok (.ireturn, 1) := dk_172 (dk_at dksX1_hears_0 12 rfl rfl)
def dkwX1_known_0 : List UInt8 := [42, 180, 0, 38, 27, 182, 0, 152, 184, 0, 156, 27, 172]
abbrev dktX1_known_0 : List UInt8 := dkwX1_known_0 ++ []
theorem dksX1_known_0 : cX1_known.data.toList.drop 0 = dktX1_known_0 := by decide +kernel
theorem dX1_known_0 : decode cX1_known 0 = .ok (.aload_n 0, 1) := dk_42 (dk_at dksX1_known_0 0 rfl rfl)
theorem dX1_known_1 : decode cX1_known 1 = .ok (.getfield 38, 3) := dk_180 0 38 (dk_at dksX1_known_0 1 rfl rfl)
theorem dX1_known_4 : decode cX1_known 4 = .ok (.iload_n 1, 1) := dk_27 (dk_at dksX1_known_0 4 rfl rfl)
theorem dX1_known_5 : decode cX1_known 5 = .ok (.invokevirtual 152, 3) := dk_182 0 152 (dk_at dksX1_known_0 5 rfl rfl)
theorem dX1_known_8 : decode cX1_known 8 = .ok (.invokestatic 156, 3) := dk_184 0 156 (dk_at dksX1_known_0 8 rfl rfl)
theorem dX1_known_11 : decode cX1_known 11 = .ok (.iload_n 1, 1) := dk_27 (dk_at dksX1_known_0 11 rfl rfl)
theorem dX1_known_12 : decode cX1_known 12 = .ok (.ireturn, 1) := dk_172 (dk_at dksX1_known_0 12 rfl rfl)
def dkwX1_isNeedless_1 : List UInt8 := [180, 0, 171, 28, 46, 28, 182, 0, 184, 172]
abbrev dktX1_isNeedless_1 : List UInt8 := dkwX1_isNeedless_1 ++ []
def dkwX1_isNeedless_0 : List UInt8 := [42, 27, 182, 0, 175, 61, 42, 180, 0, 38, 42, 180, 0, 38, 180, 0, 178, 28, 46, 42, 180, 0, 38]
abbrev dktX1_isNeedless_0 : List UInt8 := dkwX1_isNeedless_0 ++ dktX1_isNeedless_1
theorem dksX1_isNeedless_0 : cX1_isNeedless.data.toList.drop 0 = dktX1_isNeedless_0 := by decide +kernel
theorem dksX1_isNeedless_1 : cX1_isNeedless.data.toList.drop 23 = dktX1_isNeedless_1 := dk_seg dksX1_isNeedless_0 23 rfl rfl
theorem dX1_isNeedless_0 : decode cX1_isNeedless 0 = .ok (.aload_n 0, 1) := dk_42 (dk_at dksX1_isNeedless_0 0 rfl rfl)
theorem dX1_isNeedless_1 : decode cX1_isNeedless 1 = .ok (.iload_n 1, 1) := dk_27 (dk_at dksX1_isNeedless_0 1 rfl rfl)
theorem dX1_isNeedless_2 : decode cX1_isNeedless 2 = .ok (.invokevirtual 175, 3) := dk_182 0 175 (dk_at dksX1_isNeedless_0 2 rfl rfl)
theorem dX1_isNeedless_5 : decode cX1_isNeedless 5 = .ok (.istore_n 2, 1) := dk_61 (dk_at dksX1_isNeedless_0 5 rfl rfl)
theorem dX1_isNeedless_6 : decode cX1_isNeedless 6 = .ok (.aload_n 0, 1) := dk_42 (dk_at dksX1_isNeedless_0 6 rfl rfl)
theorem dX1_isNeedless_7 : decode cX1_isNeedless 7 = .ok (.getfield 38, 3) := dk_180 0 38 (dk_at dksX1_isNeedless_0 7 rfl rfl)
theorem dX1_isNeedless_10 : decode cX1_isNeedless 10 = .ok (.aload_n 0, 1) := dk_42 (dk_at dksX1_isNeedless_0 10 rfl rfl)
theorem dX1_isNeedless_11 : decode cX1_isNeedless 11 = .ok (.getfield 38, 3) := dk_180 0 38 (dk_at dksX1_isNeedless_0 11 rfl rfl)
theorem dX1_isNeedless_14 : decode cX1_isNeedless 14 = .ok (.getfield 178, 3) := dk_180 0 178 (dk_at dksX1_isNeedless_0 14 rfl rfl)
theorem dX1_isNeedless_17 : decode cX1_isNeedless 17 = .ok (.iload_n 2, 1) := dk_28 (dk_at dksX1_isNeedless_0 17 rfl rfl)
theorem dX1_isNeedless_18 : decode cX1_isNeedless 18 = .ok (.iaload, 1) := dk_46 (dk_at dksX1_isNeedless_0 18 rfl rfl)
theorem dX1_isNeedless_19 : decode cX1_isNeedless 19 = .ok (.aload_n 0, 1) := dk_42 (dk_at dksX1_isNeedless_0 19 rfl rfl)
theorem dX1_isNeedless_20 : decode cX1_isNeedless 20 = .ok (.getfield 38, 3) := dk_180 0 38 (dk_at dksX1_isNeedless_0 20 rfl rfl)
theorem dX1_isNeedless_23 : decode cX1_isNeedless 23 = .ok (.getfield 171, 3) := dk_180 0 171 (dk_at dksX1_isNeedless_1 0 rfl rfl)
theorem dX1_isNeedless_26 : decode cX1_isNeedless 26 = .ok (.iload_n 2, 1) := dk_28 (dk_at dksX1_isNeedless_1 3 rfl rfl)
theorem dX1_isNeedless_27 : decode cX1_isNeedless 27 = .ok (.iaload, 1) := dk_46 (dk_at dksX1_isNeedless_1 4 rfl rfl)
theorem dX1_isNeedless_28 : decode cX1_isNeedless 28 = .ok (.iload_n 2, 1) := dk_28 (dk_at dksX1_isNeedless_1 5 rfl rfl)
theorem dX1_isNeedless_29 : decode cX1_isNeedless 29 = .ok (.invokevirtual 184, 3) := dk_182 0 184 (dk_at dksX1_isNeedless_1 6 rfl rfl)
theorem dX1_isNeedless_32 : decode cX1_isNeedless 32 = .ok (.ireturn, 1) := dk_172 (dk_at dksX1_isNeedless_1 9 rfl rfl)
def dkwX1_ways_0 : List UInt8 := [42, 27, 28, 182, 0, 197, 42, 180, 0, 38, 27, 28, 182, 0, 201, 172]
abbrev dktX1_ways_0 : List UInt8 := dkwX1_ways_0 ++ []
theorem dksX1_ways_0 : cX1_ways.data.toList.drop 0 = dktX1_ways_0 := by decide +kernel
theorem dX1_ways_0 : decode cX1_ways 0 = .ok (.aload_n 0, 1) := dk_42 (dk_at dksX1_ways_0 0 rfl rfl)
theorem dX1_ways_1 : decode cX1_ways 1 = .ok (.iload_n 1, 1) := dk_27 (dk_at dksX1_ways_0 1 rfl rfl)
theorem dX1_ways_2 : decode cX1_ways 2 = .ok (.iload_n 2, 1) := dk_28 (dk_at dksX1_ways_0 2 rfl rfl)
theorem dX1_ways_3 : decode cX1_ways 3 = .ok (.invokevirtual 197, 3) := dk_182 0 197 (dk_at dksX1_ways_0 3 rfl rfl)
theorem dX1_ways_6 : decode cX1_ways 6 = .ok (.aload_n 0, 1) := dk_42 (dk_at dksX1_ways_0 6 rfl rfl)
theorem dX1_ways_7 : decode cX1_ways 7 = .ok (.getfield 38, 3) := dk_180 0 38 (dk_at dksX1_ways_0 7 rfl rfl)
theorem dX1_ways_10 : decode cX1_ways 10 = .ok (.iload_n 1, 1) := dk_27 (dk_at dksX1_ways_0 10 rfl rfl)
theorem dX1_ways_11 : decode cX1_ways 11 = .ok (.iload_n 2, 1) := dk_28 (dk_at dksX1_ways_0 11 rfl rfl)
theorem dX1_ways_12 : decode cX1_ways 12 = .ok (.invokevirtual 201, 3) := dk_182 0 201 (dk_at dksX1_ways_0 12 rfl rfl)
theorem dX1_ways_15 : decode cX1_ways 15 = .ok (.ireturn, 1) := dk_172 (dk_at dksX1_ways_0 15 rfl rfl)
def dkwX1_needTwo_1 : List UInt8 := [167, 0, 4, 3, 184, 0, 156, 177]
abbrev dktX1_needTwo_1 : List UInt8 := dkwX1_needTwo_1 ++ []
def dkwX1_needTwo_0 : List UInt8 := [42, 180, 0, 38, 27, 182, 0, 152, 153, 0, 18, 42, 180, 0, 38, 28, 182, 0, 152, 153, 0, 7, 4]
abbrev dktX1_needTwo_0 : List UInt8 := dkwX1_needTwo_0 ++ dktX1_needTwo_1
theorem dksX1_needTwo_0 : cX1_needTwo.data.toList.drop 0 = dktX1_needTwo_0 := by decide +kernel
theorem dksX1_needTwo_1 : cX1_needTwo.data.toList.drop 23 = dktX1_needTwo_1 := dk_seg dksX1_needTwo_0 23 rfl rfl
theorem dX1_needTwo_0 : decode cX1_needTwo 0 = .ok (.aload_n 0, 1) := dk_42 (dk_at dksX1_needTwo_0 0 rfl rfl)
theorem dX1_needTwo_1 : decode cX1_needTwo 1 = .ok (.getfield 38, 3) := dk_180 0 38 (dk_at dksX1_needTwo_0 1 rfl rfl)
theorem dX1_needTwo_4 : decode cX1_needTwo 4 = .ok (.iload_n 1, 1) := dk_27 (dk_at dksX1_needTwo_0 4 rfl rfl)
theorem dX1_needTwo_5 : decode cX1_needTwo 5 = .ok (.invokevirtual 152, 3) := dk_182 0 152 (dk_at dksX1_needTwo_0 5 rfl rfl)
theorem dX1_needTwo_8 : decode cX1_needTwo 8 = .ok (.ifCond .eq 18, 3) := dk_153 0 18 (dk_at dksX1_needTwo_0 8 rfl rfl)
theorem dX1_needTwo_11 : decode cX1_needTwo 11 = .ok (.aload_n 0, 1) := dk_42 (dk_at dksX1_needTwo_0 11 rfl rfl)
theorem dX1_needTwo_12 : decode cX1_needTwo 12 = .ok (.getfield 38, 3) := dk_180 0 38 (dk_at dksX1_needTwo_0 12 rfl rfl)
theorem dX1_needTwo_15 : decode cX1_needTwo 15 = .ok (.iload_n 2, 1) := dk_28 (dk_at dksX1_needTwo_0 15 rfl rfl)
theorem dX1_needTwo_16 : decode cX1_needTwo 16 = .ok (.invokevirtual 152, 3) := dk_182 0 152 (dk_at dksX1_needTwo_0 16 rfl rfl)
theorem dX1_needTwo_19 : decode cX1_needTwo 19 = .ok (.ifCond .eq 7, 3) := dk_153 0 7 (dk_at dksX1_needTwo_0 19 rfl rfl)
theorem dX1_needTwo_22 : decode cX1_needTwo 22 = .ok (.iconst 1, 1) := dk_4 (dk_at dksX1_needTwo_0 22 rfl rfl)
theorem dX1_needTwo_23 : decode cX1_needTwo 23 = .ok (.goto 4, 3) := dk_167 0 4 (dk_at dksX1_needTwo_1 0 rfl rfl)
theorem dX1_needTwo_26 : decode cX1_needTwo 26 = .ok (.iconst 0, 1) := dk_3 (dk_at dksX1_needTwo_1 3 rfl rfl)
theorem dX1_needTwo_27 : decode cX1_needTwo 27 = .ok (.invokestatic 156, 3) := dk_184 0 156 (dk_at dksX1_needTwo_1 4 rfl rfl)
theorem dX1_needTwo_30 : decode cX1_needTwo 30 = .ok (.return_, 1) := dk_177 (dk_at dksX1_needTwo_1 7 rfl rfl)
def dkwX1_waysByGoingBack_0 : List UInt8 := [42, 27, 28, 182, 0, 197, 42, 180, 0, 38, 27, 28, 182, 0, 204, 172]
abbrev dktX1_waysByGoingBack_0 : List UInt8 := dkwX1_waysByGoingBack_0 ++ []
theorem dksX1_waysByGoingBack_0 : cX1_waysByGoingBack.data.toList.drop 0 = dktX1_waysByGoingBack_0 := by decide +kernel
theorem dX1_waysByGoingBack_0 : decode cX1_waysByGoingBack 0 = .ok (.aload_n 0, 1) := dk_42 (dk_at dksX1_waysByGoingBack_0 0 rfl rfl)
theorem dX1_waysByGoingBack_1 : decode cX1_waysByGoingBack 1 = .ok (.iload_n 1, 1) := dk_27 (dk_at dksX1_waysByGoingBack_0 1 rfl rfl)
theorem dX1_waysByGoingBack_2 : decode cX1_waysByGoingBack 2 = .ok (.iload_n 2, 1) := dk_28 (dk_at dksX1_waysByGoingBack_0 2 rfl rfl)
theorem dX1_waysByGoingBack_3 : decode cX1_waysByGoingBack 3 = .ok (.invokevirtual 197, 3) := dk_182 0 197 (dk_at dksX1_waysByGoingBack_0 3 rfl rfl)
theorem dX1_waysByGoingBack_6 : decode cX1_waysByGoingBack 6 = .ok (.aload_n 0, 1) := dk_42 (dk_at dksX1_waysByGoingBack_0 6 rfl rfl)
theorem dX1_waysByGoingBack_7 : decode cX1_waysByGoingBack 7 = .ok (.getfield 38, 3) := dk_180 0 38 (dk_at dksX1_waysByGoingBack_0 7 rfl rfl)
theorem dX1_waysByGoingBack_10 : decode cX1_waysByGoingBack 10 = .ok (.iload_n 1, 1) := dk_27 (dk_at dksX1_waysByGoingBack_0 10 rfl rfl)
theorem dX1_waysByGoingBack_11 : decode cX1_waysByGoingBack 11 = .ok (.iload_n 2, 1) := dk_28 (dk_at dksX1_waysByGoingBack_0 11 rfl rfl)
theorem dX1_waysByGoingBack_12 : decode cX1_waysByGoingBack 12 = .ok (.invokevirtual 204, 3) := dk_182 0 204 (dk_at dksX1_waysByGoingBack_0 12 rfl rfl)
theorem dX1_waysByGoingBack_15 : decode cX1_waysByGoingBack 15 = .ok (.ireturn, 1) := dk_172 (dk_at dksX1_waysByGoingBack_0 15 rfl rfl)
def dkwX1_fewestArrows_0 : List UInt8 := [42, 27, 28, 182, 0, 197, 42, 180, 0, 38, 27, 28, 4, 182, 0, 207, 184, 0, 211, 172]
abbrev dktX1_fewestArrows_0 : List UInt8 := dkwX1_fewestArrows_0 ++ []
theorem dksX1_fewestArrows_0 : cX1_fewestArrows.data.toList.drop 0 = dktX1_fewestArrows_0 := by decide +kernel
theorem dX1_fewestArrows_0 : decode cX1_fewestArrows 0 = .ok (.aload_n 0, 1) := dk_42 (dk_at dksX1_fewestArrows_0 0 rfl rfl)
theorem dX1_fewestArrows_1 : decode cX1_fewestArrows 1 = .ok (.iload_n 1, 1) := dk_27 (dk_at dksX1_fewestArrows_0 1 rfl rfl)
theorem dX1_fewestArrows_2 : decode cX1_fewestArrows 2 = .ok (.iload_n 2, 1) := dk_28 (dk_at dksX1_fewestArrows_0 2 rfl rfl)
theorem dX1_fewestArrows_3 : decode cX1_fewestArrows 3 = .ok (.invokevirtual 197, 3) := dk_182 0 197 (dk_at dksX1_fewestArrows_0 3 rfl rfl)
theorem dX1_fewestArrows_6 : decode cX1_fewestArrows 6 = .ok (.aload_n 0, 1) := dk_42 (dk_at dksX1_fewestArrows_0 6 rfl rfl)
theorem dX1_fewestArrows_7 : decode cX1_fewestArrows 7 = .ok (.getfield 38, 3) := dk_180 0 38 (dk_at dksX1_fewestArrows_0 7 rfl rfl)
theorem dX1_fewestArrows_10 : decode cX1_fewestArrows 10 = .ok (.iload_n 1, 1) := dk_27 (dk_at dksX1_fewestArrows_0 10 rfl rfl)
theorem dX1_fewestArrows_11 : decode cX1_fewestArrows 11 = .ok (.iload_n 2, 1) := dk_28 (dk_at dksX1_fewestArrows_0 11 rfl rfl)
theorem dX1_fewestArrows_12 : decode cX1_fewestArrows 12 = .ok (.iconst 1, 1) := dk_4 (dk_at dksX1_fewestArrows_0 12 rfl rfl)
theorem dX1_fewestArrows_13 : decode cX1_fewestArrows 13 = .ok (.invokevirtual 207, 3) := dk_182 0 207 (dk_at dksX1_fewestArrows_0 13 rfl rfl)
theorem dX1_fewestArrows_16 : decode cX1_fewestArrows 16 = .ok (.invokestatic 211, 3) := dk_184 0 211 (dk_at dksX1_fewestArrows_0 16 rfl rfl)
theorem dX1_fewestArrows_19 : decode cX1_fewestArrows 19 = .ok (.ireturn, 1) := dk_172 (dk_at dksX1_fewestArrows_0 19 rfl rfl)
def dkwX1_there_0 : List UInt8 := [26, 2, 159, 0, 7, 4, 167, 0, 4, 3, 184, 0, 148, 26, 172]
abbrev dktX1_there_0 : List UInt8 := dkwX1_there_0 ++ []
theorem dksX1_there_0 : cX1_there.data.toList.drop 0 = dktX1_there_0 := by decide +kernel
theorem dX1_there_0 : decode cX1_there 0 = .ok (.iload_n 0, 1) := dk_26 (dk_at dksX1_there_0 0 rfl rfl)
theorem dX1_there_1 : decode cX1_there 1 = .ok (.iconst (-1), 1) := dk_2 (dk_at dksX1_there_0 1 rfl rfl)
theorem dX1_there_2 : decode cX1_there 2 = .ok (.if_icmp .eq 7, 3) := dk_159 0 7 (dk_at dksX1_there_0 2 rfl rfl)
theorem dX1_there_5 : decode cX1_there 5 = .ok (.iconst 1, 1) := dk_4 (dk_at dksX1_there_0 5 rfl rfl)
theorem dX1_there_6 : decode cX1_there 6 = .ok (.goto 4, 3) := dk_167 0 4 (dk_at dksX1_there_0 6 rfl rfl)
theorem dX1_there_9 : decode cX1_there 9 = .ok (.iconst 0, 1) := dk_3 (dk_at dksX1_there_0 9 rfl rfl)
theorem dX1_there_10 : decode cX1_there 10 = .ok (.invokestatic 148, 3) := dk_184 0 148 (dk_at dksX1_there_0 10 rfl rfl)
theorem dX1_there_13 : decode cX1_there 13 = .ok (.iload_n 0, 1) := dk_26 (dk_at dksX1_there_0 13 rfl rfl)
theorem dX1_there_14 : decode cX1_there 14 = .ok (.ireturn, 1) := dk_172 (dk_at dksX1_there_0 14 rfl rfl)
def dkwX1_needSuch_0 : List UInt8 := [26, 154, 0, 13, 187, 0, 142, 89, 18, 144, 183, 0, 146, 191, 177]
abbrev dktX1_needSuch_0 : List UInt8 := dkwX1_needSuch_0 ++ []
theorem dksX1_needSuch_0 : cX1_needSuch.data.toList.drop 0 = dktX1_needSuch_0 := by decide +kernel
theorem dX1_needSuch_0 : decode cX1_needSuch 0 = .ok (.iload_n 0, 1) := dk_26 (dk_at dksX1_needSuch_0 0 rfl rfl)
theorem dX1_needSuch_1 : decode cX1_needSuch 1 = .ok (.ifCond .ne 13, 3) := dk_154 0 13 (dk_at dksX1_needSuch_0 1 rfl rfl)
theorem dX1_needSuch_4 : decode cX1_needSuch 4 = .ok (.new 142, 3) := dk_187 0 142 (dk_at dksX1_needSuch_0 4 rfl rfl)
theorem dX1_needSuch_7 : decode cX1_needSuch 7 = .ok (.dup, 1) := dk_89 (dk_at dksX1_needSuch_0 7 rfl rfl)
theorem dX1_needSuch_8 : decode cX1_needSuch 8 = .ok (.ldc 144, 2) := dk_18 144 (dk_at dksX1_needSuch_0 8 rfl rfl)
theorem dX1_needSuch_10 : decode cX1_needSuch 10 = .ok (.invokespecial 146, 3) := dk_183 0 146 (dk_at dksX1_needSuch_0 10 rfl rfl)
theorem dX1_needSuch_13 : decode cX1_needSuch 13 = .ok (.athrow, 1) := dk_191 (dk_at dksX1_needSuch_0 13 rfl rfl)
theorem dX1_needSuch_14 : decode cX1_needSuch 14 = .ok (.return_, 1) := dk_177 (dk_at dksX1_needSuch_0 14 rfl rfl)
def dkwX1_mostArrows_0 : List UInt8 := [42, 27, 28, 182, 0, 197, 42, 180, 0, 38, 27, 28, 3, 182, 0, 207, 184, 0, 211, 172]
abbrev dktX1_mostArrows_0 : List UInt8 := dkwX1_mostArrows_0 ++ []
theorem dksX1_mostArrows_0 : cX1_mostArrows.data.toList.drop 0 = dktX1_mostArrows_0 := by decide +kernel
theorem dX1_mostArrows_0 : decode cX1_mostArrows 0 = .ok (.aload_n 0, 1) := dk_42 (dk_at dksX1_mostArrows_0 0 rfl rfl)
theorem dX1_mostArrows_1 : decode cX1_mostArrows 1 = .ok (.iload_n 1, 1) := dk_27 (dk_at dksX1_mostArrows_0 1 rfl rfl)
theorem dX1_mostArrows_2 : decode cX1_mostArrows 2 = .ok (.iload_n 2, 1) := dk_28 (dk_at dksX1_mostArrows_0 2 rfl rfl)
theorem dX1_mostArrows_3 : decode cX1_mostArrows 3 = .ok (.invokevirtual 197, 3) := dk_182 0 197 (dk_at dksX1_mostArrows_0 3 rfl rfl)
theorem dX1_mostArrows_6 : decode cX1_mostArrows 6 = .ok (.aload_n 0, 1) := dk_42 (dk_at dksX1_mostArrows_0 6 rfl rfl)
theorem dX1_mostArrows_7 : decode cX1_mostArrows 7 = .ok (.getfield 38, 3) := dk_180 0 38 (dk_at dksX1_mostArrows_0 7 rfl rfl)
theorem dX1_mostArrows_10 : decode cX1_mostArrows 10 = .ok (.iload_n 1, 1) := dk_27 (dk_at dksX1_mostArrows_0 10 rfl rfl)
theorem dX1_mostArrows_11 : decode cX1_mostArrows 11 = .ok (.iload_n 2, 1) := dk_28 (dk_at dksX1_mostArrows_0 11 rfl rfl)
theorem dX1_mostArrows_12 : decode cX1_mostArrows 12 = .ok (.iconst 0, 1) := dk_3 (dk_at dksX1_mostArrows_0 12 rfl rfl)
theorem dX1_mostArrows_13 : decode cX1_mostArrows 13 = .ok (.invokevirtual 207, 3) := dk_182 0 207 (dk_at dksX1_mostArrows_0 13 rfl rfl)
theorem dX1_mostArrows_16 : decode cX1_mostArrows 16 = .ok (.invokestatic 211, 3) := dk_184 0 211 (dk_at dksX1_mostArrows_0 16 rfl rfl)
theorem dX1_mostArrows_19 : decode cX1_mostArrows 19 = .ok (.ireturn, 1) := dk_172 (dk_at dksX1_mostArrows_0 19 rfl rfl)
def dkwX1_layerOf_0 : List UInt8 := [42, 180, 0, 38, 180, 0, 217, 42, 27, 182, 0, 188, 46, 172]
abbrev dktX1_layerOf_0 : List UInt8 := dkwX1_layerOf_0 ++ []
theorem dksX1_layerOf_0 : cX1_layerOf.data.toList.drop 0 = dktX1_layerOf_0 := by decide +kernel
theorem dX1_layerOf_0 : decode cX1_layerOf 0 = .ok (.aload_n 0, 1) := dk_42 (dk_at dksX1_layerOf_0 0 rfl rfl)
theorem dX1_layerOf_1 : decode cX1_layerOf 1 = .ok (.getfield 38, 3) := dk_180 0 38 (dk_at dksX1_layerOf_0 1 rfl rfl)
theorem dX1_layerOf_4 : decode cX1_layerOf 4 = .ok (.getfield 217, 3) := dk_180 0 217 (dk_at dksX1_layerOf_0 4 rfl rfl)
theorem dX1_layerOf_7 : decode cX1_layerOf 7 = .ok (.aload_n 0, 1) := dk_42 (dk_at dksX1_layerOf_0 7 rfl rfl)
theorem dX1_layerOf_8 : decode cX1_layerOf 8 = .ok (.iload_n 1, 1) := dk_27 (dk_at dksX1_layerOf_0 8 rfl rfl)
theorem dX1_layerOf_9 : decode cX1_layerOf 9 = .ok (.invokevirtual 188, 3) := dk_182 0 188 (dk_at dksX1_layerOf_0 9 rfl rfl)
theorem dX1_layerOf_12 : decode cX1_layerOf 12 = .ok (.iaload, 1) := dk_46 (dk_at dksX1_layerOf_0 12 rfl rfl)
theorem dX1_layerOf_13 : decode cX1_layerOf 13 = .ok (.ireturn, 1) := dk_172 (dk_at dksX1_layerOf_0 13 rfl rfl)
def dkwX1_layerByGoingBack_0 : List UInt8 := [42, 180, 0, 38, 42, 27, 182, 0, 188, 182, 0, 220, 172]
abbrev dktX1_layerByGoingBack_0 : List UInt8 := dkwX1_layerByGoingBack_0 ++ []
theorem dksX1_layerByGoingBack_0 : cX1_layerByGoingBack.data.toList.drop 0 = dktX1_layerByGoingBack_0 := by decide +kernel
theorem dX1_layerByGoingBack_0 : decode cX1_layerByGoingBack 0 = .ok (.aload_n 0, 1) := dk_42 (dk_at dksX1_layerByGoingBack_0 0 rfl rfl)
theorem dX1_layerByGoingBack_1 : decode cX1_layerByGoingBack 1 = .ok (.getfield 38, 3) := dk_180 0 38 (dk_at dksX1_layerByGoingBack_0 1 rfl rfl)
theorem dX1_layerByGoingBack_4 : decode cX1_layerByGoingBack 4 = .ok (.aload_n 0, 1) := dk_42 (dk_at dksX1_layerByGoingBack_0 4 rfl rfl)
theorem dX1_layerByGoingBack_5 : decode cX1_layerByGoingBack 5 = .ok (.iload_n 1, 1) := dk_27 (dk_at dksX1_layerByGoingBack_0 5 rfl rfl)
theorem dX1_layerByGoingBack_6 : decode cX1_layerByGoingBack 6 = .ok (.invokevirtual 188, 3) := dk_182 0 188 (dk_at dksX1_layerByGoingBack_0 6 rfl rfl)
theorem dX1_layerByGoingBack_9 : decode cX1_layerByGoingBack 9 = .ok (.invokevirtual 220, 3) := dk_182 0 220 (dk_at dksX1_layerByGoingBack_0 9 rfl rfl)
theorem dX1_layerByGoingBack_12 : decode cX1_layerByGoingBack 12 = .ok (.ireturn, 1) := dk_172 (dk_at dksX1_layerByGoingBack_0 12 rfl rfl)
def dkwX1_leastOf_0 : List UInt8 := [42, 180, 0, 38, 180, 0, 223, 42, 27, 182, 0, 188, 46, 172]
abbrev dktX1_leastOf_0 : List UInt8 := dkwX1_leastOf_0 ++ []
theorem dksX1_leastOf_0 : cX1_leastOf.data.toList.drop 0 = dktX1_leastOf_0 := by decide +kernel
theorem dX1_leastOf_0 : decode cX1_leastOf 0 = .ok (.aload_n 0, 1) := dk_42 (dk_at dksX1_leastOf_0 0 rfl rfl)
theorem dX1_leastOf_1 : decode cX1_leastOf 1 = .ok (.getfield 38, 3) := dk_180 0 38 (dk_at dksX1_leastOf_0 1 rfl rfl)
theorem dX1_leastOf_4 : decode cX1_leastOf 4 = .ok (.getfield 223, 3) := dk_180 0 223 (dk_at dksX1_leastOf_0 4 rfl rfl)
theorem dX1_leastOf_7 : decode cX1_leastOf 7 = .ok (.aload_n 0, 1) := dk_42 (dk_at dksX1_leastOf_0 7 rfl rfl)
theorem dX1_leastOf_8 : decode cX1_leastOf 8 = .ok (.iload_n 1, 1) := dk_27 (dk_at dksX1_leastOf_0 8 rfl rfl)
theorem dX1_leastOf_9 : decode cX1_leastOf 9 = .ok (.invokevirtual 188, 3) := dk_182 0 188 (dk_at dksX1_leastOf_0 9 rfl rfl)
theorem dX1_leastOf_12 : decode cX1_leastOf 12 = .ok (.iaload, 1) := dk_46 (dk_at dksX1_leastOf_0 12 rfl rfl)
theorem dX1_leastOf_13 : decode cX1_leastOf 13 = .ok (.ireturn, 1) := dk_172 (dk_at dksX1_leastOf_0 13 rfl rfl)
def dkwX1_spanOf_1 : List UInt8 := [180, 0, 38, 180, 0, 217, 42, 180, 0, 38, 180, 0, 171, 28, 46, 46, 100, 172]
abbrev dktX1_spanOf_1 : List UInt8 := dkwX1_spanOf_1 ++ []
def dkwX1_spanOf_0 : List UInt8 := [42, 27, 182, 0, 175, 61, 42, 180, 0, 38, 180, 0, 217, 42, 180, 0, 38, 180, 0, 178, 28, 46, 46, 42]
abbrev dktX1_spanOf_0 : List UInt8 := dkwX1_spanOf_0 ++ dktX1_spanOf_1
theorem dksX1_spanOf_0 : cX1_spanOf.data.toList.drop 0 = dktX1_spanOf_0 := by decide +kernel
theorem dksX1_spanOf_1 : cX1_spanOf.data.toList.drop 24 = dktX1_spanOf_1 := dk_seg dksX1_spanOf_0 24 rfl rfl
theorem dX1_spanOf_0 : decode cX1_spanOf 0 = .ok (.aload_n 0, 1) := dk_42 (dk_at dksX1_spanOf_0 0 rfl rfl)
theorem dX1_spanOf_1 : decode cX1_spanOf 1 = .ok (.iload_n 1, 1) := dk_27 (dk_at dksX1_spanOf_0 1 rfl rfl)
theorem dX1_spanOf_2 : decode cX1_spanOf 2 = .ok (.invokevirtual 175, 3) := dk_182 0 175 (dk_at dksX1_spanOf_0 2 rfl rfl)
theorem dX1_spanOf_5 : decode cX1_spanOf 5 = .ok (.istore_n 2, 1) := dk_61 (dk_at dksX1_spanOf_0 5 rfl rfl)
theorem dX1_spanOf_6 : decode cX1_spanOf 6 = .ok (.aload_n 0, 1) := dk_42 (dk_at dksX1_spanOf_0 6 rfl rfl)
theorem dX1_spanOf_7 : decode cX1_spanOf 7 = .ok (.getfield 38, 3) := dk_180 0 38 (dk_at dksX1_spanOf_0 7 rfl rfl)
theorem dX1_spanOf_10 : decode cX1_spanOf 10 = .ok (.getfield 217, 3) := dk_180 0 217 (dk_at dksX1_spanOf_0 10 rfl rfl)
theorem dX1_spanOf_13 : decode cX1_spanOf 13 = .ok (.aload_n 0, 1) := dk_42 (dk_at dksX1_spanOf_0 13 rfl rfl)
theorem dX1_spanOf_14 : decode cX1_spanOf 14 = .ok (.getfield 38, 3) := dk_180 0 38 (dk_at dksX1_spanOf_0 14 rfl rfl)
theorem dX1_spanOf_17 : decode cX1_spanOf 17 = .ok (.getfield 178, 3) := dk_180 0 178 (dk_at dksX1_spanOf_0 17 rfl rfl)
theorem dX1_spanOf_20 : decode cX1_spanOf 20 = .ok (.iload_n 2, 1) := dk_28 (dk_at dksX1_spanOf_0 20 rfl rfl)
theorem dX1_spanOf_21 : decode cX1_spanOf 21 = .ok (.iaload, 1) := dk_46 (dk_at dksX1_spanOf_0 21 rfl rfl)
theorem dX1_spanOf_22 : decode cX1_spanOf 22 = .ok (.iaload, 1) := dk_46 (dk_at dksX1_spanOf_0 22 rfl rfl)
theorem dX1_spanOf_23 : decode cX1_spanOf 23 = .ok (.aload_n 0, 1) := dk_42 (dk_at dksX1_spanOf_0 23 rfl rfl)
theorem dX1_spanOf_24 : decode cX1_spanOf 24 = .ok (.getfield 38, 3) := dk_180 0 38 (dk_at dksX1_spanOf_1 0 rfl rfl)
theorem dX1_spanOf_27 : decode cX1_spanOf 27 = .ok (.getfield 217, 3) := dk_180 0 217 (dk_at dksX1_spanOf_1 3 rfl rfl)
theorem dX1_spanOf_30 : decode cX1_spanOf 30 = .ok (.aload_n 0, 1) := dk_42 (dk_at dksX1_spanOf_1 6 rfl rfl)
theorem dX1_spanOf_31 : decode cX1_spanOf 31 = .ok (.getfield 38, 3) := dk_180 0 38 (dk_at dksX1_spanOf_1 7 rfl rfl)
theorem dX1_spanOf_34 : decode cX1_spanOf 34 = .ok (.getfield 171, 3) := dk_180 0 171 (dk_at dksX1_spanOf_1 10 rfl rfl)
theorem dX1_spanOf_37 : decode cX1_spanOf 37 = .ok (.iload_n 2, 1) := dk_28 (dk_at dksX1_spanOf_1 13 rfl rfl)
theorem dX1_spanOf_38 : decode cX1_spanOf 38 = .ok (.iaload, 1) := dk_46 (dk_at dksX1_spanOf_1 14 rfl rfl)
theorem dX1_spanOf_39 : decode cX1_spanOf 39 = .ok (.iaload, 1) := dk_46 (dk_at dksX1_spanOf_1 15 rfl rfl)
theorem dX1_spanOf_40 : decode cX1_spanOf 40 = .ok (.isub, 1) := dk_100 (dk_at dksX1_spanOf_1 16 rfl rfl)
theorem dX1_spanOf_41 : decode cX1_spanOf 41 = .ok (.ireturn, 1) := dk_172 (dk_at dksX1_spanOf_1 17 rfl rfl)
def dkwX1_pointsOf_0 : List UInt8 := [42, 180, 0, 38, 180, 0, 229, 42, 27, 182, 0, 232, 46, 172]
abbrev dktX1_pointsOf_0 : List UInt8 := dkwX1_pointsOf_0 ++ []
theorem dksX1_pointsOf_0 : cX1_pointsOf.data.toList.drop 0 = dktX1_pointsOf_0 := by decide +kernel
theorem dX1_pointsOf_0 : decode cX1_pointsOf 0 = .ok (.aload_n 0, 1) := dk_42 (dk_at dksX1_pointsOf_0 0 rfl rfl)
theorem dX1_pointsOf_1 : decode cX1_pointsOf 1 = .ok (.getfield 38, 3) := dk_180 0 38 (dk_at dksX1_pointsOf_0 1 rfl rfl)
theorem dX1_pointsOf_4 : decode cX1_pointsOf 4 = .ok (.getfield 229, 3) := dk_180 0 229 (dk_at dksX1_pointsOf_0 4 rfl rfl)
theorem dX1_pointsOf_7 : decode cX1_pointsOf 7 = .ok (.aload_n 0, 1) := dk_42 (dk_at dksX1_pointsOf_0 7 rfl rfl)
theorem dX1_pointsOf_8 : decode cX1_pointsOf 8 = .ok (.iload_n 1, 1) := dk_27 (dk_at dksX1_pointsOf_0 8 rfl rfl)
theorem dX1_pointsOf_9 : decode cX1_pointsOf 9 = .ok (.invokevirtual 232, 3) := dk_182 0 232 (dk_at dksX1_pointsOf_0 9 rfl rfl)
theorem dX1_pointsOf_12 : decode cX1_pointsOf 12 = .ok (.iaload, 1) := dk_46 (dk_at dksX1_pointsOf_0 12 rfl rfl)
theorem dX1_pointsOf_13 : decode cX1_pointsOf 13 = .ok (.ireturn, 1) := dk_172 (dk_at dksX1_pointsOf_0 13 rfl rfl)
def dkwX1_layerThere_0 : List UInt8 := [42, 180, 0, 38, 27, 182, 0, 162, 184, 0, 156, 27, 172]
abbrev dktX1_layerThere_0 : List UInt8 := dkwX1_layerThere_0 ++ []
theorem dksX1_layerThere_0 : cX1_layerThere.data.toList.drop 0 = dktX1_layerThere_0 := by decide +kernel
theorem dX1_layerThere_0 : decode cX1_layerThere 0 = .ok (.aload_n 0, 1) := dk_42 (dk_at dksX1_layerThere_0 0 rfl rfl)
theorem dX1_layerThere_1 : decode cX1_layerThere 1 = .ok (.getfield 38, 3) := dk_180 0 38 (dk_at dksX1_layerThere_0 1 rfl rfl)
theorem dX1_layerThere_4 : decode cX1_layerThere 4 = .ok (.iload_n 1, 1) := dk_27 (dk_at dksX1_layerThere_0 4 rfl rfl)
theorem dX1_layerThere_5 : decode cX1_layerThere 5 = .ok (.invokevirtual 162, 3) := dk_182 0 162 (dk_at dksX1_layerThere_0 5 rfl rfl)
theorem dX1_layerThere_8 : decode cX1_layerThere 8 = .ok (.invokestatic 156, 3) := dk_184 0 156 (dk_at dksX1_layerThere_0 8 rfl rfl)
theorem dX1_layerThere_11 : decode cX1_layerThere 11 = .ok (.iload_n 1, 1) := dk_27 (dk_at dksX1_layerThere_0 11 rfl rfl)
theorem dX1_layerThere_12 : decode cX1_layerThere 12 = .ok (.ireturn, 1) := dk_172 (dk_at dksX1_layerThere_0 12 rfl rfl)
def dkwX1_pointAt_0 : List UInt8 := [42, 27, 28, 182, 0, 238, 42, 180, 0, 38, 27, 28, 182, 0, 241, 172]
abbrev dktX1_pointAt_0 : List UInt8 := dkwX1_pointAt_0 ++ []
theorem dksX1_pointAt_0 : cX1_pointAt.data.toList.drop 0 = dktX1_pointAt_0 := by decide +kernel
theorem dX1_pointAt_0 : decode cX1_pointAt 0 = .ok (.aload_n 0, 1) := dk_42 (dk_at dksX1_pointAt_0 0 rfl rfl)
theorem dX1_pointAt_1 : decode cX1_pointAt 1 = .ok (.iload_n 1, 1) := dk_27 (dk_at dksX1_pointAt_0 1 rfl rfl)
theorem dX1_pointAt_2 : decode cX1_pointAt 2 = .ok (.iload_n 2, 1) := dk_28 (dk_at dksX1_pointAt_0 2 rfl rfl)
theorem dX1_pointAt_3 : decode cX1_pointAt 3 = .ok (.invokevirtual 238, 3) := dk_182 0 238 (dk_at dksX1_pointAt_0 3 rfl rfl)
theorem dX1_pointAt_6 : decode cX1_pointAt 6 = .ok (.aload_n 0, 1) := dk_42 (dk_at dksX1_pointAt_0 6 rfl rfl)
theorem dX1_pointAt_7 : decode cX1_pointAt 7 = .ok (.getfield 38, 3) := dk_180 0 38 (dk_at dksX1_pointAt_0 7 rfl rfl)
theorem dX1_pointAt_10 : decode cX1_pointAt 10 = .ok (.iload_n 1, 1) := dk_27 (dk_at dksX1_pointAt_0 10 rfl rfl)
theorem dX1_pointAt_11 : decode cX1_pointAt 11 = .ok (.iload_n 2, 1) := dk_28 (dk_at dksX1_pointAt_0 11 rfl rfl)
theorem dX1_pointAt_12 : decode cX1_pointAt 12 = .ok (.invokevirtual 241, 3) := dk_182 0 241 (dk_at dksX1_pointAt_0 12 rfl rfl)
theorem dX1_pointAt_15 : decode cX1_pointAt 15 = .ok (.ireturn, 1) := dk_172 (dk_at dksX1_pointAt_0 15 rfl rfl)
def dkwX1_needPoint_1 : List UInt8 := [42, 180, 0, 38, 180, 0, 229, 27, 46, 162, 0, 7, 4, 167, 0, 4, 3, 184, 0, 148, 177]
abbrev dktX1_needPoint_1 : List UInt8 := dkwX1_needPoint_1 ++ []
def dkwX1_needPoint_0 : List UInt8 := [42, 180, 0, 38, 27, 182, 0, 162, 153, 0, 11, 28, 155, 0, 7, 4, 167, 0, 4, 3, 184, 0, 156, 28]
abbrev dktX1_needPoint_0 : List UInt8 := dkwX1_needPoint_0 ++ dktX1_needPoint_1
theorem dksX1_needPoint_0 : cX1_needPoint.data.toList.drop 0 = dktX1_needPoint_0 := by decide +kernel
theorem dksX1_needPoint_1 : cX1_needPoint.data.toList.drop 24 = dktX1_needPoint_1 := dk_seg dksX1_needPoint_0 24 rfl rfl
theorem dX1_needPoint_0 : decode cX1_needPoint 0 = .ok (.aload_n 0, 1) := dk_42 (dk_at dksX1_needPoint_0 0 rfl rfl)
theorem dX1_needPoint_1 : decode cX1_needPoint 1 = .ok (.getfield 38, 3) := dk_180 0 38 (dk_at dksX1_needPoint_0 1 rfl rfl)
theorem dX1_needPoint_4 : decode cX1_needPoint 4 = .ok (.iload_n 1, 1) := dk_27 (dk_at dksX1_needPoint_0 4 rfl rfl)
theorem dX1_needPoint_5 : decode cX1_needPoint 5 = .ok (.invokevirtual 162, 3) := dk_182 0 162 (dk_at dksX1_needPoint_0 5 rfl rfl)
theorem dX1_needPoint_8 : decode cX1_needPoint 8 = .ok (.ifCond .eq 11, 3) := dk_153 0 11 (dk_at dksX1_needPoint_0 8 rfl rfl)
theorem dX1_needPoint_11 : decode cX1_needPoint 11 = .ok (.iload_n 2, 1) := dk_28 (dk_at dksX1_needPoint_0 11 rfl rfl)
theorem dX1_needPoint_12 : decode cX1_needPoint 12 = .ok (.ifCond .lt 7, 3) := dk_155 0 7 (dk_at dksX1_needPoint_0 12 rfl rfl)
theorem dX1_needPoint_15 : decode cX1_needPoint 15 = .ok (.iconst 1, 1) := dk_4 (dk_at dksX1_needPoint_0 15 rfl rfl)
theorem dX1_needPoint_16 : decode cX1_needPoint 16 = .ok (.goto 4, 3) := dk_167 0 4 (dk_at dksX1_needPoint_0 16 rfl rfl)
theorem dX1_needPoint_19 : decode cX1_needPoint 19 = .ok (.iconst 0, 1) := dk_3 (dk_at dksX1_needPoint_0 19 rfl rfl)
theorem dX1_needPoint_20 : decode cX1_needPoint 20 = .ok (.invokestatic 156, 3) := dk_184 0 156 (dk_at dksX1_needPoint_0 20 rfl rfl)
theorem dX1_needPoint_23 : decode cX1_needPoint 23 = .ok (.iload_n 2, 1) := dk_28 (dk_at dksX1_needPoint_0 23 rfl rfl)
theorem dX1_needPoint_24 : decode cX1_needPoint 24 = .ok (.aload_n 0, 1) := dk_42 (dk_at dksX1_needPoint_1 0 rfl rfl)
theorem dX1_needPoint_25 : decode cX1_needPoint 25 = .ok (.getfield 38, 3) := dk_180 0 38 (dk_at dksX1_needPoint_1 1 rfl rfl)
theorem dX1_needPoint_28 : decode cX1_needPoint 28 = .ok (.getfield 229, 3) := dk_180 0 229 (dk_at dksX1_needPoint_1 4 rfl rfl)
theorem dX1_needPoint_31 : decode cX1_needPoint 31 = .ok (.iload_n 1, 1) := dk_27 (dk_at dksX1_needPoint_1 7 rfl rfl)
theorem dX1_needPoint_32 : decode cX1_needPoint 32 = .ok (.iaload, 1) := dk_46 (dk_at dksX1_needPoint_1 8 rfl rfl)
theorem dX1_needPoint_33 : decode cX1_needPoint 33 = .ok (.if_icmp .ge 7, 3) := dk_162 0 7 (dk_at dksX1_needPoint_1 9 rfl rfl)
theorem dX1_needPoint_36 : decode cX1_needPoint 36 = .ok (.iconst 1, 1) := dk_4 (dk_at dksX1_needPoint_1 12 rfl rfl)
theorem dX1_needPoint_37 : decode cX1_needPoint 37 = .ok (.goto 4, 3) := dk_167 0 4 (dk_at dksX1_needPoint_1 13 rfl rfl)
theorem dX1_needPoint_40 : decode cX1_needPoint 40 = .ok (.iconst 0, 1) := dk_3 (dk_at dksX1_needPoint_1 16 rfl rfl)
theorem dX1_needPoint_41 : decode cX1_needPoint 41 = .ok (.invokestatic 148, 3) := dk_184 0 148 (dk_at dksX1_needPoint_1 17 rfl rfl)
theorem dX1_needPoint_44 : decode cX1_needPoint 44 = .ok (.return_, 1) := dk_177 (dk_at dksX1_needPoint_1 20 rfl rfl)
def dkwX1_placeOf_0 : List UInt8 := [42, 180, 0, 38, 42, 180, 0, 38, 180, 0, 217, 42, 27, 182, 0, 188, 46, 27, 182, 0, 244, 172]
abbrev dktX1_placeOf_0 : List UInt8 := dkwX1_placeOf_0 ++ []
theorem dksX1_placeOf_0 : cX1_placeOf.data.toList.drop 0 = dktX1_placeOf_0 := by decide +kernel
theorem dX1_placeOf_0 : decode cX1_placeOf 0 = .ok (.aload_n 0, 1) := dk_42 (dk_at dksX1_placeOf_0 0 rfl rfl)
theorem dX1_placeOf_1 : decode cX1_placeOf 1 = .ok (.getfield 38, 3) := dk_180 0 38 (dk_at dksX1_placeOf_0 1 rfl rfl)
theorem dX1_placeOf_4 : decode cX1_placeOf 4 = .ok (.aload_n 0, 1) := dk_42 (dk_at dksX1_placeOf_0 4 rfl rfl)
theorem dX1_placeOf_5 : decode cX1_placeOf 5 = .ok (.getfield 38, 3) := dk_180 0 38 (dk_at dksX1_placeOf_0 5 rfl rfl)
theorem dX1_placeOf_8 : decode cX1_placeOf 8 = .ok (.getfield 217, 3) := dk_180 0 217 (dk_at dksX1_placeOf_0 8 rfl rfl)
theorem dX1_placeOf_11 : decode cX1_placeOf 11 = .ok (.aload_n 0, 1) := dk_42 (dk_at dksX1_placeOf_0 11 rfl rfl)
theorem dX1_placeOf_12 : decode cX1_placeOf 12 = .ok (.iload_n 1, 1) := dk_27 (dk_at dksX1_placeOf_0 12 rfl rfl)
theorem dX1_placeOf_13 : decode cX1_placeOf 13 = .ok (.invokevirtual 188, 3) := dk_182 0 188 (dk_at dksX1_placeOf_0 13 rfl rfl)
theorem dX1_placeOf_16 : decode cX1_placeOf 16 = .ok (.iaload, 1) := dk_46 (dk_at dksX1_placeOf_0 16 rfl rfl)
theorem dX1_placeOf_17 : decode cX1_placeOf 17 = .ok (.iload_n 1, 1) := dk_27 (dk_at dksX1_placeOf_0 17 rfl rfl)
theorem dX1_placeOf_18 : decode cX1_placeOf 18 = .ok (.invokevirtual 244, 3) := dk_182 0 244 (dk_at dksX1_placeOf_0 18 rfl rfl)
theorem dX1_placeOf_21 : decode cX1_placeOf 21 = .ok (.ireturn, 1) := dk_172 (dk_at dksX1_placeOf_0 21 rfl rfl)
def dkwX1_medianAbove_0 : List UInt8 := [42, 27, 28, 182, 0, 238, 42, 180, 0, 38, 27, 28, 4, 182, 0, 247, 172]
abbrev dktX1_medianAbove_0 : List UInt8 := dkwX1_medianAbove_0 ++ []
theorem dksX1_medianAbove_0 : cX1_medianAbove.data.toList.drop 0 = dktX1_medianAbove_0 := by decide +kernel
theorem dX1_medianAbove_0 : decode cX1_medianAbove 0 = .ok (.aload_n 0, 1) := dk_42 (dk_at dksX1_medianAbove_0 0 rfl rfl)
theorem dX1_medianAbove_1 : decode cX1_medianAbove 1 = .ok (.iload_n 1, 1) := dk_27 (dk_at dksX1_medianAbove_0 1 rfl rfl)
theorem dX1_medianAbove_2 : decode cX1_medianAbove 2 = .ok (.iload_n 2, 1) := dk_28 (dk_at dksX1_medianAbove_0 2 rfl rfl)
theorem dX1_medianAbove_3 : decode cX1_medianAbove 3 = .ok (.invokevirtual 238, 3) := dk_182 0 238 (dk_at dksX1_medianAbove_0 3 rfl rfl)
theorem dX1_medianAbove_6 : decode cX1_medianAbove 6 = .ok (.aload_n 0, 1) := dk_42 (dk_at dksX1_medianAbove_0 6 rfl rfl)
theorem dX1_medianAbove_7 : decode cX1_medianAbove 7 = .ok (.getfield 38, 3) := dk_180 0 38 (dk_at dksX1_medianAbove_0 7 rfl rfl)
theorem dX1_medianAbove_10 : decode cX1_medianAbove 10 = .ok (.iload_n 1, 1) := dk_27 (dk_at dksX1_medianAbove_0 10 rfl rfl)
theorem dX1_medianAbove_11 : decode cX1_medianAbove 11 = .ok (.iload_n 2, 1) := dk_28 (dk_at dksX1_medianAbove_0 11 rfl rfl)
theorem dX1_medianAbove_12 : decode cX1_medianAbove 12 = .ok (.iconst 1, 1) := dk_4 (dk_at dksX1_medianAbove_0 12 rfl rfl)
theorem dX1_medianAbove_13 : decode cX1_medianAbove 13 = .ok (.invokevirtual 247, 3) := dk_182 0 247 (dk_at dksX1_medianAbove_0 13 rfl rfl)
theorem dX1_medianAbove_16 : decode cX1_medianAbove 16 = .ok (.ireturn, 1) := dk_172 (dk_at dksX1_medianAbove_0 16 rfl rfl)
def dkwX1_medianBelow_0 : List UInt8 := [42, 27, 28, 182, 0, 238, 42, 180, 0, 38, 27, 28, 3, 182, 0, 247, 172]
abbrev dktX1_medianBelow_0 : List UInt8 := dkwX1_medianBelow_0 ++ []
theorem dksX1_medianBelow_0 : cX1_medianBelow.data.toList.drop 0 = dktX1_medianBelow_0 := by decide +kernel
theorem dX1_medianBelow_0 : decode cX1_medianBelow 0 = .ok (.aload_n 0, 1) := dk_42 (dk_at dksX1_medianBelow_0 0 rfl rfl)
theorem dX1_medianBelow_1 : decode cX1_medianBelow 1 = .ok (.iload_n 1, 1) := dk_27 (dk_at dksX1_medianBelow_0 1 rfl rfl)
theorem dX1_medianBelow_2 : decode cX1_medianBelow 2 = .ok (.iload_n 2, 1) := dk_28 (dk_at dksX1_medianBelow_0 2 rfl rfl)
theorem dX1_medianBelow_3 : decode cX1_medianBelow 3 = .ok (.invokevirtual 238, 3) := dk_182 0 238 (dk_at dksX1_medianBelow_0 3 rfl rfl)
theorem dX1_medianBelow_6 : decode cX1_medianBelow 6 = .ok (.aload_n 0, 1) := dk_42 (dk_at dksX1_medianBelow_0 6 rfl rfl)
theorem dX1_medianBelow_7 : decode cX1_medianBelow 7 = .ok (.getfield 38, 3) := dk_180 0 38 (dk_at dksX1_medianBelow_0 7 rfl rfl)
theorem dX1_medianBelow_10 : decode cX1_medianBelow 10 = .ok (.iload_n 1, 1) := dk_27 (dk_at dksX1_medianBelow_0 10 rfl rfl)
theorem dX1_medianBelow_11 : decode cX1_medianBelow 11 = .ok (.iload_n 2, 1) := dk_28 (dk_at dksX1_medianBelow_0 11 rfl rfl)
theorem dX1_medianBelow_12 : decode cX1_medianBelow 12 = .ok (.iconst 0, 1) := dk_3 (dk_at dksX1_medianBelow_0 12 rfl rfl)
theorem dX1_medianBelow_13 : decode cX1_medianBelow 13 = .ok (.invokevirtual 247, 3) := dk_182 0 247 (dk_at dksX1_medianBelow_0 13 rfl rfl)
theorem dX1_medianBelow_16 : decode cX1_medianBelow 16 = .ok (.ireturn, 1) := dk_172 (dk_at dksX1_medianBelow_0 16 rfl rfl)
def dkwX1_crowdedLayer_2 : List UInt8 := [180, 0, 229, 27, 46, 164, 0, 7, 28, 167, 0, 4, 27, 60, 132, 2, 1, 167, 255, 215, 27, 172]
abbrev dktX1_crowdedLayer_2 : List UInt8 := dkwX1_crowdedLayer_2 ++ []
def dkwX1_crowdedLayer_1 : List UInt8 := [180, 0, 38, 180, 0, 226, 162, 0, 36, 42, 180, 0, 38, 180, 0, 229, 28, 46, 42, 180, 0, 38]
abbrev dktX1_crowdedLayer_1 : List UInt8 := dkwX1_crowdedLayer_1 ++ dktX1_crowdedLayer_2
def dkwX1_crowdedLayer_0 : List UInt8 := [42, 180, 0, 38, 180, 0, 226, 158, 0, 7, 4, 167, 0, 4, 3, 184, 0, 148, 3, 60, 4, 61, 28, 42]
abbrev dktX1_crowdedLayer_0 : List UInt8 := dkwX1_crowdedLayer_0 ++ dktX1_crowdedLayer_1
theorem dksX1_crowdedLayer_0 : cX1_crowdedLayer.data.toList.drop 0 = dktX1_crowdedLayer_0 := by decide +kernel
theorem dksX1_crowdedLayer_1 : cX1_crowdedLayer.data.toList.drop 24 = dktX1_crowdedLayer_1 := dk_seg dksX1_crowdedLayer_0 24 rfl rfl
theorem dksX1_crowdedLayer_2 : cX1_crowdedLayer.data.toList.drop 46 = dktX1_crowdedLayer_2 := dk_seg dksX1_crowdedLayer_1 22 rfl rfl
theorem dX1_crowdedLayer_0 : decode cX1_crowdedLayer 0 = .ok (.aload_n 0, 1) := dk_42 (dk_at dksX1_crowdedLayer_0 0 rfl rfl)
theorem dX1_crowdedLayer_1 : decode cX1_crowdedLayer 1 = .ok (.getfield 38, 3) := dk_180 0 38 (dk_at dksX1_crowdedLayer_0 1 rfl rfl)
theorem dX1_crowdedLayer_4 : decode cX1_crowdedLayer 4 = .ok (.getfield 226, 3) := dk_180 0 226 (dk_at dksX1_crowdedLayer_0 4 rfl rfl)
theorem dX1_crowdedLayer_7 : decode cX1_crowdedLayer 7 = .ok (.ifCond .le 7, 3) := dk_158 0 7 (dk_at dksX1_crowdedLayer_0 7 rfl rfl)
theorem dX1_crowdedLayer_10 : decode cX1_crowdedLayer 10 = .ok (.iconst 1, 1) := dk_4 (dk_at dksX1_crowdedLayer_0 10 rfl rfl)
theorem dX1_crowdedLayer_11 : decode cX1_crowdedLayer 11 = .ok (.goto 4, 3) := dk_167 0 4 (dk_at dksX1_crowdedLayer_0 11 rfl rfl)
theorem dX1_crowdedLayer_14 : decode cX1_crowdedLayer 14 = .ok (.iconst 0, 1) := dk_3 (dk_at dksX1_crowdedLayer_0 14 rfl rfl)
theorem dX1_crowdedLayer_15 : decode cX1_crowdedLayer 15 = .ok (.invokestatic 148, 3) := dk_184 0 148 (dk_at dksX1_crowdedLayer_0 15 rfl rfl)
theorem dX1_crowdedLayer_18 : decode cX1_crowdedLayer 18 = .ok (.iconst 0, 1) := dk_3 (dk_at dksX1_crowdedLayer_0 18 rfl rfl)
theorem dX1_crowdedLayer_19 : decode cX1_crowdedLayer 19 = .ok (.istore_n 1, 1) := dk_60 (dk_at dksX1_crowdedLayer_0 19 rfl rfl)
theorem dX1_crowdedLayer_20 : decode cX1_crowdedLayer 20 = .ok (.iconst 1, 1) := dk_4 (dk_at dksX1_crowdedLayer_0 20 rfl rfl)
theorem dX1_crowdedLayer_21 : decode cX1_crowdedLayer 21 = .ok (.istore_n 2, 1) := dk_61 (dk_at dksX1_crowdedLayer_0 21 rfl rfl)
theorem dX1_crowdedLayer_22 : decode cX1_crowdedLayer 22 = .ok (.iload_n 2, 1) := dk_28 (dk_at dksX1_crowdedLayer_0 22 rfl rfl)
theorem dX1_crowdedLayer_23 : decode cX1_crowdedLayer 23 = .ok (.aload_n 0, 1) := dk_42 (dk_at dksX1_crowdedLayer_0 23 rfl rfl)
theorem dX1_crowdedLayer_24 : decode cX1_crowdedLayer 24 = .ok (.getfield 38, 3) := dk_180 0 38 (dk_at dksX1_crowdedLayer_1 0 rfl rfl)
theorem dX1_crowdedLayer_27 : decode cX1_crowdedLayer 27 = .ok (.getfield 226, 3) := dk_180 0 226 (dk_at dksX1_crowdedLayer_1 3 rfl rfl)
theorem dX1_crowdedLayer_30 : decode cX1_crowdedLayer 30 = .ok (.if_icmp .ge 36, 3) := dk_162 0 36 (dk_at dksX1_crowdedLayer_1 6 rfl rfl)
theorem dX1_crowdedLayer_33 : decode cX1_crowdedLayer 33 = .ok (.aload_n 0, 1) := dk_42 (dk_at dksX1_crowdedLayer_1 9 rfl rfl)
theorem dX1_crowdedLayer_34 : decode cX1_crowdedLayer 34 = .ok (.getfield 38, 3) := dk_180 0 38 (dk_at dksX1_crowdedLayer_1 10 rfl rfl)
theorem dX1_crowdedLayer_37 : decode cX1_crowdedLayer 37 = .ok (.getfield 229, 3) := dk_180 0 229 (dk_at dksX1_crowdedLayer_1 13 rfl rfl)
theorem dX1_crowdedLayer_40 : decode cX1_crowdedLayer 40 = .ok (.iload_n 2, 1) := dk_28 (dk_at dksX1_crowdedLayer_1 16 rfl rfl)
theorem dX1_crowdedLayer_41 : decode cX1_crowdedLayer 41 = .ok (.iaload, 1) := dk_46 (dk_at dksX1_crowdedLayer_1 17 rfl rfl)
theorem dX1_crowdedLayer_42 : decode cX1_crowdedLayer 42 = .ok (.aload_n 0, 1) := dk_42 (dk_at dksX1_crowdedLayer_1 18 rfl rfl)
theorem dX1_crowdedLayer_43 : decode cX1_crowdedLayer 43 = .ok (.getfield 38, 3) := dk_180 0 38 (dk_at dksX1_crowdedLayer_1 19 rfl rfl)
theorem dX1_crowdedLayer_46 : decode cX1_crowdedLayer 46 = .ok (.getfield 229, 3) := dk_180 0 229 (dk_at dksX1_crowdedLayer_2 0 rfl rfl)
theorem dX1_crowdedLayer_49 : decode cX1_crowdedLayer 49 = .ok (.iload_n 1, 1) := dk_27 (dk_at dksX1_crowdedLayer_2 3 rfl rfl)
theorem dX1_crowdedLayer_50 : decode cX1_crowdedLayer 50 = .ok (.iaload, 1) := dk_46 (dk_at dksX1_crowdedLayer_2 4 rfl rfl)
theorem dX1_crowdedLayer_51 : decode cX1_crowdedLayer 51 = .ok (.if_icmp .le 7, 3) := dk_164 0 7 (dk_at dksX1_crowdedLayer_2 5 rfl rfl)
theorem dX1_crowdedLayer_54 : decode cX1_crowdedLayer 54 = .ok (.iload_n 2, 1) := dk_28 (dk_at dksX1_crowdedLayer_2 8 rfl rfl)
theorem dX1_crowdedLayer_55 : decode cX1_crowdedLayer 55 = .ok (.goto 4, 3) := dk_167 0 4 (dk_at dksX1_crowdedLayer_2 9 rfl rfl)
theorem dX1_crowdedLayer_58 : decode cX1_crowdedLayer 58 = .ok (.iload_n 1, 1) := dk_27 (dk_at dksX1_crowdedLayer_2 12 rfl rfl)
theorem dX1_crowdedLayer_59 : decode cX1_crowdedLayer 59 = .ok (.istore_n 1, 1) := dk_60 (dk_at dksX1_crowdedLayer_2 13 rfl rfl)
theorem dX1_crowdedLayer_60 : decode cX1_crowdedLayer 60 = .ok (.iinc 2 1, 3) := dk_132 2 1 (dk_at dksX1_crowdedLayer_2 14 rfl rfl)
theorem dX1_crowdedLayer_63 : decode cX1_crowdedLayer 63 = .ok (.goto (-41), 3) := dk_167 255 215 (dk_at dksX1_crowdedLayer_2 17 rfl rfl)
theorem dX1_crowdedLayer_66 : decode cX1_crowdedLayer 66 = .ok (.iload_n 1, 1) := dk_27 (dk_at dksX1_crowdedLayer_2 20 rfl rfl)
theorem dX1_crowdedLayer_67 : decode cX1_crowdedLayer 67 = .ok (.ireturn, 1) := dk_172 (dk_at dksX1_crowdedLayer_2 21 rfl rfl)
def dkwX1_crossingsBelow_1 : List UInt8 := [182, 1, 0, 167, 0, 4, 3, 172]
abbrev dktX1_crossingsBelow_1 : List UInt8 := dkwX1_crossingsBelow_1 ++ []
def dkwX1_crossingsBelow_0 : List UInt8 := [42, 27, 182, 0, 232, 61, 28, 4, 96, 42, 180, 0, 38, 180, 0, 226, 162, 0, 14, 42, 180, 0, 38, 28]
abbrev dktX1_crossingsBelow_0 : List UInt8 := dkwX1_crossingsBelow_0 ++ dktX1_crossingsBelow_1
theorem dksX1_crossingsBelow_0 : cX1_crossingsBelow.data.toList.drop 0 = dktX1_crossingsBelow_0 := by decide +kernel
theorem dksX1_crossingsBelow_1 : cX1_crossingsBelow.data.toList.drop 24 = dktX1_crossingsBelow_1 := dk_seg dksX1_crossingsBelow_0 24 rfl rfl
theorem dX1_crossingsBelow_0 : decode cX1_crossingsBelow 0 = .ok (.aload_n 0, 1) := dk_42 (dk_at dksX1_crossingsBelow_0 0 rfl rfl)
theorem dX1_crossingsBelow_1 : decode cX1_crossingsBelow 1 = .ok (.iload_n 1, 1) := dk_27 (dk_at dksX1_crossingsBelow_0 1 rfl rfl)
theorem dX1_crossingsBelow_2 : decode cX1_crossingsBelow 2 = .ok (.invokevirtual 232, 3) := dk_182 0 232 (dk_at dksX1_crossingsBelow_0 2 rfl rfl)
theorem dX1_crossingsBelow_5 : decode cX1_crossingsBelow 5 = .ok (.istore_n 2, 1) := dk_61 (dk_at dksX1_crossingsBelow_0 5 rfl rfl)
theorem dX1_crossingsBelow_6 : decode cX1_crossingsBelow 6 = .ok (.iload_n 2, 1) := dk_28 (dk_at dksX1_crossingsBelow_0 6 rfl rfl)
theorem dX1_crossingsBelow_7 : decode cX1_crossingsBelow 7 = .ok (.iconst 1, 1) := dk_4 (dk_at dksX1_crossingsBelow_0 7 rfl rfl)
theorem dX1_crossingsBelow_8 : decode cX1_crossingsBelow 8 = .ok (.iadd, 1) := dk_96 (dk_at dksX1_crossingsBelow_0 8 rfl rfl)
theorem dX1_crossingsBelow_9 : decode cX1_crossingsBelow 9 = .ok (.aload_n 0, 1) := dk_42 (dk_at dksX1_crossingsBelow_0 9 rfl rfl)
theorem dX1_crossingsBelow_10 : decode cX1_crossingsBelow 10 = .ok (.getfield 38, 3) := dk_180 0 38 (dk_at dksX1_crossingsBelow_0 10 rfl rfl)
theorem dX1_crossingsBelow_13 : decode cX1_crossingsBelow 13 = .ok (.getfield 226, 3) := dk_180 0 226 (dk_at dksX1_crossingsBelow_0 13 rfl rfl)
theorem dX1_crossingsBelow_16 : decode cX1_crossingsBelow 16 = .ok (.if_icmp .ge 14, 3) := dk_162 0 14 (dk_at dksX1_crossingsBelow_0 16 rfl rfl)
theorem dX1_crossingsBelow_19 : decode cX1_crossingsBelow 19 = .ok (.aload_n 0, 1) := dk_42 (dk_at dksX1_crossingsBelow_0 19 rfl rfl)
theorem dX1_crossingsBelow_20 : decode cX1_crossingsBelow 20 = .ok (.getfield 38, 3) := dk_180 0 38 (dk_at dksX1_crossingsBelow_0 20 rfl rfl)
theorem dX1_crossingsBelow_23 : decode cX1_crossingsBelow 23 = .ok (.iload_n 2, 1) := dk_28 (dk_at dksX1_crossingsBelow_0 23 rfl rfl)
theorem dX1_crossingsBelow_24 : decode cX1_crossingsBelow 24 = .ok (.invokevirtual 256, 3) := dk_182 1 0 (dk_at dksX1_crossingsBelow_1 0 rfl rfl)
theorem dX1_crossingsBelow_27 : decode cX1_crossingsBelow 27 = .ok (.goto 4, 3) := dk_167 0 4 (dk_at dksX1_crossingsBelow_1 3 rfl rfl)
theorem dX1_crossingsBelow_30 : decode cX1_crossingsBelow 30 = .ok (.iconst 0, 1) := dk_3 (dk_at dksX1_crossingsBelow_1 6 rfl rfl)
theorem dX1_crossingsBelow_31 : decode cX1_crossingsBelow 31 = .ok (.ireturn, 1) := dk_172 (dk_at dksX1_crossingsBelow_1 7 rfl rfl)
def dkwX1_crossingsOf_0 : List UInt8 := [42, 180, 0, 38, 42, 27, 182, 0, 175, 182, 1, 3, 172]
abbrev dktX1_crossingsOf_0 : List UInt8 := dkwX1_crossingsOf_0 ++ []
theorem dksX1_crossingsOf_0 : cX1_crossingsOf.data.toList.drop 0 = dktX1_crossingsOf_0 := by decide +kernel
theorem dX1_crossingsOf_0 : decode cX1_crossingsOf 0 = .ok (.aload_n 0, 1) := dk_42 (dk_at dksX1_crossingsOf_0 0 rfl rfl)
theorem dX1_crossingsOf_1 : decode cX1_crossingsOf 1 = .ok (.getfield 38, 3) := dk_180 0 38 (dk_at dksX1_crossingsOf_0 1 rfl rfl)
theorem dX1_crossingsOf_4 : decode cX1_crossingsOf 4 = .ok (.aload_n 0, 1) := dk_42 (dk_at dksX1_crossingsOf_0 4 rfl rfl)
theorem dX1_crossingsOf_5 : decode cX1_crossingsOf 5 = .ok (.iload_n 1, 1) := dk_27 (dk_at dksX1_crossingsOf_0 5 rfl rfl)
theorem dX1_crossingsOf_6 : decode cX1_crossingsOf 6 = .ok (.invokevirtual 175, 3) := dk_182 0 175 (dk_at dksX1_crossingsOf_0 6 rfl rfl)
theorem dX1_crossingsOf_9 : decode cX1_crossingsOf 9 = .ok (.invokevirtual 259, 3) := dk_182 1 3 (dk_at dksX1_crossingsOf_0 9 rfl rfl)
theorem dX1_crossingsOf_12 : decode cX1_crossingsOf 12 = .ok (.ireturn, 1) := dk_172 (dk_at dksX1_crossingsOf_0 12 rfl rfl)
def dkwX1_columnAt_0 : List UInt8 := [42, 27, 28, 182, 0, 238, 42, 180, 0, 38, 182, 1, 6, 27, 16, 46, 104, 28, 96, 46, 172]
abbrev dktX1_columnAt_0 : List UInt8 := dkwX1_columnAt_0 ++ []
theorem dksX1_columnAt_0 : cX1_columnAt.data.toList.drop 0 = dktX1_columnAt_0 := by decide +kernel
theorem dX1_columnAt_0 : decode cX1_columnAt 0 = .ok (.aload_n 0, 1) := dk_42 (dk_at dksX1_columnAt_0 0 rfl rfl)
theorem dX1_columnAt_1 : decode cX1_columnAt 1 = .ok (.iload_n 1, 1) := dk_27 (dk_at dksX1_columnAt_0 1 rfl rfl)
theorem dX1_columnAt_2 : decode cX1_columnAt 2 = .ok (.iload_n 2, 1) := dk_28 (dk_at dksX1_columnAt_0 2 rfl rfl)
theorem dX1_columnAt_3 : decode cX1_columnAt 3 = .ok (.invokevirtual 238, 3) := dk_182 0 238 (dk_at dksX1_columnAt_0 3 rfl rfl)
theorem dX1_columnAt_6 : decode cX1_columnAt 6 = .ok (.aload_n 0, 1) := dk_42 (dk_at dksX1_columnAt_0 6 rfl rfl)
theorem dX1_columnAt_7 : decode cX1_columnAt 7 = .ok (.getfield 38, 3) := dk_180 0 38 (dk_at dksX1_columnAt_0 7 rfl rfl)
theorem dX1_columnAt_10 : decode cX1_columnAt 10 = .ok (.invokevirtual 262, 3) := dk_182 1 6 (dk_at dksX1_columnAt_0 10 rfl rfl)
theorem dX1_columnAt_13 : decode cX1_columnAt 13 = .ok (.iload_n 1, 1) := dk_27 (dk_at dksX1_columnAt_0 13 rfl rfl)
theorem dX1_columnAt_14 : decode cX1_columnAt 14 = .ok (.bipush 46, 2) := dk_16 46 (dk_at dksX1_columnAt_0 14 rfl rfl)
theorem dX1_columnAt_16 : decode cX1_columnAt 16 = .ok (.imul, 1) := dk_104 (dk_at dksX1_columnAt_0 16 rfl rfl)
theorem dX1_columnAt_17 : decode cX1_columnAt 17 = .ok (.iload_n 2, 1) := dk_28 (dk_at dksX1_columnAt_0 17 rfl rfl)
theorem dX1_columnAt_18 : decode cX1_columnAt 18 = .ok (.iadd, 1) := dk_96 (dk_at dksX1_columnAt_0 18 rfl rfl)
theorem dX1_columnAt_19 : decode cX1_columnAt 19 = .ok (.iaload, 1) := dk_46 (dk_at dksX1_columnAt_0 19 rfl rfl)
theorem dX1_columnAt_20 : decode cX1_columnAt 20 = .ok (.ireturn, 1) := dk_172 (dk_at dksX1_columnAt_0 20 rfl rfl)
def dkwX1_bendsOf_0 : List UInt8 := [42, 27, 182, 0, 175, 61, 42, 180, 0, 38, 28, 42, 180, 0, 38, 182, 1, 6, 182, 1, 10, 172]
abbrev dktX1_bendsOf_0 : List UInt8 := dkwX1_bendsOf_0 ++ []
theorem dksX1_bendsOf_0 : cX1_bendsOf.data.toList.drop 0 = dktX1_bendsOf_0 := by decide +kernel
theorem dX1_bendsOf_0 : decode cX1_bendsOf 0 = .ok (.aload_n 0, 1) := dk_42 (dk_at dksX1_bendsOf_0 0 rfl rfl)
theorem dX1_bendsOf_1 : decode cX1_bendsOf 1 = .ok (.iload_n 1, 1) := dk_27 (dk_at dksX1_bendsOf_0 1 rfl rfl)
theorem dX1_bendsOf_2 : decode cX1_bendsOf 2 = .ok (.invokevirtual 175, 3) := dk_182 0 175 (dk_at dksX1_bendsOf_0 2 rfl rfl)
theorem dX1_bendsOf_5 : decode cX1_bendsOf 5 = .ok (.istore_n 2, 1) := dk_61 (dk_at dksX1_bendsOf_0 5 rfl rfl)
theorem dX1_bendsOf_6 : decode cX1_bendsOf 6 = .ok (.aload_n 0, 1) := dk_42 (dk_at dksX1_bendsOf_0 6 rfl rfl)
theorem dX1_bendsOf_7 : decode cX1_bendsOf 7 = .ok (.getfield 38, 3) := dk_180 0 38 (dk_at dksX1_bendsOf_0 7 rfl rfl)
theorem dX1_bendsOf_10 : decode cX1_bendsOf 10 = .ok (.iload_n 2, 1) := dk_28 (dk_at dksX1_bendsOf_0 10 rfl rfl)
theorem dX1_bendsOf_11 : decode cX1_bendsOf 11 = .ok (.aload_n 0, 1) := dk_42 (dk_at dksX1_bendsOf_0 11 rfl rfl)
theorem dX1_bendsOf_12 : decode cX1_bendsOf 12 = .ok (.getfield 38, 3) := dk_180 0 38 (dk_at dksX1_bendsOf_0 12 rfl rfl)
theorem dX1_bendsOf_15 : decode cX1_bendsOf 15 = .ok (.invokevirtual 262, 3) := dk_182 1 6 (dk_at dksX1_bendsOf_0 15 rfl rfl)
theorem dX1_bendsOf_18 : decode cX1_bendsOf 18 = .ok (.invokevirtual 266, 3) := dk_182 1 10 (dk_at dksX1_bendsOf_0 18 rfl rfl)
theorem dX1_bendsOf_21 : decode cX1_bendsOf 21 = .ok (.ireturn, 1) := dk_172 (dk_at dksX1_bendsOf_0 21 rfl rfl)
def dkwX1_meanPoints_1 : List UInt8 := [182, 0, 235, 134, 42, 180, 0, 38, 180, 0, 226, 134, 110, 174]
abbrev dktX1_meanPoints_1 : List UInt8 := dkwX1_meanPoints_1 ++ []
def dkwX1_meanPoints_0 : List UInt8 := [42, 180, 0, 38, 180, 0, 165, 158, 0, 7, 4, 167, 0, 4, 3, 184, 0, 148, 42, 180, 0, 38]
abbrev dktX1_meanPoints_0 : List UInt8 := dkwX1_meanPoints_0 ++ dktX1_meanPoints_1
theorem dksX1_meanPoints_0 : cX1_meanPoints.data.toList.drop 0 = dktX1_meanPoints_0 := by decide +kernel
theorem dksX1_meanPoints_1 : cX1_meanPoints.data.toList.drop 22 = dktX1_meanPoints_1 := dk_seg dksX1_meanPoints_0 22 rfl rfl
theorem dX1_meanPoints_0 : decode cX1_meanPoints 0 = .ok (.aload_n 0, 1) := dk_42 (dk_at dksX1_meanPoints_0 0 rfl rfl)
theorem dX1_meanPoints_1 : decode cX1_meanPoints 1 = .ok (.getfield 38, 3) := dk_180 0 38 (dk_at dksX1_meanPoints_0 1 rfl rfl)
theorem dX1_meanPoints_4 : decode cX1_meanPoints 4 = .ok (.getfield 165, 3) := dk_180 0 165 (dk_at dksX1_meanPoints_0 4 rfl rfl)
theorem dX1_meanPoints_7 : decode cX1_meanPoints 7 = .ok (.ifCond .le 7, 3) := dk_158 0 7 (dk_at dksX1_meanPoints_0 7 rfl rfl)
theorem dX1_meanPoints_10 : decode cX1_meanPoints 10 = .ok (.iconst 1, 1) := dk_4 (dk_at dksX1_meanPoints_0 10 rfl rfl)
theorem dX1_meanPoints_11 : decode cX1_meanPoints 11 = .ok (.goto 4, 3) := dk_167 0 4 (dk_at dksX1_meanPoints_0 11 rfl rfl)
theorem dX1_meanPoints_14 : decode cX1_meanPoints 14 = .ok (.iconst 0, 1) := dk_3 (dk_at dksX1_meanPoints_0 14 rfl rfl)
theorem dX1_meanPoints_15 : decode cX1_meanPoints 15 = .ok (.invokestatic 148, 3) := dk_184 0 148 (dk_at dksX1_meanPoints_0 15 rfl rfl)
theorem dX1_meanPoints_18 : decode cX1_meanPoints 18 = .ok (.aload_n 0, 1) := dk_42 (dk_at dksX1_meanPoints_0 18 rfl rfl)
theorem dX1_meanPoints_19 : decode cX1_meanPoints 19 = .ok (.getfield 38, 3) := dk_180 0 38 (dk_at dksX1_meanPoints_0 19 rfl rfl)
theorem dX1_meanPoints_22 : decode cX1_meanPoints 22 = .ok (.invokevirtual 235, 3) := dk_182 0 235 (dk_at dksX1_meanPoints_1 0 rfl rfl)
theorem dX1_meanPoints_25 : decode cX1_meanPoints 25 = .ok (.i2f, 1) := dk_134 (dk_at dksX1_meanPoints_1 3 rfl rfl)
theorem dX1_meanPoints_26 : decode cX1_meanPoints 26 = .ok (.aload_n 0, 1) := dk_42 (dk_at dksX1_meanPoints_1 4 rfl rfl)
theorem dX1_meanPoints_27 : decode cX1_meanPoints 27 = .ok (.getfield 38, 3) := dk_180 0 38 (dk_at dksX1_meanPoints_1 5 rfl rfl)
theorem dX1_meanPoints_30 : decode cX1_meanPoints 30 = .ok (.getfield 226, 3) := dk_180 0 226 (dk_at dksX1_meanPoints_1 8 rfl rfl)
theorem dX1_meanPoints_33 : decode cX1_meanPoints 33 = .ok (.i2f, 1) := dk_134 (dk_at dksX1_meanPoints_1 11 rfl rfl)
theorem dX1_meanPoints_34 : decode cX1_meanPoints 34 = .ok (.fdiv, 1) := dk_110 (dk_at dksX1_meanPoints_1 12 rfl rfl)
theorem dX1_meanPoints_35 : decode cX1_meanPoints 35 = .ok (.freturn, 1) := dk_174 (dk_at dksX1_meanPoints_1 13 rfl rfl)
def dkwX1_goBack_1 : List UInt8 := [180, 0, 165, 182, 0, 112, 172]
abbrev dktX1_goBack_1 : List UInt8 := dkwX1_goBack_1 ++ []
def dkwX1_goBack_0 : List UInt8 := [42, 180, 1, 32, 198, 0, 7, 4, 167, 0, 4, 3, 184, 1, 35, 42, 42, 180, 1, 32, 42, 180, 1, 32]
abbrev dktX1_goBack_0 : List UInt8 := dkwX1_goBack_0 ++ dktX1_goBack_1
theorem dksX1_goBack_0 : cX1_goBack.data.toList.drop 0 = dktX1_goBack_0 := by decide +kernel
theorem dksX1_goBack_1 : cX1_goBack.data.toList.drop 24 = dktX1_goBack_1 := dk_seg dksX1_goBack_0 24 rfl rfl
theorem dX1_goBack_0 : decode cX1_goBack 0 = .ok (.aload_n 0, 1) := dk_42 (dk_at dksX1_goBack_0 0 rfl rfl)
theorem dX1_goBack_1 : decode cX1_goBack 1 = .ok (.getfield 288, 3) := dk_180 1 32 (dk_at dksX1_goBack_0 1 rfl rfl)
theorem dX1_goBack_4 : decode cX1_goBack 4 = .ok (.ifnull 7, 3) := dk_198 0 7 (dk_at dksX1_goBack_0 4 rfl rfl)
theorem dX1_goBack_7 : decode cX1_goBack 7 = .ok (.iconst 1, 1) := dk_4 (dk_at dksX1_goBack_0 7 rfl rfl)
theorem dX1_goBack_8 : decode cX1_goBack 8 = .ok (.goto 4, 3) := dk_167 0 4 (dk_at dksX1_goBack_0 8 rfl rfl)
theorem dX1_goBack_11 : decode cX1_goBack 11 = .ok (.iconst 0, 1) := dk_3 (dk_at dksX1_goBack_0 11 rfl rfl)
theorem dX1_goBack_12 : decode cX1_goBack 12 = .ok (.invokestatic 291, 3) := dk_184 1 35 (dk_at dksX1_goBack_0 12 rfl rfl)
theorem dX1_goBack_15 : decode cX1_goBack 15 = .ok (.aload_n 0, 1) := dk_42 (dk_at dksX1_goBack_0 15 rfl rfl)
theorem dX1_goBack_16 : decode cX1_goBack 16 = .ok (.aload_n 0, 1) := dk_42 (dk_at dksX1_goBack_0 16 rfl rfl)
theorem dX1_goBack_17 : decode cX1_goBack 17 = .ok (.getfield 288, 3) := dk_180 1 32 (dk_at dksX1_goBack_0 17 rfl rfl)
theorem dX1_goBack_20 : decode cX1_goBack 20 = .ok (.aload_n 0, 1) := dk_42 (dk_at dksX1_goBack_0 20 rfl rfl)
theorem dX1_goBack_21 : decode cX1_goBack 21 = .ok (.getfield 288, 3) := dk_180 1 32 (dk_at dksX1_goBack_0 21 rfl rfl)
theorem dX1_goBack_24 : decode cX1_goBack 24 = .ok (.getfield 165, 3) := dk_180 0 165 (dk_at dksX1_goBack_1 0 rfl rfl)
theorem dX1_goBack_27 : decode cX1_goBack 27 = .ok (.invokevirtual 112, 3) := dk_182 0 112 (dk_at dksX1_goBack_1 3 rfl rfl)
theorem dX1_goBack_30 : decode cX1_goBack 30 = .ok (.ireturn, 1) := dk_172 (dk_at dksX1_goBack_1 6 rfl rfl)
def dkwX1_needState_0 : List UInt8 := [26, 154, 0, 13, 187, 0, 126, 89, 18, 128, 183, 0, 147, 191, 177]
abbrev dktX1_needState_0 : List UInt8 := dkwX1_needState_0 ++ []
theorem dksX1_needState_0 : cX1_needState.data.toList.drop 0 = dktX1_needState_0 := by decide +kernel
theorem dX1_needState_0 : decode cX1_needState 0 = .ok (.iload_n 0, 1) := dk_26 (dk_at dksX1_needState_0 0 rfl rfl)
theorem dX1_needState_1 : decode cX1_needState 1 = .ok (.ifCond .ne 13, 3) := dk_154 0 13 (dk_at dksX1_needState_0 1 rfl rfl)
theorem dX1_needState_4 : decode cX1_needState 4 = .ok (.new 126, 3) := dk_187 0 126 (dk_at dksX1_needState_0 4 rfl rfl)
theorem dX1_needState_7 : decode cX1_needState 7 = .ok (.dup, 1) := dk_89 (dk_at dksX1_needState_0 7 rfl rfl)
theorem dX1_needState_8 : decode cX1_needState 8 = .ok (.ldc 128, 2) := dk_18 128 (dk_at dksX1_needState_0 8 rfl rfl)
theorem dX1_needState_10 : decode cX1_needState 10 = .ok (.invokespecial 147, 3) := dk_183 0 147 (dk_at dksX1_needState_0 10 rfl rfl)
theorem dX1_needState_13 : decode cX1_needState 13 = .ok (.athrow, 1) := dk_191 (dk_at dksX1_needState_0 13 rfl rfl)
theorem dX1_needState_14 : decode cX1_needState 14 = .ok (.return_, 1) := dk_177 (dk_at dksX1_needState_0 14 rfl rfl)
def dkwX1_undo_1 : List UInt8 := [182, 1, 42, 192, 0, 35, 181, 0, 38, 42, 180, 0, 45, 182, 0, 60, 172]
abbrev dktX1_undo_1 : List UInt8 := dkwX1_undo_1 ++ []
def dkwX1_undo_0 : List UInt8 := [42, 180, 0, 45, 182, 1, 38, 154, 0, 7, 4, 167, 0, 4, 3, 184, 1, 35, 42, 42, 180, 0, 45]
abbrev dktX1_undo_0 : List UInt8 := dkwX1_undo_0 ++ dktX1_undo_1
theorem dksX1_undo_0 : cX1_undo.data.toList.drop 0 = dktX1_undo_0 := by decide +kernel
theorem dksX1_undo_1 : cX1_undo.data.toList.drop 23 = dktX1_undo_1 := dk_seg dksX1_undo_0 23 rfl rfl
theorem dX1_undo_0 : decode cX1_undo 0 = .ok (.aload_n 0, 1) := dk_42 (dk_at dksX1_undo_0 0 rfl rfl)
theorem dX1_undo_1 : decode cX1_undo 1 = .ok (.getfield 45, 3) := dk_180 0 45 (dk_at dksX1_undo_0 1 rfl rfl)
theorem dX1_undo_4 : decode cX1_undo 4 = .ok (.invokevirtual 294, 3) := dk_182 1 38 (dk_at dksX1_undo_0 4 rfl rfl)
theorem dX1_undo_7 : decode cX1_undo 7 = .ok (.ifCond .ne 7, 3) := dk_154 0 7 (dk_at dksX1_undo_0 7 rfl rfl)
theorem dX1_undo_10 : decode cX1_undo 10 = .ok (.iconst 1, 1) := dk_4 (dk_at dksX1_undo_0 10 rfl rfl)
theorem dX1_undo_11 : decode cX1_undo 11 = .ok (.goto 4, 3) := dk_167 0 4 (dk_at dksX1_undo_0 11 rfl rfl)
theorem dX1_undo_14 : decode cX1_undo 14 = .ok (.iconst 0, 1) := dk_3 (dk_at dksX1_undo_0 14 rfl rfl)
theorem dX1_undo_15 : decode cX1_undo 15 = .ok (.invokestatic 291, 3) := dk_184 1 35 (dk_at dksX1_undo_0 15 rfl rfl)
theorem dX1_undo_18 : decode cX1_undo 18 = .ok (.aload_n 0, 1) := dk_42 (dk_at dksX1_undo_0 18 rfl rfl)
theorem dX1_undo_19 : decode cX1_undo 19 = .ok (.aload_n 0, 1) := dk_42 (dk_at dksX1_undo_0 19 rfl rfl)
theorem dX1_undo_20 : decode cX1_undo 20 = .ok (.getfield 45, 3) := dk_180 0 45 (dk_at dksX1_undo_0 20 rfl rfl)
theorem dX1_undo_23 : decode cX1_undo 23 = .ok (.invokevirtual 298, 3) := dk_182 1 42 (dk_at dksX1_undo_1 0 rfl rfl)
theorem dX1_undo_26 : decode cX1_undo 26 = .ok (.checkcast 35, 3) := dk_192 0 35 (dk_at dksX1_undo_1 3 rfl rfl)
theorem dX1_undo_29 : decode cX1_undo 29 = .ok (.putfield 38, 3) := dk_181 0 38 (dk_at dksX1_undo_1 6 rfl rfl)
theorem dX1_undo_32 : decode cX1_undo 32 = .ok (.aload_n 0, 1) := dk_42 (dk_at dksX1_undo_1 9 rfl rfl)
theorem dX1_undo_33 : decode cX1_undo 33 = .ok (.getfield 45, 3) := dk_180 0 45 (dk_at dksX1_undo_1 10 rfl rfl)
theorem dX1_undo_36 : decode cX1_undo 36 = .ok (.invokevirtual 60, 3) := dk_182 0 60 (dk_at dksX1_undo_1 13 rfl rfl)
theorem dX1_undo_39 : decode cX1_undo 39 = .ok (.ireturn, 1) := dk_172 (dk_at dksX1_undo_1 16 rfl rfl)
def dkwX1_type_2 : List UInt8 := [180, 0, 52, 182, 1, 53, 172]
abbrev dktX1_type_2 : List UInt8 := dkwX1_type_2 ++ []
def dkwX1_type_1 : List UInt8 := [162, 0, 7, 4, 167, 0, 4, 3, 184, 1, 35, 42, 180, 0, 52, 27, 146, 182, 1, 56, 87, 42]
abbrev dktX1_type_1 : List UInt8 := dkwX1_type_1 ++ dktX1_type_2
def dkwX1_type_0 : List UInt8 := [27, 133, 20, 1, 45, 20, 1, 47, 184, 1, 49, 184, 0, 156, 42, 180, 0, 52, 182, 1, 53, 16, 60]
abbrev dktX1_type_0 : List UInt8 := dkwX1_type_0 ++ dktX1_type_1
theorem dksX1_type_0 : cX1_type.data.toList.drop 0 = dktX1_type_0 := by decide +kernel
theorem dksX1_type_1 : cX1_type.data.toList.drop 23 = dktX1_type_1 := dk_seg dksX1_type_0 23 rfl rfl
theorem dksX1_type_2 : cX1_type.data.toList.drop 45 = dktX1_type_2 := dk_seg dksX1_type_1 22 rfl rfl
theorem dX1_type_0 : decode cX1_type 0 = .ok (.iload_n 1, 1) := dk_27 (dk_at dksX1_type_0 0 rfl rfl)
theorem dX1_type_1 : decode cX1_type 1 = .ok (.i2l, 1) := dk_133 (dk_at dksX1_type_0 1 rfl rfl)
theorem dX1_type_2 : decode cX1_type 2 = .ok (.ldc2_w 301, 3) := dk_20 1 45 (dk_at dksX1_type_0 2 rfl rfl)
theorem dX1_type_5 : decode cX1_type 5 = .ok (.ldc2_w 303, 3) := dk_20 1 47 (dk_at dksX1_type_0 5 rfl rfl)
theorem dX1_type_8 : decode cX1_type 8 = .ok (.invokestatic 305, 3) := dk_184 1 49 (dk_at dksX1_type_0 8 rfl rfl)
theorem dX1_type_11 : decode cX1_type 11 = .ok (.invokestatic 156, 3) := dk_184 0 156 (dk_at dksX1_type_0 11 rfl rfl)
theorem dX1_type_14 : decode cX1_type 14 = .ok (.aload_n 0, 1) := dk_42 (dk_at dksX1_type_0 14 rfl rfl)
theorem dX1_type_15 : decode cX1_type 15 = .ok (.getfield 52, 3) := dk_180 0 52 (dk_at dksX1_type_0 15 rfl rfl)
theorem dX1_type_18 : decode cX1_type 18 = .ok (.invokevirtual 309, 3) := dk_182 1 53 (dk_at dksX1_type_0 18 rfl rfl)
theorem dX1_type_21 : decode cX1_type 21 = .ok (.bipush 60, 2) := dk_16 60 (dk_at dksX1_type_0 21 rfl rfl)
theorem dX1_type_23 : decode cX1_type 23 = .ok (.if_icmp .ge 7, 3) := dk_162 0 7 (dk_at dksX1_type_1 0 rfl rfl)
theorem dX1_type_26 : decode cX1_type 26 = .ok (.iconst 1, 1) := dk_4 (dk_at dksX1_type_1 3 rfl rfl)
theorem dX1_type_27 : decode cX1_type 27 = .ok (.goto 4, 3) := dk_167 0 4 (dk_at dksX1_type_1 4 rfl rfl)
theorem dX1_type_30 : decode cX1_type 30 = .ok (.iconst 0, 1) := dk_3 (dk_at dksX1_type_1 7 rfl rfl)
theorem dX1_type_31 : decode cX1_type 31 = .ok (.invokestatic 291, 3) := dk_184 1 35 (dk_at dksX1_type_1 8 rfl rfl)
theorem dX1_type_34 : decode cX1_type 34 = .ok (.aload_n 0, 1) := dk_42 (dk_at dksX1_type_1 11 rfl rfl)
theorem dX1_type_35 : decode cX1_type 35 = .ok (.getfield 52, 3) := dk_180 0 52 (dk_at dksX1_type_1 12 rfl rfl)
theorem dX1_type_38 : decode cX1_type 38 = .ok (.iload_n 1, 1) := dk_27 (dk_at dksX1_type_1 15 rfl rfl)
theorem dX1_type_39 : decode cX1_type 39 = .ok (.i2c, 1) := dk_146 (dk_at dksX1_type_1 16 rfl rfl)
theorem dX1_type_40 : decode cX1_type 40 = .ok (.invokevirtual 312, 3) := dk_182 1 56 (dk_at dksX1_type_1 17 rfl rfl)
theorem dX1_type_43 : decode cX1_type 43 = .ok (.pop, 1) := dk_87 (dk_at dksX1_type_1 20 rfl rfl)
theorem dX1_type_44 : decode cX1_type 44 = .ok (.aload_n 0, 1) := dk_42 (dk_at dksX1_type_1 21 rfl rfl)
theorem dX1_type_45 : decode cX1_type 45 = .ok (.getfield 52, 3) := dk_180 0 52 (dk_at dksX1_type_2 0 rfl rfl)
theorem dX1_type_48 : decode cX1_type 48 = .ok (.invokevirtual 309, 3) := dk_182 1 53 (dk_at dksX1_type_2 3 rfl rfl)
theorem dX1_type_51 : decode cX1_type 51 = .ok (.ireturn, 1) := dk_172 (dk_at dksX1_type_2 6 rfl rfl)
def dkwX1_faultPosition_0 : List UInt8 := [42, 182, 1, 71, 180, 1, 75, 172]
abbrev dktX1_faultPosition_0 : List UInt8 := dkwX1_faultPosition_0 ++ []
theorem dksX1_faultPosition_0 : cX1_faultPosition.data.toList.drop 0 = dktX1_faultPosition_0 := by decide +kernel
theorem dX1_faultPosition_0 : decode cX1_faultPosition 0 = .ok (.aload_n 0, 1) := dk_42 (dk_at dksX1_faultPosition_0 0 rfl rfl)
theorem dX1_faultPosition_1 : decode cX1_faultPosition 1 = .ok (.invokevirtual 327, 3) := dk_182 1 71 (dk_at dksX1_faultPosition_0 1 rfl rfl)
theorem dX1_faultPosition_4 : decode cX1_faultPosition 4 = .ok (.getfield 331, 3) := dk_180 1 75 (dk_at dksX1_faultPosition_0 4 rfl rfl)
theorem dX1_faultPosition_7 : decode cX1_faultPosition 7 = .ok (.ireturn, 1) := dk_172 (dk_at dksX1_faultPosition_0 7 rfl rfl)
def dkwX1_faulty_1 : List UInt8 := [43, 176]
abbrev dktX1_faulty_1 : List UInt8 := dkwX1_faulty_1 ++ []
def dkwX1_faulty_0 : List UInt8 := [187, 1, 63, 89, 42, 183, 1, 65, 76, 43, 182, 1, 68, 154, 0, 7, 4, 167, 0, 4, 3, 184, 0, 148]
abbrev dktX1_faulty_0 : List UInt8 := dkwX1_faulty_0 ++ dktX1_faulty_1
theorem dksX1_faulty_0 : cX1_faulty.data.toList.drop 0 = dktX1_faulty_0 := by decide +kernel
theorem dksX1_faulty_1 : cX1_faulty.data.toList.drop 24 = dktX1_faulty_1 := dk_seg dksX1_faulty_0 24 rfl rfl
theorem dX1_faulty_0 : decode cX1_faulty 0 = .ok (.new 319, 3) := dk_187 1 63 (dk_at dksX1_faulty_0 0 rfl rfl)
theorem dX1_faulty_3 : decode cX1_faulty 3 = .ok (.dup, 1) := dk_89 (dk_at dksX1_faulty_0 3 rfl rfl)
theorem dX1_faulty_4 : decode cX1_faulty 4 = .ok (.aload_n 0, 1) := dk_42 (dk_at dksX1_faulty_0 4 rfl rfl)
theorem dX1_faulty_5 : decode cX1_faulty 5 = .ok (.invokespecial 321, 3) := dk_183 1 65 (dk_at dksX1_faulty_0 5 rfl rfl)
theorem dX1_faulty_8 : decode cX1_faulty 8 = .ok (.astore_n 1, 1) := dk_76 (dk_at dksX1_faulty_0 8 rfl rfl)
theorem dX1_faulty_9 : decode cX1_faulty 9 = .ok (.aload_n 1, 1) := dk_43 (dk_at dksX1_faulty_0 9 rfl rfl)
theorem dX1_faulty_10 : decode cX1_faulty 10 = .ok (.invokevirtual 324, 3) := dk_182 1 68 (dk_at dksX1_faulty_0 10 rfl rfl)
theorem dX1_faulty_13 : decode cX1_faulty 13 = .ok (.ifCond .ne 7, 3) := dk_154 0 7 (dk_at dksX1_faulty_0 13 rfl rfl)
theorem dX1_faulty_16 : decode cX1_faulty 16 = .ok (.iconst 1, 1) := dk_4 (dk_at dksX1_faulty_0 16 rfl rfl)
theorem dX1_faulty_17 : decode cX1_faulty 17 = .ok (.goto 4, 3) := dk_167 0 4 (dk_at dksX1_faulty_0 17 rfl rfl)
theorem dX1_faulty_20 : decode cX1_faulty 20 = .ok (.iconst 0, 1) := dk_3 (dk_at dksX1_faulty_0 20 rfl rfl)
theorem dX1_faulty_21 : decode cX1_faulty 21 = .ok (.invokestatic 148, 3) := dk_184 0 148 (dk_at dksX1_faulty_0 21 rfl rfl)
theorem dX1_faulty_24 : decode cX1_faulty 24 = .ok (.aload_n 1, 1) := dk_43 (dk_at dksX1_faulty_1 0 rfl rfl)
theorem dX1_faulty_25 : decode cX1_faulty 25 = .ok (.areturn, 1) := dk_176 (dk_at dksX1_faulty_1 1 rfl rfl)
def dkwX1_faultReason_0 : List UInt8 := [42, 182, 1, 71, 180, 1, 78, 172]
abbrev dktX1_faultReason_0 : List UInt8 := dkwX1_faultReason_0 ++ []
theorem dksX1_faultReason_0 : cX1_faultReason.data.toList.drop 0 = dktX1_faultReason_0 := by decide +kernel
theorem dX1_faultReason_0 : decode cX1_faultReason 0 = .ok (.aload_n 0, 1) := dk_42 (dk_at dksX1_faultReason_0 0 rfl rfl)
theorem dX1_faultReason_1 : decode cX1_faultReason 1 = .ok (.invokevirtual 327, 3) := dk_182 1 71 (dk_at dksX1_faultReason_0 1 rfl rfl)
theorem dX1_faultReason_4 : decode cX1_faultReason 4 = .ok (.getfield 334, 3) := dk_180 1 78 (dk_at dksX1_faultReason_0 4 rfl rfl)
theorem dX1_faultReason_7 : decode cX1_faultReason 7 = .ok (.ireturn, 1) := dk_172 (dk_at dksX1_faultReason_0 7 rfl rfl)
def dkwX1_faultCause_0 : List UInt8 := [42, 182, 1, 71, 180, 1, 81, 172]
abbrev dktX1_faultCause_0 : List UInt8 := dkwX1_faultCause_0 ++ []
theorem dksX1_faultCause_0 : cX1_faultCause.data.toList.drop 0 = dktX1_faultCause_0 := by decide +kernel
theorem dX1_faultCause_0 : decode cX1_faultCause 0 = .ok (.aload_n 0, 1) := dk_42 (dk_at dksX1_faultCause_0 0 rfl rfl)
theorem dX1_faultCause_1 : decode cX1_faultCause 1 = .ok (.invokevirtual 327, 3) := dk_182 1 71 (dk_at dksX1_faultCause_0 1 rfl rfl)
theorem dX1_faultCause_4 : decode cX1_faultCause 4 = .ok (.getfield 337, 3) := dk_180 1 81 (dk_at dksX1_faultCause_0 4 rfl rfl)
theorem dX1_faultCause_7 : decode cX1_faultCause 7 = .ok (.ireturn, 1) := dk_172 (dk_at dksX1_faultCause_0 7 rfl rfl)
def dkwX1_play_1 : List UInt8 := [180, 1, 87, 182, 0, 112, 172]
abbrev dktX1_play_1 : List UInt8 := dkwX1_play_1 ++ []
def dkwX1_play_0 : List UInt8 := [187, 1, 63, 89, 42, 183, 1, 65, 76, 43, 182, 1, 68, 184, 1, 35, 42, 43, 180, 1, 84, 43]
abbrev dktX1_play_0 : List UInt8 := dkwX1_play_0 ++ dktX1_play_1
theorem dksX1_play_0 : cX1_play.data.toList.drop 0 = dktX1_play_0 := by decide +kernel
theorem dksX1_play_1 : cX1_play.data.toList.drop 22 = dktX1_play_1 := dk_seg dksX1_play_0 22 rfl rfl
theorem dX1_play_0 : decode cX1_play 0 = .ok (.new 319, 3) := dk_187 1 63 (dk_at dksX1_play_0 0 rfl rfl)
theorem dX1_play_3 : decode cX1_play 3 = .ok (.dup, 1) := dk_89 (dk_at dksX1_play_0 3 rfl rfl)
theorem dX1_play_4 : decode cX1_play 4 = .ok (.aload_n 0, 1) := dk_42 (dk_at dksX1_play_0 4 rfl rfl)
theorem dX1_play_5 : decode cX1_play 5 = .ok (.invokespecial 321, 3) := dk_183 1 65 (dk_at dksX1_play_0 5 rfl rfl)
theorem dX1_play_8 : decode cX1_play 8 = .ok (.astore_n 1, 1) := dk_76 (dk_at dksX1_play_0 8 rfl rfl)
theorem dX1_play_9 : decode cX1_play 9 = .ok (.aload_n 1, 1) := dk_43 (dk_at dksX1_play_0 9 rfl rfl)
theorem dX1_play_10 : decode cX1_play 10 = .ok (.invokevirtual 324, 3) := dk_182 1 68 (dk_at dksX1_play_0 10 rfl rfl)
theorem dX1_play_13 : decode cX1_play 13 = .ok (.invokestatic 291, 3) := dk_184 1 35 (dk_at dksX1_play_0 13 rfl rfl)
theorem dX1_play_16 : decode cX1_play 16 = .ok (.aload_n 0, 1) := dk_42 (dk_at dksX1_play_0 16 rfl rfl)
theorem dX1_play_17 : decode cX1_play 17 = .ok (.aload_n 1, 1) := dk_43 (dk_at dksX1_play_0 17 rfl rfl)
theorem dX1_play_18 : decode cX1_play 18 = .ok (.getfield 340, 3) := dk_180 1 84 (dk_at dksX1_play_0 18 rfl rfl)
theorem dX1_play_21 : decode cX1_play 21 = .ok (.aload_n 1, 1) := dk_43 (dk_at dksX1_play_0 21 rfl rfl)
theorem dX1_play_22 : decode cX1_play 22 = .ok (.getfield 343, 3) := dk_180 1 87 (dk_at dksX1_play_1 0 rfl rfl)
theorem dX1_play_25 : decode cX1_play 25 = .ok (.invokevirtual 112, 3) := dk_182 0 112 (dk_at dksX1_play_1 3 rfl rfl)
theorem dX1_play_28 : decode cX1_play 28 = .ok (.ireturn, 1) := dk_172 (dk_at dksX1_play_1 6 rfl rfl)
theorem e_X1_init (d : Nat) (x0 : Nat) (h : a_H) : a_call (d + 1) MX1_init [.ref x0] h = a_run d MX1_init 0 [some (.ref x0)] [] h := a_call_run rfl (Nat.le_of_ble_eq_true rfl) rfl
theorem w_X1_init_0 (d : Nat) (x : Nat) (st : List Value) (h : a_H) : a_run d MX1_init 0 [some (.ref x)] st h = a_run d MX1_init 1 [some (.ref x)] (.ref x :: st) h := w_ldAn dX1_init_0 rfl
theorem w_X1_init_1 (d : Nat) (L : a_L) (i : Nat) (st : List Value) (h : a_H) (hi : 1024 ≤ i) (hc : a_cat st ≤ 8) : a_run d MX1_init 1 L (.ref i :: st) h = a_run d MX1_init 4 L st h := w_obj dX1_init_1 rfl hi hc
theorem w_X1_init_4 (d : Nat) (x : Nat) (st : List Value) (h : a_H) : a_run d MX1_init 4 [some (.ref x)] st h = a_run d MX1_init 5 [some (.ref x)] (.ref x :: st) h := w_ldAn dX1_init_4 rfl
theorem w_X1_init_5 (d : Nat) (L : a_L) (st : List Value) (h : a_H) : a_run d MX1_init 5 L st h = a_run d MX1_init 8 L (.ref h.1 :: st) (a_add h (.inr (1, [.null, .null, .null, .null, .null, .null, .null, .null, .null, .null, .null, .int 0, .int 0, .int 0, .int 0, .int 0])) 16) := w_new dX1_init_5 rfl rfl
theorem w_X1_init_8 (d : Nat) (L : a_L) (x : Nat) (st : List Value) (h : a_H) : a_run d MX1_init 8 L (.ref x :: st) h = a_run d MX1_init 9 L (.ref x :: .ref x :: st) h := w_dup dX1_init_8
theorem w_X1_init_8I (d : Nat) (L : a_L) (x : Int32) (st : List Value) (h : a_H) : a_run d MX1_init 8 L (.int x :: st) h = a_run d MX1_init 9 L (.int x :: .int x :: st) h := w_dupI dX1_init_8
theorem w_X1_init_9 (d : Nat) (L : a_L) (i : Nat) (st : List Value) (h : a_H) (hi : 1024 ≤ i) (hc : a_cat st ≤ 8) : a_run d MX1_init 9 L (.ref i :: st) h = a_cont d MX1_init (a_bk MX1_init 9 L st (a_call d MX2_init [.ref i] h)) := w_callI (as := [.ref i]) dX1_init_9 rfl rfl rfl hc (a_new0_of hi)
theorem w_X1_init_12 (d : Nat) (L : a_L) (x : Nat) (i : Nat) (st : List Value) (h : a_H) : a_run d MX1_init 12 L (.ref x :: .ref i :: st) h = (a_pf h i 0 [0] (.ref x)).bind fun h' => a_run d MX1_init 15 L st h' := w_putf dX1_init_12 rfl rfl (Or.inl rfl) rfl rfl
theorem w_X1_init_12N (d : Nat) (L : a_L) (i : Nat) (st : List Value) (h : a_H) : a_run d MX1_init 12 L (.null :: .ref i :: st) h = (a_pf h i 0 [0] (.null)).bind fun h' => a_run d MX1_init 15 L st h' := w_putf dX1_init_12 rfl rfl (Or.inl rfl) rfl rfl
theorem w_X1_init_15 (d : Nat) (x : Nat) (st : List Value) (h : a_H) : a_run d MX1_init 15 [some (.ref x)] st h = a_run d MX1_init 16 [some (.ref x)] (.ref x :: st) h := w_ldAn dX1_init_15 rfl
theorem w_X1_init_16 (d : Nat) (L : a_L) (st : List Value) (h : a_H) : a_run d MX1_init 16 L st h = a_run d MX1_init 19 L (.ref h.1 :: st) (a_add h (.inr (7, [.null, .int 0, .int 0])) 3) := w_new dX1_init_16 rfl rfl
theorem w_X1_init_19 (d : Nat) (L : a_L) (x : Nat) (st : List Value) (h : a_H) : a_run d MX1_init 19 L (.ref x :: st) h = a_run d MX1_init 20 L (.ref x :: .ref x :: st) h := w_dup dX1_init_19
theorem w_X1_init_19I (d : Nat) (L : a_L) (x : Int32) (st : List Value) (h : a_H) : a_run d MX1_init 19 L (.int x :: st) h = a_run d MX1_init 20 L (.int x :: .int x :: st) h := w_dupI dX1_init_19
theorem w_X1_init_20 (d : Nat) (L : a_L) (i : Nat) (st : List Value) (h : a_H) (hi : 1024 ≤ i) (hc : a_cat st ≤ 8) : a_run d MX1_init 20 L (.ref i :: st) h = a_cont d MX1_init (a_bk MX1_init 20 L st (a_call d MJ1_init [.ref i] h)) := w_callI (as := [.ref i]) dX1_init_20 rfl rfl rfl hc (a_new0_of hi)
theorem w_X1_init_23 (d : Nat) (L : a_L) (x : Nat) (i : Nat) (st : List Value) (h : a_H) : a_run d MX1_init 23 L (.ref x :: .ref i :: st) h = (a_pf h i 2 [0] (.ref x)).bind fun h' => a_run d MX1_init 26 L st h' := w_putf dX1_init_23 rfl rfl (Or.inr ⟨rfl, rfl⟩) rfl rfl
theorem w_X1_init_23N (d : Nat) (L : a_L) (i : Nat) (st : List Value) (h : a_H) : a_run d MX1_init 23 L (.null :: .ref i :: st) h = (a_pf h i 2 [0] (.null)).bind fun h' => a_run d MX1_init 26 L st h' := w_putf dX1_init_23 rfl rfl (Or.inr ⟨rfl, rfl⟩) rfl rfl
theorem w_X1_init_26 (d : Nat) (x : Nat) (st : List Value) (h : a_H) : a_run d MX1_init 26 [some (.ref x)] st h = a_run d MX1_init 27 [some (.ref x)] (.ref x :: st) h := w_ldAn dX1_init_26 rfl
theorem w_X1_init_27 (d : Nat) (L : a_L) (st : List Value) (h : a_H) : a_run d MX1_init 27 L st h = a_run d MX1_init 30 L (.ref h.1 :: st) (a_add h (.inr (8, [.null, .int 0, .int 0, .int 0])) 4) := w_new dX1_init_27 rfl rfl
theorem w_X1_init_30 (d : Nat) (L : a_L) (x : Nat) (st : List Value) (h : a_H) : a_run d MX1_init 30 L (.ref x :: st) h = a_run d MX1_init 31 L (.ref x :: .ref x :: st) h := w_dup dX1_init_30
theorem w_X1_init_30I (d : Nat) (L : a_L) (x : Int32) (st : List Value) (h : a_H) : a_run d MX1_init 30 L (.int x :: st) h = a_run d MX1_init 31 L (.int x :: .int x :: st) h := w_dupI dX1_init_30
theorem w_X1_init_31 (d : Nat) (L : a_L) (i : Nat) (st : List Value) (h : a_H) (hi : 1024 ≤ i) (hc : a_cat st ≤ 8) : a_run d MX1_init 31 L (.ref i :: st) h = a_cont d MX1_init (a_bk MX1_init 31 L st (a_call d MJ3_init [.ref i] h)) := w_callI (as := [.ref i]) dX1_init_31 rfl rfl rfl hc (a_new0_of hi)
theorem w_X1_init_34 (d : Nat) (L : a_L) (x : Nat) (i : Nat) (st : List Value) (h : a_H) : a_run d MX1_init 34 L (.ref x :: .ref i :: st) h = (a_pf h i 3 [0] (.ref x)).bind fun h' => a_run d MX1_init 37 L st h' := w_putf dX1_init_34 rfl rfl (Or.inr ⟨rfl, rfl⟩) rfl rfl
theorem w_X1_init_34N (d : Nat) (L : a_L) (i : Nat) (st : List Value) (h : a_H) : a_run d MX1_init 34 L (.null :: .ref i :: st) h = (a_pf h i 3 [0] (.null)).bind fun h' => a_run d MX1_init 37 L st h' := w_putf dX1_init_34 rfl rfl (Or.inr ⟨rfl, rfl⟩) rfl rfl
theorem w_X1_init_37 (d : Nat) (L : a_L) (h : a_H) : a_run d MX1_init 37 L [] h = some (.inl none, h) := w_vret dX1_init_37 rfl
theorem e_X1_prune (d : Nat) (x0 : Nat) (h : a_H) : a_call (d + 1) MX1_prune [.ref x0] h = a_run d MX1_prune 0 [some (.ref x0)] [] h := a_call_run rfl (Nat.le_of_ble_eq_true rfl) rfl
theorem w_X1_prune_0 (d : Nat) (x : Nat) (st : List Value) (h : a_H) : a_run d MX1_prune 0 [some (.ref x)] st h = a_run d MX1_prune 1 [some (.ref x)] (.ref x :: st) h := w_ldAn dX1_prune_0 rfl
theorem w_X1_prune_1 (d : Nat) (L : a_L) (st : List Value) (h : a_H) : a_run d MX1_prune 1 L st h = a_run d MX1_prune 3 L (.int (nI 112) :: st) h := w_bipush dX1_prune_1 rfl
theorem w_X1_prune_3 (d : Nat) (L : a_L) (st : List Value) (h : a_H) : a_run d MX1_prune 3 L st h = a_run d MX1_prune 4 L (.int (nI 0) :: st) h := w_iconst dX1_prune_3 rfl
theorem w_X1_prune_4 (d : Nat) (L : a_L) (x : Int32) (st : List Value) (h : a_H) : a_run d MX1_prune 4 L (.int x :: st) h = (a_newa h (newarray.typeOf .int) x).bind fun q => a_run d MX1_prune 6 L (.ref q.1 :: st) q.2 := w_newa dX1_prune_4
theorem w_X1_prune_6 (d : Nat) (L : a_L) (i : Nat) (v1 v2 : Value) (st : List Value) (h : a_H) (hk : a_kls h i = some 0) (hc : a_cat st ≤ 8) : a_run d MX1_prune 6 L (v2 :: v1 :: .ref i :: st) h = a_cont d MX1_prune (a_bk MX1_prune 6 L st (a_call d MX1_act [.ref i, v1, v2] h)) := w_callV (as := [.ref i, v1, v2]) dX1_prune_6 rfl rfl rfl hc (a_rcv_of hk rfl)
theorem w_X1_prune_9 (d : Nat) (L : a_L) (x : Int32) (h : a_H) : a_run d MX1_prune 9 L [.int x] h = some (.inl (some (.int x)), h) := w_iret dX1_prune_9 (w_retI rfl)
theorem e_X1_act (d : Nat) (x0 : Nat) (x1 : Int32) (x2 : Nat) (h : a_H) : a_call (d + 1) MX1_act [.ref x0, .int x1, .ref x2] h = a_run d MX1_act 0 [some (.ref x0), some (.int x1), some (.ref x2), none, none] [] h := a_call_run rfl (Nat.le_of_ble_eq_true rfl) rfl
theorem w_X1_act_0 (d : Nat) (L : a_L) (st : List Value) (h : a_H) : a_run d MX1_act 0 L st h = a_run d MX1_act 3 L (.ref h.1 :: st) (a_add h (.inr (1, [.null, .null, .null, .null, .null, .null, .null, .null, .null, .null, .null, .int 0, .int 0, .int 0, .int 0, .int 0])) 16) := w_new dX1_act_0 rfl rfl
theorem w_X1_act_3 (d : Nat) (L : a_L) (x : Nat) (st : List Value) (h : a_H) : a_run d MX1_act 3 L (.ref x :: st) h = a_run d MX1_act 4 L (.ref x :: .ref x :: st) h := w_dup dX1_act_3
theorem w_X1_act_3I (d : Nat) (L : a_L) (x : Int32) (st : List Value) (h : a_H) : a_run d MX1_act 3 L (.int x :: st) h = a_run d MX1_act 4 L (.int x :: .int x :: st) h := w_dupI dX1_act_3
theorem w_X1_act_4 (d : Nat) (a1 a2 a3 a4 : Option Value) (x : Nat) (st : List Value) (h : a_H) : a_run d MX1_act 4 [some (.ref x), a1, a2, a3, a4] st h = a_run d MX1_act 5 [some (.ref x), a1, a2, a3, a4] (.ref x :: st) h := w_ldAn dX1_act_4 rfl
theorem w_X1_act_5 (d : Nat) (L : a_L) (i : Nat) (st : List Value) (h : a_H) : a_run d MX1_act 5 L (.ref i :: st) h = (a_gf h i 0 [0]).bind fun v => a_run d MX1_act 8 L (v :: st) h := w_getf dX1_act_5 rfl
theorem w_X1_act_8 (d : Nat) (L : a_L) (i : Nat) (v1 : Value) (st : List Value) (h : a_H) (hi : 1024 ≤ i) (hc : a_cat st ≤ 8) : a_run d MX1_act 8 L (v1 :: .ref i :: st) h = a_cont d MX1_act (a_bk MX1_act 8 L st (a_call d MX2_init_2 [.ref i, v1] h)) := w_callI (as := [.ref i, v1]) dX1_act_8 rfl rfl rfl hc (a_new0_of hi)
theorem w_X1_act_11 (d : Nat) (a0 a1 a2 a3 a4 : Option Value) (x : Nat) (st : List Value) (h : a_H) : a_run d MX1_act 11 [a0, a1, a2, a3, a4] (.ref x :: st) h = a_run d MX1_act 12 [a0, a1, a2, some (.ref x), a4] st h := w_stAn dX1_act_11 (Nat.le_of_ble_eq_true rfl) rfl
theorem w_X1_act_11N (d : Nat) (a0 a1 a2 a3 a4 : Option Value) (st : List Value) (h : a_H) : a_run d MX1_act 11 [a0, a1, a2, a3, a4] (.null :: st) h = a_run d MX1_act 12 [a0, a1, a2, some .null, a4] st h := w_stNn dX1_act_11 (Nat.le_of_ble_eq_true rfl) rfl
theorem w_X1_act_12 (d : Nat) (a1 a2 a3 a4 : Option Value) (x : Nat) (st : List Value) (h : a_H) : a_run d MX1_act 12 [some (.ref x), a1, a2, a3, a4] st h = a_run d MX1_act 13 [some (.ref x), a1, a2, a3, a4] (.ref x :: st) h := w_ldAn dX1_act_12 rfl
theorem w_X1_act_13 (d : Nat) (a0 a1 a2 a4 : Option Value) (x : Nat) (st : List Value) (h : a_H) : a_run d MX1_act 13 [a0, a1, a2, some (.ref x), a4] st h = a_run d MX1_act 14 [a0, a1, a2, some (.ref x), a4] (.ref x :: st) h := w_ldAn dX1_act_13 rfl
theorem w_X1_act_13N (d : Nat) (a0 a1 a2 a4 : Option Value) (st : List Value) (h : a_H) : a_run d MX1_act 13 [a0, a1, a2, some .null, a4] st h = a_run d MX1_act 14 [a0, a1, a2, some .null, a4] (.null :: st) h := w_ldNn dX1_act_13 rfl
theorem w_X1_act_14 (d : Nat) (a0 a1 a2 a4 : Option Value) (x : Nat) (st : List Value) (h : a_H) : a_run d MX1_act 14 [a0, a1, a2, some (.ref x), a4] st h = a_run d MX1_act 15 [a0, a1, a2, some (.ref x), a4] (.ref x :: st) h := w_ldAn dX1_act_14 rfl
theorem w_X1_act_14N (d : Nat) (a0 a1 a2 a4 : Option Value) (st : List Value) (h : a_H) : a_run d MX1_act 14 [a0, a1, a2, some .null, a4] st h = a_run d MX1_act 15 [a0, a1, a2, some .null, a4] (.null :: st) h := w_ldNn dX1_act_14 rfl
theorem w_X1_act_15 (d : Nat) (a0 a2 a3 a4 : Option Value) (x : Int32) (st : List Value) (h : a_H) : a_run d MX1_act 15 [a0, some (.int x), a2, a3, a4] st h = a_run d MX1_act 16 [a0, some (.int x), a2, a3, a4] (.int x :: st) h := w_ldIn dX1_act_15 rfl
theorem w_X1_act_16 (d : Nat) (a0 a1 a3 a4 : Option Value) (x : Nat) (st : List Value) (h : a_H) : a_run d MX1_act 16 [a0, a1, some (.ref x), a3, a4] st h = a_run d MX1_act 17 [a0, a1, some (.ref x), a3, a4] (.ref x :: st) h := w_ldAn dX1_act_16 rfl
theorem w_X1_act_16N (d : Nat) (a0 a1 a3 a4 : Option Value) (st : List Value) (h : a_H) : a_run d MX1_act 16 [a0, a1, some .null, a3, a4] st h = a_run d MX1_act 17 [a0, a1, some .null, a3, a4] (.null :: st) h := w_ldNn dX1_act_16 rfl
theorem w_X1_act_17 (d : Nat) (L : a_L) (v0 v1 v2 : Value) (st : List Value) (h : a_H) (hc : a_cat st ≤ 8) : a_run d MX1_act 17 L (v2 :: v1 :: v0 :: st) h = a_cont d MX1_act (a_bk MX1_act 17 L st (a_call d MX1_done [v0, v1, v2] h)) := w_callS (as := [v0, v1, v2]) dX1_act_17 rfl rfl rfl hc
theorem w_X1_act_20 (d : Nat) (L : a_L) (i : Nat) (v1 v2 : Value) (st : List Value) (h : a_H) (hk : a_kls h i = some 0) (hc : a_cat st ≤ 8) : a_run d MX1_act 20 L (v2 :: v1 :: .ref i :: st) h = a_cont d MX1_act (a_bk MX1_act 20 L st (a_call d MX1_changed [.ref i, v1, v2] h)) := w_callV (as := [.ref i, v1, v2]) dX1_act_20 rfl rfl rfl hc (a_rcv_of hk rfl)
theorem w_X1_act_23 (d : Nat) (L : a_L) (x : Int32) (h : a_H) : a_run d MX1_act 23 L [.int x] h = some (.inl (some (.int x)), h) := w_iret dX1_act_23 (w_retI rfl)
theorem w_X1_act_24 (d : Nat) (a0 a1 a2 a3 a4 : Option Value) (x : Nat) (st : List Value) (h : a_H) : a_run d MX1_act 24 [a0, a1, a2, a3, a4] (.ref x :: st) h = a_run d MX1_act 26 [a0, a1, a2, a3, some (.ref x)] st h := w_stA dX1_act_24 (Nat.le_of_ble_eq_true rfl) rfl
theorem w_X1_act_24N (d : Nat) (a0 a1 a2 a3 a4 : Option Value) (st : List Value) (h : a_H) : a_run d MX1_act 24 [a0, a1, a2, a3, a4] (.null :: st) h = a_run d MX1_act 26 [a0, a1, a2, a3, some .null] st h := w_stN dX1_act_24 (Nat.le_of_ble_eq_true rfl) rfl
theorem w_X1_act_26 (d : Nat) (a0 a1 a2 a3 : Option Value) (x : Nat) (st : List Value) (h : a_H) : a_run d MX1_act 26 [a0, a1, a2, a3, some (.ref x)] st h = a_run d MX1_act 28 [a0, a1, a2, a3, some (.ref x)] (.ref x :: st) h := w_ldA dX1_act_26 rfl
theorem w_X1_act_26N (d : Nat) (a0 a1 a2 a3 : Option Value) (st : List Value) (h : a_H) : a_run d MX1_act 26 [a0, a1, a2, a3, some .null] st h = a_run d MX1_act 28 [a0, a1, a2, a3, some .null] (.null :: st) h := w_ldN dX1_act_26 rfl
theorem w_X1_act_28 (d : Nat) (L : a_L) (i : Nat) (st : List Value) (h : a_H) : a_run d MX1_act 28 L (.ref i :: st) h = (a_gf h i 6 [3]).bind fun v => a_run d MX1_act 31 L (v :: st) h := w_getf dX1_act_28 rfl
theorem w_X1_act_31 (d : Nat) (L : a_L) (st : List Value) (h : a_H) : a_run d MX1_act 31 L st h = a_run d MX1_act 32 L (.int (nI 1) :: st) h := w_iconst dX1_act_31 rfl
theorem w_X1_act_32 (d : Nat) (L : a_L) (x y : Int32) (st : List Value) (h : a_H) : a_run d MX1_act 32 L (.int y :: .int x :: st) h = if x = y then a_run d MX1_act 35 L st h else a_run d MX1_act 47 L st h := w_icmp_ne dX1_act_32 rfl
theorem w_X1_act_35 (d : Nat) (L : a_L) (st : List Value) (h : a_H) : a_run d MX1_act 35 L st h = a_run d MX1_act 38 L (.ref h.1 :: st) (a_add h (.inr (11, [.null, .null, .null, .null, .null, .int 0])) 6) := w_new dX1_act_35 rfl rfl
theorem w_X1_act_38 (d : Nat) (L : a_L) (x : Nat) (st : List Value) (h : a_H) : a_run d MX1_act 38 L (.ref x :: st) h = a_run d MX1_act 39 L (.ref x :: .ref x :: st) h := w_dup dX1_act_38
theorem w_X1_act_38I (d : Nat) (L : a_L) (x : Int32) (st : List Value) (h : a_H) : a_run d MX1_act 38 L (.int x :: st) h = a_run d MX1_act 39 L (.int x :: .int x :: st) h := w_dupI dX1_act_38
theorem w_X1_act_39 (d : Nat) (L : a_L) (st : List Value) (h : a_H) : a_run d MX1_act 39 L st h = a_run d MX1_act 41 L (.ref 705 :: st) h := w_ldc dX1_act_39 rfl
theorem w_X1_act_41 (d : Nat) (a0 a1 a2 a3 : Option Value) (x : Nat) (st : List Value) (h : a_H) : a_run d MX1_act 41 [a0, a1, a2, a3, some (.ref x)] st h = a_run d MX1_act 43 [a0, a1, a2, a3, some (.ref x)] (.ref x :: st) h := w_ldA dX1_act_41 rfl
theorem w_X1_act_41N (d : Nat) (a0 a1 a2 a3 : Option Value) (st : List Value) (h : a_H) : a_run d MX1_act 41 [a0, a1, a2, a3, some .null] st h = a_run d MX1_act 43 [a0, a1, a2, a3, some .null] (.null :: st) h := w_ldN dX1_act_41 rfl
theorem w_X1_act_43 (d : Nat) (L : a_L) (i : Nat) (v1 v2 : Value) (st : List Value) (h : a_H) (hi : 1024 ≤ i) (hc : a_cat st ≤ 8) : a_run d MX1_act 43 L (v2 :: v1 :: .ref i :: st) h = a_cont d MX1_act (a_bk MX1_act 43 L st (a_call d MJ15_init [.ref i, v1, v2] h)) := w_callI (as := [.ref i, v1, v2]) dX1_act_43 rfl rfl rfl hc (a_new0_of hi)
theorem w_X1_act_46 (d : Nat) (L : a_L) (x : Nat) (st : List Value) (h : a_H) : a_run d MX1_act 46 L (.ref x :: st) h = a_cont d MX1_act (a_thr MX1_act 46 L x h) := w_athrow dX1_act_46
theorem w_X1_act_47 (d : Nat) (L : a_L) (st : List Value) (h : a_H) : a_run d MX1_act 47 L st h = a_run d MX1_act 50 L (.ref h.1 :: st) (a_add h (.inr (9, [.null, .null, .null, .null, .null, .int 0])) 6) := w_new dX1_act_47 rfl rfl
theorem w_X1_act_50 (d : Nat) (L : a_L) (x : Nat) (st : List Value) (h : a_H) : a_run d MX1_act 50 L (.ref x :: st) h = a_run d MX1_act 51 L (.ref x :: .ref x :: st) h := w_dup dX1_act_50
theorem w_X1_act_50I (d : Nat) (L : a_L) (x : Int32) (st : List Value) (h : a_H) : a_run d MX1_act 50 L (.int x :: st) h = a_run d MX1_act 51 L (.int x :: .int x :: st) h := w_dupI dX1_act_50
theorem w_X1_act_51 (d : Nat) (L : a_L) (st : List Value) (h : a_H) : a_run d MX1_act 51 L st h = a_run d MX1_act 53 L (.ref 706 :: st) h := w_ldc dX1_act_51 rfl
theorem w_X1_act_53 (d : Nat) (a0 a1 a2 a3 : Option Value) (x : Nat) (st : List Value) (h : a_H) : a_run d MX1_act 53 [a0, a1, a2, a3, some (.ref x)] st h = a_run d MX1_act 55 [a0, a1, a2, a3, some (.ref x)] (.ref x :: st) h := w_ldA dX1_act_53 rfl
theorem w_X1_act_53N (d : Nat) (a0 a1 a2 a3 : Option Value) (st : List Value) (h : a_H) : a_run d MX1_act 53 [a0, a1, a2, a3, some .null] st h = a_run d MX1_act 55 [a0, a1, a2, a3, some .null] (.null :: st) h := w_ldN dX1_act_53 rfl
theorem w_X1_act_55 (d : Nat) (L : a_L) (i : Nat) (v1 v2 : Value) (st : List Value) (h : a_H) (hi : 1024 ≤ i) (hc : a_cat st ≤ 8) : a_run d MX1_act 55 L (v2 :: v1 :: .ref i :: st) h = a_cont d MX1_act (a_bk MX1_act 55 L st (a_call d MJ12_init_2 [.ref i, v1, v2] h)) := w_callI (as := [.ref i, v1, v2]) dX1_act_55 rfl rfl rfl hc (a_new0_of hi)
theorem w_X1_act_58 (d : Nat) (L : a_L) (x : Nat) (st : List Value) (h : a_H) : a_run d MX1_act 58 L (.ref x :: st) h = a_cont d MX1_act (a_thr MX1_act 58 L x h) := w_athrow dX1_act_58
theorem e_X1_done (d : Nat) (x0 : Nat) (x1 : Int32) (x2 : Nat) (h : a_H) : a_call (d + 1) MX1_done [.ref x0, .int x1, .ref x2] h = a_run d MX1_done 0 [some (.ref x0), some (.int x1), some (.ref x2)] [] h := a_call_run rfl (Nat.le_of_ble_eq_true rfl) rfl
theorem w_X1_done_0 (d : Nat) (a0 a2 : Option Value) (x : Int32) (st : List Value) (h : a_H) : a_run d MX1_done 0 [a0, some (.int x), a2] st h = a_run d MX1_done 1 [a0, some (.int x), a2] (.int x :: st) h := w_ldIn dX1_done_0 rfl
theorem w_X1_done_1_97 (d : Nat) (L : a_L) (st : List Value) (h : a_H) : a_run d MX1_done 1 L (.int (nI 97) :: st) h = a_run d MX1_done 117 L st h := w_table dX1_done_1 rfl rfl
theorem w_X1_done_1_98 (d : Nat) (L : a_L) (st : List Value) (h : a_H) : a_run d MX1_done 1 L (.int (nI 98) :: st) h = a_run d MX1_done 112 L st h := w_table dX1_done_1 rfl rfl
theorem w_X1_done_1_99 (d : Nat) (L : a_L) (st : List Value) (h : a_H) : a_run d MX1_done 1 L (.int (nI 99) :: st) h = a_run d MX1_done 128 L st h := w_table dX1_done_1 rfl rfl
theorem w_X1_done_1_100 (d : Nat) (L : a_L) (st : List Value) (h : a_H) : a_run d MX1_done 1 L (.int (nI 100) :: st) h = a_run d MX1_done 171 L st h := w_table dX1_done_1 rfl rfl
theorem w_X1_done_1_101 (d : Nat) (L : a_L) (st : List Value) (h : a_H) : a_run d MX1_done 1 L (.int (nI 101) :: st) h = a_run d MX1_done 188 L st h := w_table dX1_done_1 rfl rfl
theorem w_X1_done_1_102 (d : Nat) (L : a_L) (st : List Value) (h : a_H) : a_run d MX1_done 1 L (.int (nI 102) :: st) h = a_run d MX1_done 202 L st h := w_table dX1_done_1 rfl rfl
theorem w_X1_done_1_103 (d : Nat) (L : a_L) (st : List Value) (h : a_H) : a_run d MX1_done 1 L (.int (nI 103) :: st) h = a_run d MX1_done 202 L st h := w_table dX1_done_1 rfl rfl
theorem w_X1_done_1_104 (d : Nat) (L : a_L) (st : List Value) (h : a_H) : a_run d MX1_done 1 L (.int (nI 104) :: st) h = a_run d MX1_done 150 L st h := w_table dX1_done_1 rfl rfl
theorem w_X1_done_1_105 (d : Nat) (L : a_L) (st : List Value) (h : a_H) : a_run d MX1_done 1 L (.int (nI 105) :: st) h = a_run d MX1_done 202 L st h := w_table dX1_done_1 rfl rfl
theorem w_X1_done_1_106 (d : Nat) (L : a_L) (st : List Value) (h : a_H) : a_run d MX1_done 1 L (.int (nI 106) :: st) h = a_run d MX1_done 202 L st h := w_table dX1_done_1 rfl rfl
theorem w_X1_done_1_107 (d : Nat) (L : a_L) (st : List Value) (h : a_H) : a_run d MX1_done 1 L (.int (nI 107) :: st) h = a_run d MX1_done 202 L st h := w_table dX1_done_1 rfl rfl
theorem w_X1_done_1_108 (d : Nat) (L : a_L) (st : List Value) (h : a_H) : a_run d MX1_done 1 L (.int (nI 108) :: st) h = a_run d MX1_done 202 L st h := w_table dX1_done_1 rfl rfl
theorem w_X1_done_1_109 (d : Nat) (L : a_L) (st : List Value) (h : a_H) : a_run d MX1_done 1 L (.int (nI 109) :: st) h = a_run d MX1_done 202 L st h := w_table dX1_done_1 rfl rfl
theorem w_X1_done_1_110 (d : Nat) (L : a_L) (st : List Value) (h : a_H) : a_run d MX1_done 1 L (.int (nI 110) :: st) h = a_run d MX1_done 202 L st h := w_table dX1_done_1 rfl rfl
theorem w_X1_done_1_111 (d : Nat) (L : a_L) (st : List Value) (h : a_H) : a_run d MX1_done 1 L (.int (nI 111) :: st) h = a_run d MX1_done 202 L st h := w_table dX1_done_1 rfl rfl
theorem w_X1_done_1_112 (d : Nat) (L : a_L) (st : List Value) (h : a_H) : a_run d MX1_done 1 L (.int (nI 112) :: st) h = a_run d MX1_done 161 L st h := w_table dX1_done_1 rfl rfl
theorem w_X1_done_1_113 (d : Nat) (L : a_L) (st : List Value) (h : a_H) : a_run d MX1_done 1 L (.int (nI 113) :: st) h = a_run d MX1_done 202 L st h := w_table dX1_done_1 rfl rfl
theorem w_X1_done_1_114 (d : Nat) (L : a_L) (st : List Value) (h : a_H) : a_run d MX1_done 1 L (.int (nI 114) :: st) h = a_run d MX1_done 166 L st h := w_table dX1_done_1 rfl rfl
theorem w_X1_done_1_115 (d : Nat) (L : a_L) (st : List Value) (h : a_H) : a_run d MX1_done 1 L (.int (nI 115) :: st) h = a_run d MX1_done 202 L st h := w_table dX1_done_1 rfl rfl
theorem w_X1_done_1_116 (d : Nat) (L : a_L) (st : List Value) (h : a_H) : a_run d MX1_done 1 L (.int (nI 116) :: st) h = a_run d MX1_done 183 L st h := w_table dX1_done_1 rfl rfl
theorem w_X1_done_1_117 (d : Nat) (L : a_L) (st : List Value) (h : a_H) : a_run d MX1_done 1 L (.int (nI 117) :: st) h = a_run d MX1_done 177 L st h := w_table dX1_done_1 rfl rfl
theorem w_X1_done_1_118 (d : Nat) (L : a_L) (st : List Value) (h : a_H) : a_run d MX1_done 1 L (.int (nI 118) :: st) h = a_run d MX1_done 202 L st h := w_table dX1_done_1 rfl rfl
theorem w_X1_done_1_119 (d : Nat) (L : a_L) (st : List Value) (h : a_H) : a_run d MX1_done 1 L (.int (nI 119) :: st) h = a_run d MX1_done 202 L st h := w_table dX1_done_1 rfl rfl
theorem w_X1_done_1_120 (d : Nat) (L : a_L) (st : List Value) (h : a_H) : a_run d MX1_done 1 L (.int (nI 120) :: st) h = a_run d MX1_done 142 L st h := w_table dX1_done_1 rfl rfl
theorem w_X1_done_1 (d : Nat) (L : a_L) (x : Int32) (st : List Value) (h : a_H) (hx : x.toInt < 97 ∨ 120 < x.toInt) : a_run d MX1_done 1 L (.int x :: st) h = a_run d MX1_done 202 L st h := w_table dX1_done_1 (if_pos hx) rfl
theorem w_X1_done_112 (d : Nat) (a1 a2 : Option Value) (x : Nat) (st : List Value) (h : a_H) : a_run d MX1_done 112 [some (.ref x), a1, a2] st h = a_run d MX1_done 113 [some (.ref x), a1, a2] (.ref x :: st) h := w_ldAn dX1_done_112 rfl
theorem w_X1_done_113 (d : Nat) (L : a_L) (i : Nat) (st : List Value) (h : a_H) (hk : a_kls h i = some 1) (hc : a_cat st ≤ 8) : a_run d MX1_done 113 L (.ref i :: st) h = a_cont d MX1_done (a_bk MX1_done 113 L st (a_call d MX2_getsBox [.ref i] h)) := w_callV (as := [.ref i]) dX1_done_113 rfl rfl rfl hc (a_rcv_of hk rfl)
theorem w_X1_done_116 (d : Nat) (L : a_L) (x : Int32) (h : a_H) : a_run d MX1_done 116 L [.int x] h = some (.inl (some (.int x)), h) := w_iret dX1_done_116 (w_retI rfl)
theorem w_X1_done_117 (d : Nat) (a1 a2 : Option Value) (x : Nat) (st : List Value) (h : a_H) : a_run d MX1_done 117 [some (.ref x), a1, a2] st h = a_run d MX1_done 118 [some (.ref x), a1, a2] (.ref x :: st) h := w_ldAn dX1_done_117 rfl
theorem w_X1_done_118 (d : Nat) (a0 a1 : Option Value) (x : Nat) (st : List Value) (h : a_H) : a_run d MX1_done 118 [a0, a1, some (.ref x)] st h = a_run d MX1_done 119 [a0, a1, some (.ref x)] (.ref x :: st) h := w_ldAn dX1_done_118 rfl
theorem w_X1_done_118N (d : Nat) (a0 a1 : Option Value) (st : List Value) (h : a_H) : a_run d MX1_done 118 [a0, a1, some .null] st h = a_run d MX1_done 119 [a0, a1, some .null] (.null :: st) h := w_ldNn dX1_done_118 rfl
theorem w_X1_done_119 (d : Nat) (L : a_L) (st : List Value) (h : a_H) : a_run d MX1_done 119 L st h = a_run d MX1_done 120 L (.int (nI 0) :: st) h := w_iconst dX1_done_119 rfl
theorem w_X1_done_120 (d : Nat) (L : a_L) (x : Int32) (i : Nat) (st : List Value) (h : a_H) : a_run d MX1_done 120 L (.int x :: .ref i :: st) h = (a_rdi h i a_int x).bind fun v => a_run d MX1_done 121 L (v :: st) h := w_iald dX1_done_120
theorem w_X1_done_121 (d : Nat) (a0 a1 : Option Value) (x : Nat) (st : List Value) (h : a_H) : a_run d MX1_done 121 [a0, a1, some (.ref x)] st h = a_run d MX1_done 122 [a0, a1, some (.ref x)] (.ref x :: st) h := w_ldAn dX1_done_121 rfl
theorem w_X1_done_121N (d : Nat) (a0 a1 : Option Value) (st : List Value) (h : a_H) : a_run d MX1_done 121 [a0, a1, some .null] st h = a_run d MX1_done 122 [a0, a1, some .null] (.null :: st) h := w_ldNn dX1_done_121 rfl
theorem w_X1_done_122 (d : Nat) (L : a_L) (st : List Value) (h : a_H) : a_run d MX1_done 122 L st h = a_run d MX1_done 123 L (.int (nI 1) :: st) h := w_iconst dX1_done_122 rfl
theorem w_X1_done_123 (d : Nat) (L : a_L) (x : Int32) (i : Nat) (st : List Value) (h : a_H) : a_run d MX1_done 123 L (.int x :: .ref i :: st) h = (a_rdi h i a_int x).bind fun v => a_run d MX1_done 124 L (v :: st) h := w_iald dX1_done_123
theorem w_X1_done_124 (d : Nat) (L : a_L) (i : Nat) (v1 v2 : Value) (st : List Value) (h : a_H) (hk : a_kls h i = some 1) (hc : a_cat st ≤ 8) : a_run d MX1_done 124 L (v2 :: v1 :: .ref i :: st) h = a_cont d MX1_done (a_bk MX1_done 124 L st (a_call d MX2_getsArrow [.ref i, v1, v2] h)) := w_callV (as := [.ref i, v1, v2]) dX1_done_124 rfl rfl rfl hc (a_rcv_of hk rfl)
theorem w_X1_done_127 (d : Nat) (L : a_L) (x : Int32) (h : a_H) : a_run d MX1_done 127 L [.int x] h = some (.inl (some (.int x)), h) := w_iret dX1_done_127 (w_retI rfl)
theorem w_X1_done_128 (d : Nat) (a1 a2 : Option Value) (x : Nat) (st : List Value) (h : a_H) : a_run d MX1_done 128 [some (.ref x), a1, a2] st h = a_run d MX1_done 129 [some (.ref x), a1, a2] (.ref x :: st) h := w_ldAn dX1_done_128 rfl
theorem w_X1_done_129 (d : Nat) (a0 a1 : Option Value) (x : Nat) (st : List Value) (h : a_H) : a_run d MX1_done 129 [a0, a1, some (.ref x)] st h = a_run d MX1_done 130 [a0, a1, some (.ref x)] (.ref x :: st) h := w_ldAn dX1_done_129 rfl
theorem w_X1_done_129N (d : Nat) (a0 a1 : Option Value) (st : List Value) (h : a_H) : a_run d MX1_done 129 [a0, a1, some .null] st h = a_run d MX1_done 130 [a0, a1, some .null] (.null :: st) h := w_ldNn dX1_done_129 rfl
theorem w_X1_done_130 (d : Nat) (L : a_L) (st : List Value) (h : a_H) : a_run d MX1_done 130 L st h = a_run d MX1_done 131 L (.int (nI 0) :: st) h := w_iconst dX1_done_130 rfl
theorem w_X1_done_131 (d : Nat) (L : a_L) (x : Int32) (i : Nat) (st : List Value) (h : a_H) : a_run d MX1_done 131 L (.int x :: .ref i :: st) h = (a_rdi h i a_int x).bind fun v => a_run d MX1_done 132 L (v :: st) h := w_iald dX1_done_131
theorem w_X1_done_132 (d : Nat) (a0 a1 : Option Value) (x : Nat) (st : List Value) (h : a_H) : a_run d MX1_done 132 [a0, a1, some (.ref x)] st h = a_run d MX1_done 133 [a0, a1, some (.ref x)] (.ref x :: st) h := w_ldAn dX1_done_132 rfl
theorem w_X1_done_132N (d : Nat) (a0 a1 : Option Value) (st : List Value) (h : a_H) : a_run d MX1_done 132 [a0, a1, some .null] st h = a_run d MX1_done 133 [a0, a1, some .null] (.null :: st) h := w_ldNn dX1_done_132 rfl
theorem w_X1_done_133 (d : Nat) (L : a_L) (st : List Value) (h : a_H) : a_run d MX1_done 133 L st h = a_run d MX1_done 134 L (.int (nI 1) :: st) h := w_iconst dX1_done_133 rfl
theorem w_X1_done_134 (d : Nat) (L : a_L) (x : Int32) (i : Nat) (st : List Value) (h : a_H) : a_run d MX1_done 134 L (.int x :: .ref i :: st) h = (a_rdi h i a_int x).bind fun v => a_run d MX1_done 135 L (v :: st) h := w_iald dX1_done_134
theorem w_X1_done_135 (d : Nat) (a0 a1 : Option Value) (x : Nat) (st : List Value) (h : a_H) : a_run d MX1_done 135 [a0, a1, some (.ref x)] st h = a_run d MX1_done 136 [a0, a1, some (.ref x)] (.ref x :: st) h := w_ldAn dX1_done_135 rfl
theorem w_X1_done_135N (d : Nat) (a0 a1 : Option Value) (st : List Value) (h : a_H) : a_run d MX1_done 135 [a0, a1, some .null] st h = a_run d MX1_done 136 [a0, a1, some .null] (.null :: st) h := w_ldNn dX1_done_135 rfl
theorem w_X1_done_136 (d : Nat) (L : a_L) (st : List Value) (h : a_H) : a_run d MX1_done 136 L st h = a_run d MX1_done 137 L (.int (nI 2) :: st) h := w_iconst dX1_done_136 rfl
theorem w_X1_done_137 (d : Nat) (L : a_L) (x : Int32) (i : Nat) (st : List Value) (h : a_H) : a_run d MX1_done 137 L (.int x :: .ref i :: st) h = (a_rdi h i a_int x).bind fun v => a_run d MX1_done 138 L (v :: st) h := w_iald dX1_done_137
theorem w_X1_done_138 (d : Nat) (L : a_L) (i : Nat) (v1 v2 v3 : Value) (st : List Value) (h : a_H) (hk : a_kls h i = some 1) (hc : a_cat st ≤ 8) : a_run d MX1_done 138 L (v3 :: v2 :: v1 :: .ref i :: st) h = a_cont d MX1_done (a_bk MX1_done 138 L st (a_call d MX2_getsChain [.ref i, v1, v2, v3] h)) := w_callV (as := [.ref i, v1, v2, v3]) dX1_done_138 rfl rfl rfl hc (a_rcv_of hk rfl)
theorem w_X1_done_141 (d : Nat) (L : a_L) (x : Int32) (h : a_H) : a_run d MX1_done 141 L [.int x] h = some (.inl (some (.int x)), h) := w_iret dX1_done_141 (w_retI rfl)
theorem w_X1_done_142 (d : Nat) (a1 a2 : Option Value) (x : Nat) (st : List Value) (h : a_H) : a_run d MX1_done 142 [some (.ref x), a1, a2] st h = a_run d MX1_done 143 [some (.ref x), a1, a2] (.ref x :: st) h := w_ldAn dX1_done_142 rfl
theorem w_X1_done_143 (d : Nat) (a0 a1 : Option Value) (x : Nat) (st : List Value) (h : a_H) : a_run d MX1_done 143 [a0, a1, some (.ref x)] st h = a_run d MX1_done 144 [a0, a1, some (.ref x)] (.ref x :: st) h := w_ldAn dX1_done_143 rfl
theorem w_X1_done_143N (d : Nat) (a0 a1 : Option Value) (st : List Value) (h : a_H) : a_run d MX1_done 143 [a0, a1, some .null] st h = a_run d MX1_done 144 [a0, a1, some .null] (.null :: st) h := w_ldNn dX1_done_143 rfl
theorem w_X1_done_144 (d : Nat) (L : a_L) (st : List Value) (h : a_H) : a_run d MX1_done 144 L st h = a_run d MX1_done 145 L (.int (nI 0) :: st) h := w_iconst dX1_done_144 rfl
theorem w_X1_done_145 (d : Nat) (L : a_L) (x : Int32) (i : Nat) (st : List Value) (h : a_H) : a_run d MX1_done 145 L (.int x :: .ref i :: st) h = (a_rdi h i a_int x).bind fun v => a_run d MX1_done 146 L (v :: st) h := w_iald dX1_done_145
theorem w_X1_done_146 (d : Nat) (L : a_L) (i : Nat) (v1 : Value) (st : List Value) (h : a_H) (hk : a_kls h i = some 1) (hc : a_cat st ≤ 8) : a_run d MX1_done 146 L (v1 :: .ref i :: st) h = a_cont d MX1_done (a_bk MX1_done 146 L st (a_call d MX2_losesArrow [.ref i, v1] h)) := w_callV (as := [.ref i, v1]) dX1_done_146 rfl rfl rfl hc (a_rcv_of hk rfl)
theorem w_X1_done_149 (d : Nat) (L : a_L) (x : Int32) (h : a_H) : a_run d MX1_done 149 L [.int x] h = some (.inl (some (.int x)), h) := w_iret dX1_done_149 (w_retI rfl)
theorem w_X1_done_150 (d : Nat) (a1 a2 : Option Value) (x : Nat) (st : List Value) (h : a_H) : a_run d MX1_done 150 [some (.ref x), a1, a2] st h = a_run d MX1_done 151 [some (.ref x), a1, a2] (.ref x :: st) h := w_ldAn dX1_done_150 rfl
theorem w_X1_done_151 (d : Nat) (a0 a1 : Option Value) (x : Nat) (st : List Value) (h : a_H) : a_run d MX1_done 151 [a0, a1, some (.ref x)] st h = a_run d MX1_done 152 [a0, a1, some (.ref x)] (.ref x :: st) h := w_ldAn dX1_done_151 rfl
theorem w_X1_done_151N (d : Nat) (a0 a1 : Option Value) (st : List Value) (h : a_H) : a_run d MX1_done 151 [a0, a1, some .null] st h = a_run d MX1_done 152 [a0, a1, some .null] (.null :: st) h := w_ldNn dX1_done_151 rfl
theorem w_X1_done_152 (d : Nat) (L : a_L) (st : List Value) (h : a_H) : a_run d MX1_done 152 L st h = a_run d MX1_done 153 L (.int (nI 0) :: st) h := w_iconst dX1_done_152 rfl
theorem w_X1_done_153 (d : Nat) (L : a_L) (x : Int32) (i : Nat) (st : List Value) (h : a_H) : a_run d MX1_done 153 L (.int x :: .ref i :: st) h = (a_rdi h i a_int x).bind fun v => a_run d MX1_done 154 L (v :: st) h := w_iald dX1_done_153
theorem w_X1_done_154 (d : Nat) (a0 a1 : Option Value) (x : Nat) (st : List Value) (h : a_H) : a_run d MX1_done 154 [a0, a1, some (.ref x)] st h = a_run d MX1_done 155 [a0, a1, some (.ref x)] (.ref x :: st) h := w_ldAn dX1_done_154 rfl
theorem w_X1_done_154N (d : Nat) (a0 a1 : Option Value) (st : List Value) (h : a_H) : a_run d MX1_done 154 [a0, a1, some .null] st h = a_run d MX1_done 155 [a0, a1, some .null] (.null :: st) h := w_ldNn dX1_done_154 rfl
theorem w_X1_done_155 (d : Nat) (L : a_L) (st : List Value) (h : a_H) : a_run d MX1_done 155 L st h = a_run d MX1_done 156 L (.int (nI 1) :: st) h := w_iconst dX1_done_155 rfl
theorem w_X1_done_156 (d : Nat) (L : a_L) (x : Int32) (i : Nat) (st : List Value) (h : a_H) : a_run d MX1_done 156 L (.int x :: .ref i :: st) h = (a_rdi h i a_int x).bind fun v => a_run d MX1_done 157 L (v :: st) h := w_iald dX1_done_156
theorem w_X1_done_157 (d : Nat) (L : a_L) (i : Nat) (v1 v2 : Value) (st : List Value) (h : a_H) (hk : a_kls h i = some 1) (hc : a_cat st ≤ 8) : a_run d MX1_done 157 L (v2 :: v1 :: .ref i :: st) h = a_cont d MX1_done (a_bk MX1_done 157 L st (a_call d MX2_holds [.ref i, v1, v2] h)) := w_callV (as := [.ref i, v1, v2]) dX1_done_157 rfl rfl rfl hc (a_rcv_of hk rfl)
theorem w_X1_done_160 (d : Nat) (L : a_L) (x : Int32) (h : a_H) : a_run d MX1_done 160 L [.int x] h = some (.inl (some (.int x)), h) := w_iret dX1_done_160 (w_retI rfl)
theorem w_X1_done_161 (d : Nat) (a1 a2 : Option Value) (x : Nat) (st : List Value) (h : a_H) : a_run d MX1_done 161 [some (.ref x), a1, a2] st h = a_run d MX1_done 162 [some (.ref x), a1, a2] (.ref x :: st) h := w_ldAn dX1_done_161 rfl
theorem w_X1_done_162 (d : Nat) (L : a_L) (i : Nat) (st : List Value) (h : a_H) (hk : a_kls h i = some 1) (hc : a_cat st ≤ 8) : a_run d MX1_done 162 L (.ref i :: st) h = a_cont d MX1_done (a_bk MX1_done 162 L st (a_call d MX2_prunes [.ref i] h)) := w_callV (as := [.ref i]) dX1_done_162 rfl rfl rfl hc (a_rcv_of hk rfl)
theorem w_X1_done_165 (d : Nat) (L : a_L) (x : Int32) (h : a_H) : a_run d MX1_done 165 L [.int x] h = some (.inl (some (.int x)), h) := w_iret dX1_done_165 (w_retI rfl)
theorem w_X1_done_166 (d : Nat) (a1 a2 : Option Value) (x : Nat) (st : List Value) (h : a_H) : a_run d MX1_done 166 [some (.ref x), a1, a2] st h = a_run d MX1_done 167 [some (.ref x), a1, a2] (.ref x :: st) h := w_ldAn dX1_done_166 rfl
theorem w_X1_done_167 (d : Nat) (L : a_L) (i : Nat) (st : List Value) (h : a_H) (hk : a_kls h i = some 1) (hc : a_cat st ≤ 8) : a_run d MX1_done 167 L (.ref i :: st) h = a_cont d MX1_done (a_bk MX1_done 167 L st (a_call d MX2_turnsRound [.ref i] h)) := w_callV (as := [.ref i]) dX1_done_167 rfl rfl rfl hc (a_rcv_of hk rfl)
theorem w_X1_done_170 (d : Nat) (L : a_L) (x : Int32) (h : a_H) : a_run d MX1_done 170 L [.int x] h = some (.inl (some (.int x)), h) := w_iret dX1_done_170 (w_retI rfl)
theorem w_X1_done_171 (d : Nat) (a1 a2 : Option Value) (x : Nat) (st : List Value) (h : a_H) : a_run d MX1_done 171 [some (.ref x), a1, a2] st h = a_run d MX1_done 172 [some (.ref x), a1, a2] (.ref x :: st) h := w_ldAn dX1_done_171 rfl
theorem w_X1_done_172 (d : Nat) (L : a_L) (st : List Value) (h : a_H) : a_run d MX1_done 172 L st h = a_run d MX1_done 173 L (.int (nI 1) :: st) h := w_iconst dX1_done_172 rfl
theorem w_X1_done_173 (d : Nat) (L : a_L) (i : Nat) (v1 : Value) (st : List Value) (h : a_H) (hk : a_kls h i = some 1) (hc : a_cat st ≤ 8) : a_run d MX1_done 173 L (v1 :: .ref i :: st) h = a_cont d MX1_done (a_bk MX1_done 173 L st (a_call d MX2_goes [.ref i, v1] h)) := w_callV (as := [.ref i, v1]) dX1_done_173 rfl rfl rfl hc (a_rcv_of hk rfl)
theorem w_X1_done_176 (d : Nat) (L : a_L) (x : Int32) (h : a_H) : a_run d MX1_done 176 L [.int x] h = some (.inl (some (.int x)), h) := w_iret dX1_done_176 (w_retI rfl)
theorem w_X1_done_177 (d : Nat) (a1 a2 : Option Value) (x : Nat) (st : List Value) (h : a_H) : a_run d MX1_done 177 [some (.ref x), a1, a2] st h = a_run d MX1_done 178 [some (.ref x), a1, a2] (.ref x :: st) h := w_ldAn dX1_done_177 rfl
theorem w_X1_done_178 (d : Nat) (L : a_L) (st : List Value) (h : a_H) : a_run d MX1_done 178 L st h = a_run d MX1_done 179 L (.int (nI 0) :: st) h := w_iconst dX1_done_178 rfl
theorem w_X1_done_179 (d : Nat) (L : a_L) (i : Nat) (v1 : Value) (st : List Value) (h : a_H) (hk : a_kls h i = some 1) (hc : a_cat st ≤ 8) : a_run d MX1_done 179 L (v1 :: .ref i :: st) h = a_cont d MX1_done (a_bk MX1_done 179 L st (a_call d MX2_goes [.ref i, v1] h)) := w_callV (as := [.ref i, v1]) dX1_done_179 rfl rfl rfl hc (a_rcv_of hk rfl)
theorem w_X1_done_182 (d : Nat) (L : a_L) (x : Int32) (h : a_H) : a_run d MX1_done 182 L [.int x] h = some (.inl (some (.int x)), h) := w_iret dX1_done_182 (w_retI rfl)
theorem w_X1_done_183 (d : Nat) (a1 a2 : Option Value) (x : Nat) (st : List Value) (h : a_H) : a_run d MX1_done 183 [some (.ref x), a1, a2] st h = a_run d MX1_done 184 [some (.ref x), a1, a2] (.ref x :: st) h := w_ldAn dX1_done_183 rfl
theorem w_X1_done_184 (d : Nat) (L : a_L) (i : Nat) (st : List Value) (h : a_H) (hk : a_kls h i = some 1) (hc : a_cat st ≤ 8) : a_run d MX1_done 184 L (.ref i :: st) h = a_cont d MX1_done (a_bk MX1_done 184 L st (a_call d MX2_untangles [.ref i] h)) := w_callV (as := [.ref i]) dX1_done_184 rfl rfl rfl hc (a_rcv_of hk rfl)
theorem w_X1_done_187 (d : Nat) (L : a_L) (x : Int32) (h : a_H) : a_run d MX1_done 187 L [.int x] h = some (.inl (some (.int x)), h) := w_iret dX1_done_187 (w_retI rfl)
theorem w_X1_done_188 (d : Nat) (a1 a2 : Option Value) (x : Nat) (st : List Value) (h : a_H) : a_run d MX1_done 188 [some (.ref x), a1, a2] st h = a_run d MX1_done 189 [some (.ref x), a1, a2] (.ref x :: st) h := w_ldAn dX1_done_188 rfl
theorem w_X1_done_189 (d : Nat) (a0 a1 : Option Value) (x : Nat) (st : List Value) (h : a_H) : a_run d MX1_done 189 [a0, a1, some (.ref x)] st h = a_run d MX1_done 190 [a0, a1, some (.ref x)] (.ref x :: st) h := w_ldAn dX1_done_189 rfl
theorem w_X1_done_189N (d : Nat) (a0 a1 : Option Value) (st : List Value) (h : a_H) : a_run d MX1_done 189 [a0, a1, some .null] st h = a_run d MX1_done 190 [a0, a1, some .null] (.null :: st) h := w_ldNn dX1_done_189 rfl
theorem w_X1_done_190 (d : Nat) (L : a_L) (st : List Value) (h : a_H) : a_run d MX1_done 190 L st h = a_run d MX1_done 191 L (.int (nI 0) :: st) h := w_iconst dX1_done_190 rfl
theorem w_X1_done_191 (d : Nat) (L : a_L) (x : Int32) (i : Nat) (st : List Value) (h : a_H) : a_run d MX1_done 191 L (.int x :: .ref i :: st) h = (a_rdi h i a_int x).bind fun v => a_run d MX1_done 192 L (v :: st) h := w_iald dX1_done_191
theorem w_X1_done_192 (d : Nat) (a0 a1 : Option Value) (x : Nat) (st : List Value) (h : a_H) : a_run d MX1_done 192 [a0, a1, some (.ref x)] st h = a_run d MX1_done 193 [a0, a1, some (.ref x)] (.ref x :: st) h := w_ldAn dX1_done_192 rfl
theorem w_X1_done_192N (d : Nat) (a0 a1 : Option Value) (st : List Value) (h : a_H) : a_run d MX1_done 192 [a0, a1, some .null] st h = a_run d MX1_done 193 [a0, a1, some .null] (.null :: st) h := w_ldNn dX1_done_192 rfl
theorem w_X1_done_193 (d : Nat) (L : a_L) (st : List Value) (h : a_H) : a_run d MX1_done 193 L st h = a_run d MX1_done 194 L (.int (nI 1) :: st) h := w_iconst dX1_done_193 rfl
theorem w_X1_done_194 (d : Nat) (L : a_L) (x : Int32) (i : Nat) (st : List Value) (h : a_H) : a_run d MX1_done 194 L (.int x :: .ref i :: st) h = (a_rdi h i a_int x).bind fun v => a_run d MX1_done 195 L (v :: st) h := w_iald dX1_done_194
theorem w_X1_done_195 (d : Nat) (a0 a1 : Option Value) (x : Nat) (st : List Value) (h : a_H) : a_run d MX1_done 195 [a0, a1, some (.ref x)] st h = a_run d MX1_done 196 [a0, a1, some (.ref x)] (.ref x :: st) h := w_ldAn dX1_done_195 rfl
theorem w_X1_done_195N (d : Nat) (a0 a1 : Option Value) (st : List Value) (h : a_H) : a_run d MX1_done 195 [a0, a1, some .null] st h = a_run d MX1_done 196 [a0, a1, some .null] (.null :: st) h := w_ldNn dX1_done_195 rfl
theorem w_X1_done_196 (d : Nat) (L : a_L) (st : List Value) (h : a_H) : a_run d MX1_done 196 L st h = a_run d MX1_done 197 L (.int (nI 2) :: st) h := w_iconst dX1_done_196 rfl
theorem w_X1_done_197 (d : Nat) (L : a_L) (x : Int32) (i : Nat) (st : List Value) (h : a_H) : a_run d MX1_done 197 L (.int x :: .ref i :: st) h = (a_rdi h i a_int x).bind fun v => a_run d MX1_done 198 L (v :: st) h := w_iald dX1_done_197
theorem w_X1_done_198 (d : Nat) (L : a_L) (i : Nat) (v1 v2 v3 : Value) (st : List Value) (h : a_H) (hk : a_kls h i = some 1) (hc : a_cat st ≤ 8) : a_run d MX1_done 198 L (v3 :: v2 :: v1 :: .ref i :: st) h = a_cont d MX1_done (a_bk MX1_done 198 L st (a_call d MX2_swapsAt [.ref i, v1, v2, v3] h)) := w_callV (as := [.ref i, v1, v2, v3]) dX1_done_198 rfl rfl rfl hc (a_rcv_of hk rfl)
theorem w_X1_done_201 (d : Nat) (L : a_L) (x : Int32) (h : a_H) : a_run d MX1_done 201 L [.int x] h = some (.inl (some (.int x)), h) := w_iret dX1_done_201 (w_retI rfl)
theorem w_X1_done_202 (d : Nat) (a1 a2 : Option Value) (x : Nat) (st : List Value) (h : a_H) : a_run d MX1_done 202 [some (.ref x), a1, a2] st h = a_run d MX1_done 203 [some (.ref x), a1, a2] (.ref x :: st) h := w_ldAn dX1_done_202 rfl
theorem w_X1_done_203 (d : Nat) (L : a_L) (i : Nat) (st : List Value) (h : a_H) (hk : a_kls h i = some 1) (hc : a_cat st ≤ 8) : a_run d MX1_done 203 L (.ref i :: st) h = a_cont d MX1_done (a_bk MX1_done 203 L st (a_call d MX2_settles [.ref i] h)) := w_callV (as := [.ref i]) dX1_done_203 rfl rfl rfl hc (a_rcv_of hk rfl)
theorem w_X1_done_206 (d : Nat) (L : a_L) (x : Int32) (h : a_H) : a_run d MX1_done 206 L [.int x] h = some (.inl (some (.int x)), h) := w_iret dX1_done_206 (w_retI rfl)
theorem e_X1_need (d : Nat) (x0 : Int32) (x1 : Int32) (h : a_H) : a_call (d + 1) MX1_need [.int x0, .int x1] h = a_run d MX1_need 0 [some (.int x0), some (.int x1)] [] h := a_call_run rfl (Nat.le_of_ble_eq_true rfl) rfl
theorem w_X1_need_0 (d : Nat) (a1 : Option Value) (x : Int32) (st : List Value) (h : a_H) : a_run d MX1_need 0 [some (.int x), a1] st h = a_run d MX1_need 1 [some (.int x), a1] (.int x :: st) h := w_ldIn dX1_need_0 rfl
theorem w_X1_need_1 (d : Nat) (L : a_L) (x : Int32) (st : List Value) (h : a_H) : a_run d MX1_need 1 L (.int x :: st) h = if x = 0 then a_run d MX1_need 4 L st h else a_run d MX1_need 13 L st h := w_if_ne dX1_need_1 rfl
theorem w_X1_need_4 (d : Nat) (L : a_L) (st : List Value) (h : a_H) : a_run d MX1_need 4 L st h = a_run d MX1_need 7 L (.ref h.1 :: st) (a_add h (.inr (3, [.null, .null, .null, .null, .null, .int 0, .int 0])) 7) := w_new dX1_need_4 rfl rfl
theorem w_X1_need_7 (d : Nat) (L : a_L) (x : Nat) (st : List Value) (h : a_H) : a_run d MX1_need 7 L (.ref x :: st) h = a_run d MX1_need 8 L (.ref x :: .ref x :: st) h := w_dup dX1_need_7
theorem w_X1_need_7I (d : Nat) (L : a_L) (x : Int32) (st : List Value) (h : a_H) : a_run d MX1_need 7 L (.int x :: st) h = a_run d MX1_need 8 L (.int x :: .int x :: st) h := w_dupI dX1_need_7
theorem w_X1_need_8 (d : Nat) (a0 : Option Value) (x : Int32) (st : List Value) (h : a_H) : a_run d MX1_need 8 [a0, some (.int x)] st h = a_run d MX1_need 9 [a0, some (.int x)] (.int x :: st) h := w_ldIn dX1_need_8 rfl
theorem w_X1_need_9 (d : Nat) (L : a_L) (i : Nat) (v1 : Value) (st : List Value) (h : a_H) (hi : 1024 ≤ i) (hc : a_cat st ≤ 8) : a_run d MX1_need 9 L (v1 :: .ref i :: st) h = a_cont d MX1_need (a_bk MX1_need 9 L st (a_call d MX4_init [.ref i, v1] h)) := w_callI (as := [.ref i, v1]) dX1_need_9 rfl rfl rfl hc (a_new0_of hi)
theorem w_X1_need_12 (d : Nat) (L : a_L) (x : Nat) (st : List Value) (h : a_H) : a_run d MX1_need 12 L (.ref x :: st) h = a_cont d MX1_need (a_thr MX1_need 12 L x h) := w_athrow dX1_need_12
theorem w_X1_need_13 (d : Nat) (L : a_L) (h : a_H) : a_run d MX1_need 13 L [] h = some (.inl none, h) := w_vret dX1_need_13 rfl
theorem w_X1_isBetween_2 (d : Nat) (L : a_L) (x y : Int64) (st : List Value) (h : a_H) : a_run d MX1_isBetween 2 L (.long y :: .long x :: st) h = a_run d MX1_isBetween 3 L (.int (lg_cmp x y) :: st) h := w_lcmp dX1_isBetween_2
theorem w_X1_isBetween_3 (d : Nat) (L : a_L) (x : Int32) (st : List Value) (h : a_H) : a_run d MX1_isBetween 3 L (.int x :: st) h = if x < 0 then a_run d MX1_isBetween 17 L st h else a_run d MX1_isBetween 6 L st h := w_if_lt dX1_isBetween_3 rfl
theorem w_X1_isBetween_9 (d : Nat) (L : a_L) (x y : Int64) (st : List Value) (h : a_H) : a_run d MX1_isBetween 9 L (.long y :: .long x :: st) h = a_run d MX1_isBetween 10 L (.int (lg_cmp x y) :: st) h := w_lcmp dX1_isBetween_9
theorem w_X1_isBetween_10 (d : Nat) (L : a_L) (x : Int32) (st : List Value) (h : a_H) : a_run d MX1_isBetween 10 L (.int x :: st) h = if 0 < x then a_run d MX1_isBetween 17 L st h else a_run d MX1_isBetween 13 L st h := w_if_gt dX1_isBetween_10 rfl
theorem w_X1_isBetween_13 (d : Nat) (L : a_L) (st : List Value) (h : a_H) : a_run d MX1_isBetween 13 L st h = a_run d MX1_isBetween 14 L (.int (nI 1) :: st) h := w_iconst dX1_isBetween_13 rfl
theorem w_X1_isBetween_14 (d : Nat) (L : a_L) (st : List Value) (h : a_H) : a_run d MX1_isBetween 14 L st h = a_run d MX1_isBetween 18 L st h := w_goto dX1_isBetween_14 rfl
theorem w_X1_isBetween_17 (d : Nat) (L : a_L) (st : List Value) (h : a_H) : a_run d MX1_isBetween 17 L st h = a_run d MX1_isBetween 18 L (.int (nI 0) :: st) h := w_iconst dX1_isBetween_17 rfl
theorem w_X1_isBetween_18 (d : Nat) (L : a_L) (x : Int32) (h : a_H) (hx : x = 0 ∨ x = 1) : a_run d MX1_isBetween 18 L [.int x] h = some (.inl (some (.int x)), h) := w_iret dX1_isBetween_18 (w_retZ rfl hx)
theorem e_X1_needReason (d : Nat) (x0 : Int32) (x1 : Int32) (h : a_H) : a_call (d + 1) MX1_needReason [.int x0, .int x1] h = a_run d MX1_needReason 0 [some (.int x0), some (.int x1)] [] h := a_call_run rfl (Nat.le_of_ble_eq_true rfl) rfl
theorem w_X1_needReason_0 (d : Nat) (a1 : Option Value) (x : Int32) (st : List Value) (h : a_H) : a_run d MX1_needReason 0 [some (.int x), a1] st h = a_run d MX1_needReason 1 [some (.int x), a1] (.int x :: st) h := w_ldIn dX1_needReason_0 rfl
theorem w_X1_needReason_1 (d : Nat) (L : a_L) (x : Int32) (st : List Value) (h : a_H) : a_run d MX1_needReason 1 L (.int x :: st) h = if x = 0 then a_run d MX1_needReason 4 L st h else a_run d MX1_needReason 21 L st h := w_if_ne dX1_needReason_1 rfl
theorem w_X1_needReason_4 (d : Nat) (L : a_L) (st : List Value) (h : a_H) : a_run d MX1_needReason 4 L st h = a_run d MX1_needReason 7 L (.ref h.1 :: st) (a_add h (.inr (3, [.null, .null, .null, .null, .null, .int 0, .int 0])) 7) := w_new dX1_needReason_4 rfl rfl
theorem w_X1_needReason_7 (d : Nat) (L : a_L) (x : Nat) (st : List Value) (h : a_H) : a_run d MX1_needReason 7 L (.ref x :: st) h = a_run d MX1_needReason 8 L (.ref x :: .ref x :: st) h := w_dup dX1_needReason_7
theorem w_X1_needReason_7I (d : Nat) (L : a_L) (x : Int32) (st : List Value) (h : a_H) : a_run d MX1_needReason 7 L (.int x :: st) h = a_run d MX1_needReason 8 L (.int x :: .int x :: st) h := w_dupI dX1_needReason_7
theorem w_X1_needReason_8 (d : Nat) (L : a_L) (st : List Value) (h : a_H) : a_run d MX1_needReason 8 L st h = a_run d MX1_needReason 9 L (.int (nI 2) :: st) h := w_iconst dX1_needReason_8 rfl
theorem w_X1_needReason_9 (d : Nat) (L : a_L) (st : List Value) (h : a_H) : a_run d MX1_needReason 9 L st h = a_run d MX1_needReason 12 L (.ref h.1 :: st) (a_add h (.inr (4, [.null, .null, .null, .null, .null, .int 0, .int 0])) 7) := w_new dX1_needReason_9 rfl rfl
theorem w_X1_needReason_12 (d : Nat) (L : a_L) (x : Nat) (st : List Value) (h : a_H) : a_run d MX1_needReason 12 L (.ref x :: st) h = a_run d MX1_needReason 13 L (.ref x :: .ref x :: st) h := w_dup dX1_needReason_12
theorem w_X1_needReason_12I (d : Nat) (L : a_L) (x : Int32) (st : List Value) (h : a_H) : a_run d MX1_needReason 12 L (.int x :: st) h = a_run d MX1_needReason 13 L (.int x :: .int x :: st) h := w_dupI dX1_needReason_12
theorem w_X1_needReason_13 (d : Nat) (a0 : Option Value) (x : Int32) (st : List Value) (h : a_H) : a_run d MX1_needReason 13 [a0, some (.int x)] st h = a_run d MX1_needReason 14 [a0, some (.int x)] (.int x :: st) h := w_ldIn dX1_needReason_13 rfl
theorem w_X1_needReason_14 (d : Nat) (L : a_L) (i : Nat) (v1 : Value) (st : List Value) (h : a_H) (hi : 1024 ≤ i) (hc : a_cat st ≤ 8) : a_run d MX1_needReason 14 L (v1 :: .ref i :: st) h = a_cont d MX1_needReason (a_bk MX1_needReason 14 L st (a_call d MX5_init [.ref i, v1] h)) := w_callI (as := [.ref i, v1]) dX1_needReason_14 rfl rfl rfl hc (a_new0_of hi)
theorem w_X1_needReason_17 (d : Nat) (L : a_L) (i : Nat) (v1 v2 : Value) (st : List Value) (h : a_H) (hi : 1024 ≤ i) (hc : a_cat st ≤ 8) : a_run d MX1_needReason 17 L (v2 :: v1 :: .ref i :: st) h = a_cont d MX1_needReason (a_bk MX1_needReason 17 L st (a_call d MX4_init_2 [.ref i, v1, v2] h)) := w_callI (as := [.ref i, v1, v2]) dX1_needReason_17 rfl rfl rfl hc (a_new0_of hi)
theorem w_X1_needReason_20 (d : Nat) (L : a_L) (x : Nat) (st : List Value) (h : a_H) : a_run d MX1_needReason 20 L (.ref x :: st) h = a_cont d MX1_needReason (a_thr MX1_needReason 20 L x h) := w_athrow dX1_needReason_20
theorem w_X1_needReason_21 (d : Nat) (L : a_L) (h : a_H) : a_run d MX1_needReason 21 L [] h = some (.inl none, h) := w_vret dX1_needReason_21 rfl
theorem e_X1_changed (d : Nat) (x0 : Nat) (x1 : Nat) (x2 : Int32) (h : a_H) : a_call (d + 1) MX1_changed [.ref x0, .ref x1, .int x2] h = a_run d MX1_changed 0 [some (.ref x0), some (.ref x1), some (.int x2)] [] h := a_call_run rfl (Nat.le_of_ble_eq_true rfl) rfl
theorem w_X1_changed_0 (d : Nat) (a1 a2 : Option Value) (x : Nat) (st : List Value) (h : a_H) : a_run d MX1_changed 0 [some (.ref x), a1, a2] st h = a_run d MX1_changed 1 [some (.ref x), a1, a2] (.ref x :: st) h := w_ldAn dX1_changed_0 rfl
theorem w_X1_changed_1 (d : Nat) (L : a_L) (i : Nat) (st : List Value) (h : a_H) : a_run d MX1_changed 1 L (.ref i :: st) h = (a_gf h i 2 [0]).bind fun v => a_run d MX1_changed 4 L (v :: st) h := w_getf dX1_changed_1 rfl
theorem w_X1_changed_4 (d : Nat) (a1 a2 : Option Value) (x : Nat) (st : List Value) (h : a_H) : a_run d MX1_changed 4 [some (.ref x), a1, a2] st h = a_run d MX1_changed 5 [some (.ref x), a1, a2] (.ref x :: st) h := w_ldAn dX1_changed_4 rfl
theorem w_X1_changed_5 (d : Nat) (L : a_L) (i : Nat) (st : List Value) (h : a_H) : a_run d MX1_changed 5 L (.ref i :: st) h = (a_gf h i 0 [0]).bind fun v => a_run d MX1_changed 8 L (v :: st) h := w_getf dX1_changed_5 rfl
theorem w_X1_changed_8 (d : Nat) (L : a_L) (i : Nat) (v1 : Value) (st : List Value) (h : a_H) (hk : a_kls h i = some 7) (hc : a_cat st ≤ 8) : a_run d MX1_changed 8 L (v1 :: .ref i :: st) h = a_cont d MX1_changed (a_bk MX1_changed 8 L st (a_call d MJ1_addLast [.ref i, v1] h)) := w_callV (as := [.ref i, v1]) dX1_changed_8 rfl rfl rfl hc (a_rcv_of hk rfl)
theorem w_X1_changed_11 (d : Nat) (a1 a2 : Option Value) (x : Nat) (st : List Value) (h : a_H) : a_run d MX1_changed 11 [some (.ref x), a1, a2] st h = a_run d MX1_changed 12 [some (.ref x), a1, a2] (.ref x :: st) h := w_ldAn dX1_changed_11 rfl
theorem w_X1_changed_12 (d : Nat) (L : a_L) (i : Nat) (st : List Value) (h : a_H) : a_run d MX1_changed 12 L (.ref i :: st) h = (a_gf h i 2 [0]).bind fun v => a_run d MX1_changed 15 L (v :: st) h := w_getf dX1_changed_12 rfl
theorem w_X1_changed_15 (d : Nat) (L : a_L) (i : Nat) (st : List Value) (h : a_H) (hk : a_kls h i = some 7) (hc : a_cat st ≤ 8) : a_run d MX1_changed 15 L (.ref i :: st) h = a_cont d MX1_changed (a_bk MX1_changed 15 L st (a_call d MJ1_size [.ref i] h)) := w_callV (as := [.ref i]) dX1_changed_15 rfl rfl rfl hc (a_rcv_of hk rfl)
theorem w_X1_changed_18 (d : Nat) (L : a_L) (st : List Value) (h : a_H) : a_run d MX1_changed 18 L st h = a_run d MX1_changed 19 L (.int (nI 4) :: st) h := w_iconst dX1_changed_18 rfl
theorem w_X1_changed_19 (d : Nat) (L : a_L) (x y : Int32) (st : List Value) (h : a_H) : a_run d MX1_changed 19 L (.int y :: .int x :: st) h = if y < x then a_run d MX1_changed 22 L st h else a_run d MX1_changed 30 L st h := w_icmp_le dX1_changed_19 rfl
theorem w_X1_changed_22 (d : Nat) (a1 a2 : Option Value) (x : Nat) (st : List Value) (h : a_H) : a_run d MX1_changed 22 [some (.ref x), a1, a2] st h = a_run d MX1_changed 23 [some (.ref x), a1, a2] (.ref x :: st) h := w_ldAn dX1_changed_22 rfl
theorem w_X1_changed_23 (d : Nat) (L : a_L) (i : Nat) (st : List Value) (h : a_H) : a_run d MX1_changed 23 L (.ref i :: st) h = (a_gf h i 2 [0]).bind fun v => a_run d MX1_changed 26 L (v :: st) h := w_getf dX1_changed_23 rfl
theorem w_X1_changed_26 (d : Nat) (L : a_L) (i : Nat) (st : List Value) (h : a_H) (hk : a_kls h i = some 7) (hc : a_cat st ≤ 8) : a_run d MX1_changed 26 L (.ref i :: st) h = a_cont d MX1_changed (a_bk MX1_changed 26 L st (a_call d MJ1_removeFirst [.ref i] h)) := w_callV (as := [.ref i]) dX1_changed_26 rfl rfl rfl hc (a_rcv_of hk rfl)
theorem w_X1_changed_29 (d : Nat) (L : a_L) (x : Nat) (st : List Value) (h : a_H) : a_run d MX1_changed 29 L (.ref x :: st) h = a_run d MX1_changed 30 L st h := w_pop dX1_changed_29
theorem w_X1_changed_29I (d : Nat) (L : a_L) (x : Int32) (st : List Value) (h : a_H) : a_run d MX1_changed 29 L (.int x :: st) h = a_run d MX1_changed 30 L st h := w_popI dX1_changed_29
theorem w_X1_changed_30 (d : Nat) (a1 a2 : Option Value) (x : Nat) (st : List Value) (h : a_H) : a_run d MX1_changed 30 [some (.ref x), a1, a2] st h = a_run d MX1_changed 31 [some (.ref x), a1, a2] (.ref x :: st) h := w_ldAn dX1_changed_30 rfl
theorem w_X1_changed_31 (d : Nat) (a0 a2 : Option Value) (x : Nat) (st : List Value) (h : a_H) : a_run d MX1_changed 31 [a0, some (.ref x), a2] st h = a_run d MX1_changed 32 [a0, some (.ref x), a2] (.ref x :: st) h := w_ldAn dX1_changed_31 rfl
theorem w_X1_changed_31N (d : Nat) (a0 a2 : Option Value) (st : List Value) (h : a_H) : a_run d MX1_changed 31 [a0, some .null, a2] st h = a_run d MX1_changed 32 [a0, some .null, a2] (.null :: st) h := w_ldNn dX1_changed_31 rfl
theorem w_X1_changed_32 (d : Nat) (L : a_L) (x : Nat) (i : Nat) (st : List Value) (h : a_H) : a_run d MX1_changed 32 L (.ref x :: .ref i :: st) h = (a_pf h i 0 [0] (.ref x)).bind fun h' => a_run d MX1_changed 35 L st h' := w_putf dX1_changed_32 rfl rfl (Or.inl rfl) rfl rfl
theorem w_X1_changed_32N (d : Nat) (L : a_L) (i : Nat) (st : List Value) (h : a_H) : a_run d MX1_changed 32 L (.null :: .ref i :: st) h = (a_pf h i 0 [0] (.null)).bind fun h' => a_run d MX1_changed 35 L st h' := w_putf dX1_changed_32 rfl rfl (Or.inl rfl) rfl rfl
theorem w_X1_changed_35 (d : Nat) (a0 a1 : Option Value) (x : Int32) (st : List Value) (h : a_H) : a_run d MX1_changed 35 [a0, a1, some (.int x)] st h = a_run d MX1_changed 36 [a0, a1, some (.int x)] (.int x :: st) h := w_ldIn dX1_changed_35 rfl
theorem w_X1_changed_36 (d : Nat) (L : a_L) (x : Int32) (h : a_H) : a_run d MX1_changed 36 L [.int x] h = some (.inl (some (.int x)), h) := w_iret dX1_changed_36 (w_retI rfl)
theorem e_X1_turnRound (d : Nat) (x0 : Nat) (h : a_H) : a_call (d + 1) MX1_turnRound [.ref x0] h = a_run d MX1_turnRound 0 [some (.ref x0)] [] h := a_call_run rfl (Nat.le_of_ble_eq_true rfl) rfl
theorem w_X1_turnRound_0 (d : Nat) (x : Nat) (st : List Value) (h : a_H) : a_run d MX1_turnRound 0 [some (.ref x)] st h = a_run d MX1_turnRound 1 [some (.ref x)] (.ref x :: st) h := w_ldAn dX1_turnRound_0 rfl
theorem w_X1_turnRound_1 (d : Nat) (L : a_L) (st : List Value) (h : a_H) : a_run d MX1_turnRound 1 L st h = a_run d MX1_turnRound 3 L (.int (nI 114) :: st) h := w_bipush dX1_turnRound_1 rfl
theorem w_X1_turnRound_3 (d : Nat) (L : a_L) (st : List Value) (h : a_H) : a_run d MX1_turnRound 3 L st h = a_run d MX1_turnRound 4 L (.int (nI 0) :: st) h := w_iconst dX1_turnRound_3 rfl
theorem w_X1_turnRound_4 (d : Nat) (L : a_L) (x : Int32) (st : List Value) (h : a_H) : a_run d MX1_turnRound 4 L (.int x :: st) h = (a_newa h (newarray.typeOf .int) x).bind fun q => a_run d MX1_turnRound 6 L (.ref q.1 :: st) q.2 := w_newa dX1_turnRound_4
theorem w_X1_turnRound_6 (d : Nat) (L : a_L) (i : Nat) (v1 v2 : Value) (st : List Value) (h : a_H) (hk : a_kls h i = some 0) (hc : a_cat st ≤ 8) : a_run d MX1_turnRound 6 L (v2 :: v1 :: .ref i :: st) h = a_cont d MX1_turnRound (a_bk MX1_turnRound 6 L st (a_call d MX1_act [.ref i, v1, v2] h)) := w_callV (as := [.ref i, v1, v2]) dX1_turnRound_6 rfl rfl rfl hc (a_rcv_of hk rfl)
theorem w_X1_turnRound_9 (d : Nat) (L : a_L) (x : Int32) (h : a_H) : a_run d MX1_turnRound 9 L [.int x] h = some (.inl (some (.int x)), h) := w_iret dX1_turnRound_9 (w_retI rfl)
theorem e_X1_sweepDown (d : Nat) (x0 : Nat) (h : a_H) : a_call (d + 1) MX1_sweepDown [.ref x0] h = a_run d MX1_sweepDown 0 [some (.ref x0)] [] h := a_call_run rfl (Nat.le_of_ble_eq_true rfl) rfl
theorem w_X1_sweepDown_0 (d : Nat) (x : Nat) (st : List Value) (h : a_H) : a_run d MX1_sweepDown 0 [some (.ref x)] st h = a_run d MX1_sweepDown 1 [some (.ref x)] (.ref x :: st) h := w_ldAn dX1_sweepDown_0 rfl
theorem w_X1_sweepDown_1 (d : Nat) (L : a_L) (st : List Value) (h : a_H) : a_run d MX1_sweepDown 1 L st h = a_run d MX1_sweepDown 3 L (.int (nI 100) :: st) h := w_bipush dX1_sweepDown_1 rfl
theorem w_X1_sweepDown_3 (d : Nat) (L : a_L) (st : List Value) (h : a_H) : a_run d MX1_sweepDown 3 L st h = a_run d MX1_sweepDown 4 L (.int (nI 0) :: st) h := w_iconst dX1_sweepDown_3 rfl
theorem w_X1_sweepDown_4 (d : Nat) (L : a_L) (x : Int32) (st : List Value) (h : a_H) : a_run d MX1_sweepDown 4 L (.int x :: st) h = (a_newa h (newarray.typeOf .int) x).bind fun q => a_run d MX1_sweepDown 6 L (.ref q.1 :: st) q.2 := w_newa dX1_sweepDown_4
theorem w_X1_sweepDown_6 (d : Nat) (L : a_L) (i : Nat) (v1 v2 : Value) (st : List Value) (h : a_H) (hk : a_kls h i = some 0) (hc : a_cat st ≤ 8) : a_run d MX1_sweepDown 6 L (v2 :: v1 :: .ref i :: st) h = a_cont d MX1_sweepDown (a_bk MX1_sweepDown 6 L st (a_call d MX1_act [.ref i, v1, v2] h)) := w_callV (as := [.ref i, v1, v2]) dX1_sweepDown_6 rfl rfl rfl hc (a_rcv_of hk rfl)
theorem w_X1_sweepDown_9 (d : Nat) (L : a_L) (x : Int32) (h : a_H) : a_run d MX1_sweepDown 9 L [.int x] h = some (.inl (some (.int x)), h) := w_iret dX1_sweepDown_9 (w_retI rfl)
theorem e_X1_sweepUp (d : Nat) (x0 : Nat) (h : a_H) : a_call (d + 1) MX1_sweepUp [.ref x0] h = a_run d MX1_sweepUp 0 [some (.ref x0)] [] h := a_call_run rfl (Nat.le_of_ble_eq_true rfl) rfl
theorem w_X1_sweepUp_0 (d : Nat) (x : Nat) (st : List Value) (h : a_H) : a_run d MX1_sweepUp 0 [some (.ref x)] st h = a_run d MX1_sweepUp 1 [some (.ref x)] (.ref x :: st) h := w_ldAn dX1_sweepUp_0 rfl
theorem w_X1_sweepUp_1 (d : Nat) (L : a_L) (st : List Value) (h : a_H) : a_run d MX1_sweepUp 1 L st h = a_run d MX1_sweepUp 3 L (.int (nI 117) :: st) h := w_bipush dX1_sweepUp_1 rfl
theorem w_X1_sweepUp_3 (d : Nat) (L : a_L) (st : List Value) (h : a_H) : a_run d MX1_sweepUp 3 L st h = a_run d MX1_sweepUp 4 L (.int (nI 0) :: st) h := w_iconst dX1_sweepUp_3 rfl
theorem w_X1_sweepUp_4 (d : Nat) (L : a_L) (x : Int32) (st : List Value) (h : a_H) : a_run d MX1_sweepUp 4 L (.int x :: st) h = (a_newa h (newarray.typeOf .int) x).bind fun q => a_run d MX1_sweepUp 6 L (.ref q.1 :: st) q.2 := w_newa dX1_sweepUp_4
theorem w_X1_sweepUp_6 (d : Nat) (L : a_L) (i : Nat) (v1 v2 : Value) (st : List Value) (h : a_H) (hk : a_kls h i = some 0) (hc : a_cat st ≤ 8) : a_run d MX1_sweepUp 6 L (v2 :: v1 :: .ref i :: st) h = a_cont d MX1_sweepUp (a_bk MX1_sweepUp 6 L st (a_call d MX1_act [.ref i, v1, v2] h)) := w_callV (as := [.ref i, v1, v2]) dX1_sweepUp_6 rfl rfl rfl hc (a_rcv_of hk rfl)
theorem w_X1_sweepUp_9 (d : Nat) (L : a_L) (x : Int32) (h : a_H) : a_run d MX1_sweepUp 9 L [.int x] h = some (.inl (some (.int x)), h) := w_iret dX1_sweepUp_9 (w_retI rfl)
theorem e_X1_untangle (d : Nat) (x0 : Nat) (h : a_H) : a_call (d + 1) MX1_untangle [.ref x0] h = a_run d MX1_untangle 0 [some (.ref x0)] [] h := a_call_run rfl (Nat.le_of_ble_eq_true rfl) rfl
theorem w_X1_untangle_0 (d : Nat) (x : Nat) (st : List Value) (h : a_H) : a_run d MX1_untangle 0 [some (.ref x)] st h = a_run d MX1_untangle 1 [some (.ref x)] (.ref x :: st) h := w_ldAn dX1_untangle_0 rfl
theorem w_X1_untangle_1 (d : Nat) (L : a_L) (st : List Value) (h : a_H) : a_run d MX1_untangle 1 L st h = a_run d MX1_untangle 3 L (.int (nI 116) :: st) h := w_bipush dX1_untangle_1 rfl
theorem w_X1_untangle_3 (d : Nat) (L : a_L) (st : List Value) (h : a_H) : a_run d MX1_untangle 3 L st h = a_run d MX1_untangle 4 L (.int (nI 0) :: st) h := w_iconst dX1_untangle_3 rfl
theorem w_X1_untangle_4 (d : Nat) (L : a_L) (x : Int32) (st : List Value) (h : a_H) : a_run d MX1_untangle 4 L (.int x :: st) h = (a_newa h (newarray.typeOf .int) x).bind fun q => a_run d MX1_untangle 6 L (.ref q.1 :: st) q.2 := w_newa dX1_untangle_4
theorem w_X1_untangle_6 (d : Nat) (L : a_L) (i : Nat) (v1 v2 : Value) (st : List Value) (h : a_H) (hk : a_kls h i = some 0) (hc : a_cat st ≤ 8) : a_run d MX1_untangle 6 L (v2 :: v1 :: .ref i :: st) h = a_cont d MX1_untangle (a_bk MX1_untangle 6 L st (a_call d MX1_act [.ref i, v1, v2] h)) := w_callV (as := [.ref i, v1, v2]) dX1_untangle_6 rfl rfl rfl hc (a_rcv_of hk rfl)
theorem w_X1_untangle_9 (d : Nat) (L : a_L) (x : Int32) (h : a_H) : a_run d MX1_untangle 9 L [.int x] h = some (.inl (some (.int x)), h) := w_iret dX1_untangle_9 (w_retI rfl)
theorem e_X1_settle (d : Nat) (x0 : Nat) (h : a_H) : a_call (d + 1) MX1_settle [.ref x0] h = a_run d MX1_settle 0 [some (.ref x0)] [] h := a_call_run rfl (Nat.le_of_ble_eq_true rfl) rfl
theorem w_X1_settle_0 (d : Nat) (x : Nat) (st : List Value) (h : a_H) : a_run d MX1_settle 0 [some (.ref x)] st h = a_run d MX1_settle 1 [some (.ref x)] (.ref x :: st) h := w_ldAn dX1_settle_0 rfl
theorem w_X1_settle_1 (d : Nat) (L : a_L) (st : List Value) (h : a_H) : a_run d MX1_settle 1 L st h = a_run d MX1_settle 3 L (.int (nI 115) :: st) h := w_bipush dX1_settle_1 rfl
theorem w_X1_settle_3 (d : Nat) (L : a_L) (st : List Value) (h : a_H) : a_run d MX1_settle 3 L st h = a_run d MX1_settle 4 L (.int (nI 0) :: st) h := w_iconst dX1_settle_3 rfl
theorem w_X1_settle_4 (d : Nat) (L : a_L) (x : Int32) (st : List Value) (h : a_H) : a_run d MX1_settle 4 L (.int x :: st) h = (a_newa h (newarray.typeOf .int) x).bind fun q => a_run d MX1_settle 6 L (.ref q.1 :: st) q.2 := w_newa dX1_settle_4
theorem w_X1_settle_6 (d : Nat) (L : a_L) (i : Nat) (v1 v2 : Value) (st : List Value) (h : a_H) (hk : a_kls h i = some 0) (hc : a_cat st ≤ 8) : a_run d MX1_settle 6 L (v2 :: v1 :: .ref i :: st) h = a_cont d MX1_settle (a_bk MX1_settle 6 L st (a_call d MX1_act [.ref i, v1, v2] h)) := w_callV (as := [.ref i, v1, v2]) dX1_settle_6 rfl rfl rfl hc (a_rcv_of hk rfl)
theorem w_X1_settle_9 (d : Nat) (L : a_L) (x : Int32) (h : a_H) : a_run d MX1_settle 9 L [.int x] h = some (.inl (some (.int x)), h) := w_iret dX1_settle_9 (w_retI rfl)
theorem e_X1_boxes (d : Nat) (x0 : Nat) (h : a_H) : a_call (d + 1) MX1_boxes [.ref x0] h = a_run d MX1_boxes 0 [some (.ref x0)] [] h := a_call_run rfl (Nat.le_of_ble_eq_true rfl) rfl
theorem w_X1_boxes_0 (d : Nat) (x : Nat) (st : List Value) (h : a_H) : a_run d MX1_boxes 0 [some (.ref x)] st h = a_run d MX1_boxes 1 [some (.ref x)] (.ref x :: st) h := w_ldAn dX1_boxes_0 rfl
theorem w_X1_boxes_1 (d : Nat) (L : a_L) (i : Nat) (st : List Value) (h : a_H) : a_run d MX1_boxes 1 L (.ref i :: st) h = (a_gf h i 0 [0]).bind fun v => a_run d MX1_boxes 4 L (v :: st) h := w_getf dX1_boxes_1 rfl
theorem w_X1_boxes_4 (d : Nat) (L : a_L) (i : Nat) (st : List Value) (h : a_H) : a_run d MX1_boxes 4 L (.ref i :: st) h = (a_gf h i 11 [1]).bind fun v => a_run d MX1_boxes 7 L (v :: st) h := w_getf dX1_boxes_4 rfl
theorem w_X1_boxes_7 (d : Nat) (L : a_L) (x : Int32) (h : a_H) : a_run d MX1_boxes 7 L [.int x] h = some (.inl (some (.int x)), h) := w_iret dX1_boxes_7 (w_retI rfl)
theorem e_X1_arrows (d : Nat) (x0 : Nat) (h : a_H) : a_call (d + 1) MX1_arrows [.ref x0] h = a_run d MX1_arrows 0 [some (.ref x0)] [] h := a_call_run rfl (Nat.le_of_ble_eq_true rfl) rfl
theorem w_X1_arrows_0 (d : Nat) (x : Nat) (st : List Value) (h : a_H) : a_run d MX1_arrows 0 [some (.ref x)] st h = a_run d MX1_arrows 1 [some (.ref x)] (.ref x :: st) h := w_ldAn dX1_arrows_0 rfl
theorem w_X1_arrows_1 (d : Nat) (L : a_L) (i : Nat) (st : List Value) (h : a_H) : a_run d MX1_arrows 1 L (.ref i :: st) h = (a_gf h i 0 [0]).bind fun v => a_run d MX1_arrows 4 L (v :: st) h := w_getf dX1_arrows_1 rfl
theorem w_X1_arrows_4 (d : Nat) (L : a_L) (i : Nat) (st : List Value) (h : a_H) : a_run d MX1_arrows 4 L (.ref i :: st) h = (a_gf h i 12 [1]).bind fun v => a_run d MX1_arrows 7 L (v :: st) h := w_getf dX1_arrows_4 rfl
theorem w_X1_arrows_7 (d : Nat) (L : a_L) (x : Int32) (h : a_H) : a_run d MX1_arrows 7 L [.int x] h = some (.inl (some (.int x)), h) := w_iret dX1_arrows_7 (w_retI rfl)
theorem e_X1_needless (d : Nat) (x0 : Nat) (h : a_H) : a_call (d + 1) MX1_needless [.ref x0] h = a_run d MX1_needless 0 [some (.ref x0)] [] h := a_call_run rfl (Nat.le_of_ble_eq_true rfl) rfl
theorem w_X1_needless_0 (d : Nat) (x : Nat) (st : List Value) (h : a_H) : a_run d MX1_needless 0 [some (.ref x)] st h = a_run d MX1_needless 1 [some (.ref x)] (.ref x :: st) h := w_ldAn dX1_needless_0 rfl
theorem w_X1_needless_1 (d : Nat) (L : a_L) (i : Nat) (st : List Value) (h : a_H) : a_run d MX1_needless 1 L (.ref i :: st) h = (a_gf h i 0 [0]).bind fun v => a_run d MX1_needless 4 L (v :: st) h := w_getf dX1_needless_1 rfl
theorem w_X1_needless_4 (d : Nat) (L : a_L) (i : Nat) (st : List Value) (h : a_H) (hk : a_kls h i = some 1) (hc : a_cat st ≤ 8) : a_run d MX1_needless 4 L (.ref i :: st) h = a_cont d MX1_needless (a_bk MX1_needless 4 L st (a_call d MX2_needlessOnes [.ref i] h)) := w_callV (as := [.ref i]) dX1_needless_4 rfl rfl rfl hc (a_rcv_of hk rfl)
theorem w_X1_needless_7 (d : Nat) (L : a_L) (x : Int32) (h : a_H) : a_run d MX1_needless 7 L [.int x] h = some (.inl (some (.int x)), h) := w_iret dX1_needless_7 (w_retI rfl)
theorem e_X1_firstTellers (d : Nat) (x0 : Nat) (h : a_H) : a_call (d + 1) MX1_firstTellers [.ref x0] h = a_run d MX1_firstTellers 0 [some (.ref x0)] [] h := a_call_run rfl (Nat.le_of_ble_eq_true rfl) rfl
theorem w_X1_firstTellers_0 (d : Nat) (x : Nat) (st : List Value) (h : a_H) : a_run d MX1_firstTellers 0 [some (.ref x)] st h = a_run d MX1_firstTellers 1 [some (.ref x)] (.ref x :: st) h := w_ldAn dX1_firstTellers_0 rfl
theorem w_X1_firstTellers_1 (d : Nat) (L : a_L) (i : Nat) (st : List Value) (h : a_H) : a_run d MX1_firstTellers 1 L (.ref i :: st) h = (a_gf h i 0 [0]).bind fun v => a_run d MX1_firstTellers 4 L (v :: st) h := w_getf dX1_firstTellers_1 rfl
theorem w_X1_firstTellers_4 (d : Nat) (L : a_L) (st : List Value) (h : a_H) : a_run d MX1_firstTellers 4 L st h = a_run d MX1_firstTellers 5 L (.int (nI 1) :: st) h := w_iconst dX1_firstTellers_4 rfl
theorem w_X1_firstTellers_5 (d : Nat) (L : a_L) (i : Nat) (v1 : Value) (st : List Value) (h : a_H) (hk : a_kls h i = some 1) (hc : a_cat st ≤ 8) : a_run d MX1_firstTellers 5 L (v1 :: .ref i :: st) h = a_cont d MX1_firstTellers (a_bk MX1_firstTellers 5 L st (a_call d MX2_endBoxes [.ref i, v1] h)) := w_callV (as := [.ref i, v1]) dX1_firstTellers_5 rfl rfl rfl hc (a_rcv_of hk rfl)
theorem w_X1_firstTellers_8 (d : Nat) (L : a_L) (x : Int32) (h : a_H) : a_run d MX1_firstTellers 8 L [.int x] h = some (.inl (some (.int x)), h) := w_iret dX1_firstTellers_8 (w_retI rfl)
theorem e_X1_lastHearers (d : Nat) (x0 : Nat) (h : a_H) : a_call (d + 1) MX1_lastHearers [.ref x0] h = a_run d MX1_lastHearers 0 [some (.ref x0)] [] h := a_call_run rfl (Nat.le_of_ble_eq_true rfl) rfl
theorem w_X1_lastHearers_0 (d : Nat) (x : Nat) (st : List Value) (h : a_H) : a_run d MX1_lastHearers 0 [some (.ref x)] st h = a_run d MX1_lastHearers 1 [some (.ref x)] (.ref x :: st) h := w_ldAn dX1_lastHearers_0 rfl
theorem w_X1_lastHearers_1 (d : Nat) (L : a_L) (i : Nat) (st : List Value) (h : a_H) : a_run d MX1_lastHearers 1 L (.ref i :: st) h = (a_gf h i 0 [0]).bind fun v => a_run d MX1_lastHearers 4 L (v :: st) h := w_getf dX1_lastHearers_1 rfl
theorem w_X1_lastHearers_4 (d : Nat) (L : a_L) (st : List Value) (h : a_H) : a_run d MX1_lastHearers 4 L st h = a_run d MX1_lastHearers 5 L (.int (nI 0) :: st) h := w_iconst dX1_lastHearers_4 rfl
theorem w_X1_lastHearers_5 (d : Nat) (L : a_L) (i : Nat) (v1 : Value) (st : List Value) (h : a_H) (hk : a_kls h i = some 1) (hc : a_cat st ≤ 8) : a_run d MX1_lastHearers 5 L (v1 :: .ref i :: st) h = a_cont d MX1_lastHearers (a_bk MX1_lastHearers 5 L st (a_call d MX2_endBoxes [.ref i, v1] h)) := w_callV (as := [.ref i, v1]) dX1_lastHearers_5 rfl rfl rfl hc (a_rcv_of hk rfl)
theorem w_X1_lastHearers_8 (d : Nat) (L : a_L) (x : Int32) (h : a_H) : a_run d MX1_lastHearers 8 L [.int x] h = some (.inl (some (.int x)), h) := w_iret dX1_lastHearers_8 (w_retI rfl)
theorem e_X1_layers (d : Nat) (x0 : Nat) (h : a_H) : a_call (d + 1) MX1_layers [.ref x0] h = a_run d MX1_layers 0 [some (.ref x0)] [] h := a_call_run rfl (Nat.le_of_ble_eq_true rfl) rfl
theorem w_X1_layers_0 (d : Nat) (x : Nat) (st : List Value) (h : a_H) : a_run d MX1_layers 0 [some (.ref x)] st h = a_run d MX1_layers 1 [some (.ref x)] (.ref x :: st) h := w_ldAn dX1_layers_0 rfl
theorem w_X1_layers_1 (d : Nat) (L : a_L) (i : Nat) (st : List Value) (h : a_H) : a_run d MX1_layers 1 L (.ref i :: st) h = (a_gf h i 0 [0]).bind fun v => a_run d MX1_layers 4 L (v :: st) h := w_getf dX1_layers_1 rfl
theorem w_X1_layers_4 (d : Nat) (L : a_L) (i : Nat) (st : List Value) (h : a_H) : a_run d MX1_layers 4 L (.ref i :: st) h = (a_gf h i 13 [1]).bind fun v => a_run d MX1_layers 7 L (v :: st) h := w_getf dX1_layers_4 rfl
theorem w_X1_layers_7 (d : Nat) (L : a_L) (x : Int32) (h : a_H) : a_run d MX1_layers 7 L [.int x] h = some (.inl (some (.int x)), h) := w_iret dX1_layers_7 (w_retI rfl)
theorem e_X1_arrowPoints (d : Nat) (x0 : Nat) (h : a_H) : a_call (d + 1) MX1_arrowPoints [.ref x0] h = a_run d MX1_arrowPoints 0 [some (.ref x0)] [] h := a_call_run rfl (Nat.le_of_ble_eq_true rfl) rfl
theorem w_X1_arrowPoints_0 (d : Nat) (x : Nat) (st : List Value) (h : a_H) : a_run d MX1_arrowPoints 0 [some (.ref x)] st h = a_run d MX1_arrowPoints 1 [some (.ref x)] (.ref x :: st) h := w_ldAn dX1_arrowPoints_0 rfl
theorem w_X1_arrowPoints_1 (d : Nat) (L : a_L) (i : Nat) (st : List Value) (h : a_H) : a_run d MX1_arrowPoints 1 L (.ref i :: st) h = (a_gf h i 0 [0]).bind fun v => a_run d MX1_arrowPoints 4 L (v :: st) h := w_getf dX1_arrowPoints_1 rfl
theorem w_X1_arrowPoints_4 (d : Nat) (L : a_L) (i : Nat) (st : List Value) (h : a_H) (hk : a_kls h i = some 1) (hc : a_cat st ≤ 8) : a_run d MX1_arrowPoints 4 L (.ref i :: st) h = a_cont d MX1_arrowPoints (a_bk MX1_arrowPoints 4 L st (a_call d MX2_pointCount [.ref i] h)) := w_callV (as := [.ref i]) dX1_arrowPoints_4 rfl rfl rfl hc (a_rcv_of hk rfl)
theorem w_X1_arrowPoints_7 (d : Nat) (x : Nat) (st : List Value) (h : a_H) : a_run d MX1_arrowPoints 7 [some (.ref x)] st h = a_run d MX1_arrowPoints 8 [some (.ref x)] (.ref x :: st) h := w_ldAn dX1_arrowPoints_7 rfl
theorem w_X1_arrowPoints_8 (d : Nat) (L : a_L) (i : Nat) (st : List Value) (h : a_H) : a_run d MX1_arrowPoints 8 L (.ref i :: st) h = (a_gf h i 0 [0]).bind fun v => a_run d MX1_arrowPoints 11 L (v :: st) h := w_getf dX1_arrowPoints_8 rfl
theorem w_X1_arrowPoints_11 (d : Nat) (L : a_L) (i : Nat) (st : List Value) (h : a_H) : a_run d MX1_arrowPoints 11 L (.ref i :: st) h = (a_gf h i 11 [1]).bind fun v => a_run d MX1_arrowPoints 14 L (v :: st) h := w_getf dX1_arrowPoints_11 rfl
theorem w_X1_arrowPoints_14 (d : Nat) (L : a_L) (x y : Int32) (st : List Value) (h : a_H) : a_run d MX1_arrowPoints 14 L (.int y :: .int x :: st) h = a_run d MX1_arrowPoints 15 L (.int (x - y) :: st) h := w_isub dX1_arrowPoints_14
theorem w_X1_arrowPoints_15 (d : Nat) (L : a_L) (x : Int32) (h : a_H) : a_run d MX1_arrowPoints 15 L [.int x] h = some (.inl (some (.int x)), h) := w_iret dX1_arrowPoints_15 (w_retI rfl)
theorem e_X1_crossings (d : Nat) (x0 : Nat) (h : a_H) : a_call (d + 1) MX1_crossings [.ref x0] h = a_run d MX1_crossings 0 [some (.ref x0)] [] h := a_call_run rfl (Nat.le_of_ble_eq_true rfl) rfl
theorem w_X1_crossings_0 (d : Nat) (x : Nat) (st : List Value) (h : a_H) : a_run d MX1_crossings 0 [some (.ref x)] st h = a_run d MX1_crossings 1 [some (.ref x)] (.ref x :: st) h := w_ldAn dX1_crossings_0 rfl
theorem w_X1_crossings_1 (d : Nat) (L : a_L) (i : Nat) (st : List Value) (h : a_H) : a_run d MX1_crossings 1 L (.ref i :: st) h = (a_gf h i 0 [0]).bind fun v => a_run d MX1_crossings 4 L (v :: st) h := w_getf dX1_crossings_1 rfl
theorem w_X1_crossings_4 (d : Nat) (L : a_L) (i : Nat) (st : List Value) (h : a_H) (hk : a_kls h i = some 1) (hc : a_cat st ≤ 8) : a_run d MX1_crossings 4 L (.ref i :: st) h = a_cont d MX1_crossings (a_bk MX1_crossings 4 L st (a_call d MX2_allCrossings [.ref i] h)) := w_callV (as := [.ref i]) dX1_crossings_4 rfl rfl rfl hc (a_rcv_of hk rfl)
theorem w_X1_crossings_7 (d : Nat) (L : a_L) (x : Int32) (h : a_H) : a_run d MX1_crossings 7 L [.int x] h = some (.inl (some (.int x)), h) := w_iret dX1_crossings_7 (w_retI rfl)
theorem e_X1_crossingsByPuttingIn (d : Nat) (x0 : Nat) (h : a_H) : a_call (d + 1) MX1_crossingsByPuttingIn [.ref x0] h = a_run d MX1_crossingsByPuttingIn 0 [some (.ref x0), none, none] [] h := a_call_run rfl (Nat.le_of_ble_eq_true rfl) rfl
theorem w_X1_crossingsByPuttingIn_0 (d : Nat) (L : a_L) (st : List Value) (h : a_H) : a_run d MX1_crossingsByPuttingIn 0 L st h = a_run d MX1_crossingsByPuttingIn 1 L (.int (nI 0) :: st) h := w_iconst dX1_crossingsByPuttingIn_0 rfl
theorem w_X1_crossingsByPuttingIn_1 (d : Nat) (a0 a1 a2 : Option Value) (x : Int32) (st : List Value) (h : a_H) : a_run d MX1_crossingsByPuttingIn 1 [a0, a1, a2] (.int x :: st) h = a_run d MX1_crossingsByPuttingIn 2 [a0, some (.int x), a2] st h := w_stIn dX1_crossingsByPuttingIn_1 (Nat.le_of_ble_eq_true rfl) rfl
theorem w_X1_crossingsByPuttingIn_2 (d : Nat) (L : a_L) (st : List Value) (h : a_H) : a_run d MX1_crossingsByPuttingIn 2 L st h = a_run d MX1_crossingsByPuttingIn 3 L (.int (nI 0) :: st) h := w_iconst dX1_crossingsByPuttingIn_2 rfl
theorem w_X1_crossingsByPuttingIn_3 (d : Nat) (a0 a1 a2 : Option Value) (x : Int32) (st : List Value) (h : a_H) : a_run d MX1_crossingsByPuttingIn 3 [a0, a1, a2] (.int x :: st) h = a_run d MX1_crossingsByPuttingIn 4 [a0, a1, some (.int x)] st h := w_stIn dX1_crossingsByPuttingIn_3 (Nat.le_of_ble_eq_true rfl) rfl
theorem w_X1_crossingsByPuttingIn_4 (d : Nat) (a0 a1 : Option Value) (x : Int32) (st : List Value) (h : a_H) : a_run d MX1_crossingsByPuttingIn 4 [a0, a1, some (.int x)] st h = a_run d MX1_crossingsByPuttingIn 5 [a0, a1, some (.int x)] (.int x :: st) h := w_ldIn dX1_crossingsByPuttingIn_4 rfl
theorem w_X1_crossingsByPuttingIn_5 (d : Nat) (L : a_L) (st : List Value) (h : a_H) : a_run d MX1_crossingsByPuttingIn 5 L st h = a_run d MX1_crossingsByPuttingIn 6 L (.int (nI 1) :: st) h := w_iconst dX1_crossingsByPuttingIn_5 rfl
theorem w_X1_crossingsByPuttingIn_6 (d : Nat) (L : a_L) (x y : Int32) (st : List Value) (h : a_H) : a_run d MX1_crossingsByPuttingIn 6 L (.int y :: .int x :: st) h = a_run d MX1_crossingsByPuttingIn 7 L (.int (x + y) :: st) h := w_iadd dX1_crossingsByPuttingIn_6
theorem w_X1_crossingsByPuttingIn_7 (d : Nat) (a1 a2 : Option Value) (x : Nat) (st : List Value) (h : a_H) : a_run d MX1_crossingsByPuttingIn 7 [some (.ref x), a1, a2] st h = a_run d MX1_crossingsByPuttingIn 8 [some (.ref x), a1, a2] (.ref x :: st) h := w_ldAn dX1_crossingsByPuttingIn_7 rfl
theorem w_X1_crossingsByPuttingIn_8 (d : Nat) (L : a_L) (i : Nat) (st : List Value) (h : a_H) : a_run d MX1_crossingsByPuttingIn 8 L (.ref i :: st) h = (a_gf h i 0 [0]).bind fun v => a_run d MX1_crossingsByPuttingIn 11 L (v :: st) h := w_getf dX1_crossingsByPuttingIn_8 rfl
theorem w_X1_crossingsByPuttingIn_11 (d : Nat) (L : a_L) (i : Nat) (st : List Value) (h : a_H) : a_run d MX1_crossingsByPuttingIn 11 L (.ref i :: st) h = (a_gf h i 13 [1]).bind fun v => a_run d MX1_crossingsByPuttingIn 14 L (v :: st) h := w_getf dX1_crossingsByPuttingIn_11 rfl
theorem w_X1_crossingsByPuttingIn_14 (d : Nat) (L : a_L) (x y : Int32) (st : List Value) (h : a_H) : a_run d MX1_crossingsByPuttingIn 14 L (.int y :: .int x :: st) h = if x < y then a_run d MX1_crossingsByPuttingIn 17 L st h else a_run d MX1_crossingsByPuttingIn 34 L st h := w_icmp_ge dX1_crossingsByPuttingIn_14 rfl
theorem w_X1_crossingsByPuttingIn_17 (d : Nat) (a0 a2 : Option Value) (x : Int32) (st : List Value) (h : a_H) : a_run d MX1_crossingsByPuttingIn 17 [a0, some (.int x), a2] st h = a_run d MX1_crossingsByPuttingIn 18 [a0, some (.int x), a2] (.int x :: st) h := w_ldIn dX1_crossingsByPuttingIn_17 rfl
theorem w_X1_crossingsByPuttingIn_18 (d : Nat) (a1 a2 : Option Value) (x : Nat) (st : List Value) (h : a_H) : a_run d MX1_crossingsByPuttingIn 18 [some (.ref x), a1, a2] st h = a_run d MX1_crossingsByPuttingIn 19 [some (.ref x), a1, a2] (.ref x :: st) h := w_ldAn dX1_crossingsByPuttingIn_18 rfl
theorem w_X1_crossingsByPuttingIn_19 (d : Nat) (L : a_L) (i : Nat) (st : List Value) (h : a_H) : a_run d MX1_crossingsByPuttingIn 19 L (.ref i :: st) h = (a_gf h i 0 [0]).bind fun v => a_run d MX1_crossingsByPuttingIn 22 L (v :: st) h := w_getf dX1_crossingsByPuttingIn_19 rfl
theorem w_X1_crossingsByPuttingIn_22 (d : Nat) (a0 a1 : Option Value) (x : Int32) (st : List Value) (h : a_H) : a_run d MX1_crossingsByPuttingIn 22 [a0, a1, some (.int x)] st h = a_run d MX1_crossingsByPuttingIn 23 [a0, a1, some (.int x)] (.int x :: st) h := w_ldIn dX1_crossingsByPuttingIn_22 rfl
theorem w_X1_crossingsByPuttingIn_23 (d : Nat) (L : a_L) (i : Nat) (v1 : Value) (st : List Value) (h : a_H) (hk : a_kls h i = some 1) (hc : a_cat st ≤ 8) : a_run d MX1_crossingsByPuttingIn 23 L (v1 :: .ref i :: st) h = a_cont d MX1_crossingsByPuttingIn (a_bk MX1_crossingsByPuttingIn 23 L st (a_call d MX2_putIn [.ref i, v1] h)) := w_callV (as := [.ref i, v1]) dX1_crossingsByPuttingIn_23 rfl rfl rfl hc (a_rcv_of hk rfl)
theorem w_X1_crossingsByPuttingIn_26 (d : Nat) (L : a_L) (x y : Int32) (st : List Value) (h : a_H) : a_run d MX1_crossingsByPuttingIn 26 L (.int y :: .int x :: st) h = a_run d MX1_crossingsByPuttingIn 27 L (.int (x + y) :: st) h := w_iadd dX1_crossingsByPuttingIn_26
theorem w_X1_crossingsByPuttingIn_27 (d : Nat) (a0 a1 a2 : Option Value) (x : Int32) (st : List Value) (h : a_H) : a_run d MX1_crossingsByPuttingIn 27 [a0, a1, a2] (.int x :: st) h = a_run d MX1_crossingsByPuttingIn 28 [a0, some (.int x), a2] st h := w_stIn dX1_crossingsByPuttingIn_27 (Nat.le_of_ble_eq_true rfl) rfl
theorem w_X1_crossingsByPuttingIn_28 (d : Nat) (a0 a1 : Option Value) (x : Int32) (st : List Value) (h : a_H) : a_run d MX1_crossingsByPuttingIn 28 [a0, a1, some (.int x)] st h = a_run d MX1_crossingsByPuttingIn 31 [a0, a1, some (.int (x + nI 1))] st h := w_incL dX1_crossingsByPuttingIn_28 rfl rfl rfl
theorem w_X1_crossingsByPuttingIn_31 (d : Nat) (L : a_L) (st : List Value) (h : a_H) : a_run d MX1_crossingsByPuttingIn 31 L st h = a_run d MX1_crossingsByPuttingIn 4 L st h := w_goto dX1_crossingsByPuttingIn_31 rfl
theorem w_X1_crossingsByPuttingIn_34 (d : Nat) (a0 a2 : Option Value) (x : Int32) (st : List Value) (h : a_H) : a_run d MX1_crossingsByPuttingIn 34 [a0, some (.int x), a2] st h = a_run d MX1_crossingsByPuttingIn 35 [a0, some (.int x), a2] (.int x :: st) h := w_ldIn dX1_crossingsByPuttingIn_34 rfl
theorem w_X1_crossingsByPuttingIn_35 (d : Nat) (L : a_L) (x : Int32) (h : a_H) : a_run d MX1_crossingsByPuttingIn 35 L [.int x] h = some (.inl (some (.int x)), h) := w_iret dX1_crossingsByPuttingIn_35 (w_retI rfl)
theorem e_X1_ifSweptDown (d : Nat) (x0 : Nat) (h : a_H) : a_call (d + 1) MX1_ifSweptDown [.ref x0] h = a_run d MX1_ifSweptDown 0 [some (.ref x0)] [] h := a_call_run rfl (Nat.le_of_ble_eq_true rfl) rfl
theorem w_X1_ifSweptDown_0 (d : Nat) (L : a_L) (st : List Value) (h : a_H) : a_run d MX1_ifSweptDown 0 L st h = a_run d MX1_ifSweptDown 3 L (.ref h.1 :: st) (a_add h (.inr (1, [.null, .null, .null, .null, .null, .null, .null, .null, .null, .null, .null, .int 0, .int 0, .int 0, .int 0, .int 0])) 16) := w_new dX1_ifSweptDown_0 rfl rfl
theorem w_X1_ifSweptDown_3 (d : Nat) (L : a_L) (x : Nat) (st : List Value) (h : a_H) : a_run d MX1_ifSweptDown 3 L (.ref x :: st) h = a_run d MX1_ifSweptDown 4 L (.ref x :: .ref x :: st) h := w_dup dX1_ifSweptDown_3
theorem w_X1_ifSweptDown_3I (d : Nat) (L : a_L) (x : Int32) (st : List Value) (h : a_H) : a_run d MX1_ifSweptDown 3 L (.int x :: st) h = a_run d MX1_ifSweptDown 4 L (.int x :: .int x :: st) h := w_dupI dX1_ifSweptDown_3
theorem w_X1_ifSweptDown_4 (d : Nat) (x : Nat) (st : List Value) (h : a_H) : a_run d MX1_ifSweptDown 4 [some (.ref x)] st h = a_run d MX1_ifSweptDown 5 [some (.ref x)] (.ref x :: st) h := w_ldAn dX1_ifSweptDown_4 rfl
theorem w_X1_ifSweptDown_5 (d : Nat) (L : a_L) (i : Nat) (st : List Value) (h : a_H) : a_run d MX1_ifSweptDown 5 L (.ref i :: st) h = (a_gf h i 0 [0]).bind fun v => a_run d MX1_ifSweptDown 8 L (v :: st) h := w_getf dX1_ifSweptDown_5 rfl
theorem w_X1_ifSweptDown_8 (d : Nat) (L : a_L) (i : Nat) (v1 : Value) (st : List Value) (h : a_H) (hi : 1024 ≤ i) (hc : a_cat st ≤ 8) : a_run d MX1_ifSweptDown 8 L (v1 :: .ref i :: st) h = a_cont d MX1_ifSweptDown (a_bk MX1_ifSweptDown 8 L st (a_call d MX2_init_2 [.ref i, v1] h)) := w_callI (as := [.ref i, v1]) dX1_ifSweptDown_8 rfl rfl rfl hc (a_new0_of hi)
theorem w_X1_ifSweptDown_11 (d : Nat) (L : a_L) (st : List Value) (h : a_H) : a_run d MX1_ifSweptDown 11 L st h = a_run d MX1_ifSweptDown 12 L (.int (nI 1) :: st) h := w_iconst dX1_ifSweptDown_11 rfl
theorem w_X1_ifSweptDown_12 (d : Nat) (L : a_L) (i : Nat) (v1 : Value) (st : List Value) (h : a_H) (hk : a_kls h i = some 1) (hc : a_cat st ≤ 8) : a_run d MX1_ifSweptDown 12 L (v1 :: .ref i :: st) h = a_cont d MX1_ifSweptDown (a_bk MX1_ifSweptDown 12 L st (a_call d MX2_goes [.ref i, v1] h)) := w_callV (as := [.ref i, v1]) dX1_ifSweptDown_12 rfl rfl rfl hc (a_rcv_of hk rfl)
theorem w_X1_ifSweptDown_15 (d : Nat) (L : a_L) (x : Int32) (h : a_H) : a_run d MX1_ifSweptDown 15 L [.int x] h = some (.inl (some (.int x)), h) := w_iret dX1_ifSweptDown_15 (w_retI rfl)
theorem e_X1_ifSweptUp (d : Nat) (x0 : Nat) (h : a_H) : a_call (d + 1) MX1_ifSweptUp [.ref x0] h = a_run d MX1_ifSweptUp 0 [some (.ref x0)] [] h := a_call_run rfl (Nat.le_of_ble_eq_true rfl) rfl
theorem w_X1_ifSweptUp_0 (d : Nat) (L : a_L) (st : List Value) (h : a_H) : a_run d MX1_ifSweptUp 0 L st h = a_run d MX1_ifSweptUp 3 L (.ref h.1 :: st) (a_add h (.inr (1, [.null, .null, .null, .null, .null, .null, .null, .null, .null, .null, .null, .int 0, .int 0, .int 0, .int 0, .int 0])) 16) := w_new dX1_ifSweptUp_0 rfl rfl
theorem w_X1_ifSweptUp_3 (d : Nat) (L : a_L) (x : Nat) (st : List Value) (h : a_H) : a_run d MX1_ifSweptUp 3 L (.ref x :: st) h = a_run d MX1_ifSweptUp 4 L (.ref x :: .ref x :: st) h := w_dup dX1_ifSweptUp_3
theorem w_X1_ifSweptUp_3I (d : Nat) (L : a_L) (x : Int32) (st : List Value) (h : a_H) : a_run d MX1_ifSweptUp 3 L (.int x :: st) h = a_run d MX1_ifSweptUp 4 L (.int x :: .int x :: st) h := w_dupI dX1_ifSweptUp_3
theorem w_X1_ifSweptUp_4 (d : Nat) (x : Nat) (st : List Value) (h : a_H) : a_run d MX1_ifSweptUp 4 [some (.ref x)] st h = a_run d MX1_ifSweptUp 5 [some (.ref x)] (.ref x :: st) h := w_ldAn dX1_ifSweptUp_4 rfl
theorem w_X1_ifSweptUp_5 (d : Nat) (L : a_L) (i : Nat) (st : List Value) (h : a_H) : a_run d MX1_ifSweptUp 5 L (.ref i :: st) h = (a_gf h i 0 [0]).bind fun v => a_run d MX1_ifSweptUp 8 L (v :: st) h := w_getf dX1_ifSweptUp_5 rfl
theorem w_X1_ifSweptUp_8 (d : Nat) (L : a_L) (i : Nat) (v1 : Value) (st : List Value) (h : a_H) (hi : 1024 ≤ i) (hc : a_cat st ≤ 8) : a_run d MX1_ifSweptUp 8 L (v1 :: .ref i :: st) h = a_cont d MX1_ifSweptUp (a_bk MX1_ifSweptUp 8 L st (a_call d MX2_init_2 [.ref i, v1] h)) := w_callI (as := [.ref i, v1]) dX1_ifSweptUp_8 rfl rfl rfl hc (a_new0_of hi)
theorem w_X1_ifSweptUp_11 (d : Nat) (L : a_L) (st : List Value) (h : a_H) : a_run d MX1_ifSweptUp 11 L st h = a_run d MX1_ifSweptUp 12 L (.int (nI 0) :: st) h := w_iconst dX1_ifSweptUp_11 rfl
theorem w_X1_ifSweptUp_12 (d : Nat) (L : a_L) (i : Nat) (v1 : Value) (st : List Value) (h : a_H) (hk : a_kls h i = some 1) (hc : a_cat st ≤ 8) : a_run d MX1_ifSweptUp 12 L (v1 :: .ref i :: st) h = a_cont d MX1_ifSweptUp (a_bk MX1_ifSweptUp 12 L st (a_call d MX2_goes [.ref i, v1] h)) := w_callV (as := [.ref i, v1]) dX1_ifSweptUp_12 rfl rfl rfl hc (a_rcv_of hk rfl)
theorem w_X1_ifSweptUp_15 (d : Nat) (L : a_L) (x : Int32) (h : a_H) : a_run d MX1_ifSweptUp 15 L [.int x] h = some (.inl (some (.int x)), h) := w_iret dX1_ifSweptUp_15 (w_retI rfl)
theorem e_X1_bends (d : Nat) (x0 : Nat) (h : a_H) : a_call (d + 1) MX1_bends [.ref x0] h = a_run d MX1_bends 0 [some (.ref x0), none, none, none] [] h := a_call_run rfl (Nat.le_of_ble_eq_true rfl) rfl
theorem w_X1_bends_0 (d : Nat) (a1 a2 a3 : Option Value) (x : Nat) (st : List Value) (h : a_H) : a_run d MX1_bends 0 [some (.ref x), a1, a2, a3] st h = a_run d MX1_bends 1 [some (.ref x), a1, a2, a3] (.ref x :: st) h := w_ldAn dX1_bends_0 rfl
theorem w_X1_bends_1 (d : Nat) (L : a_L) (i : Nat) (st : List Value) (h : a_H) : a_run d MX1_bends 1 L (.ref i :: st) h = (a_gf h i 0 [0]).bind fun v => a_run d MX1_bends 4 L (v :: st) h := w_getf dX1_bends_1 rfl
theorem w_X1_bends_4 (d : Nat) (L : a_L) (i : Nat) (st : List Value) (h : a_H) (hk : a_kls h i = some 1) (hc : a_cat st ≤ 8) : a_run d MX1_bends 4 L (.ref i :: st) h = a_cont d MX1_bends (a_bk MX1_bends 4 L st (a_call d MX2_columns [.ref i] h)) := w_callV (as := [.ref i]) dX1_bends_4 rfl rfl rfl hc (a_rcv_of hk rfl)
theorem w_X1_bends_7 (d : Nat) (a0 a1 a2 a3 : Option Value) (x : Nat) (st : List Value) (h : a_H) : a_run d MX1_bends 7 [a0, a1, a2, a3] (.ref x :: st) h = a_run d MX1_bends 8 [a0, some (.ref x), a2, a3] st h := w_stAn dX1_bends_7 (Nat.le_of_ble_eq_true rfl) rfl
theorem w_X1_bends_7N (d : Nat) (a0 a1 a2 a3 : Option Value) (st : List Value) (h : a_H) : a_run d MX1_bends 7 [a0, a1, a2, a3] (.null :: st) h = a_run d MX1_bends 8 [a0, some .null, a2, a3] st h := w_stNn dX1_bends_7 (Nat.le_of_ble_eq_true rfl) rfl
theorem w_X1_bends_8 (d : Nat) (L : a_L) (st : List Value) (h : a_H) : a_run d MX1_bends 8 L st h = a_run d MX1_bends 9 L (.int (nI 0) :: st) h := w_iconst dX1_bends_8 rfl
theorem w_X1_bends_9 (d : Nat) (a0 a1 a2 a3 : Option Value) (x : Int32) (st : List Value) (h : a_H) : a_run d MX1_bends 9 [a0, a1, a2, a3] (.int x :: st) h = a_run d MX1_bends 10 [a0, a1, some (.int x), a3] st h := w_stIn dX1_bends_9 (Nat.le_of_ble_eq_true rfl) rfl
theorem w_X1_bends_10 (d : Nat) (L : a_L) (st : List Value) (h : a_H) : a_run d MX1_bends 10 L st h = a_run d MX1_bends 11 L (.int (nI 0) :: st) h := w_iconst dX1_bends_10 rfl
theorem w_X1_bends_11 (d : Nat) (a0 a1 a2 a3 : Option Value) (x : Int32) (st : List Value) (h : a_H) : a_run d MX1_bends 11 [a0, a1, a2, a3] (.int x :: st) h = a_run d MX1_bends 12 [a0, a1, a2, some (.int x)] st h := w_stIn dX1_bends_11 (Nat.le_of_ble_eq_true rfl) rfl
theorem w_X1_bends_12 (d : Nat) (a0 a1 a2 : Option Value) (x : Int32) (st : List Value) (h : a_H) : a_run d MX1_bends 12 [a0, a1, a2, some (.int x)] st h = a_run d MX1_bends 13 [a0, a1, a2, some (.int x)] (.int x :: st) h := w_ldIn dX1_bends_12 rfl
theorem w_X1_bends_13 (d : Nat) (a1 a2 a3 : Option Value) (x : Nat) (st : List Value) (h : a_H) : a_run d MX1_bends 13 [some (.ref x), a1, a2, a3] st h = a_run d MX1_bends 14 [some (.ref x), a1, a2, a3] (.ref x :: st) h := w_ldAn dX1_bends_13 rfl
theorem w_X1_bends_14 (d : Nat) (L : a_L) (i : Nat) (st : List Value) (h : a_H) : a_run d MX1_bends 14 L (.ref i :: st) h = (a_gf h i 0 [0]).bind fun v => a_run d MX1_bends 17 L (v :: st) h := w_getf dX1_bends_14 rfl
theorem w_X1_bends_17 (d : Nat) (L : a_L) (i : Nat) (st : List Value) (h : a_H) : a_run d MX1_bends 17 L (.ref i :: st) h = (a_gf h i 12 [1]).bind fun v => a_run d MX1_bends 20 L (v :: st) h := w_getf dX1_bends_17 rfl
theorem w_X1_bends_20 (d : Nat) (L : a_L) (x y : Int32) (st : List Value) (h : a_H) : a_run d MX1_bends 20 L (.int y :: .int x :: st) h = if x < y then a_run d MX1_bends 23 L st h else a_run d MX1_bends 41 L st h := w_icmp_ge dX1_bends_20 rfl
theorem w_X1_bends_23 (d : Nat) (a0 a1 a3 : Option Value) (x : Int32) (st : List Value) (h : a_H) : a_run d MX1_bends 23 [a0, a1, some (.int x), a3] st h = a_run d MX1_bends 24 [a0, a1, some (.int x), a3] (.int x :: st) h := w_ldIn dX1_bends_23 rfl
theorem w_X1_bends_24 (d : Nat) (a1 a2 a3 : Option Value) (x : Nat) (st : List Value) (h : a_H) : a_run d MX1_bends 24 [some (.ref x), a1, a2, a3] st h = a_run d MX1_bends 25 [some (.ref x), a1, a2, a3] (.ref x :: st) h := w_ldAn dX1_bends_24 rfl
theorem w_X1_bends_25 (d : Nat) (L : a_L) (i : Nat) (st : List Value) (h : a_H) : a_run d MX1_bends 25 L (.ref i :: st) h = (a_gf h i 0 [0]).bind fun v => a_run d MX1_bends 28 L (v :: st) h := w_getf dX1_bends_25 rfl
theorem w_X1_bends_28 (d : Nat) (a0 a1 a2 : Option Value) (x : Int32) (st : List Value) (h : a_H) : a_run d MX1_bends 28 [a0, a1, a2, some (.int x)] st h = a_run d MX1_bends 29 [a0, a1, a2, some (.int x)] (.int x :: st) h := w_ldIn dX1_bends_28 rfl
theorem w_X1_bends_29 (d : Nat) (a0 a2 a3 : Option Value) (x : Nat) (st : List Value) (h : a_H) : a_run d MX1_bends 29 [a0, some (.ref x), a2, a3] st h = a_run d MX1_bends 30 [a0, some (.ref x), a2, a3] (.ref x :: st) h := w_ldAn dX1_bends_29 rfl
theorem w_X1_bends_29N (d : Nat) (a0 a2 a3 : Option Value) (st : List Value) (h : a_H) : a_run d MX1_bends 29 [a0, some .null, a2, a3] st h = a_run d MX1_bends 30 [a0, some .null, a2, a3] (.null :: st) h := w_ldNn dX1_bends_29 rfl
theorem w_X1_bends_30 (d : Nat) (L : a_L) (i : Nat) (v1 v2 : Value) (st : List Value) (h : a_H) (hk : a_kls h i = some 1) (hc : a_cat st ≤ 8) : a_run d MX1_bends 30 L (v2 :: v1 :: .ref i :: st) h = a_cont d MX1_bends (a_bk MX1_bends 30 L st (a_call d MX2_bendsBy [.ref i, v1, v2] h)) := w_callV (as := [.ref i, v1, v2]) dX1_bends_30 rfl rfl rfl hc (a_rcv_of hk rfl)
theorem w_X1_bends_33 (d : Nat) (L : a_L) (x y : Int32) (st : List Value) (h : a_H) : a_run d MX1_bends 33 L (.int y :: .int x :: st) h = a_run d MX1_bends 34 L (.int (x + y) :: st) h := w_iadd dX1_bends_33
theorem w_X1_bends_34 (d : Nat) (a0 a1 a2 a3 : Option Value) (x : Int32) (st : List Value) (h : a_H) : a_run d MX1_bends 34 [a0, a1, a2, a3] (.int x :: st) h = a_run d MX1_bends 35 [a0, a1, some (.int x), a3] st h := w_stIn dX1_bends_34 (Nat.le_of_ble_eq_true rfl) rfl
theorem w_X1_bends_35 (d : Nat) (a0 a1 a2 : Option Value) (x : Int32) (st : List Value) (h : a_H) : a_run d MX1_bends 35 [a0, a1, a2, some (.int x)] st h = a_run d MX1_bends 38 [a0, a1, a2, some (.int (x + nI 1))] st h := w_incL dX1_bends_35 rfl rfl rfl
theorem w_X1_bends_38 (d : Nat) (L : a_L) (st : List Value) (h : a_H) : a_run d MX1_bends 38 L st h = a_run d MX1_bends 12 L st h := w_goto dX1_bends_38 rfl
theorem w_X1_bends_41 (d : Nat) (a0 a1 a3 : Option Value) (x : Int32) (st : List Value) (h : a_H) : a_run d MX1_bends 41 [a0, a1, some (.int x), a3] st h = a_run d MX1_bends 42 [a0, a1, some (.int x), a3] (.int x :: st) h := w_ldIn dX1_bends_41 rfl
theorem w_X1_bends_42 (d : Nat) (L : a_L) (x : Int32) (h : a_H) : a_run d MX1_bends 42 L [.int x] h = some (.inl (some (.int x)), h) := w_iret dX1_bends_42 (w_retI rfl)
theorem e_X1_widest (d : Nat) (x0 : Nat) (h : a_H) : a_call (d + 1) MX1_widest [.ref x0] h = a_run d MX1_widest 0 [some (.ref x0), none, none, none, none, none] [] h := a_call_run rfl (Nat.le_of_ble_eq_true rfl) rfl
theorem w_X1_widest_0 (d : Nat) (L : a_L) (st : List Value) (h : a_H) : a_run d MX1_widest 0 L st h = a_run d MX1_widest 1 L (.int (nI 0) :: st) h := w_iconst dX1_widest_0 rfl
theorem w_X1_widest_1 (d : Nat) (a0 a1 a2 a3 a4 a5 : Option Value) (x : Int32) (st : List Value) (h : a_H) : a_run d MX1_widest 1 [a0, a1, a2, a3, a4, a5] (.int x :: st) h = a_run d MX1_widest 2 [a0, some (.int x), a2, a3, a4, a5] st h := w_stIn dX1_widest_1 (Nat.le_of_ble_eq_true rfl) rfl
theorem w_X1_widest_2 (d : Nat) (a1 a2 a3 a4 a5 : Option Value) (x : Nat) (st : List Value) (h : a_H) : a_run d MX1_widest 2 [some (.ref x), a1, a2, a3, a4, a5] st h = a_run d MX1_widest 3 [some (.ref x), a1, a2, a3, a4, a5] (.ref x :: st) h := w_ldAn dX1_widest_2 rfl
theorem w_X1_widest_3 (d : Nat) (L : a_L) (i : Nat) (st : List Value) (h : a_H) : a_run d MX1_widest 3 L (.ref i :: st) h = (a_gf h i 0 [0]).bind fun v => a_run d MX1_widest 6 L (v :: st) h := w_getf dX1_widest_3 rfl
theorem w_X1_widest_6 (d : Nat) (L : a_L) (i : Nat) (st : List Value) (h : a_H) (hk : a_kls h i = some 1) (hc : a_cat st ≤ 8) : a_run d MX1_widest 6 L (.ref i :: st) h = a_cont d MX1_widest (a_bk MX1_widest 6 L st (a_call d MX2_columns [.ref i] h)) := w_callV (as := [.ref i]) dX1_widest_6 rfl rfl rfl hc (a_rcv_of hk rfl)
theorem w_X1_widest_9 (d : Nat) (a0 a1 a2 a3 a4 a5 : Option Value) (x : Nat) (st : List Value) (h : a_H) : a_run d MX1_widest 9 [a0, a1, a2, a3, a4, a5] (.ref x :: st) h = a_run d MX1_widest 10 [a0, a1, some (.ref x), a3, a4, a5] st h := w_stAn dX1_widest_9 (Nat.le_of_ble_eq_true rfl) rfl
theorem w_X1_widest_9N (d : Nat) (a0 a1 a2 a3 a4 a5 : Option Value) (st : List Value) (h : a_H) : a_run d MX1_widest 9 [a0, a1, a2, a3, a4, a5] (.null :: st) h = a_run d MX1_widest 10 [a0, a1, some .null, a3, a4, a5] st h := w_stNn dX1_widest_9 (Nat.le_of_ble_eq_true rfl) rfl
theorem w_X1_widest_10 (d : Nat) (a0 a1 a3 a4 a5 : Option Value) (x : Nat) (st : List Value) (h : a_H) : a_run d MX1_widest 10 [a0, a1, some (.ref x), a3, a4, a5] st h = a_run d MX1_widest 11 [a0, a1, some (.ref x), a3, a4, a5] (.ref x :: st) h := w_ldAn dX1_widest_10 rfl
theorem w_X1_widest_10N (d : Nat) (a0 a1 a3 a4 a5 : Option Value) (st : List Value) (h : a_H) : a_run d MX1_widest 10 [a0, a1, some .null, a3, a4, a5] st h = a_run d MX1_widest 11 [a0, a1, some .null, a3, a4, a5] (.null :: st) h := w_ldNn dX1_widest_10 rfl
theorem w_X1_widest_11 (d : Nat) (L : a_L) (i : Nat) (st : List Value) (h : a_H) : a_run d MX1_widest 11 L (.ref i :: st) h = (a_len h i).bind fun v => a_run d MX1_widest 12 L (v :: st) h := w_alen dX1_widest_11
theorem w_X1_widest_12 (d : Nat) (a0 a1 a2 a3 a4 a5 : Option Value) (x : Int32) (st : List Value) (h : a_H) : a_run d MX1_widest 12 [a0, a1, a2, a3, a4, a5] (.int x :: st) h = a_run d MX1_widest 13 [a0, a1, a2, some (.int x), a4, a5] st h := w_stIn dX1_widest_12 (Nat.le_of_ble_eq_true rfl) rfl
theorem w_X1_widest_13 (d : Nat) (L : a_L) (st : List Value) (h : a_H) : a_run d MX1_widest 13 L st h = a_run d MX1_widest 14 L (.int (nI 0) :: st) h := w_iconst dX1_widest_13 rfl
theorem w_X1_widest_14 (d : Nat) (a0 a1 a2 a3 a4 a5 : Option Value) (x : Int32) (st : List Value) (h : a_H) : a_run d MX1_widest 14 [a0, a1, a2, a3, a4, a5] (.int x :: st) h = a_run d MX1_widest 16 [a0, a1, a2, a3, some (.int x), a5] st h := w_stI dX1_widest_14 (Nat.le_of_ble_eq_true rfl) rfl
theorem w_X1_widest_16 (d : Nat) (a0 a1 a2 a3 a5 : Option Value) (x : Int32) (st : List Value) (h : a_H) : a_run d MX1_widest 16 [a0, a1, a2, a3, some (.int x), a5] st h = a_run d MX1_widest 18 [a0, a1, a2, a3, some (.int x), a5] (.int x :: st) h := w_ldI dX1_widest_16 rfl
theorem w_X1_widest_18 (d : Nat) (a0 a1 a2 a4 a5 : Option Value) (x : Int32) (st : List Value) (h : a_H) : a_run d MX1_widest 18 [a0, a1, a2, some (.int x), a4, a5] st h = a_run d MX1_widest 19 [a0, a1, a2, some (.int x), a4, a5] (.int x :: st) h := w_ldIn dX1_widest_18 rfl
theorem w_X1_widest_19 (d : Nat) (L : a_L) (x y : Int32) (st : List Value) (h : a_H) : a_run d MX1_widest 19 L (.int y :: .int x :: st) h = if x < y then a_run d MX1_widest 22 L st h else a_run d MX1_widest 41 L st h := w_icmp_ge dX1_widest_19 rfl
theorem w_X1_widest_22 (d : Nat) (a0 a1 a3 a4 a5 : Option Value) (x : Nat) (st : List Value) (h : a_H) : a_run d MX1_widest 22 [a0, a1, some (.ref x), a3, a4, a5] st h = a_run d MX1_widest 23 [a0, a1, some (.ref x), a3, a4, a5] (.ref x :: st) h := w_ldAn dX1_widest_22 rfl
theorem w_X1_widest_22N (d : Nat) (a0 a1 a3 a4 a5 : Option Value) (st : List Value) (h : a_H) : a_run d MX1_widest 22 [a0, a1, some .null, a3, a4, a5] st h = a_run d MX1_widest 23 [a0, a1, some .null, a3, a4, a5] (.null :: st) h := w_ldNn dX1_widest_22 rfl
theorem w_X1_widest_23 (d : Nat) (a0 a1 a2 a3 a5 : Option Value) (x : Int32) (st : List Value) (h : a_H) : a_run d MX1_widest 23 [a0, a1, a2, a3, some (.int x), a5] st h = a_run d MX1_widest 25 [a0, a1, a2, a3, some (.int x), a5] (.int x :: st) h := w_ldI dX1_widest_23 rfl
theorem w_X1_widest_25 (d : Nat) (L : a_L) (x : Int32) (i : Nat) (st : List Value) (h : a_H) : a_run d MX1_widest 25 L (.int x :: .ref i :: st) h = (a_rdi h i a_int x).bind fun v => a_run d MX1_widest 26 L (v :: st) h := w_iald dX1_widest_25
theorem w_X1_widest_26 (d : Nat) (a0 a1 a2 a3 a4 a5 : Option Value) (x : Int32) (st : List Value) (h : a_H) : a_run d MX1_widest 26 [a0, a1, a2, a3, a4, a5] (.int x :: st) h = a_run d MX1_widest 28 [a0, a1, a2, a3, a4, some (.int x)] st h := w_stI dX1_widest_26 (Nat.le_of_ble_eq_true rfl) rfl
theorem w_X1_widest_28 (d : Nat) (a0 a2 a3 a4 a5 : Option Value) (x : Int32) (st : List Value) (h : a_H) : a_run d MX1_widest 28 [a0, some (.int x), a2, a3, a4, a5] st h = a_run d MX1_widest 29 [a0, some (.int x), a2, a3, a4, a5] (.int x :: st) h := w_ldIn dX1_widest_28 rfl
theorem w_X1_widest_29 (d : Nat) (a0 a1 a2 a3 a4 : Option Value) (x : Int32) (st : List Value) (h : a_H) : a_run d MX1_widest 29 [a0, a1, a2, a3, a4, some (.int x)] st h = a_run d MX1_widest 31 [a0, a1, a2, a3, a4, some (.int x)] (.int x :: st) h := w_ldI dX1_widest_29 rfl
theorem w_X1_widest_31 (d : Nat) (L : a_L) (x y : Int32) (st : List Value) (h : a_H) (hc : a_cat st ≤ 8) : a_run d MX1_widest 31 L (.int y :: .int x :: st) h = a_run d MX1_widest 34 L (.int (if x < y then y else x) :: st) h := w_max dX1_widest_31 rfl hc
theorem w_X1_widest_34 (d : Nat) (a0 a1 a2 a3 a4 a5 : Option Value) (x : Int32) (st : List Value) (h : a_H) : a_run d MX1_widest 34 [a0, a1, a2, a3, a4, a5] (.int x :: st) h = a_run d MX1_widest 35 [a0, some (.int x), a2, a3, a4, a5] st h := w_stIn dX1_widest_34 (Nat.le_of_ble_eq_true rfl) rfl
theorem w_X1_widest_35 (d : Nat) (a0 a1 a2 a3 a5 : Option Value) (x : Int32) (st : List Value) (h : a_H) : a_run d MX1_widest 35 [a0, a1, a2, a3, some (.int x), a5] st h = a_run d MX1_widest 38 [a0, a1, a2, a3, some (.int (x + nI 1)), a5] st h := w_incL dX1_widest_35 rfl rfl rfl
theorem w_X1_widest_38 (d : Nat) (L : a_L) (st : List Value) (h : a_H) : a_run d MX1_widest 38 L st h = a_run d MX1_widest 16 L st h := w_goto dX1_widest_38 rfl
theorem w_X1_widest_41 (d : Nat) (a0 a2 a3 a4 a5 : Option Value) (x : Int32) (st : List Value) (h : a_H) : a_run d MX1_widest 41 [a0, some (.int x), a2, a3, a4, a5] st h = a_run d MX1_widest 42 [a0, some (.int x), a2, a3, a4, a5] (.int x :: st) h := w_ldIn dX1_widest_41 rfl
theorem w_X1_widest_42 (d : Nat) (L : a_L) (x : Int32) (h : a_H) : a_run d MX1_widest 42 L [.int x] h = some (.inl (some (.int x)), h) := w_iret dX1_widest_42 (w_retI rfl)
theorem e_X1_straightLines (d : Nat) (x0 : Nat) (h : a_H) : a_call (d + 1) MX1_straightLines [.ref x0] h = a_run d MX1_straightLines 0 [some (.ref x0)] [] h := a_call_run rfl (Nat.le_of_ble_eq_true rfl) rfl
theorem w_X1_straightLines_0 (d : Nat) (x : Nat) (st : List Value) (h : a_H) : a_run d MX1_straightLines 0 [some (.ref x)] st h = a_run d MX1_straightLines 1 [some (.ref x)] (.ref x :: st) h := w_ldAn dX1_straightLines_0 rfl
theorem w_X1_straightLines_1 (d : Nat) (L : a_L) (i : Nat) (st : List Value) (h : a_H) : a_run d MX1_straightLines 1 L (.ref i :: st) h = (a_gf h i 0 [0]).bind fun v => a_run d MX1_straightLines 4 L (v :: st) h := w_getf dX1_straightLines_1 rfl
theorem w_X1_straightLines_4 (d : Nat) (x : Nat) (st : List Value) (h : a_H) : a_run d MX1_straightLines 4 [some (.ref x)] st h = a_run d MX1_straightLines 5 [some (.ref x)] (.ref x :: st) h := w_ldAn dX1_straightLines_4 rfl
theorem w_X1_straightLines_5 (d : Nat) (L : a_L) (i : Nat) (st : List Value) (h : a_H) : a_run d MX1_straightLines 5 L (.ref i :: st) h = (a_gf h i 0 [0]).bind fun v => a_run d MX1_straightLines 8 L (v :: st) h := w_getf dX1_straightLines_5 rfl
theorem w_X1_straightLines_8 (d : Nat) (L : a_L) (i : Nat) (st : List Value) (h : a_H) (hk : a_kls h i = some 1) (hc : a_cat st ≤ 8) : a_run d MX1_straightLines 8 L (.ref i :: st) h = a_cont d MX1_straightLines (a_bk MX1_straightLines 8 L st (a_call d MX2_columns [.ref i] h)) := w_callV (as := [.ref i]) dX1_straightLines_8 rfl rfl rfl hc (a_rcv_of hk rfl)
theorem w_X1_straightLines_11 (d : Nat) (L : a_L) (i : Nat) (v1 : Value) (st : List Value) (h : a_H) (hk : a_kls h i = some 1) (hc : a_cat st ≤ 8) : a_run d MX1_straightLines 11 L (v1 :: .ref i :: st) h = a_cont d MX1_straightLines (a_bk MX1_straightLines 11 L st (a_call d MX2_straights [.ref i, v1] h)) := w_callV (as := [.ref i, v1]) dX1_straightLines_11 rfl rfl rfl hc (a_rcv_of hk rfl)
theorem w_X1_straightLines_14 (d : Nat) (L : a_L) (x : Int32) (h : a_H) : a_run d MX1_straightLines 14 L [.int x] h = some (.inl (some (.int x)), h) := w_iret dX1_straightLines_14 (w_retI rfl)
theorem e_X1_slant (d : Nat) (x0 : Nat) (h : a_H) : a_call (d + 1) MX1_slant [.ref x0] h = a_run d MX1_slant 0 [some (.ref x0)] [] h := a_call_run rfl (Nat.le_of_ble_eq_true rfl) rfl
theorem w_X1_slant_0 (d : Nat) (x : Nat) (st : List Value) (h : a_H) : a_run d MX1_slant 0 [some (.ref x)] st h = a_run d MX1_slant 1 [some (.ref x)] (.ref x :: st) h := w_ldAn dX1_slant_0 rfl
theorem w_X1_slant_1 (d : Nat) (L : a_L) (i : Nat) (st : List Value) (h : a_H) : a_run d MX1_slant 1 L (.ref i :: st) h = (a_gf h i 0 [0]).bind fun v => a_run d MX1_slant 4 L (v :: st) h := w_getf dX1_slant_1 rfl
theorem w_X1_slant_4 (d : Nat) (x : Nat) (st : List Value) (h : a_H) : a_run d MX1_slant 4 [some (.ref x)] st h = a_run d MX1_slant 5 [some (.ref x)] (.ref x :: st) h := w_ldAn dX1_slant_4 rfl
theorem w_X1_slant_5 (d : Nat) (L : a_L) (i : Nat) (st : List Value) (h : a_H) : a_run d MX1_slant 5 L (.ref i :: st) h = (a_gf h i 0 [0]).bind fun v => a_run d MX1_slant 8 L (v :: st) h := w_getf dX1_slant_5 rfl
theorem w_X1_slant_8 (d : Nat) (L : a_L) (i : Nat) (st : List Value) (h : a_H) (hk : a_kls h i = some 1) (hc : a_cat st ≤ 8) : a_run d MX1_slant 8 L (.ref i :: st) h = a_cont d MX1_slant (a_bk MX1_slant 8 L st (a_call d MX2_columns [.ref i] h)) := w_callV (as := [.ref i]) dX1_slant_8 rfl rfl rfl hc (a_rcv_of hk rfl)
theorem w_X1_slant_11 (d : Nat) (L : a_L) (i : Nat) (v1 : Value) (st : List Value) (h : a_H) (hk : a_kls h i = some 1) (hc : a_cat st ≤ 8) : a_run d MX1_slant 11 L (v1 :: .ref i :: st) h = a_cont d MX1_slant (a_bk MX1_slant 11 L st (a_call d MX2_slants [.ref i, v1] h)) := w_callV (as := [.ref i, v1]) dX1_slant_11 rfl rfl rfl hc (a_rcv_of hk rfl)
theorem w_X1_slant_14 (d : Nat) (L : a_L) (x : Int32) (h : a_H) : a_run d MX1_slant 14 L [.int x] h = some (.inl (some (.int x)), h) := w_iret dX1_slant_14 (w_retI rfl)
theorem e_X1_sweeps (d : Nat) (x0 : Nat) (h : a_H) : a_call (d + 1) MX1_sweeps [.ref x0] h = a_run d MX1_sweeps 0 [some (.ref x0)] [] h := a_call_run rfl (Nat.le_of_ble_eq_true rfl) rfl
theorem w_X1_sweeps_0 (d : Nat) (x : Nat) (st : List Value) (h : a_H) : a_run d MX1_sweeps 0 [some (.ref x)] st h = a_run d MX1_sweeps 1 [some (.ref x)] (.ref x :: st) h := w_ldAn dX1_sweeps_0 rfl
theorem w_X1_sweeps_1 (d : Nat) (L : a_L) (i : Nat) (st : List Value) (h : a_H) : a_run d MX1_sweeps 1 L (.ref i :: st) h = (a_gf h i 0 [0]).bind fun v => a_run d MX1_sweeps 4 L (v :: st) h := w_getf dX1_sweeps_1 rfl
theorem w_X1_sweeps_4 (d : Nat) (L : a_L) (i : Nat) (st : List Value) (h : a_H) : a_run d MX1_sweeps 4 L (.ref i :: st) h = (a_gf h i 14 [1]).bind fun v => a_run d MX1_sweeps 7 L (v :: st) h := w_getf dX1_sweeps_4 rfl
theorem w_X1_sweeps_7 (d : Nat) (L : a_L) (x : Int32) (h : a_H) : a_run d MX1_sweeps 7 L [.int x] h = some (.inl (some (.int x)), h) := w_iret dX1_sweeps_7 (w_retI rfl)
theorem e_X1_came (d : Nat) (x0 : Nat) (h : a_H) : a_call (d + 1) MX1_came [.ref x0] h = a_run d MX1_came 0 [some (.ref x0)] [] h := a_call_run rfl (Nat.le_of_ble_eq_true rfl) rfl
theorem w_X1_came_0 (d : Nat) (x : Nat) (st : List Value) (h : a_H) : a_run d MX1_came 0 [some (.ref x)] st h = a_run d MX1_came 1 [some (.ref x)] (.ref x :: st) h := w_ldAn dX1_came_0 rfl
theorem w_X1_came_1 (d : Nat) (L : a_L) (i : Nat) (st : List Value) (h : a_H) : a_run d MX1_came 1 L (.ref i :: st) h = (a_gf h i 0 [0]).bind fun v => a_run d MX1_came 4 L (v :: st) h := w_getf dX1_came_1 rfl
theorem w_X1_came_4 (d : Nat) (L : a_L) (i : Nat) (st : List Value) (h : a_H) : a_run d MX1_came 4 L (.ref i :: st) h = (a_gf h i 15 [1]).bind fun v => a_run d MX1_came 7 L (v :: st) h := w_getf dX1_came_4 rfl
theorem w_X1_came_7 (d : Nat) (L : a_L) (x : Int32) (h : a_H) : a_run d MX1_came 7 L [.int x] h = some (.inl (some (.int x)), h) := w_iret dX1_came_7 (w_retI rfl)
theorem e_X1_keep (d : Nat) (x0 : Nat) (h : a_H) : a_call (d + 1) MX1_keep [.ref x0] h = a_run d MX1_keep 0 [some (.ref x0)] [] h := a_call_run rfl (Nat.le_of_ble_eq_true rfl) rfl
theorem w_X1_keep_0 (d : Nat) (x : Nat) (st : List Value) (h : a_H) : a_run d MX1_keep 0 [some (.ref x)] st h = a_run d MX1_keep 1 [some (.ref x)] (.ref x :: st) h := w_ldAn dX1_keep_0 rfl
theorem w_X1_keep_1 (d : Nat) (x : Nat) (st : List Value) (h : a_H) : a_run d MX1_keep 1 [some (.ref x)] st h = a_run d MX1_keep 2 [some (.ref x)] (.ref x :: st) h := w_ldAn dX1_keep_1 rfl
theorem w_X1_keep_2 (d : Nat) (L : a_L) (i : Nat) (st : List Value) (h : a_H) : a_run d MX1_keep 2 L (.ref i :: st) h = (a_gf h i 0 [0]).bind fun v => a_run d MX1_keep 5 L (v :: st) h := w_getf dX1_keep_2 rfl
theorem w_X1_keep_5 (d : Nat) (L : a_L) (x : Nat) (i : Nat) (st : List Value) (h : a_H) : a_run d MX1_keep 5 L (.ref x :: .ref i :: st) h = (a_pf h i 1 [0] (.ref x)).bind fun h' => a_run d MX1_keep 8 L st h' := w_putf dX1_keep_5 rfl rfl (Or.inl rfl) rfl rfl
theorem w_X1_keep_5N (d : Nat) (L : a_L) (i : Nat) (st : List Value) (h : a_H) : a_run d MX1_keep 5 L (.null :: .ref i :: st) h = (a_pf h i 1 [0] (.null)).bind fun h' => a_run d MX1_keep 8 L st h' := w_putf dX1_keep_5 rfl rfl (Or.inl rfl) rfl rfl
theorem w_X1_keep_8 (d : Nat) (x : Nat) (st : List Value) (h : a_H) : a_run d MX1_keep 8 [some (.ref x)] st h = a_run d MX1_keep 9 [some (.ref x)] (.ref x :: st) h := w_ldAn dX1_keep_8 rfl
theorem w_X1_keep_9 (d : Nat) (L : a_L) (i : Nat) (st : List Value) (h : a_H) : a_run d MX1_keep 9 L (.ref i :: st) h = (a_gf h i 0 [0]).bind fun v => a_run d MX1_keep 12 L (v :: st) h := w_getf dX1_keep_9 rfl
theorem w_X1_keep_12 (d : Nat) (L : a_L) (i : Nat) (st : List Value) (h : a_H) : a_run d MX1_keep 12 L (.ref i :: st) h = (a_gf h i 11 [1]).bind fun v => a_run d MX1_keep 15 L (v :: st) h := w_getf dX1_keep_12 rfl
theorem w_X1_keep_15 (d : Nat) (L : a_L) (x : Int32) (h : a_H) : a_run d MX1_keep 15 L [.int x] h = some (.inl (some (.int x)), h) := w_iret dX1_keep_15 (w_retI rfl)
theorem e_X1_states (d : Nat) (x0 : Nat) (h : a_H) : a_call (d + 1) MX1_states [.ref x0] h = a_run d MX1_states 0 [some (.ref x0)] [] h := a_call_run rfl (Nat.le_of_ble_eq_true rfl) rfl
theorem w_X1_states_0 (d : Nat) (x : Nat) (st : List Value) (h : a_H) : a_run d MX1_states 0 [some (.ref x)] st h = a_run d MX1_states 1 [some (.ref x)] (.ref x :: st) h := w_ldAn dX1_states_0 rfl
theorem w_X1_states_1 (d : Nat) (L : a_L) (i : Nat) (st : List Value) (h : a_H) : a_run d MX1_states 1 L (.ref i :: st) h = (a_gf h i 2 [0]).bind fun v => a_run d MX1_states 4 L (v :: st) h := w_getf dX1_states_1 rfl
theorem w_X1_states_4 (d : Nat) (L : a_L) (i : Nat) (st : List Value) (h : a_H) (hk : a_kls h i = some 7) (hc : a_cat st ≤ 8) : a_run d MX1_states 4 L (.ref i :: st) h = a_cont d MX1_states (a_bk MX1_states 4 L st (a_call d MJ1_size [.ref i] h)) := w_callV (as := [.ref i]) dX1_states_4 rfl rfl rfl hc (a_rcv_of hk rfl)
theorem w_X1_states_7 (d : Nat) (L : a_L) (x : Int32) (h : a_H) : a_run d MX1_states 7 L [.int x] h = some (.inl (some (.int x)), h) := w_iret dX1_states_7 (w_retI rfl)
theorem e_X1_clearText (d : Nat) (x0 : Nat) (h : a_H) : a_call (d + 1) MX1_clearText [.ref x0] h = a_run d MX1_clearText 0 [some (.ref x0), none] [] h := a_call_run rfl (Nat.le_of_ble_eq_true rfl) rfl
theorem w_X1_clearText_0 (d : Nat) (a1 : Option Value) (x : Nat) (st : List Value) (h : a_H) : a_run d MX1_clearText 0 [some (.ref x), a1] st h = a_run d MX1_clearText 1 [some (.ref x), a1] (.ref x :: st) h := w_ldAn dX1_clearText_0 rfl
theorem w_X1_clearText_1 (d : Nat) (L : a_L) (i : Nat) (st : List Value) (h : a_H) : a_run d MX1_clearText 1 L (.ref i :: st) h = (a_gf h i 3 [0]).bind fun v => a_run d MX1_clearText 4 L (v :: st) h := w_getf dX1_clearText_1 rfl
theorem w_X1_clearText_4 (d : Nat) (L : a_L) (i : Nat) (st : List Value) (h : a_H) (hk : a_kls h i = some 8) (hc : a_cat st ≤ 8) : a_run d MX1_clearText 4 L (.ref i :: st) h = a_cont d MX1_clearText (a_bk MX1_clearText 4 L st (a_call d MJ3_length [.ref i] h)) := w_callV (as := [.ref i]) dX1_clearText_4 rfl rfl rfl hc (a_rcv_of hk rfl)
theorem w_X1_clearText_7 (d : Nat) (a0 a1 : Option Value) (x : Int32) (st : List Value) (h : a_H) : a_run d MX1_clearText 7 [a0, a1] (.int x :: st) h = a_run d MX1_clearText 8 [a0, some (.int x)] st h := w_stIn dX1_clearText_7 (Nat.le_of_ble_eq_true rfl) rfl
theorem w_X1_clearText_8 (d : Nat) (a1 : Option Value) (x : Nat) (st : List Value) (h : a_H) : a_run d MX1_clearText 8 [some (.ref x), a1] st h = a_run d MX1_clearText 9 [some (.ref x), a1] (.ref x :: st) h := w_ldAn dX1_clearText_8 rfl
theorem w_X1_clearText_9 (d : Nat) (L : a_L) (i : Nat) (st : List Value) (h : a_H) : a_run d MX1_clearText 9 L (.ref i :: st) h = (a_gf h i 3 [0]).bind fun v => a_run d MX1_clearText 12 L (v :: st) h := w_getf dX1_clearText_9 rfl
theorem w_X1_clearText_12 (d : Nat) (L : a_L) (st : List Value) (h : a_H) : a_run d MX1_clearText 12 L st h = a_run d MX1_clearText 13 L (.int (nI 0) :: st) h := w_iconst dX1_clearText_12 rfl
theorem w_X1_clearText_13 (d : Nat) (L : a_L) (i : Nat) (v1 : Value) (st : List Value) (h : a_H) (hk : a_kls h i = some 8) (hc : a_cat st ≤ 8) : a_run d MX1_clearText 13 L (v1 :: .ref i :: st) h = a_cont d MX1_clearText (a_bk MX1_clearText 13 L st (a_call d MJ3_setLength [.ref i, v1] h)) := w_callV (as := [.ref i, v1]) dX1_clearText_13 rfl rfl rfl hc (a_rcv_of hk rfl)
theorem w_X1_clearText_16 (d : Nat) (a0 : Option Value) (x : Int32) (st : List Value) (h : a_H) : a_run d MX1_clearText 16 [a0, some (.int x)] st h = a_run d MX1_clearText 17 [a0, some (.int x)] (.int x :: st) h := w_ldIn dX1_clearText_16 rfl
theorem w_X1_clearText_17 (d : Nat) (L : a_L) (x : Int32) (h : a_H) : a_run d MX1_clearText 17 L [.int x] h = some (.inl (some (.int x)), h) := w_iret dX1_clearText_17 (w_retI rfl)
theorem e_X1_addBox (d : Nat) (x0 : Nat) (h : a_H) : a_call (d + 1) MX1_addBox [.ref x0] h = a_run d MX1_addBox 0 [some (.ref x0)] [] h := a_call_run rfl (Nat.le_of_ble_eq_true rfl) rfl
theorem w_X1_addBox_0 (d : Nat) (x : Nat) (st : List Value) (h : a_H) : a_run d MX1_addBox 0 [some (.ref x)] st h = a_run d MX1_addBox 1 [some (.ref x)] (.ref x :: st) h := w_ldAn dX1_addBox_0 rfl
theorem w_X1_addBox_1 (d : Nat) (L : a_L) (st : List Value) (h : a_H) : a_run d MX1_addBox 1 L st h = a_run d MX1_addBox 3 L (.int (nI 98) :: st) h := w_bipush dX1_addBox_1 rfl
theorem w_X1_addBox_3 (d : Nat) (L : a_L) (st : List Value) (h : a_H) : a_run d MX1_addBox 3 L st h = a_run d MX1_addBox 4 L (.int (nI 0) :: st) h := w_iconst dX1_addBox_3 rfl
theorem w_X1_addBox_4 (d : Nat) (L : a_L) (x : Int32) (st : List Value) (h : a_H) : a_run d MX1_addBox 4 L (.int x :: st) h = (a_newa h (newarray.typeOf .int) x).bind fun q => a_run d MX1_addBox 6 L (.ref q.1 :: st) q.2 := w_newa dX1_addBox_4
theorem w_X1_addBox_6 (d : Nat) (L : a_L) (i : Nat) (v1 v2 : Value) (st : List Value) (h : a_H) (hk : a_kls h i = some 0) (hc : a_cat st ≤ 8) : a_run d MX1_addBox 6 L (v2 :: v1 :: .ref i :: st) h = a_cont d MX1_addBox (a_bk MX1_addBox 6 L st (a_call d MX1_act [.ref i, v1, v2] h)) := w_callV (as := [.ref i, v1, v2]) dX1_addBox_6 rfl rfl rfl hc (a_rcv_of hk rfl)
theorem w_X1_addBox_9 (d : Nat) (L : a_L) (x : Int32) (h : a_H) : a_run d MX1_addBox 9 L [.int x] h = some (.inl (some (.int x)), h) := w_iret dX1_addBox_9 (w_retI rfl)
theorem e_X1_addArrow (d : Nat) (x0 : Nat) (x1 : Int32) (x2 : Int32) (h : a_H) : a_call (d + 1) MX1_addArrow [.ref x0, .int x1, .int x2] h = a_run d MX1_addArrow 0 [some (.ref x0), some (.int x1), some (.int x2)] [] h := a_call_run rfl (Nat.le_of_ble_eq_true rfl) rfl
theorem w_X1_addArrow_0 (d : Nat) (a1 a2 : Option Value) (x : Nat) (st : List Value) (h : a_H) : a_run d MX1_addArrow 0 [some (.ref x), a1, a2] st h = a_run d MX1_addArrow 1 [some (.ref x), a1, a2] (.ref x :: st) h := w_ldAn dX1_addArrow_0 rfl
theorem w_X1_addArrow_1 (d : Nat) (L : a_L) (st : List Value) (h : a_H) : a_run d MX1_addArrow 1 L st h = a_run d MX1_addArrow 3 L (.int (nI 97) :: st) h := w_bipush dX1_addArrow_1 rfl
theorem w_X1_addArrow_3 (d : Nat) (L : a_L) (st : List Value) (h : a_H) : a_run d MX1_addArrow 3 L st h = a_run d MX1_addArrow 4 L (.int (nI 2) :: st) h := w_iconst dX1_addArrow_3 rfl
theorem w_X1_addArrow_4 (d : Nat) (L : a_L) (x : Int32) (st : List Value) (h : a_H) : a_run d MX1_addArrow 4 L (.int x :: st) h = (a_newa h (newarray.typeOf .int) x).bind fun q => a_run d MX1_addArrow 6 L (.ref q.1 :: st) q.2 := w_newa dX1_addArrow_4
theorem w_X1_addArrow_6 (d : Nat) (L : a_L) (x : Nat) (st : List Value) (h : a_H) : a_run d MX1_addArrow 6 L (.ref x :: st) h = a_run d MX1_addArrow 7 L (.ref x :: .ref x :: st) h := w_dup dX1_addArrow_6
theorem w_X1_addArrow_6I (d : Nat) (L : a_L) (x : Int32) (st : List Value) (h : a_H) : a_run d MX1_addArrow 6 L (.int x :: st) h = a_run d MX1_addArrow 7 L (.int x :: .int x :: st) h := w_dupI dX1_addArrow_6
theorem w_X1_addArrow_7 (d : Nat) (L : a_L) (st : List Value) (h : a_H) : a_run d MX1_addArrow 7 L st h = a_run d MX1_addArrow 8 L (.int (nI 0) :: st) h := w_iconst dX1_addArrow_7 rfl
theorem w_X1_addArrow_8 (d : Nat) (a0 a2 : Option Value) (x : Int32) (st : List Value) (h : a_H) : a_run d MX1_addArrow 8 [a0, some (.int x), a2] st h = a_run d MX1_addArrow 9 [a0, some (.int x), a2] (.int x :: st) h := w_ldIn dX1_addArrow_8 rfl
theorem w_X1_addArrow_9 (d : Nat) (L : a_L) (x y : Int32) (i : Nat) (st : List Value) (h : a_H) : a_run d MX1_addArrow 9 L (.int y :: .int x :: .ref i :: st) h = (a_wri h i a_int x y).bind fun h' => a_run d MX1_addArrow 10 L st h' := w_iast dX1_addArrow_9
theorem w_X1_addArrow_10 (d : Nat) (L : a_L) (x : Nat) (st : List Value) (h : a_H) : a_run d MX1_addArrow 10 L (.ref x :: st) h = a_run d MX1_addArrow 11 L (.ref x :: .ref x :: st) h := w_dup dX1_addArrow_10
theorem w_X1_addArrow_10I (d : Nat) (L : a_L) (x : Int32) (st : List Value) (h : a_H) : a_run d MX1_addArrow 10 L (.int x :: st) h = a_run d MX1_addArrow 11 L (.int x :: .int x :: st) h := w_dupI dX1_addArrow_10
theorem w_X1_addArrow_11 (d : Nat) (L : a_L) (st : List Value) (h : a_H) : a_run d MX1_addArrow 11 L st h = a_run d MX1_addArrow 12 L (.int (nI 1) :: st) h := w_iconst dX1_addArrow_11 rfl
theorem w_X1_addArrow_12 (d : Nat) (a0 a1 : Option Value) (x : Int32) (st : List Value) (h : a_H) : a_run d MX1_addArrow 12 [a0, a1, some (.int x)] st h = a_run d MX1_addArrow 13 [a0, a1, some (.int x)] (.int x :: st) h := w_ldIn dX1_addArrow_12 rfl
theorem w_X1_addArrow_13 (d : Nat) (L : a_L) (x y : Int32) (i : Nat) (st : List Value) (h : a_H) : a_run d MX1_addArrow 13 L (.int y :: .int x :: .ref i :: st) h = (a_wri h i a_int x y).bind fun h' => a_run d MX1_addArrow 14 L st h' := w_iast dX1_addArrow_13
theorem w_X1_addArrow_14 (d : Nat) (L : a_L) (i : Nat) (v1 v2 : Value) (st : List Value) (h : a_H) (hk : a_kls h i = some 0) (hc : a_cat st ≤ 8) : a_run d MX1_addArrow 14 L (v2 :: v1 :: .ref i :: st) h = a_cont d MX1_addArrow (a_bk MX1_addArrow 14 L st (a_call d MX1_act [.ref i, v1, v2] h)) := w_callV (as := [.ref i, v1, v2]) dX1_addArrow_14 rfl rfl rfl hc (a_rcv_of hk rfl)
theorem w_X1_addArrow_17 (d : Nat) (L : a_L) (x : Int32) (h : a_H) : a_run d MX1_addArrow 17 L [.int x] h = some (.inl (some (.int x)), h) := w_iret dX1_addArrow_17 (w_retI rfl)
theorem e_X1_addChain (d : Nat) (x0 : Nat) (x1 : Int32) (x2 : Int32) (x3 : Int32) (h : a_H) : a_call (d + 1) MX1_addChain [.ref x0, .int x1, .int x2, .int x3] h = a_run d MX1_addChain 0 [some (.ref x0), some (.int x1), some (.int x2), some (.int x3)] [] h := a_call_run rfl (Nat.le_of_ble_eq_true rfl) rfl
theorem w_X1_addChain_0 (d : Nat) (a1 a2 a3 : Option Value) (x : Nat) (st : List Value) (h : a_H) : a_run d MX1_addChain 0 [some (.ref x), a1, a2, a3] st h = a_run d MX1_addChain 1 [some (.ref x), a1, a2, a3] (.ref x :: st) h := w_ldAn dX1_addChain_0 rfl
theorem w_X1_addChain_1 (d : Nat) (L : a_L) (st : List Value) (h : a_H) : a_run d MX1_addChain 1 L st h = a_run d MX1_addChain 3 L (.int (nI 99) :: st) h := w_bipush dX1_addChain_1 rfl
theorem w_X1_addChain_3 (d : Nat) (L : a_L) (st : List Value) (h : a_H) : a_run d MX1_addChain 3 L st h = a_run d MX1_addChain 4 L (.int (nI 3) :: st) h := w_iconst dX1_addChain_3 rfl
theorem w_X1_addChain_4 (d : Nat) (L : a_L) (x : Int32) (st : List Value) (h : a_H) : a_run d MX1_addChain 4 L (.int x :: st) h = (a_newa h (newarray.typeOf .int) x).bind fun q => a_run d MX1_addChain 6 L (.ref q.1 :: st) q.2 := w_newa dX1_addChain_4
theorem w_X1_addChain_6 (d : Nat) (L : a_L) (x : Nat) (st : List Value) (h : a_H) : a_run d MX1_addChain 6 L (.ref x :: st) h = a_run d MX1_addChain 7 L (.ref x :: .ref x :: st) h := w_dup dX1_addChain_6
theorem w_X1_addChain_6I (d : Nat) (L : a_L) (x : Int32) (st : List Value) (h : a_H) : a_run d MX1_addChain 6 L (.int x :: st) h = a_run d MX1_addChain 7 L (.int x :: .int x :: st) h := w_dupI dX1_addChain_6
theorem w_X1_addChain_7 (d : Nat) (L : a_L) (st : List Value) (h : a_H) : a_run d MX1_addChain 7 L st h = a_run d MX1_addChain 8 L (.int (nI 0) :: st) h := w_iconst dX1_addChain_7 rfl
theorem w_X1_addChain_8 (d : Nat) (a0 a2 a3 : Option Value) (x : Int32) (st : List Value) (h : a_H) : a_run d MX1_addChain 8 [a0, some (.int x), a2, a3] st h = a_run d MX1_addChain 9 [a0, some (.int x), a2, a3] (.int x :: st) h := w_ldIn dX1_addChain_8 rfl
theorem w_X1_addChain_9 (d : Nat) (L : a_L) (x y : Int32) (i : Nat) (st : List Value) (h : a_H) : a_run d MX1_addChain 9 L (.int y :: .int x :: .ref i :: st) h = (a_wri h i a_int x y).bind fun h' => a_run d MX1_addChain 10 L st h' := w_iast dX1_addChain_9
theorem w_X1_addChain_10 (d : Nat) (L : a_L) (x : Nat) (st : List Value) (h : a_H) : a_run d MX1_addChain 10 L (.ref x :: st) h = a_run d MX1_addChain 11 L (.ref x :: .ref x :: st) h := w_dup dX1_addChain_10
theorem w_X1_addChain_10I (d : Nat) (L : a_L) (x : Int32) (st : List Value) (h : a_H) : a_run d MX1_addChain 10 L (.int x :: st) h = a_run d MX1_addChain 11 L (.int x :: .int x :: st) h := w_dupI dX1_addChain_10
theorem w_X1_addChain_11 (d : Nat) (L : a_L) (st : List Value) (h : a_H) : a_run d MX1_addChain 11 L st h = a_run d MX1_addChain 12 L (.int (nI 1) :: st) h := w_iconst dX1_addChain_11 rfl
theorem w_X1_addChain_12 (d : Nat) (a0 a1 a3 : Option Value) (x : Int32) (st : List Value) (h : a_H) : a_run d MX1_addChain 12 [a0, a1, some (.int x), a3] st h = a_run d MX1_addChain 13 [a0, a1, some (.int x), a3] (.int x :: st) h := w_ldIn dX1_addChain_12 rfl
theorem w_X1_addChain_13 (d : Nat) (L : a_L) (x y : Int32) (i : Nat) (st : List Value) (h : a_H) : a_run d MX1_addChain 13 L (.int y :: .int x :: .ref i :: st) h = (a_wri h i a_int x y).bind fun h' => a_run d MX1_addChain 14 L st h' := w_iast dX1_addChain_13
theorem w_X1_addChain_14 (d : Nat) (L : a_L) (x : Nat) (st : List Value) (h : a_H) : a_run d MX1_addChain 14 L (.ref x :: st) h = a_run d MX1_addChain 15 L (.ref x :: .ref x :: st) h := w_dup dX1_addChain_14
theorem w_X1_addChain_14I (d : Nat) (L : a_L) (x : Int32) (st : List Value) (h : a_H) : a_run d MX1_addChain 14 L (.int x :: st) h = a_run d MX1_addChain 15 L (.int x :: .int x :: st) h := w_dupI dX1_addChain_14
theorem w_X1_addChain_15 (d : Nat) (L : a_L) (st : List Value) (h : a_H) : a_run d MX1_addChain 15 L st h = a_run d MX1_addChain 16 L (.int (nI 2) :: st) h := w_iconst dX1_addChain_15 rfl
theorem w_X1_addChain_16 (d : Nat) (a0 a1 a2 : Option Value) (x : Int32) (st : List Value) (h : a_H) : a_run d MX1_addChain 16 [a0, a1, a2, some (.int x)] st h = a_run d MX1_addChain 17 [a0, a1, a2, some (.int x)] (.int x :: st) h := w_ldIn dX1_addChain_16 rfl
theorem w_X1_addChain_17 (d : Nat) (L : a_L) (x y : Int32) (i : Nat) (st : List Value) (h : a_H) : a_run d MX1_addChain 17 L (.int y :: .int x :: .ref i :: st) h = (a_wri h i a_int x y).bind fun h' => a_run d MX1_addChain 18 L st h' := w_iast dX1_addChain_17
theorem w_X1_addChain_18 (d : Nat) (L : a_L) (i : Nat) (v1 v2 : Value) (st : List Value) (h : a_H) (hk : a_kls h i = some 0) (hc : a_cat st ≤ 8) : a_run d MX1_addChain 18 L (v2 :: v1 :: .ref i :: st) h = a_cont d MX1_addChain (a_bk MX1_addChain 18 L st (a_call d MX1_act [.ref i, v1, v2] h)) := w_callV (as := [.ref i, v1, v2]) dX1_addChain_18 rfl rfl rfl hc (a_rcv_of hk rfl)
theorem w_X1_addChain_21 (d : Nat) (L : a_L) (x : Int32) (h : a_H) : a_run d MX1_addChain 21 L [.int x] h = some (.inl (some (.int x)), h) := w_iret dX1_addChain_21 (w_retI rfl)
theorem e_X1_removeArrow (d : Nat) (x0 : Nat) (x1 : Int32) (h : a_H) : a_call (d + 1) MX1_removeArrow [.ref x0, .int x1] h = a_run d MX1_removeArrow 0 [some (.ref x0), some (.int x1)] [] h := a_call_run rfl (Nat.le_of_ble_eq_true rfl) rfl
theorem w_X1_removeArrow_0 (d : Nat) (a1 : Option Value) (x : Nat) (st : List Value) (h : a_H) : a_run d MX1_removeArrow 0 [some (.ref x), a1] st h = a_run d MX1_removeArrow 1 [some (.ref x), a1] (.ref x :: st) h := w_ldAn dX1_removeArrow_0 rfl
theorem w_X1_removeArrow_1 (d : Nat) (L : a_L) (st : List Value) (h : a_H) : a_run d MX1_removeArrow 1 L st h = a_run d MX1_removeArrow 3 L (.int (nI 120) :: st) h := w_bipush dX1_removeArrow_1 rfl
theorem w_X1_removeArrow_3 (d : Nat) (L : a_L) (st : List Value) (h : a_H) : a_run d MX1_removeArrow 3 L st h = a_run d MX1_removeArrow 4 L (.int (nI 1) :: st) h := w_iconst dX1_removeArrow_3 rfl
theorem w_X1_removeArrow_4 (d : Nat) (L : a_L) (x : Int32) (st : List Value) (h : a_H) : a_run d MX1_removeArrow 4 L (.int x :: st) h = (a_newa h (newarray.typeOf .int) x).bind fun q => a_run d MX1_removeArrow 6 L (.ref q.1 :: st) q.2 := w_newa dX1_removeArrow_4
theorem w_X1_removeArrow_6 (d : Nat) (L : a_L) (x : Nat) (st : List Value) (h : a_H) : a_run d MX1_removeArrow 6 L (.ref x :: st) h = a_run d MX1_removeArrow 7 L (.ref x :: .ref x :: st) h := w_dup dX1_removeArrow_6
theorem w_X1_removeArrow_6I (d : Nat) (L : a_L) (x : Int32) (st : List Value) (h : a_H) : a_run d MX1_removeArrow 6 L (.int x :: st) h = a_run d MX1_removeArrow 7 L (.int x :: .int x :: st) h := w_dupI dX1_removeArrow_6
theorem w_X1_removeArrow_7 (d : Nat) (L : a_L) (st : List Value) (h : a_H) : a_run d MX1_removeArrow 7 L st h = a_run d MX1_removeArrow 8 L (.int (nI 0) :: st) h := w_iconst dX1_removeArrow_7 rfl
theorem w_X1_removeArrow_8 (d : Nat) (a0 : Option Value) (x : Int32) (st : List Value) (h : a_H) : a_run d MX1_removeArrow 8 [a0, some (.int x)] st h = a_run d MX1_removeArrow 9 [a0, some (.int x)] (.int x :: st) h := w_ldIn dX1_removeArrow_8 rfl
theorem w_X1_removeArrow_9 (d : Nat) (L : a_L) (x y : Int32) (i : Nat) (st : List Value) (h : a_H) : a_run d MX1_removeArrow 9 L (.int y :: .int x :: .ref i :: st) h = (a_wri h i a_int x y).bind fun h' => a_run d MX1_removeArrow 10 L st h' := w_iast dX1_removeArrow_9
theorem w_X1_removeArrow_10 (d : Nat) (L : a_L) (i : Nat) (v1 v2 : Value) (st : List Value) (h : a_H) (hk : a_kls h i = some 0) (hc : a_cat st ≤ 8) : a_run d MX1_removeArrow 10 L (v2 :: v1 :: .ref i :: st) h = a_cont d MX1_removeArrow (a_bk MX1_removeArrow 10 L st (a_call d MX1_act [.ref i, v1, v2] h)) := w_callV (as := [.ref i, v1, v2]) dX1_removeArrow_10 rfl rfl rfl hc (a_rcv_of hk rfl)
theorem w_X1_removeArrow_13 (d : Nat) (L : a_L) (x : Int32) (h : a_H) : a_run d MX1_removeArrow 13 L [.int x] h = some (.inl (some (.int x)), h) := w_iret dX1_removeArrow_13 (w_retI rfl)
theorem e_X1_holdDown (d : Nat) (x0 : Nat) (x1 : Int32) (x2 : Int32) (h : a_H) : a_call (d + 1) MX1_holdDown [.ref x0, .int x1, .int x2] h = a_run d MX1_holdDown 0 [some (.ref x0), some (.int x1), some (.int x2)] [] h := a_call_run rfl (Nat.le_of_ble_eq_true rfl) rfl
theorem w_X1_holdDown_0 (d : Nat) (a1 a2 : Option Value) (x : Nat) (st : List Value) (h : a_H) : a_run d MX1_holdDown 0 [some (.ref x), a1, a2] st h = a_run d MX1_holdDown 1 [some (.ref x), a1, a2] (.ref x :: st) h := w_ldAn dX1_holdDown_0 rfl
theorem w_X1_holdDown_1 (d : Nat) (L : a_L) (st : List Value) (h : a_H) : a_run d MX1_holdDown 1 L st h = a_run d MX1_holdDown 3 L (.int (nI 104) :: st) h := w_bipush dX1_holdDown_1 rfl
theorem w_X1_holdDown_3 (d : Nat) (L : a_L) (st : List Value) (h : a_H) : a_run d MX1_holdDown 3 L st h = a_run d MX1_holdDown 4 L (.int (nI 2) :: st) h := w_iconst dX1_holdDown_3 rfl
theorem w_X1_holdDown_4 (d : Nat) (L : a_L) (x : Int32) (st : List Value) (h : a_H) : a_run d MX1_holdDown 4 L (.int x :: st) h = (a_newa h (newarray.typeOf .int) x).bind fun q => a_run d MX1_holdDown 6 L (.ref q.1 :: st) q.2 := w_newa dX1_holdDown_4
theorem w_X1_holdDown_6 (d : Nat) (L : a_L) (x : Nat) (st : List Value) (h : a_H) : a_run d MX1_holdDown 6 L (.ref x :: st) h = a_run d MX1_holdDown 7 L (.ref x :: .ref x :: st) h := w_dup dX1_holdDown_6
theorem w_X1_holdDown_6I (d : Nat) (L : a_L) (x : Int32) (st : List Value) (h : a_H) : a_run d MX1_holdDown 6 L (.int x :: st) h = a_run d MX1_holdDown 7 L (.int x :: .int x :: st) h := w_dupI dX1_holdDown_6
theorem w_X1_holdDown_7 (d : Nat) (L : a_L) (st : List Value) (h : a_H) : a_run d MX1_holdDown 7 L st h = a_run d MX1_holdDown 8 L (.int (nI 0) :: st) h := w_iconst dX1_holdDown_7 rfl
theorem w_X1_holdDown_8 (d : Nat) (a0 a2 : Option Value) (x : Int32) (st : List Value) (h : a_H) : a_run d MX1_holdDown 8 [a0, some (.int x), a2] st h = a_run d MX1_holdDown 9 [a0, some (.int x), a2] (.int x :: st) h := w_ldIn dX1_holdDown_8 rfl
theorem w_X1_holdDown_9 (d : Nat) (L : a_L) (x y : Int32) (i : Nat) (st : List Value) (h : a_H) : a_run d MX1_holdDown 9 L (.int y :: .int x :: .ref i :: st) h = (a_wri h i a_int x y).bind fun h' => a_run d MX1_holdDown 10 L st h' := w_iast dX1_holdDown_9
theorem w_X1_holdDown_10 (d : Nat) (L : a_L) (x : Nat) (st : List Value) (h : a_H) : a_run d MX1_holdDown 10 L (.ref x :: st) h = a_run d MX1_holdDown 11 L (.ref x :: .ref x :: st) h := w_dup dX1_holdDown_10
theorem w_X1_holdDown_10I (d : Nat) (L : a_L) (x : Int32) (st : List Value) (h : a_H) : a_run d MX1_holdDown 10 L (.int x :: st) h = a_run d MX1_holdDown 11 L (.int x :: .int x :: st) h := w_dupI dX1_holdDown_10
theorem w_X1_holdDown_11 (d : Nat) (L : a_L) (st : List Value) (h : a_H) : a_run d MX1_holdDown 11 L st h = a_run d MX1_holdDown 12 L (.int (nI 1) :: st) h := w_iconst dX1_holdDown_11 rfl
theorem w_X1_holdDown_12 (d : Nat) (a0 a1 : Option Value) (x : Int32) (st : List Value) (h : a_H) : a_run d MX1_holdDown 12 [a0, a1, some (.int x)] st h = a_run d MX1_holdDown 13 [a0, a1, some (.int x)] (.int x :: st) h := w_ldIn dX1_holdDown_12 rfl
theorem w_X1_holdDown_13 (d : Nat) (L : a_L) (x y : Int32) (i : Nat) (st : List Value) (h : a_H) : a_run d MX1_holdDown 13 L (.int y :: .int x :: .ref i :: st) h = (a_wri h i a_int x y).bind fun h' => a_run d MX1_holdDown 14 L st h' := w_iast dX1_holdDown_13
theorem w_X1_holdDown_14 (d : Nat) (L : a_L) (i : Nat) (v1 v2 : Value) (st : List Value) (h : a_H) (hk : a_kls h i = some 0) (hc : a_cat st ≤ 8) : a_run d MX1_holdDown 14 L (v2 :: v1 :: .ref i :: st) h = a_cont d MX1_holdDown (a_bk MX1_holdDown 14 L st (a_call d MX1_act [.ref i, v1, v2] h)) := w_callV (as := [.ref i, v1, v2]) dX1_holdDown_14 rfl rfl rfl hc (a_rcv_of hk rfl)
theorem w_X1_holdDown_17 (d : Nat) (L : a_L) (x : Int32) (h : a_H) : a_run d MX1_holdDown 17 L [.int x] h = some (.inl (some (.int x)), h) := w_iret dX1_holdDown_17 (w_retI rfl)
theorem e_X1_exchange (d : Nat) (x0 : Nat) (x1 : Int32) (x2 : Int32) (x3 : Int32) (h : a_H) : a_call (d + 1) MX1_exchange [.ref x0, .int x1, .int x2, .int x3] h = a_run d MX1_exchange 0 [some (.ref x0), some (.int x1), some (.int x2), some (.int x3)] [] h := a_call_run rfl (Nat.le_of_ble_eq_true rfl) rfl
theorem w_X1_exchange_0 (d : Nat) (a1 a2 a3 : Option Value) (x : Nat) (st : List Value) (h : a_H) : a_run d MX1_exchange 0 [some (.ref x), a1, a2, a3] st h = a_run d MX1_exchange 1 [some (.ref x), a1, a2, a3] (.ref x :: st) h := w_ldAn dX1_exchange_0 rfl
theorem w_X1_exchange_1 (d : Nat) (L : a_L) (st : List Value) (h : a_H) : a_run d MX1_exchange 1 L st h = a_run d MX1_exchange 3 L (.int (nI 101) :: st) h := w_bipush dX1_exchange_1 rfl
theorem w_X1_exchange_3 (d : Nat) (L : a_L) (st : List Value) (h : a_H) : a_run d MX1_exchange 3 L st h = a_run d MX1_exchange 4 L (.int (nI 3) :: st) h := w_iconst dX1_exchange_3 rfl
theorem w_X1_exchange_4 (d : Nat) (L : a_L) (x : Int32) (st : List Value) (h : a_H) : a_run d MX1_exchange 4 L (.int x :: st) h = (a_newa h (newarray.typeOf .int) x).bind fun q => a_run d MX1_exchange 6 L (.ref q.1 :: st) q.2 := w_newa dX1_exchange_4
theorem w_X1_exchange_6 (d : Nat) (L : a_L) (x : Nat) (st : List Value) (h : a_H) : a_run d MX1_exchange 6 L (.ref x :: st) h = a_run d MX1_exchange 7 L (.ref x :: .ref x :: st) h := w_dup dX1_exchange_6
theorem w_X1_exchange_6I (d : Nat) (L : a_L) (x : Int32) (st : List Value) (h : a_H) : a_run d MX1_exchange 6 L (.int x :: st) h = a_run d MX1_exchange 7 L (.int x :: .int x :: st) h := w_dupI dX1_exchange_6
theorem w_X1_exchange_7 (d : Nat) (L : a_L) (st : List Value) (h : a_H) : a_run d MX1_exchange 7 L st h = a_run d MX1_exchange 8 L (.int (nI 0) :: st) h := w_iconst dX1_exchange_7 rfl
theorem w_X1_exchange_8 (d : Nat) (a0 a2 a3 : Option Value) (x : Int32) (st : List Value) (h : a_H) : a_run d MX1_exchange 8 [a0, some (.int x), a2, a3] st h = a_run d MX1_exchange 9 [a0, some (.int x), a2, a3] (.int x :: st) h := w_ldIn dX1_exchange_8 rfl
theorem w_X1_exchange_9 (d : Nat) (L : a_L) (x y : Int32) (i : Nat) (st : List Value) (h : a_H) : a_run d MX1_exchange 9 L (.int y :: .int x :: .ref i :: st) h = (a_wri h i a_int x y).bind fun h' => a_run d MX1_exchange 10 L st h' := w_iast dX1_exchange_9
theorem w_X1_exchange_10 (d : Nat) (L : a_L) (x : Nat) (st : List Value) (h : a_H) : a_run d MX1_exchange 10 L (.ref x :: st) h = a_run d MX1_exchange 11 L (.ref x :: .ref x :: st) h := w_dup dX1_exchange_10
theorem w_X1_exchange_10I (d : Nat) (L : a_L) (x : Int32) (st : List Value) (h : a_H) : a_run d MX1_exchange 10 L (.int x :: st) h = a_run d MX1_exchange 11 L (.int x :: .int x :: st) h := w_dupI dX1_exchange_10
theorem w_X1_exchange_11 (d : Nat) (L : a_L) (st : List Value) (h : a_H) : a_run d MX1_exchange 11 L st h = a_run d MX1_exchange 12 L (.int (nI 1) :: st) h := w_iconst dX1_exchange_11 rfl
theorem w_X1_exchange_12 (d : Nat) (a0 a1 a3 : Option Value) (x : Int32) (st : List Value) (h : a_H) : a_run d MX1_exchange 12 [a0, a1, some (.int x), a3] st h = a_run d MX1_exchange 13 [a0, a1, some (.int x), a3] (.int x :: st) h := w_ldIn dX1_exchange_12 rfl
theorem w_X1_exchange_13 (d : Nat) (L : a_L) (x y : Int32) (i : Nat) (st : List Value) (h : a_H) : a_run d MX1_exchange 13 L (.int y :: .int x :: .ref i :: st) h = (a_wri h i a_int x y).bind fun h' => a_run d MX1_exchange 14 L st h' := w_iast dX1_exchange_13
theorem w_X1_exchange_14 (d : Nat) (L : a_L) (x : Nat) (st : List Value) (h : a_H) : a_run d MX1_exchange 14 L (.ref x :: st) h = a_run d MX1_exchange 15 L (.ref x :: .ref x :: st) h := w_dup dX1_exchange_14
theorem w_X1_exchange_14I (d : Nat) (L : a_L) (x : Int32) (st : List Value) (h : a_H) : a_run d MX1_exchange 14 L (.int x :: st) h = a_run d MX1_exchange 15 L (.int x :: .int x :: st) h := w_dupI dX1_exchange_14
theorem w_X1_exchange_15 (d : Nat) (L : a_L) (st : List Value) (h : a_H) : a_run d MX1_exchange 15 L st h = a_run d MX1_exchange 16 L (.int (nI 2) :: st) h := w_iconst dX1_exchange_15 rfl
theorem w_X1_exchange_16 (d : Nat) (a0 a1 a2 : Option Value) (x : Int32) (st : List Value) (h : a_H) : a_run d MX1_exchange 16 [a0, a1, a2, some (.int x)] st h = a_run d MX1_exchange 17 [a0, a1, a2, some (.int x)] (.int x :: st) h := w_ldIn dX1_exchange_16 rfl
theorem w_X1_exchange_17 (d : Nat) (L : a_L) (x y : Int32) (i : Nat) (st : List Value) (h : a_H) : a_run d MX1_exchange 17 L (.int y :: .int x :: .ref i :: st) h = (a_wri h i a_int x y).bind fun h' => a_run d MX1_exchange 18 L st h' := w_iast dX1_exchange_17
theorem w_X1_exchange_18 (d : Nat) (L : a_L) (i : Nat) (v1 v2 : Value) (st : List Value) (h : a_H) (hk : a_kls h i = some 0) (hc : a_cat st ≤ 8) : a_run d MX1_exchange 18 L (v2 :: v1 :: .ref i :: st) h = a_cont d MX1_exchange (a_bk MX1_exchange 18 L st (a_call d MX1_act [.ref i, v1, v2] h)) := w_callV (as := [.ref i, v1, v2]) dX1_exchange_18 rfl rfl rfl hc (a_rcv_of hk rfl)
theorem w_X1_exchange_21 (d : Nat) (L : a_L) (x : Int32) (h : a_H) : a_run d MX1_exchange 21 L [.int x] h = some (.inl (some (.int x)), h) := w_iret dX1_exchange_21 (w_retI rfl)
theorem e_X1_fromOf (d : Nat) (x0 : Nat) (x1 : Int32) (h : a_H) : a_call (d + 1) MX1_fromOf [.ref x0, .int x1] h = a_run d MX1_fromOf 0 [some (.ref x0), some (.int x1)] [] h := a_call_run rfl (Nat.le_of_ble_eq_true rfl) rfl
theorem w_X1_fromOf_0 (d : Nat) (a1 : Option Value) (x : Nat) (st : List Value) (h : a_H) : a_run d MX1_fromOf 0 [some (.ref x), a1] st h = a_run d MX1_fromOf 1 [some (.ref x), a1] (.ref x :: st) h := w_ldAn dX1_fromOf_0 rfl
theorem w_X1_fromOf_1 (d : Nat) (L : a_L) (i : Nat) (st : List Value) (h : a_H) : a_run d MX1_fromOf 1 L (.ref i :: st) h = (a_gf h i 0 [0]).bind fun v => a_run d MX1_fromOf 4 L (v :: st) h := w_getf dX1_fromOf_1 rfl
theorem w_X1_fromOf_4 (d : Nat) (L : a_L) (i : Nat) (st : List Value) (h : a_H) : a_run d MX1_fromOf 4 L (.ref i :: st) h = (a_gf h i 0 [1]).bind fun v => a_run d MX1_fromOf 7 L (v :: st) h := w_getf dX1_fromOf_4 rfl
theorem w_X1_fromOf_7 (d : Nat) (a1 : Option Value) (x : Nat) (st : List Value) (h : a_H) : a_run d MX1_fromOf 7 [some (.ref x), a1] st h = a_run d MX1_fromOf 8 [some (.ref x), a1] (.ref x :: st) h := w_ldAn dX1_fromOf_7 rfl
theorem w_X1_fromOf_8 (d : Nat) (a0 : Option Value) (x : Int32) (st : List Value) (h : a_H) : a_run d MX1_fromOf 8 [a0, some (.int x)] st h = a_run d MX1_fromOf 9 [a0, some (.int x)] (.int x :: st) h := w_ldIn dX1_fromOf_8 rfl
theorem w_X1_fromOf_9 (d : Nat) (L : a_L) (i : Nat) (v1 : Value) (st : List Value) (h : a_H) (hk : a_kls h i = some 0) (hc : a_cat st ≤ 8) : a_run d MX1_fromOf 9 L (v1 :: .ref i :: st) h = a_cont d MX1_fromOf (a_bk MX1_fromOf 9 L st (a_call d MX1_arrowThere [.ref i, v1] h)) := w_callV (as := [.ref i, v1]) dX1_fromOf_9 rfl rfl rfl hc (a_rcv_of hk rfl)
theorem w_X1_fromOf_12 (d : Nat) (L : a_L) (x : Int32) (i : Nat) (st : List Value) (h : a_H) : a_run d MX1_fromOf 12 L (.int x :: .ref i :: st) h = (a_rdi h i a_int x).bind fun v => a_run d MX1_fromOf 13 L (v :: st) h := w_iald dX1_fromOf_12
theorem w_X1_fromOf_13 (d : Nat) (L : a_L) (x : Int32) (h : a_H) : a_run d MX1_fromOf 13 L [.int x] h = some (.inl (some (.int x)), h) := w_iret dX1_fromOf_13 (w_retI rfl)
theorem e_X1_arrowThere (d : Nat) (x0 : Nat) (x1 : Int32) (h : a_H) : a_call (d + 1) MX1_arrowThere [.ref x0, .int x1] h = a_run d MX1_arrowThere 0 [some (.ref x0), some (.int x1)] [] h := a_call_run rfl (Nat.le_of_ble_eq_true rfl) rfl
theorem w_X1_arrowThere_0 (d : Nat) (a1 : Option Value) (x : Nat) (st : List Value) (h : a_H) : a_run d MX1_arrowThere 0 [some (.ref x), a1] st h = a_run d MX1_arrowThere 1 [some (.ref x), a1] (.ref x :: st) h := w_ldAn dX1_arrowThere_0 rfl
theorem w_X1_arrowThere_1 (d : Nat) (L : a_L) (i : Nat) (st : List Value) (h : a_H) : a_run d MX1_arrowThere 1 L (.ref i :: st) h = (a_gf h i 0 [0]).bind fun v => a_run d MX1_arrowThere 4 L (v :: st) h := w_getf dX1_arrowThere_1 rfl
theorem w_X1_arrowThere_4 (d : Nat) (a0 : Option Value) (x : Int32) (st : List Value) (h : a_H) : a_run d MX1_arrowThere 4 [a0, some (.int x)] st h = a_run d MX1_arrowThere 5 [a0, some (.int x)] (.int x :: st) h := w_ldIn dX1_arrowThere_4 rfl
theorem w_X1_arrowThere_5 (d : Nat) (L : a_L) (i : Nat) (v1 : Value) (st : List Value) (h : a_H) (hk : a_kls h i = some 1) (hc : a_cat st ≤ 8) : a_run d MX1_arrowThere 5 L (v1 :: .ref i :: st) h = a_cont d MX1_arrowThere (a_bk MX1_arrowThere 5 L st (a_call d MX2_isArrow [.ref i, v1] h)) := w_callV (as := [.ref i, v1]) dX1_arrowThere_5 rfl rfl rfl hc (a_rcv_of hk rfl)
theorem w_X1_arrowThere_8 (d : Nat) (L : a_L) (v0 : Value) (st : List Value) (h : a_H) (hc : a_cat st ≤ 8) : a_run d MX1_arrowThere 8 L (v0 :: st) h = a_cont d MX1_arrowThere (a_bk MX1_arrowThere 8 L st (a_call d MX1_needArgument [v0] h)) := w_callS (as := [v0]) dX1_arrowThere_8 rfl rfl rfl hc
theorem w_X1_arrowThere_11 (d : Nat) (a0 : Option Value) (x : Int32) (st : List Value) (h : a_H) : a_run d MX1_arrowThere 11 [a0, some (.int x)] st h = a_run d MX1_arrowThere 12 [a0, some (.int x)] (.int x :: st) h := w_ldIn dX1_arrowThere_11 rfl
theorem w_X1_arrowThere_12 (d : Nat) (L : a_L) (x : Int32) (h : a_H) : a_run d MX1_arrowThere 12 L [.int x] h = some (.inl (some (.int x)), h) := w_iret dX1_arrowThere_12 (w_retI rfl)
theorem e_X1_needArgument (d : Nat) (x0 : Int32) (h : a_H) : a_call (d + 1) MX1_needArgument [.int x0] h = a_run d MX1_needArgument 0 [some (.int x0)] [] h := a_call_run rfl (Nat.le_of_ble_eq_true rfl) rfl
theorem w_X1_needArgument_0 (d : Nat) (x : Int32) (st : List Value) (h : a_H) : a_run d MX1_needArgument 0 [some (.int x)] st h = a_run d MX1_needArgument 1 [some (.int x)] (.int x :: st) h := w_ldIn dX1_needArgument_0 rfl
theorem w_X1_needArgument_1 (d : Nat) (L : a_L) (x : Int32) (st : List Value) (h : a_H) : a_run d MX1_needArgument 1 L (.int x :: st) h = if x = 0 then a_run d MX1_needArgument 4 L st h else a_run d MX1_needArgument 14 L st h := w_if_ne dX1_needArgument_1 rfl
theorem w_X1_needArgument_4 (d : Nat) (L : a_L) (st : List Value) (h : a_H) : a_run d MX1_needArgument 4 L st h = a_run d MX1_needArgument 7 L (.ref h.1 :: st) (a_add h (.inr (11, [.null, .null, .null, .null, .null, .int 0])) 6) := w_new dX1_needArgument_4 rfl rfl
theorem w_X1_needArgument_7 (d : Nat) (L : a_L) (x : Nat) (st : List Value) (h : a_H) : a_run d MX1_needArgument 7 L (.ref x :: st) h = a_run d MX1_needArgument 8 L (.ref x :: .ref x :: st) h := w_dup dX1_needArgument_7
theorem w_X1_needArgument_7I (d : Nat) (L : a_L) (x : Int32) (st : List Value) (h : a_H) : a_run d MX1_needArgument 7 L (.int x :: st) h = a_run d MX1_needArgument 8 L (.int x :: .int x :: st) h := w_dupI dX1_needArgument_7
theorem w_X1_needArgument_8 (d : Nat) (L : a_L) (st : List Value) (h : a_H) : a_run d MX1_needArgument 8 L st h = a_run d MX1_needArgument 10 L (.ref 705 :: st) h := w_ldc dX1_needArgument_8 rfl
theorem w_X1_needArgument_10 (d : Nat) (L : a_L) (i : Nat) (v1 : Value) (st : List Value) (h : a_H) (hi : 1024 ≤ i) (hc : a_cat st ≤ 8) : a_run d MX1_needArgument 10 L (v1 :: .ref i :: st) h = a_cont d MX1_needArgument (a_bk MX1_needArgument 10 L st (a_call d MJ15_init_2 [.ref i, v1] h)) := w_callI (as := [.ref i, v1]) dX1_needArgument_10 rfl rfl rfl hc (a_new0_of hi)
theorem w_X1_needArgument_13 (d : Nat) (L : a_L) (x : Nat) (st : List Value) (h : a_H) : a_run d MX1_needArgument 13 L (.ref x :: st) h = a_cont d MX1_needArgument (a_thr MX1_needArgument 13 L x h) := w_athrow dX1_needArgument_13
theorem w_X1_needArgument_14 (d : Nat) (L : a_L) (h : a_H) : a_run d MX1_needArgument 14 L [] h = some (.inl none, h) := w_vret dX1_needArgument_14 rfl
theorem e_X1_toOf (d : Nat) (x0 : Nat) (x1 : Int32) (h : a_H) : a_call (d + 1) MX1_toOf [.ref x0, .int x1] h = a_run d MX1_toOf 0 [some (.ref x0), some (.int x1)] [] h := a_call_run rfl (Nat.le_of_ble_eq_true rfl) rfl
theorem w_X1_toOf_0 (d : Nat) (a1 : Option Value) (x : Nat) (st : List Value) (h : a_H) : a_run d MX1_toOf 0 [some (.ref x), a1] st h = a_run d MX1_toOf 1 [some (.ref x), a1] (.ref x :: st) h := w_ldAn dX1_toOf_0 rfl
theorem w_X1_toOf_1 (d : Nat) (L : a_L) (i : Nat) (st : List Value) (h : a_H) : a_run d MX1_toOf 1 L (.ref i :: st) h = (a_gf h i 0 [0]).bind fun v => a_run d MX1_toOf 4 L (v :: st) h := w_getf dX1_toOf_1 rfl
theorem w_X1_toOf_4 (d : Nat) (L : a_L) (i : Nat) (st : List Value) (h : a_H) : a_run d MX1_toOf 4 L (.ref i :: st) h = (a_gf h i 1 [1]).bind fun v => a_run d MX1_toOf 7 L (v :: st) h := w_getf dX1_toOf_4 rfl
theorem w_X1_toOf_7 (d : Nat) (a1 : Option Value) (x : Nat) (st : List Value) (h : a_H) : a_run d MX1_toOf 7 [some (.ref x), a1] st h = a_run d MX1_toOf 8 [some (.ref x), a1] (.ref x :: st) h := w_ldAn dX1_toOf_7 rfl
theorem w_X1_toOf_8 (d : Nat) (a0 : Option Value) (x : Int32) (st : List Value) (h : a_H) : a_run d MX1_toOf 8 [a0, some (.int x)] st h = a_run d MX1_toOf 9 [a0, some (.int x)] (.int x :: st) h := w_ldIn dX1_toOf_8 rfl
theorem w_X1_toOf_9 (d : Nat) (L : a_L) (i : Nat) (v1 : Value) (st : List Value) (h : a_H) (hk : a_kls h i = some 0) (hc : a_cat st ≤ 8) : a_run d MX1_toOf 9 L (v1 :: .ref i :: st) h = a_cont d MX1_toOf (a_bk MX1_toOf 9 L st (a_call d MX1_arrowThere [.ref i, v1] h)) := w_callV (as := [.ref i, v1]) dX1_toOf_9 rfl rfl rfl hc (a_rcv_of hk rfl)
theorem w_X1_toOf_12 (d : Nat) (L : a_L) (x : Int32) (i : Nat) (st : List Value) (h : a_H) : a_run d MX1_toOf 12 L (.int x :: .ref i :: st) h = (a_rdi h i a_int x).bind fun v => a_run d MX1_toOf 13 L (v :: st) h := w_iald dX1_toOf_12
theorem w_X1_toOf_13 (d : Nat) (L : a_L) (x : Int32) (h : a_H) : a_run d MX1_toOf 13 L [.int x] h = some (.inl (some (.int x)), h) := w_iret dX1_toOf_13 (w_retI rfl)
theorem e_X1_whyRefused (d : Nat) (x0 : Nat) (x1 : Int32) (x2 : Int32) (h : a_H) : a_call (d + 1) MX1_whyRefused [.ref x0, .int x1, .int x2] h = a_run d MX1_whyRefused 0 [some (.ref x0), some (.int x1), some (.int x2)] [] h := a_call_run rfl (Nat.le_of_ble_eq_true rfl) rfl
theorem w_X1_whyRefused_0 (d : Nat) (a1 a2 : Option Value) (x : Nat) (st : List Value) (h : a_H) : a_run d MX1_whyRefused 0 [some (.ref x), a1, a2] st h = a_run d MX1_whyRefused 1 [some (.ref x), a1, a2] (.ref x :: st) h := w_ldAn dX1_whyRefused_0 rfl
theorem w_X1_whyRefused_1 (d : Nat) (L : a_L) (st : List Value) (h : a_H) : a_run d MX1_whyRefused 1 L st h = a_run d MX1_whyRefused 3 L (.int (nI 97) :: st) h := w_bipush dX1_whyRefused_1 rfl
theorem w_X1_whyRefused_3 (d : Nat) (L : a_L) (st : List Value) (h : a_H) : a_run d MX1_whyRefused 3 L st h = a_run d MX1_whyRefused 4 L (.int (nI 2) :: st) h := w_iconst dX1_whyRefused_3 rfl
theorem w_X1_whyRefused_4 (d : Nat) (L : a_L) (x : Int32) (st : List Value) (h : a_H) : a_run d MX1_whyRefused 4 L (.int x :: st) h = (a_newa h (newarray.typeOf .int) x).bind fun q => a_run d MX1_whyRefused 6 L (.ref q.1 :: st) q.2 := w_newa dX1_whyRefused_4
theorem w_X1_whyRefused_6 (d : Nat) (L : a_L) (x : Nat) (st : List Value) (h : a_H) : a_run d MX1_whyRefused 6 L (.ref x :: st) h = a_run d MX1_whyRefused 7 L (.ref x :: .ref x :: st) h := w_dup dX1_whyRefused_6
theorem w_X1_whyRefused_6I (d : Nat) (L : a_L) (x : Int32) (st : List Value) (h : a_H) : a_run d MX1_whyRefused 6 L (.int x :: st) h = a_run d MX1_whyRefused 7 L (.int x :: .int x :: st) h := w_dupI dX1_whyRefused_6
theorem w_X1_whyRefused_7 (d : Nat) (L : a_L) (st : List Value) (h : a_H) : a_run d MX1_whyRefused 7 L st h = a_run d MX1_whyRefused 8 L (.int (nI 0) :: st) h := w_iconst dX1_whyRefused_7 rfl
theorem w_X1_whyRefused_8 (d : Nat) (a0 a2 : Option Value) (x : Int32) (st : List Value) (h : a_H) : a_run d MX1_whyRefused 8 [a0, some (.int x), a2] st h = a_run d MX1_whyRefused 9 [a0, some (.int x), a2] (.int x :: st) h := w_ldIn dX1_whyRefused_8 rfl
theorem w_X1_whyRefused_9 (d : Nat) (L : a_L) (x y : Int32) (i : Nat) (st : List Value) (h : a_H) : a_run d MX1_whyRefused 9 L (.int y :: .int x :: .ref i :: st) h = (a_wri h i a_int x y).bind fun h' => a_run d MX1_whyRefused 10 L st h' := w_iast dX1_whyRefused_9
theorem w_X1_whyRefused_10 (d : Nat) (L : a_L) (x : Nat) (st : List Value) (h : a_H) : a_run d MX1_whyRefused 10 L (.ref x :: st) h = a_run d MX1_whyRefused 11 L (.ref x :: .ref x :: st) h := w_dup dX1_whyRefused_10
theorem w_X1_whyRefused_10I (d : Nat) (L : a_L) (x : Int32) (st : List Value) (h : a_H) : a_run d MX1_whyRefused 10 L (.int x :: st) h = a_run d MX1_whyRefused 11 L (.int x :: .int x :: st) h := w_dupI dX1_whyRefused_10
theorem w_X1_whyRefused_11 (d : Nat) (L : a_L) (st : List Value) (h : a_H) : a_run d MX1_whyRefused 11 L st h = a_run d MX1_whyRefused 12 L (.int (nI 1) :: st) h := w_iconst dX1_whyRefused_11 rfl
theorem w_X1_whyRefused_12 (d : Nat) (a0 a1 : Option Value) (x : Int32) (st : List Value) (h : a_H) : a_run d MX1_whyRefused 12 [a0, a1, some (.int x)] st h = a_run d MX1_whyRefused 13 [a0, a1, some (.int x)] (.int x :: st) h := w_ldIn dX1_whyRefused_12 rfl
theorem w_X1_whyRefused_13 (d : Nat) (L : a_L) (x y : Int32) (i : Nat) (st : List Value) (h : a_H) : a_run d MX1_whyRefused 13 L (.int y :: .int x :: .ref i :: st) h = (a_wri h i a_int x y).bind fun h' => a_run d MX1_whyRefused 14 L st h' := w_iast dX1_whyRefused_13
theorem w_X1_whyRefused_14 (d : Nat) (L : a_L) (i : Nat) (v1 v2 : Value) (st : List Value) (h : a_H) (hk : a_kls h i = some 0) (hc : a_cat st ≤ 8) : a_run d MX1_whyRefused 14 L (v2 :: v1 :: .ref i :: st) h = a_cont d MX1_whyRefused (a_bk MX1_whyRefused 14 L st (a_call d MX1_why [.ref i, v1, v2] h)) := w_callV (as := [.ref i, v1, v2]) dX1_whyRefused_14 rfl rfl rfl hc (a_rcv_of hk rfl)
theorem w_X1_whyRefused_17 (d : Nat) (L : a_L) (x : Int32) (h : a_H) : a_run d MX1_whyRefused 17 L [.int x] h = some (.inl (some (.int x)), h) := w_iret dX1_whyRefused_17 (w_retI rfl)
theorem e_X1_why (d : Nat) (x0 : Nat) (x1 : Int32) (x2 : Nat) (h : a_H) : a_call (d + 1) MX1_why [.ref x0, .int x1, .ref x2] h = a_run d MX1_why 0 [some (.ref x0), some (.int x1), some (.ref x2), none, none] [] h := a_call_run rfl (Nat.le_of_ble_eq_true rfl) rfl
theorem w_X1_why_0 (d : Nat) (L : a_L) (st : List Value) (h : a_H) : a_run d MX1_why 0 L st h = a_run d MX1_why 3 L (.ref h.1 :: st) (a_add h (.inr (1, [.null, .null, .null, .null, .null, .null, .null, .null, .null, .null, .null, .int 0, .int 0, .int 0, .int 0, .int 0])) 16) := w_new dX1_why_0 rfl rfl
theorem w_X1_why_3 (d : Nat) (L : a_L) (x : Nat) (st : List Value) (h : a_H) : a_run d MX1_why 3 L (.ref x :: st) h = a_run d MX1_why 4 L (.ref x :: .ref x :: st) h := w_dup dX1_why_3
theorem w_X1_why_3I (d : Nat) (L : a_L) (x : Int32) (st : List Value) (h : a_H) : a_run d MX1_why 3 L (.int x :: st) h = a_run d MX1_why 4 L (.int x :: .int x :: st) h := w_dupI dX1_why_3
theorem w_X1_why_4 (d : Nat) (a1 a2 a3 a4 : Option Value) (x : Nat) (st : List Value) (h : a_H) : a_run d MX1_why 4 [some (.ref x), a1, a2, a3, a4] st h = a_run d MX1_why 5 [some (.ref x), a1, a2, a3, a4] (.ref x :: st) h := w_ldAn dX1_why_4 rfl
theorem w_X1_why_5 (d : Nat) (L : a_L) (i : Nat) (st : List Value) (h : a_H) : a_run d MX1_why 5 L (.ref i :: st) h = (a_gf h i 0 [0]).bind fun v => a_run d MX1_why 8 L (v :: st) h := w_getf dX1_why_5 rfl
theorem w_X1_why_8 (d : Nat) (L : a_L) (i : Nat) (v1 : Value) (st : List Value) (h : a_H) (hi : 1024 ≤ i) (hc : a_cat st ≤ 8) : a_run d MX1_why 8 L (v1 :: .ref i :: st) h = a_cont d MX1_why (a_bk MX1_why 8 L st (a_call d MX2_init_2 [.ref i, v1] h)) := w_callI (as := [.ref i, v1]) dX1_why_8 rfl rfl rfl hc (a_new0_of hi)
theorem w_X1_why_11 (d : Nat) (a0 a1 a2 a3 a4 : Option Value) (x : Nat) (st : List Value) (h : a_H) : a_run d MX1_why 11 [a0, a1, a2, a3, a4] (.ref x :: st) h = a_run d MX1_why 12 [a0, a1, a2, some (.ref x), a4] st h := w_stAn dX1_why_11 (Nat.le_of_ble_eq_true rfl) rfl
theorem w_X1_why_11N (d : Nat) (a0 a1 a2 a3 a4 : Option Value) (st : List Value) (h : a_H) : a_run d MX1_why 11 [a0, a1, a2, a3, a4] (.null :: st) h = a_run d MX1_why 12 [a0, a1, a2, some .null, a4] st h := w_stNn dX1_why_11 (Nat.le_of_ble_eq_true rfl) rfl
theorem w_X1_why_12 (d : Nat) (a0 a1 a2 a4 : Option Value) (x : Nat) (st : List Value) (h : a_H) : a_run d MX1_why 12 [a0, a1, a2, some (.ref x), a4] st h = a_run d MX1_why 13 [a0, a1, a2, some (.ref x), a4] (.ref x :: st) h := w_ldAn dX1_why_12 rfl
theorem w_X1_why_12N (d : Nat) (a0 a1 a2 a4 : Option Value) (st : List Value) (h : a_H) : a_run d MX1_why 12 [a0, a1, a2, some .null, a4] st h = a_run d MX1_why 13 [a0, a1, a2, some .null, a4] (.null :: st) h := w_ldNn dX1_why_12 rfl
theorem w_X1_why_13 (d : Nat) (a0 a2 a3 a4 : Option Value) (x : Int32) (st : List Value) (h : a_H) : a_run d MX1_why 13 [a0, some (.int x), a2, a3, a4] st h = a_run d MX1_why 14 [a0, some (.int x), a2, a3, a4] (.int x :: st) h := w_ldIn dX1_why_13 rfl
theorem w_X1_why_14 (d : Nat) (a0 a1 a3 a4 : Option Value) (x : Nat) (st : List Value) (h : a_H) : a_run d MX1_why 14 [a0, a1, some (.ref x), a3, a4] st h = a_run d MX1_why 15 [a0, a1, some (.ref x), a3, a4] (.ref x :: st) h := w_ldAn dX1_why_14 rfl
theorem w_X1_why_14N (d : Nat) (a0 a1 a3 a4 : Option Value) (st : List Value) (h : a_H) : a_run d MX1_why 14 [a0, a1, some .null, a3, a4] st h = a_run d MX1_why 15 [a0, a1, some .null, a3, a4] (.null :: st) h := w_ldNn dX1_why_14 rfl
theorem w_X1_why_15 (d : Nat) (L : a_L) (v0 v1 v2 : Value) (st : List Value) (h : a_H) (hc : a_cat st ≤ 8) : a_run d MX1_why 15 L (v2 :: v1 :: v0 :: st) h = a_cont d MX1_why (a_bk MX1_why 15 L st (a_call d MX1_done [v0, v1, v2] h)) := w_callS (as := [v0, v1, v2]) dX1_why_15 rfl rfl rfl hc
theorem w_X1_why_18 (d : Nat) (a0 a1 a2 a3 a4 : Option Value) (x : Int32) (st : List Value) (h : a_H) : a_run d MX1_why 18 [a0, a1, a2, a3, a4] (.int x :: st) h = a_run d MX1_why 20 [a0, a1, a2, a3, some (.int x)] st h := w_stI dX1_why_18 (Nat.le_of_ble_eq_true rfl) rfl
theorem w_X1_why_20 (d : Nat) (L : a_L) (st : List Value) (h : a_H) : a_run d MX1_why 20 L st h = a_run d MX1_why 21 L (.int (nI 0) :: st) h := w_iconst dX1_why_20 rfl
theorem w_X1_why_21 (d : Nat) (L : a_L) (x : Int32) (h : a_H) : a_run d MX1_why 21 L [.int x] h = some (.inl (some (.int x)), h) := w_iret dX1_why_21 (w_retI rfl)
theorem w_X1_why_22 (d : Nat) (a0 a1 a2 a3 a4 : Option Value) (x : Nat) (st : List Value) (h : a_H) : a_run d MX1_why 22 [a0, a1, a2, a3, a4] (.ref x :: st) h = a_run d MX1_why 24 [a0, a1, a2, a3, some (.ref x)] st h := w_stA dX1_why_22 (Nat.le_of_ble_eq_true rfl) rfl
theorem w_X1_why_22N (d : Nat) (a0 a1 a2 a3 a4 : Option Value) (st : List Value) (h : a_H) : a_run d MX1_why 22 [a0, a1, a2, a3, a4] (.null :: st) h = a_run d MX1_why 24 [a0, a1, a2, a3, some .null] st h := w_stN dX1_why_22 (Nat.le_of_ble_eq_true rfl) rfl
theorem w_X1_why_24 (d : Nat) (a0 a1 a2 a3 : Option Value) (x : Nat) (st : List Value) (h : a_H) : a_run d MX1_why 24 [a0, a1, a2, a3, some (.ref x)] st h = a_run d MX1_why 26 [a0, a1, a2, a3, some (.ref x)] (.ref x :: st) h := w_ldA dX1_why_24 rfl
theorem w_X1_why_24N (d : Nat) (a0 a1 a2 a3 : Option Value) (st : List Value) (h : a_H) : a_run d MX1_why 24 [a0, a1, a2, a3, some .null] st h = a_run d MX1_why 26 [a0, a1, a2, a3, some .null] (.null :: st) h := w_ldN dX1_why_24 rfl
theorem w_X1_why_26 (d : Nat) (L : a_L) (i : Nat) (st : List Value) (h : a_H) : a_run d MX1_why 26 L (.ref i :: st) h = (a_gf h i 6 [3]).bind fun v => a_run d MX1_why 29 L (v :: st) h := w_getf dX1_why_26 rfl
theorem w_X1_why_29 (d : Nat) (L : a_L) (st : List Value) (h : a_H) : a_run d MX1_why 29 L st h = a_run d MX1_why 30 L (.int (nI 1) :: st) h := w_iconst dX1_why_29 rfl
theorem w_X1_why_30 (d : Nat) (L : a_L) (x y : Int32) (st : List Value) (h : a_H) : a_run d MX1_why 30 L (.int y :: .int x :: st) h = if x = y then a_run d MX1_why 33 L st h else a_run d MX1_why 45 L st h := w_icmp_ne dX1_why_30 rfl
theorem w_X1_why_33 (d : Nat) (L : a_L) (st : List Value) (h : a_H) : a_run d MX1_why 33 L st h = a_run d MX1_why 36 L (.ref h.1 :: st) (a_add h (.inr (11, [.null, .null, .null, .null, .null, .int 0])) 6) := w_new dX1_why_33 rfl rfl
theorem w_X1_why_36 (d : Nat) (L : a_L) (x : Nat) (st : List Value) (h : a_H) : a_run d MX1_why 36 L (.ref x :: st) h = a_run d MX1_why 37 L (.ref x :: .ref x :: st) h := w_dup dX1_why_36
theorem w_X1_why_36I (d : Nat) (L : a_L) (x : Int32) (st : List Value) (h : a_H) : a_run d MX1_why 36 L (.int x :: st) h = a_run d MX1_why 37 L (.int x :: .int x :: st) h := w_dupI dX1_why_36
theorem w_X1_why_37 (d : Nat) (L : a_L) (st : List Value) (h : a_H) : a_run d MX1_why 37 L st h = a_run d MX1_why 39 L (.ref 705 :: st) h := w_ldc dX1_why_37 rfl
theorem w_X1_why_39 (d : Nat) (a0 a1 a2 a3 : Option Value) (x : Nat) (st : List Value) (h : a_H) : a_run d MX1_why 39 [a0, a1, a2, a3, some (.ref x)] st h = a_run d MX1_why 41 [a0, a1, a2, a3, some (.ref x)] (.ref x :: st) h := w_ldA dX1_why_39 rfl
theorem w_X1_why_39N (d : Nat) (a0 a1 a2 a3 : Option Value) (st : List Value) (h : a_H) : a_run d MX1_why 39 [a0, a1, a2, a3, some .null] st h = a_run d MX1_why 41 [a0, a1, a2, a3, some .null] (.null :: st) h := w_ldN dX1_why_39 rfl
theorem w_X1_why_41 (d : Nat) (L : a_L) (i : Nat) (v1 v2 : Value) (st : List Value) (h : a_H) (hi : 1024 ≤ i) (hc : a_cat st ≤ 8) : a_run d MX1_why 41 L (v2 :: v1 :: .ref i :: st) h = a_cont d MX1_why (a_bk MX1_why 41 L st (a_call d MJ15_init [.ref i, v1, v2] h)) := w_callI (as := [.ref i, v1, v2]) dX1_why_41 rfl rfl rfl hc (a_new0_of hi)
theorem w_X1_why_44 (d : Nat) (L : a_L) (x : Nat) (st : List Value) (h : a_H) : a_run d MX1_why 44 L (.ref x :: st) h = a_cont d MX1_why (a_thr MX1_why 44 L x h) := w_athrow dX1_why_44
theorem w_X1_why_45 (d : Nat) (a0 a1 a2 a3 : Option Value) (x : Nat) (st : List Value) (h : a_H) : a_run d MX1_why 45 [a0, a1, a2, a3, some (.ref x)] st h = a_run d MX1_why 47 [a0, a1, a2, a3, some (.ref x)] (.ref x :: st) h := w_ldA dX1_why_45 rfl
theorem w_X1_why_45N (d : Nat) (a0 a1 a2 a3 : Option Value) (st : List Value) (h : a_H) : a_run d MX1_why 45 [a0, a1, a2, a3, some .null] st h = a_run d MX1_why 47 [a0, a1, a2, a3, some .null] (.null :: st) h := w_ldN dX1_why_45 rfl
theorem w_X1_why_47 (d : Nat) (L : a_L) (v0 : Value) (st : List Value) (h : a_H) (hc : a_cat st ≤ 8) : a_run d MX1_why 47 L (v0 :: st) h = a_cont d MX1_why (a_bk MX1_why 47 L st (a_call d MX1_told [v0] h)) := w_callS (as := [v0]) dX1_why_47 rfl rfl rfl hc
theorem w_X1_why_50 (d : Nat) (L : a_L) (x : Int32) (h : a_H) : a_run d MX1_why 50 L [.int x] h = some (.inl (some (.int x)), h) := w_iret dX1_why_50 (w_retI rfl)
theorem e_X1_told (d : Nat) (x0 : Nat) (h : a_H) : a_call (d + 1) MX1_told [.ref x0] h = a_run d MX1_told 0 [some (.ref x0), none, none] [] h := a_call_run rfl (Nat.le_of_ble_eq_true rfl) rfl
theorem w_X1_told_0 (d : Nat) (L : a_L) (st : List Value) (h : a_H) : a_run d MX1_told 0 L st h = a_run d MX1_told 1 L (.int (nI 0) :: st) h := w_iconst dX1_told_0 rfl
theorem w_X1_told_1 (d : Nat) (a0 a1 a2 : Option Value) (x : Int32) (st : List Value) (h : a_H) : a_run d MX1_told 1 [a0, a1, a2] (.int x :: st) h = a_run d MX1_told 2 [a0, some (.int x), a2] st h := w_stIn dX1_told_1 (Nat.le_of_ble_eq_true rfl) rfl
theorem w_X1_told_2 (d : Nat) (a1 a2 : Option Value) (x : Nat) (st : List Value) (h : a_H) : a_run d MX1_told 2 [some (.ref x), a1, a2] st h = a_run d MX1_told 3 [some (.ref x), a1, a2] (.ref x :: st) h := w_ldAn dX1_told_2 rfl
theorem w_X1_told_3 (d : Nat) (a0 a1 a2 : Option Value) (x : Nat) (st : List Value) (h : a_H) : a_run d MX1_told 3 [a0, a1, a2] (.ref x :: st) h = a_run d MX1_told 4 [a0, a1, some (.ref x)] st h := w_stAn dX1_told_3 (Nat.le_of_ble_eq_true rfl) rfl
theorem w_X1_told_3N (d : Nat) (a0 a1 a2 : Option Value) (st : List Value) (h : a_H) : a_run d MX1_told 3 [a0, a1, a2] (.null :: st) h = a_run d MX1_told 4 [a0, a1, some .null] st h := w_stNn dX1_told_3 (Nat.le_of_ble_eq_true rfl) rfl
theorem w_X1_told_4 (d : Nat) (a0 a1 : Option Value) (x : Nat) (st : List Value) (h : a_H) : a_run d MX1_told 4 [a0, a1, some (.ref x)] st h = a_run d MX1_told 5 [a0, a1, some (.ref x)] (.ref x :: st) h := w_ldAn dX1_told_4 rfl
theorem w_X1_told_4N (d : Nat) (a0 a1 : Option Value) (st : List Value) (h : a_H) : a_run d MX1_told 4 [a0, a1, some .null] st h = a_run d MX1_told 5 [a0, a1, some .null] (.null :: st) h := w_ldNn dX1_told_4 rfl
theorem w_X1_told_5 (d : Nat) (L : a_L) (x : Nat) (st : List Value) (h : a_H) (hx : 1024 ≤ x) : a_run d MX1_told 5 L (.ref x :: st) h = a_run d MX1_told 8 L st h := w_ifnull_r (tgt := 57) dX1_told_5 rfl hx
theorem w_X1_told_5N (d : Nat) (L : a_L) (st : List Value) (h : a_H) : a_run d MX1_told 5 L (.null :: st) h = a_run d MX1_told 57 L st h := w_ifnull_n dX1_told_5 rfl
theorem w_X1_told_8 (d : Nat) (a0 a2 : Option Value) (x : Int32) (st : List Value) (h : a_H) : a_run d MX1_told 8 [a0, some (.int x), a2] st h = a_run d MX1_told 9 [a0, some (.int x), a2] (.int x :: st) h := w_ldIn dX1_told_8 rfl
theorem w_X1_told_9 (d : Nat) (a0 a1 : Option Value) (x : Nat) (st : List Value) (h : a_H) : a_run d MX1_told 9 [a0, a1, some (.ref x)] st h = a_run d MX1_told 10 [a0, a1, some (.ref x)] (.ref x :: st) h := w_ldAn dX1_told_9 rfl
theorem w_X1_told_9N (d : Nat) (a0 a1 : Option Value) (st : List Value) (h : a_H) : a_run d MX1_told 9 [a0, a1, some .null] st h = a_run d MX1_told 10 [a0, a1, some .null] (.null :: st) h := w_ldNn dX1_told_9 rfl
theorem w_X1_told_10 (d : Nat) (L : a_L) (i c : Nat) (b : Bool) (st : List Value) (h : a_H) (hk : a_kls h i = some c) (hc : k_cast c 5 = some b) : a_run d MX1_told 10 L (.ref i :: st) h = a_run d MX1_told 13 L (.int (if b = true then 1 else 0) :: st) h := w_inst dX1_told_10 rfl hk hc
theorem w_X1_told_13 (d : Nat) (L : a_L) (x : Int32) (st : List Value) (h : a_H) : a_run d MX1_told 13 L (.int x :: st) h = if x = 0 then a_run d MX1_told 29 L st h else a_run d MX1_told 16 L st h := w_if_eq dX1_told_13 rfl
theorem w_X1_told_16 (d : Nat) (L : a_L) (st : List Value) (h : a_H) : a_run d MX1_told 16 L st h = a_run d MX1_told 18 L (.int (nI 10) :: st) h := w_bipush dX1_told_16 rfl
theorem w_X1_told_18 (d : Nat) (a0 a1 : Option Value) (x : Nat) (st : List Value) (h : a_H) : a_run d MX1_told 18 [a0, a1, some (.ref x)] st h = a_run d MX1_told 19 [a0, a1, some (.ref x)] (.ref x :: st) h := w_ldAn dX1_told_18 rfl
theorem w_X1_told_18N (d : Nat) (a0 a1 : Option Value) (st : List Value) (h : a_H) : a_run d MX1_told 18 [a0, a1, some .null] st h = a_run d MX1_told 19 [a0, a1, some .null] (.null :: st) h := w_ldNn dX1_told_18 rfl
theorem w_X1_told_19 (d : Nat) (L : a_L) (i c : Nat) (st : List Value) (h : a_H) (hk : a_kls h i = some c) (hc : k_cast c 5 = some true) : a_run d MX1_told 19 L (.ref i :: st) h = a_run d MX1_told 22 L (.ref i :: st) h := w_cast dX1_told_19 rfl hk hc
theorem w_X1_told_19N (d : Nat) (L : a_L) (st : List Value) (h : a_H) : a_run d MX1_told 19 L (.null :: st) h = a_run d MX1_told 22 L (.null :: st) h := w_castN dX1_told_19 rfl
theorem w_X1_told_22 (d : Nat) (L : a_L) (i : Nat) (st : List Value) (h : a_H) : a_run d MX1_told 22 L (.ref i :: st) h = (a_gf h i 6 [5]).bind fun v => a_run d MX1_told 25 L (v :: st) h := w_getf dX1_told_22 rfl
theorem w_X1_told_25 (d : Nat) (L : a_L) (x y : Int32) (st : List Value) (h : a_H) : a_run d MX1_told 25 L (.int y :: .int x :: st) h = a_run d MX1_told 26 L (.int (x * y) :: st) h := w_imul dX1_told_25
theorem w_X1_told_26 (d : Nat) (L : a_L) (st : List Value) (h : a_H) : a_run d MX1_told 26 L st h = a_run d MX1_told 47 L st h := w_goto dX1_told_26 rfl
theorem w_X1_told_29 (d : Nat) (a0 a1 : Option Value) (x : Nat) (st : List Value) (h : a_H) : a_run d MX1_told 29 [a0, a1, some (.ref x)] st h = a_run d MX1_told 30 [a0, a1, some (.ref x)] (.ref x :: st) h := w_ldAn dX1_told_29 rfl
theorem w_X1_told_29N (d : Nat) (a0 a1 : Option Value) (st : List Value) (h : a_H) : a_run d MX1_told 29 [a0, a1, some .null] st h = a_run d MX1_told 30 [a0, a1, some .null] (.null :: st) h := w_ldNn dX1_told_29 rfl
theorem w_X1_told_30 (d : Nat) (L : a_L) (i c : Nat) (b : Bool) (st : List Value) (h : a_H) (hk : a_kls h i = some c) (hc : k_cast c 4 = some b) : a_run d MX1_told 30 L (.ref i :: st) h = a_run d MX1_told 33 L (.int (if b = true then 1 else 0) :: st) h := w_inst dX1_told_30 rfl hk hc
theorem w_X1_told_33 (d : Nat) (L : a_L) (x : Int32) (st : List Value) (h : a_H) : a_run d MX1_told 33 L (.int x :: st) h = if x = 0 then a_run d MX1_told 46 L st h else a_run d MX1_told 36 L st h := w_if_eq dX1_told_33 rfl
theorem w_X1_told_36 (d : Nat) (a0 a1 : Option Value) (x : Nat) (st : List Value) (h : a_H) : a_run d MX1_told 36 [a0, a1, some (.ref x)] st h = a_run d MX1_told 37 [a0, a1, some (.ref x)] (.ref x :: st) h := w_ldAn dX1_told_36 rfl
theorem w_X1_told_36N (d : Nat) (a0 a1 : Option Value) (st : List Value) (h : a_H) : a_run d MX1_told 36 [a0, a1, some .null] st h = a_run d MX1_told 37 [a0, a1, some .null] (.null :: st) h := w_ldNn dX1_told_36 rfl
theorem w_X1_told_37 (d : Nat) (L : a_L) (i c : Nat) (st : List Value) (h : a_H) (hk : a_kls h i = some c) (hc : k_cast c 4 = some true) : a_run d MX1_told 37 L (.ref i :: st) h = a_run d MX1_told 40 L (.ref i :: st) h := w_cast dX1_told_37 rfl hk hc
theorem w_X1_told_37N (d : Nat) (L : a_L) (st : List Value) (h : a_H) : a_run d MX1_told 37 L (.null :: st) h = a_run d MX1_told 40 L (.null :: st) h := w_castN dX1_told_37 rfl
theorem w_X1_told_40 (d : Nat) (L : a_L) (i : Nat) (st : List Value) (h : a_H) : a_run d MX1_told 40 L (.ref i :: st) h = (a_gf h i 6 [4]).bind fun v => a_run d MX1_told 43 L (v :: st) h := w_getf dX1_told_40 rfl
theorem w_X1_told_43 (d : Nat) (L : a_L) (st : List Value) (h : a_H) : a_run d MX1_told 43 L st h = a_run d MX1_told 47 L st h := w_goto dX1_told_43 rfl
theorem w_X1_told_46 (d : Nat) (L : a_L) (st : List Value) (h : a_H) : a_run d MX1_told 46 L st h = a_run d MX1_told 47 L (.int (nI 0) :: st) h := w_iconst dX1_told_46 rfl
theorem w_X1_told_47 (d : Nat) (L : a_L) (x y : Int32) (st : List Value) (h : a_H) : a_run d MX1_told 47 L (.int y :: .int x :: st) h = a_run d MX1_told 48 L (.int (x + y) :: st) h := w_iadd dX1_told_47
theorem w_X1_told_48 (d : Nat) (a0 a1 a2 : Option Value) (x : Int32) (st : List Value) (h : a_H) : a_run d MX1_told 48 [a0, a1, a2] (.int x :: st) h = a_run d MX1_told 49 [a0, some (.int x), a2] st h := w_stIn dX1_told_48 (Nat.le_of_ble_eq_true rfl) rfl
theorem w_X1_told_49 (d : Nat) (a0 a1 : Option Value) (x : Nat) (st : List Value) (h : a_H) : a_run d MX1_told 49 [a0, a1, some (.ref x)] st h = a_run d MX1_told 50 [a0, a1, some (.ref x)] (.ref x :: st) h := w_ldAn dX1_told_49 rfl
theorem w_X1_told_49N (d : Nat) (a0 a1 : Option Value) (st : List Value) (h : a_H) : a_run d MX1_told 49 [a0, a1, some .null] st h = a_run d MX1_told 50 [a0, a1, some .null] (.null :: st) h := w_ldNn dX1_told_49 rfl
theorem w_X1_told_50 (d : Nat) (L : a_L) (i : Nat) (v : Value) (st : List Value) (h : a_H) (hi : 1024 ≤ i) (hc : a_cat st ≤ 8) (hv : a_gf h i 0 [3, 4, 5, 9, 10, 11] = some v) (hA : a_isA v = true) : a_run d MX1_told 50 L (.ref i :: st) h = a_run d MX1_told 53 L ((if v = .ref i then .null else v) :: st) h := w_gca dX1_told_50 rfl hi hc hv hA
theorem w_X1_told_53 (d : Nat) (a0 a1 a2 : Option Value) (x : Nat) (st : List Value) (h : a_H) : a_run d MX1_told 53 [a0, a1, a2] (.ref x :: st) h = a_run d MX1_told 54 [a0, a1, some (.ref x)] st h := w_stAn dX1_told_53 (Nat.le_of_ble_eq_true rfl) rfl
theorem w_X1_told_53N (d : Nat) (a0 a1 a2 : Option Value) (st : List Value) (h : a_H) : a_run d MX1_told 53 [a0, a1, a2] (.null :: st) h = a_run d MX1_told 54 [a0, a1, some .null] st h := w_stNn dX1_told_53 (Nat.le_of_ble_eq_true rfl) rfl
theorem w_X1_told_54 (d : Nat) (L : a_L) (st : List Value) (h : a_H) : a_run d MX1_told 54 L st h = a_run d MX1_told 4 L st h := w_goto dX1_told_54 rfl
theorem w_X1_told_57 (d : Nat) (a0 a2 : Option Value) (x : Int32) (st : List Value) (h : a_H) : a_run d MX1_told 57 [a0, some (.int x), a2] st h = a_run d MX1_told 58 [a0, some (.int x), a2] (.int x :: st) h := w_ldIn dX1_told_57 rfl
theorem w_X1_told_58 (d : Nat) (L : a_L) (x : Int32) (h : a_H) : a_run d MX1_told 58 L [.int x] h = some (.inl (some (.int x)), h) := w_iret dX1_told_58 (w_retI rfl)
theorem e_X1_whyNoChain (d : Nat) (x0 : Nat) (x1 : Int32) (x2 : Int32) (x3 : Int32) (h : a_H) : a_call (d + 1) MX1_whyNoChain [.ref x0, .int x1, .int x2, .int x3] h = a_run d MX1_whyNoChain 0 [some (.ref x0), some (.int x1), some (.int x2), some (.int x3)] [] h := a_call_run rfl (Nat.le_of_ble_eq_true rfl) rfl
theorem w_X1_whyNoChain_0 (d : Nat) (a1 a2 a3 : Option Value) (x : Nat) (st : List Value) (h : a_H) : a_run d MX1_whyNoChain 0 [some (.ref x), a1, a2, a3] st h = a_run d MX1_whyNoChain 1 [some (.ref x), a1, a2, a3] (.ref x :: st) h := w_ldAn dX1_whyNoChain_0 rfl
theorem w_X1_whyNoChain_1 (d : Nat) (L : a_L) (st : List Value) (h : a_H) : a_run d MX1_whyNoChain 1 L st h = a_run d MX1_whyNoChain 3 L (.int (nI 99) :: st) h := w_bipush dX1_whyNoChain_1 rfl
theorem w_X1_whyNoChain_3 (d : Nat) (L : a_L) (st : List Value) (h : a_H) : a_run d MX1_whyNoChain 3 L st h = a_run d MX1_whyNoChain 4 L (.int (nI 3) :: st) h := w_iconst dX1_whyNoChain_3 rfl
theorem w_X1_whyNoChain_4 (d : Nat) (L : a_L) (x : Int32) (st : List Value) (h : a_H) : a_run d MX1_whyNoChain 4 L (.int x :: st) h = (a_newa h (newarray.typeOf .int) x).bind fun q => a_run d MX1_whyNoChain 6 L (.ref q.1 :: st) q.2 := w_newa dX1_whyNoChain_4
theorem w_X1_whyNoChain_6 (d : Nat) (L : a_L) (x : Nat) (st : List Value) (h : a_H) : a_run d MX1_whyNoChain 6 L (.ref x :: st) h = a_run d MX1_whyNoChain 7 L (.ref x :: .ref x :: st) h := w_dup dX1_whyNoChain_6
theorem w_X1_whyNoChain_6I (d : Nat) (L : a_L) (x : Int32) (st : List Value) (h : a_H) : a_run d MX1_whyNoChain 6 L (.int x :: st) h = a_run d MX1_whyNoChain 7 L (.int x :: .int x :: st) h := w_dupI dX1_whyNoChain_6
theorem w_X1_whyNoChain_7 (d : Nat) (L : a_L) (st : List Value) (h : a_H) : a_run d MX1_whyNoChain 7 L st h = a_run d MX1_whyNoChain 8 L (.int (nI 0) :: st) h := w_iconst dX1_whyNoChain_7 rfl
theorem w_X1_whyNoChain_8 (d : Nat) (a0 a2 a3 : Option Value) (x : Int32) (st : List Value) (h : a_H) : a_run d MX1_whyNoChain 8 [a0, some (.int x), a2, a3] st h = a_run d MX1_whyNoChain 9 [a0, some (.int x), a2, a3] (.int x :: st) h := w_ldIn dX1_whyNoChain_8 rfl
theorem w_X1_whyNoChain_9 (d : Nat) (L : a_L) (x y : Int32) (i : Nat) (st : List Value) (h : a_H) : a_run d MX1_whyNoChain 9 L (.int y :: .int x :: .ref i :: st) h = (a_wri h i a_int x y).bind fun h' => a_run d MX1_whyNoChain 10 L st h' := w_iast dX1_whyNoChain_9
theorem w_X1_whyNoChain_10 (d : Nat) (L : a_L) (x : Nat) (st : List Value) (h : a_H) : a_run d MX1_whyNoChain 10 L (.ref x :: st) h = a_run d MX1_whyNoChain 11 L (.ref x :: .ref x :: st) h := w_dup dX1_whyNoChain_10
theorem w_X1_whyNoChain_10I (d : Nat) (L : a_L) (x : Int32) (st : List Value) (h : a_H) : a_run d MX1_whyNoChain 10 L (.int x :: st) h = a_run d MX1_whyNoChain 11 L (.int x :: .int x :: st) h := w_dupI dX1_whyNoChain_10
theorem w_X1_whyNoChain_11 (d : Nat) (L : a_L) (st : List Value) (h : a_H) : a_run d MX1_whyNoChain 11 L st h = a_run d MX1_whyNoChain 12 L (.int (nI 1) :: st) h := w_iconst dX1_whyNoChain_11 rfl
theorem w_X1_whyNoChain_12 (d : Nat) (a0 a1 a3 : Option Value) (x : Int32) (st : List Value) (h : a_H) : a_run d MX1_whyNoChain 12 [a0, a1, some (.int x), a3] st h = a_run d MX1_whyNoChain 13 [a0, a1, some (.int x), a3] (.int x :: st) h := w_ldIn dX1_whyNoChain_12 rfl
theorem w_X1_whyNoChain_13 (d : Nat) (L : a_L) (x y : Int32) (i : Nat) (st : List Value) (h : a_H) : a_run d MX1_whyNoChain 13 L (.int y :: .int x :: .ref i :: st) h = (a_wri h i a_int x y).bind fun h' => a_run d MX1_whyNoChain 14 L st h' := w_iast dX1_whyNoChain_13
theorem w_X1_whyNoChain_14 (d : Nat) (L : a_L) (x : Nat) (st : List Value) (h : a_H) : a_run d MX1_whyNoChain 14 L (.ref x :: st) h = a_run d MX1_whyNoChain 15 L (.ref x :: .ref x :: st) h := w_dup dX1_whyNoChain_14
theorem w_X1_whyNoChain_14I (d : Nat) (L : a_L) (x : Int32) (st : List Value) (h : a_H) : a_run d MX1_whyNoChain 14 L (.int x :: st) h = a_run d MX1_whyNoChain 15 L (.int x :: .int x :: st) h := w_dupI dX1_whyNoChain_14
theorem w_X1_whyNoChain_15 (d : Nat) (L : a_L) (st : List Value) (h : a_H) : a_run d MX1_whyNoChain 15 L st h = a_run d MX1_whyNoChain 16 L (.int (nI 2) :: st) h := w_iconst dX1_whyNoChain_15 rfl
theorem w_X1_whyNoChain_16 (d : Nat) (a0 a1 a2 : Option Value) (x : Int32) (st : List Value) (h : a_H) : a_run d MX1_whyNoChain 16 [a0, a1, a2, some (.int x)] st h = a_run d MX1_whyNoChain 17 [a0, a1, a2, some (.int x)] (.int x :: st) h := w_ldIn dX1_whyNoChain_16 rfl
theorem w_X1_whyNoChain_17 (d : Nat) (L : a_L) (x y : Int32) (i : Nat) (st : List Value) (h : a_H) : a_run d MX1_whyNoChain 17 L (.int y :: .int x :: .ref i :: st) h = (a_wri h i a_int x y).bind fun h' => a_run d MX1_whyNoChain 18 L st h' := w_iast dX1_whyNoChain_17
theorem w_X1_whyNoChain_18 (d : Nat) (L : a_L) (i : Nat) (v1 v2 : Value) (st : List Value) (h : a_H) (hk : a_kls h i = some 0) (hc : a_cat st ≤ 8) : a_run d MX1_whyNoChain 18 L (v2 :: v1 :: .ref i :: st) h = a_cont d MX1_whyNoChain (a_bk MX1_whyNoChain 18 L st (a_call d MX1_why [.ref i, v1, v2] h)) := w_callV (as := [.ref i, v1, v2]) dX1_whyNoChain_18 rfl rfl rfl hc (a_rcv_of hk rfl)
theorem w_X1_whyNoChain_21 (d : Nat) (L : a_L) (x : Int32) (h : a_H) : a_run d MX1_whyNoChain 21 L [.int x] h = some (.inl (some (.int x)), h) := w_iret dX1_whyNoChain_21 (w_retI rfl)
theorem e_X1_doesHear (d : Nat) (x0 : Nat) (x1 : Int32) (x2 : Int32) (h : a_H) : a_call (d + 1) MX1_doesHear [.ref x0, .int x1, .int x2] h = a_run d MX1_doesHear 0 [some (.ref x0), some (.int x1), some (.int x2)] [] h := a_call_run rfl (Nat.le_of_ble_eq_true rfl) rfl
theorem w_X1_doesHear_0 (d : Nat) (a1 a2 : Option Value) (x : Nat) (st : List Value) (h : a_H) : a_run d MX1_doesHear 0 [some (.ref x), a1, a2] st h = a_run d MX1_doesHear 1 [some (.ref x), a1, a2] (.ref x :: st) h := w_ldAn dX1_doesHear_0 rfl
theorem w_X1_doesHear_1 (d : Nat) (L : a_L) (i : Nat) (st : List Value) (h : a_H) : a_run d MX1_doesHear 1 L (.ref i :: st) h = (a_gf h i 0 [0]).bind fun v => a_run d MX1_doesHear 4 L (v :: st) h := w_getf dX1_doesHear_1 rfl
theorem w_X1_doesHear_4 (d : Nat) (a0 a2 : Option Value) (x : Int32) (st : List Value) (h : a_H) : a_run d MX1_doesHear 4 [a0, some (.int x), a2] st h = a_run d MX1_doesHear 5 [a0, some (.int x), a2] (.int x :: st) h := w_ldIn dX1_doesHear_4 rfl
theorem w_X1_doesHear_5 (d : Nat) (L : a_L) (i : Nat) (v1 : Value) (st : List Value) (h : a_H) (hk : a_kls h i = some 1) (hc : a_cat st ≤ 8) : a_run d MX1_doesHear 5 L (v1 :: .ref i :: st) h = a_cont d MX1_doesHear (a_bk MX1_doesHear 5 L st (a_call d MX2_isBox [.ref i, v1] h)) := w_callV (as := [.ref i, v1]) dX1_doesHear_5 rfl rfl rfl hc (a_rcv_of hk rfl)
theorem w_X1_doesHear_8 (d : Nat) (L : a_L) (x : Int32) (st : List Value) (h : a_H) : a_run d MX1_doesHear 8 L (.int x :: st) h = if x = 0 then a_run d MX1_doesHear 26 L st h else a_run d MX1_doesHear 11 L st h := w_if_eq dX1_doesHear_8 rfl
theorem w_X1_doesHear_11 (d : Nat) (a1 a2 : Option Value) (x : Nat) (st : List Value) (h : a_H) : a_run d MX1_doesHear 11 [some (.ref x), a1, a2] st h = a_run d MX1_doesHear 12 [some (.ref x), a1, a2] (.ref x :: st) h := w_ldAn dX1_doesHear_11 rfl
theorem w_X1_doesHear_12 (d : Nat) (L : a_L) (i : Nat) (st : List Value) (h : a_H) : a_run d MX1_doesHear 12 L (.ref i :: st) h = (a_gf h i 0 [0]).bind fun v => a_run d MX1_doesHear 15 L (v :: st) h := w_getf dX1_doesHear_12 rfl
theorem w_X1_doesHear_15 (d : Nat) (a0 a1 : Option Value) (x : Int32) (st : List Value) (h : a_H) : a_run d MX1_doesHear 15 [a0, a1, some (.int x)] st h = a_run d MX1_doesHear 16 [a0, a1, some (.int x)] (.int x :: st) h := w_ldIn dX1_doesHear_15 rfl
theorem w_X1_doesHear_16 (d : Nat) (L : a_L) (i : Nat) (v1 : Value) (st : List Value) (h : a_H) (hk : a_kls h i = some 1) (hc : a_cat st ≤ 8) : a_run d MX1_doesHear 16 L (v1 :: .ref i :: st) h = a_cont d MX1_doesHear (a_bk MX1_doesHear 16 L st (a_call d MX2_isBox [.ref i, v1] h)) := w_callV (as := [.ref i, v1]) dX1_doesHear_16 rfl rfl rfl hc (a_rcv_of hk rfl)
theorem w_X1_doesHear_19 (d : Nat) (L : a_L) (x : Int32) (st : List Value) (h : a_H) : a_run d MX1_doesHear 19 L (.int x :: st) h = if x = 0 then a_run d MX1_doesHear 26 L st h else a_run d MX1_doesHear 22 L st h := w_if_eq dX1_doesHear_19 rfl
theorem w_X1_doesHear_22 (d : Nat) (L : a_L) (st : List Value) (h : a_H) : a_run d MX1_doesHear 22 L st h = a_run d MX1_doesHear 23 L (.int (nI 1) :: st) h := w_iconst dX1_doesHear_22 rfl
theorem w_X1_doesHear_23 (d : Nat) (L : a_L) (st : List Value) (h : a_H) : a_run d MX1_doesHear 23 L st h = a_run d MX1_doesHear 27 L st h := w_goto dX1_doesHear_23 rfl
theorem w_X1_doesHear_26 (d : Nat) (L : a_L) (st : List Value) (h : a_H) : a_run d MX1_doesHear 26 L st h = a_run d MX1_doesHear 27 L (.int (nI 0) :: st) h := w_iconst dX1_doesHear_26 rfl
theorem w_X1_doesHear_27 (d : Nat) (L : a_L) (v0 : Value) (st : List Value) (h : a_H) (hc : a_cat st ≤ 8) : a_run d MX1_doesHear 27 L (v0 :: st) h = a_cont d MX1_doesHear (a_bk MX1_doesHear 27 L st (a_call d MX1_needArgument [v0] h)) := w_callS (as := [v0]) dX1_doesHear_27 rfl rfl rfl hc
theorem w_X1_doesHear_30 (d : Nat) (a1 a2 : Option Value) (x : Nat) (st : List Value) (h : a_H) : a_run d MX1_doesHear 30 [some (.ref x), a1, a2] st h = a_run d MX1_doesHear 31 [some (.ref x), a1, a2] (.ref x :: st) h := w_ldAn dX1_doesHear_30 rfl
theorem w_X1_doesHear_31 (d : Nat) (L : a_L) (i : Nat) (st : List Value) (h : a_H) : a_run d MX1_doesHear 31 L (.ref i :: st) h = (a_gf h i 0 [0]).bind fun v => a_run d MX1_doesHear 34 L (v :: st) h := w_getf dX1_doesHear_31 rfl
theorem w_X1_doesHear_34 (d : Nat) (a0 a2 : Option Value) (x : Int32) (st : List Value) (h : a_H) : a_run d MX1_doesHear 34 [a0, some (.int x), a2] st h = a_run d MX1_doesHear 35 [a0, some (.int x), a2] (.int x :: st) h := w_ldIn dX1_doesHear_34 rfl
theorem w_X1_doesHear_35 (d : Nat) (a0 a1 : Option Value) (x : Int32) (st : List Value) (h : a_H) : a_run d MX1_doesHear 35 [a0, a1, some (.int x)] st h = a_run d MX1_doesHear 36 [a0, a1, some (.int x)] (.int x :: st) h := w_ldIn dX1_doesHear_35 rfl
theorem w_X1_doesHear_36 (d : Nat) (L : a_L) (st : List Value) (h : a_H) : a_run d MX1_doesHear 36 L st h = a_run d MX1_doesHear 37 L (.int ((-1)) :: st) h := w_iconst dX1_doesHear_36 rfl
theorem w_X1_doesHear_37 (d : Nat) (L : a_L) (i : Nat) (v1 v2 v3 : Value) (st : List Value) (h : a_H) (hk : a_kls h i = some 1) (hc : a_cat st ≤ 8) : a_run d MX1_doesHear 37 L (v3 :: v2 :: v1 :: .ref i :: st) h = a_cont d MX1_doesHear (a_bk MX1_doesHear 37 L st (a_call d MX2_listens [.ref i, v1, v2, v3] h)) := w_callV (as := [.ref i, v1, v2, v3]) dX1_doesHear_37 rfl rfl rfl hc (a_rcv_of hk rfl)
theorem w_X1_doesHear_40 (d : Nat) (L : a_L) (x : Int32) (h : a_H) (hx : x = 0 ∨ x = 1) : a_run d MX1_doesHear 40 L [.int x] h = some (.inl (some (.int x)), h) := w_iret dX1_doesHear_40 (w_retZ rfl hx)
theorem e_X1_hears (d : Nat) (x0 : Nat) (x1 : Int32) (h : a_H) : a_call (d + 1) MX1_hears [.ref x0, .int x1] h = a_run d MX1_hears 0 [some (.ref x0), some (.int x1)] [] h := a_call_run rfl (Nat.le_of_ble_eq_true rfl) rfl
theorem w_X1_hears_0 (d : Nat) (a1 : Option Value) (x : Nat) (st : List Value) (h : a_H) : a_run d MX1_hears 0 [some (.ref x), a1] st h = a_run d MX1_hears 1 [some (.ref x), a1] (.ref x :: st) h := w_ldAn dX1_hears_0 rfl
theorem w_X1_hears_1 (d : Nat) (L : a_L) (i : Nat) (st : List Value) (h : a_H) : a_run d MX1_hears 1 L (.ref i :: st) h = (a_gf h i 0 [0]).bind fun v => a_run d MX1_hears 4 L (v :: st) h := w_getf dX1_hears_1 rfl
theorem w_X1_hears_4 (d : Nat) (a1 : Option Value) (x : Nat) (st : List Value) (h : a_H) : a_run d MX1_hears 4 [some (.ref x), a1] st h = a_run d MX1_hears 5 [some (.ref x), a1] (.ref x :: st) h := w_ldAn dX1_hears_4 rfl
theorem w_X1_hears_5 (d : Nat) (a0 : Option Value) (x : Int32) (st : List Value) (h : a_H) : a_run d MX1_hears 5 [a0, some (.int x)] st h = a_run d MX1_hears 6 [a0, some (.int x)] (.int x :: st) h := w_ldIn dX1_hears_5 rfl
theorem w_X1_hears_6 (d : Nat) (L : a_L) (i : Nat) (v1 : Value) (st : List Value) (h : a_H) (hk : a_kls h i = some 0) (hc : a_cat st ≤ 8) : a_run d MX1_hears 6 L (v1 :: .ref i :: st) h = a_cont d MX1_hears (a_bk MX1_hears 6 L st (a_call d MX1_known [.ref i, v1] h)) := w_callV (as := [.ref i, v1]) dX1_hears_6 rfl rfl rfl hc (a_rcv_of hk rfl)
theorem w_X1_hears_9 (d : Nat) (L : a_L) (i : Nat) (v1 : Value) (st : List Value) (h : a_H) (hk : a_kls h i = some 1) (hc : a_cat st ≤ 8) : a_run d MX1_hears 9 L (v1 :: .ref i :: st) h = a_cont d MX1_hears (a_bk MX1_hears 9 L st (a_call d MX2_heard [.ref i, v1] h)) := w_callV (as := [.ref i, v1]) dX1_hears_9 rfl rfl rfl hc (a_rcv_of hk rfl)
theorem w_X1_hears_12 (d : Nat) (L : a_L) (x : Int32) (h : a_H) : a_run d MX1_hears 12 L [.int x] h = some (.inl (some (.int x)), h) := w_iret dX1_hears_12 (w_retI rfl)
theorem e_X1_known (d : Nat) (x0 : Nat) (x1 : Int32) (h : a_H) : a_call (d + 1) MX1_known [.ref x0, .int x1] h = a_run d MX1_known 0 [some (.ref x0), some (.int x1)] [] h := a_call_run rfl (Nat.le_of_ble_eq_true rfl) rfl
theorem w_X1_known_0 (d : Nat) (a1 : Option Value) (x : Nat) (st : List Value) (h : a_H) : a_run d MX1_known 0 [some (.ref x), a1] st h = a_run d MX1_known 1 [some (.ref x), a1] (.ref x :: st) h := w_ldAn dX1_known_0 rfl
theorem w_X1_known_1 (d : Nat) (L : a_L) (i : Nat) (st : List Value) (h : a_H) : a_run d MX1_known 1 L (.ref i :: st) h = (a_gf h i 0 [0]).bind fun v => a_run d MX1_known 4 L (v :: st) h := w_getf dX1_known_1 rfl
theorem w_X1_known_4 (d : Nat) (a0 : Option Value) (x : Int32) (st : List Value) (h : a_H) : a_run d MX1_known 4 [a0, some (.int x)] st h = a_run d MX1_known 5 [a0, some (.int x)] (.int x :: st) h := w_ldIn dX1_known_4 rfl
theorem w_X1_known_5 (d : Nat) (L : a_L) (i : Nat) (v1 : Value) (st : List Value) (h : a_H) (hk : a_kls h i = some 1) (hc : a_cat st ≤ 8) : a_run d MX1_known 5 L (v1 :: .ref i :: st) h = a_cont d MX1_known (a_bk MX1_known 5 L st (a_call d MX2_isBox [.ref i, v1] h)) := w_callV (as := [.ref i, v1]) dX1_known_5 rfl rfl rfl hc (a_rcv_of hk rfl)
theorem w_X1_known_8 (d : Nat) (L : a_L) (v0 : Value) (st : List Value) (h : a_H) (hc : a_cat st ≤ 8) : a_run d MX1_known 8 L (v0 :: st) h = a_cont d MX1_known (a_bk MX1_known 8 L st (a_call d MX1_needArgument [v0] h)) := w_callS (as := [v0]) dX1_known_8 rfl rfl rfl hc
theorem w_X1_known_11 (d : Nat) (a0 : Option Value) (x : Int32) (st : List Value) (h : a_H) : a_run d MX1_known 11 [a0, some (.int x)] st h = a_run d MX1_known 12 [a0, some (.int x)] (.int x :: st) h := w_ldIn dX1_known_11 rfl
theorem w_X1_known_12 (d : Nat) (L : a_L) (x : Int32) (h : a_H) : a_run d MX1_known 12 L [.int x] h = some (.inl (some (.int x)), h) := w_iret dX1_known_12 (w_retI rfl)
theorem e_X1_isNeedless (d : Nat) (x0 : Nat) (x1 : Int32) (h : a_H) : a_call (d + 1) MX1_isNeedless [.ref x0, .int x1] h = a_run d MX1_isNeedless 0 [some (.ref x0), some (.int x1), none] [] h := a_call_run rfl (Nat.le_of_ble_eq_true rfl) rfl
theorem w_X1_isNeedless_0 (d : Nat) (a1 a2 : Option Value) (x : Nat) (st : List Value) (h : a_H) : a_run d MX1_isNeedless 0 [some (.ref x), a1, a2] st h = a_run d MX1_isNeedless 1 [some (.ref x), a1, a2] (.ref x :: st) h := w_ldAn dX1_isNeedless_0 rfl
theorem w_X1_isNeedless_1 (d : Nat) (a0 a2 : Option Value) (x : Int32) (st : List Value) (h : a_H) : a_run d MX1_isNeedless 1 [a0, some (.int x), a2] st h = a_run d MX1_isNeedless 2 [a0, some (.int x), a2] (.int x :: st) h := w_ldIn dX1_isNeedless_1 rfl
theorem w_X1_isNeedless_2 (d : Nat) (L : a_L) (i : Nat) (v1 : Value) (st : List Value) (h : a_H) (hk : a_kls h i = some 0) (hc : a_cat st ≤ 8) : a_run d MX1_isNeedless 2 L (v1 :: .ref i :: st) h = a_cont d MX1_isNeedless (a_bk MX1_isNeedless 2 L st (a_call d MX1_arrowThere [.ref i, v1] h)) := w_callV (as := [.ref i, v1]) dX1_isNeedless_2 rfl rfl rfl hc (a_rcv_of hk rfl)
theorem w_X1_isNeedless_5 (d : Nat) (a0 a1 a2 : Option Value) (x : Int32) (st : List Value) (h : a_H) : a_run d MX1_isNeedless 5 [a0, a1, a2] (.int x :: st) h = a_run d MX1_isNeedless 6 [a0, a1, some (.int x)] st h := w_stIn dX1_isNeedless_5 (Nat.le_of_ble_eq_true rfl) rfl
theorem w_X1_isNeedless_6 (d : Nat) (a1 a2 : Option Value) (x : Nat) (st : List Value) (h : a_H) : a_run d MX1_isNeedless 6 [some (.ref x), a1, a2] st h = a_run d MX1_isNeedless 7 [some (.ref x), a1, a2] (.ref x :: st) h := w_ldAn dX1_isNeedless_6 rfl
theorem w_X1_isNeedless_7 (d : Nat) (L : a_L) (i : Nat) (st : List Value) (h : a_H) : a_run d MX1_isNeedless 7 L (.ref i :: st) h = (a_gf h i 0 [0]).bind fun v => a_run d MX1_isNeedless 10 L (v :: st) h := w_getf dX1_isNeedless_7 rfl
theorem w_X1_isNeedless_10 (d : Nat) (a1 a2 : Option Value) (x : Nat) (st : List Value) (h : a_H) : a_run d MX1_isNeedless 10 [some (.ref x), a1, a2] st h = a_run d MX1_isNeedless 11 [some (.ref x), a1, a2] (.ref x :: st) h := w_ldAn dX1_isNeedless_10 rfl
theorem w_X1_isNeedless_11 (d : Nat) (L : a_L) (i : Nat) (st : List Value) (h : a_H) : a_run d MX1_isNeedless 11 L (.ref i :: st) h = (a_gf h i 0 [0]).bind fun v => a_run d MX1_isNeedless 14 L (v :: st) h := w_getf dX1_isNeedless_11 rfl
theorem w_X1_isNeedless_14 (d : Nat) (L : a_L) (i : Nat) (st : List Value) (h : a_H) : a_run d MX1_isNeedless 14 L (.ref i :: st) h = (a_gf h i 1 [1]).bind fun v => a_run d MX1_isNeedless 17 L (v :: st) h := w_getf dX1_isNeedless_14 rfl
theorem w_X1_isNeedless_17 (d : Nat) (a0 a1 : Option Value) (x : Int32) (st : List Value) (h : a_H) : a_run d MX1_isNeedless 17 [a0, a1, some (.int x)] st h = a_run d MX1_isNeedless 18 [a0, a1, some (.int x)] (.int x :: st) h := w_ldIn dX1_isNeedless_17 rfl
theorem w_X1_isNeedless_18 (d : Nat) (L : a_L) (x : Int32) (i : Nat) (st : List Value) (h : a_H) : a_run d MX1_isNeedless 18 L (.int x :: .ref i :: st) h = (a_rdi h i a_int x).bind fun v => a_run d MX1_isNeedless 19 L (v :: st) h := w_iald dX1_isNeedless_18
theorem w_X1_isNeedless_19 (d : Nat) (a1 a2 : Option Value) (x : Nat) (st : List Value) (h : a_H) : a_run d MX1_isNeedless 19 [some (.ref x), a1, a2] st h = a_run d MX1_isNeedless 20 [some (.ref x), a1, a2] (.ref x :: st) h := w_ldAn dX1_isNeedless_19 rfl
theorem w_X1_isNeedless_20 (d : Nat) (L : a_L) (i : Nat) (st : List Value) (h : a_H) : a_run d MX1_isNeedless 20 L (.ref i :: st) h = (a_gf h i 0 [0]).bind fun v => a_run d MX1_isNeedless 23 L (v :: st) h := w_getf dX1_isNeedless_20 rfl
theorem w_X1_isNeedless_23 (d : Nat) (L : a_L) (i : Nat) (st : List Value) (h : a_H) : a_run d MX1_isNeedless 23 L (.ref i :: st) h = (a_gf h i 0 [1]).bind fun v => a_run d MX1_isNeedless 26 L (v :: st) h := w_getf dX1_isNeedless_23 rfl
theorem w_X1_isNeedless_26 (d : Nat) (a0 a1 : Option Value) (x : Int32) (st : List Value) (h : a_H) : a_run d MX1_isNeedless 26 [a0, a1, some (.int x)] st h = a_run d MX1_isNeedless 27 [a0, a1, some (.int x)] (.int x :: st) h := w_ldIn dX1_isNeedless_26 rfl
theorem w_X1_isNeedless_27 (d : Nat) (L : a_L) (x : Int32) (i : Nat) (st : List Value) (h : a_H) : a_run d MX1_isNeedless 27 L (.int x :: .ref i :: st) h = (a_rdi h i a_int x).bind fun v => a_run d MX1_isNeedless 28 L (v :: st) h := w_iald dX1_isNeedless_27
theorem w_X1_isNeedless_28 (d : Nat) (a0 a1 : Option Value) (x : Int32) (st : List Value) (h : a_H) : a_run d MX1_isNeedless 28 [a0, a1, some (.int x)] st h = a_run d MX1_isNeedless 29 [a0, a1, some (.int x)] (.int x :: st) h := w_ldIn dX1_isNeedless_28 rfl
theorem w_X1_isNeedless_29 (d : Nat) (L : a_L) (i : Nat) (v1 v2 v3 : Value) (st : List Value) (h : a_H) (hk : a_kls h i = some 1) (hc : a_cat st ≤ 8) : a_run d MX1_isNeedless 29 L (v3 :: v2 :: v1 :: .ref i :: st) h = a_cont d MX1_isNeedless (a_bk MX1_isNeedless 29 L st (a_call d MX2_listens [.ref i, v1, v2, v3] h)) := w_callV (as := [.ref i, v1, v2, v3]) dX1_isNeedless_29 rfl rfl rfl hc (a_rcv_of hk rfl)
theorem w_X1_isNeedless_32 (d : Nat) (L : a_L) (x : Int32) (h : a_H) (hx : x = 0 ∨ x = 1) : a_run d MX1_isNeedless 32 L [.int x] h = some (.inl (some (.int x)), h) := w_iret dX1_isNeedless_32 (w_retZ rfl hx)
theorem e_X1_ways (d : Nat) (x0 : Nat) (x1 : Int32) (x2 : Int32) (h : a_H) : a_call (d + 1) MX1_ways [.ref x0, .int x1, .int x2] h = a_run d MX1_ways 0 [some (.ref x0), some (.int x1), some (.int x2)] [] h := a_call_run rfl (Nat.le_of_ble_eq_true rfl) rfl
theorem w_X1_ways_0 (d : Nat) (a1 a2 : Option Value) (x : Nat) (st : List Value) (h : a_H) : a_run d MX1_ways 0 [some (.ref x), a1, a2] st h = a_run d MX1_ways 1 [some (.ref x), a1, a2] (.ref x :: st) h := w_ldAn dX1_ways_0 rfl
theorem w_X1_ways_1 (d : Nat) (a0 a2 : Option Value) (x : Int32) (st : List Value) (h : a_H) : a_run d MX1_ways 1 [a0, some (.int x), a2] st h = a_run d MX1_ways 2 [a0, some (.int x), a2] (.int x :: st) h := w_ldIn dX1_ways_1 rfl
theorem w_X1_ways_2 (d : Nat) (a0 a1 : Option Value) (x : Int32) (st : List Value) (h : a_H) : a_run d MX1_ways 2 [a0, a1, some (.int x)] st h = a_run d MX1_ways 3 [a0, a1, some (.int x)] (.int x :: st) h := w_ldIn dX1_ways_2 rfl
theorem w_X1_ways_3 (d : Nat) (L : a_L) (i : Nat) (v1 v2 : Value) (st : List Value) (h : a_H) (hk : a_kls h i = some 0) (hc : a_cat st ≤ 8) : a_run d MX1_ways 3 L (v2 :: v1 :: .ref i :: st) h = a_cont d MX1_ways (a_bk MX1_ways 3 L st (a_call d MX1_needTwo [.ref i, v1, v2] h)) := w_callV (as := [.ref i, v1, v2]) dX1_ways_3 rfl rfl rfl hc (a_rcv_of hk rfl)
theorem w_X1_ways_6 (d : Nat) (a1 a2 : Option Value) (x : Nat) (st : List Value) (h : a_H) : a_run d MX1_ways 6 [some (.ref x), a1, a2] st h = a_run d MX1_ways 7 [some (.ref x), a1, a2] (.ref x :: st) h := w_ldAn dX1_ways_6 rfl
theorem w_X1_ways_7 (d : Nat) (L : a_L) (i : Nat) (st : List Value) (h : a_H) : a_run d MX1_ways 7 L (.ref i :: st) h = (a_gf h i 0 [0]).bind fun v => a_run d MX1_ways 10 L (v :: st) h := w_getf dX1_ways_7 rfl
theorem w_X1_ways_10 (d : Nat) (a0 a2 : Option Value) (x : Int32) (st : List Value) (h : a_H) : a_run d MX1_ways 10 [a0, some (.int x), a2] st h = a_run d MX1_ways 11 [a0, some (.int x), a2] (.int x :: st) h := w_ldIn dX1_ways_10 rfl
theorem w_X1_ways_11 (d : Nat) (a0 a1 : Option Value) (x : Int32) (st : List Value) (h : a_H) : a_run d MX1_ways 11 [a0, a1, some (.int x)] st h = a_run d MX1_ways 12 [a0, a1, some (.int x)] (.int x :: st) h := w_ldIn dX1_ways_11 rfl
theorem w_X1_ways_12 (d : Nat) (L : a_L) (i : Nat) (v1 v2 : Value) (st : List Value) (h : a_H) (hk : a_kls h i = some 1) (hc : a_cat st ≤ 8) : a_run d MX1_ways 12 L (v2 :: v1 :: .ref i :: st) h = a_cont d MX1_ways (a_bk MX1_ways 12 L st (a_call d MX2_waysByLayers [.ref i, v1, v2] h)) := w_callV (as := [.ref i, v1, v2]) dX1_ways_12 rfl rfl rfl hc (a_rcv_of hk rfl)
theorem w_X1_ways_15 (d : Nat) (L : a_L) (x : Int32) (h : a_H) : a_run d MX1_ways 15 L [.int x] h = some (.inl (some (.int x)), h) := w_iret dX1_ways_15 (w_retI rfl)
theorem e_X1_needTwo (d : Nat) (x0 : Nat) (x1 : Int32) (x2 : Int32) (h : a_H) : a_call (d + 1) MX1_needTwo [.ref x0, .int x1, .int x2] h = a_run d MX1_needTwo 0 [some (.ref x0), some (.int x1), some (.int x2)] [] h := a_call_run rfl (Nat.le_of_ble_eq_true rfl) rfl
theorem w_X1_needTwo_0 (d : Nat) (a1 a2 : Option Value) (x : Nat) (st : List Value) (h : a_H) : a_run d MX1_needTwo 0 [some (.ref x), a1, a2] st h = a_run d MX1_needTwo 1 [some (.ref x), a1, a2] (.ref x :: st) h := w_ldAn dX1_needTwo_0 rfl
theorem w_X1_needTwo_1 (d : Nat) (L : a_L) (i : Nat) (st : List Value) (h : a_H) : a_run d MX1_needTwo 1 L (.ref i :: st) h = (a_gf h i 0 [0]).bind fun v => a_run d MX1_needTwo 4 L (v :: st) h := w_getf dX1_needTwo_1 rfl
theorem w_X1_needTwo_4 (d : Nat) (a0 a2 : Option Value) (x : Int32) (st : List Value) (h : a_H) : a_run d MX1_needTwo 4 [a0, some (.int x), a2] st h = a_run d MX1_needTwo 5 [a0, some (.int x), a2] (.int x :: st) h := w_ldIn dX1_needTwo_4 rfl
theorem w_X1_needTwo_5 (d : Nat) (L : a_L) (i : Nat) (v1 : Value) (st : List Value) (h : a_H) (hk : a_kls h i = some 1) (hc : a_cat st ≤ 8) : a_run d MX1_needTwo 5 L (v1 :: .ref i :: st) h = a_cont d MX1_needTwo (a_bk MX1_needTwo 5 L st (a_call d MX2_isBox [.ref i, v1] h)) := w_callV (as := [.ref i, v1]) dX1_needTwo_5 rfl rfl rfl hc (a_rcv_of hk rfl)
theorem w_X1_needTwo_8 (d : Nat) (L : a_L) (x : Int32) (st : List Value) (h : a_H) : a_run d MX1_needTwo 8 L (.int x :: st) h = if x = 0 then a_run d MX1_needTwo 26 L st h else a_run d MX1_needTwo 11 L st h := w_if_eq dX1_needTwo_8 rfl
theorem w_X1_needTwo_11 (d : Nat) (a1 a2 : Option Value) (x : Nat) (st : List Value) (h : a_H) : a_run d MX1_needTwo 11 [some (.ref x), a1, a2] st h = a_run d MX1_needTwo 12 [some (.ref x), a1, a2] (.ref x :: st) h := w_ldAn dX1_needTwo_11 rfl
theorem w_X1_needTwo_12 (d : Nat) (L : a_L) (i : Nat) (st : List Value) (h : a_H) : a_run d MX1_needTwo 12 L (.ref i :: st) h = (a_gf h i 0 [0]).bind fun v => a_run d MX1_needTwo 15 L (v :: st) h := w_getf dX1_needTwo_12 rfl
theorem w_X1_needTwo_15 (d : Nat) (a0 a1 : Option Value) (x : Int32) (st : List Value) (h : a_H) : a_run d MX1_needTwo 15 [a0, a1, some (.int x)] st h = a_run d MX1_needTwo 16 [a0, a1, some (.int x)] (.int x :: st) h := w_ldIn dX1_needTwo_15 rfl
theorem w_X1_needTwo_16 (d : Nat) (L : a_L) (i : Nat) (v1 : Value) (st : List Value) (h : a_H) (hk : a_kls h i = some 1) (hc : a_cat st ≤ 8) : a_run d MX1_needTwo 16 L (v1 :: .ref i :: st) h = a_cont d MX1_needTwo (a_bk MX1_needTwo 16 L st (a_call d MX2_isBox [.ref i, v1] h)) := w_callV (as := [.ref i, v1]) dX1_needTwo_16 rfl rfl rfl hc (a_rcv_of hk rfl)
theorem w_X1_needTwo_19 (d : Nat) (L : a_L) (x : Int32) (st : List Value) (h : a_H) : a_run d MX1_needTwo 19 L (.int x :: st) h = if x = 0 then a_run d MX1_needTwo 26 L st h else a_run d MX1_needTwo 22 L st h := w_if_eq dX1_needTwo_19 rfl
theorem w_X1_needTwo_22 (d : Nat) (L : a_L) (st : List Value) (h : a_H) : a_run d MX1_needTwo 22 L st h = a_run d MX1_needTwo 23 L (.int (nI 1) :: st) h := w_iconst dX1_needTwo_22 rfl
theorem w_X1_needTwo_23 (d : Nat) (L : a_L) (st : List Value) (h : a_H) : a_run d MX1_needTwo 23 L st h = a_run d MX1_needTwo 27 L st h := w_goto dX1_needTwo_23 rfl
theorem w_X1_needTwo_26 (d : Nat) (L : a_L) (st : List Value) (h : a_H) : a_run d MX1_needTwo 26 L st h = a_run d MX1_needTwo 27 L (.int (nI 0) :: st) h := w_iconst dX1_needTwo_26 rfl
theorem w_X1_needTwo_27 (d : Nat) (L : a_L) (v0 : Value) (st : List Value) (h : a_H) (hc : a_cat st ≤ 8) : a_run d MX1_needTwo 27 L (v0 :: st) h = a_cont d MX1_needTwo (a_bk MX1_needTwo 27 L st (a_call d MX1_needArgument [v0] h)) := w_callS (as := [v0]) dX1_needTwo_27 rfl rfl rfl hc
theorem w_X1_needTwo_30 (d : Nat) (L : a_L) (h : a_H) : a_run d MX1_needTwo 30 L [] h = some (.inl none, h) := w_vret dX1_needTwo_30 rfl
theorem e_X1_waysByGoingBack (d : Nat) (x0 : Nat) (x1 : Int32) (x2 : Int32) (h : a_H) : a_call (d + 1) MX1_waysByGoingBack [.ref x0, .int x1, .int x2] h = a_run d MX1_waysByGoingBack 0 [some (.ref x0), some (.int x1), some (.int x2)] [] h := a_call_run rfl (Nat.le_of_ble_eq_true rfl) rfl
theorem w_X1_waysByGoingBack_0 (d : Nat) (a1 a2 : Option Value) (x : Nat) (st : List Value) (h : a_H) : a_run d MX1_waysByGoingBack 0 [some (.ref x), a1, a2] st h = a_run d MX1_waysByGoingBack 1 [some (.ref x), a1, a2] (.ref x :: st) h := w_ldAn dX1_waysByGoingBack_0 rfl
theorem w_X1_waysByGoingBack_1 (d : Nat) (a0 a2 : Option Value) (x : Int32) (st : List Value) (h : a_H) : a_run d MX1_waysByGoingBack 1 [a0, some (.int x), a2] st h = a_run d MX1_waysByGoingBack 2 [a0, some (.int x), a2] (.int x :: st) h := w_ldIn dX1_waysByGoingBack_1 rfl
theorem w_X1_waysByGoingBack_2 (d : Nat) (a0 a1 : Option Value) (x : Int32) (st : List Value) (h : a_H) : a_run d MX1_waysByGoingBack 2 [a0, a1, some (.int x)] st h = a_run d MX1_waysByGoingBack 3 [a0, a1, some (.int x)] (.int x :: st) h := w_ldIn dX1_waysByGoingBack_2 rfl
theorem w_X1_waysByGoingBack_3 (d : Nat) (L : a_L) (i : Nat) (v1 v2 : Value) (st : List Value) (h : a_H) (hk : a_kls h i = some 0) (hc : a_cat st ≤ 8) : a_run d MX1_waysByGoingBack 3 L (v2 :: v1 :: .ref i :: st) h = a_cont d MX1_waysByGoingBack (a_bk MX1_waysByGoingBack 3 L st (a_call d MX1_needTwo [.ref i, v1, v2] h)) := w_callV (as := [.ref i, v1, v2]) dX1_waysByGoingBack_3 rfl rfl rfl hc (a_rcv_of hk rfl)
theorem w_X1_waysByGoingBack_6 (d : Nat) (a1 a2 : Option Value) (x : Nat) (st : List Value) (h : a_H) : a_run d MX1_waysByGoingBack 6 [some (.ref x), a1, a2] st h = a_run d MX1_waysByGoingBack 7 [some (.ref x), a1, a2] (.ref x :: st) h := w_ldAn dX1_waysByGoingBack_6 rfl
theorem w_X1_waysByGoingBack_7 (d : Nat) (L : a_L) (i : Nat) (st : List Value) (h : a_H) : a_run d MX1_waysByGoingBack 7 L (.ref i :: st) h = (a_gf h i 0 [0]).bind fun v => a_run d MX1_waysByGoingBack 10 L (v :: st) h := w_getf dX1_waysByGoingBack_7 rfl
theorem w_X1_waysByGoingBack_10 (d : Nat) (a0 a2 : Option Value) (x : Int32) (st : List Value) (h : a_H) : a_run d MX1_waysByGoingBack 10 [a0, some (.int x), a2] st h = a_run d MX1_waysByGoingBack 11 [a0, some (.int x), a2] (.int x :: st) h := w_ldIn dX1_waysByGoingBack_10 rfl
theorem w_X1_waysByGoingBack_11 (d : Nat) (a0 a1 : Option Value) (x : Int32) (st : List Value) (h : a_H) : a_run d MX1_waysByGoingBack 11 [a0, a1, some (.int x)] st h = a_run d MX1_waysByGoingBack 12 [a0, a1, some (.int x)] (.int x :: st) h := w_ldIn dX1_waysByGoingBack_11 rfl
theorem w_X1_waysByGoingBack_12 (d : Nat) (L : a_L) (i : Nat) (v1 v2 : Value) (st : List Value) (h : a_H) (hk : a_kls h i = some 1) (hc : a_cat st ≤ 8) : a_run d MX1_waysByGoingBack 12 L (v2 :: v1 :: .ref i :: st) h = a_cont d MX1_waysByGoingBack (a_bk MX1_waysByGoingBack 12 L st (a_call d MX2_waysBack [.ref i, v1, v2] h)) := w_callV (as := [.ref i, v1, v2]) dX1_waysByGoingBack_12 rfl rfl rfl hc (a_rcv_of hk rfl)
theorem w_X1_waysByGoingBack_15 (d : Nat) (L : a_L) (x : Int32) (h : a_H) : a_run d MX1_waysByGoingBack 15 L [.int x] h = some (.inl (some (.int x)), h) := w_iret dX1_waysByGoingBack_15 (w_retI rfl)
theorem e_X1_fewestArrows (d : Nat) (x0 : Nat) (x1 : Int32) (x2 : Int32) (h : a_H) : a_call (d + 1) MX1_fewestArrows [.ref x0, .int x1, .int x2] h = a_run d MX1_fewestArrows 0 [some (.ref x0), some (.int x1), some (.int x2)] [] h := a_call_run rfl (Nat.le_of_ble_eq_true rfl) rfl
theorem w_X1_fewestArrows_0 (d : Nat) (a1 a2 : Option Value) (x : Nat) (st : List Value) (h : a_H) : a_run d MX1_fewestArrows 0 [some (.ref x), a1, a2] st h = a_run d MX1_fewestArrows 1 [some (.ref x), a1, a2] (.ref x :: st) h := w_ldAn dX1_fewestArrows_0 rfl
theorem w_X1_fewestArrows_1 (d : Nat) (a0 a2 : Option Value) (x : Int32) (st : List Value) (h : a_H) : a_run d MX1_fewestArrows 1 [a0, some (.int x), a2] st h = a_run d MX1_fewestArrows 2 [a0, some (.int x), a2] (.int x :: st) h := w_ldIn dX1_fewestArrows_1 rfl
theorem w_X1_fewestArrows_2 (d : Nat) (a0 a1 : Option Value) (x : Int32) (st : List Value) (h : a_H) : a_run d MX1_fewestArrows 2 [a0, a1, some (.int x)] st h = a_run d MX1_fewestArrows 3 [a0, a1, some (.int x)] (.int x :: st) h := w_ldIn dX1_fewestArrows_2 rfl
theorem w_X1_fewestArrows_3 (d : Nat) (L : a_L) (i : Nat) (v1 v2 : Value) (st : List Value) (h : a_H) (hk : a_kls h i = some 0) (hc : a_cat st ≤ 8) : a_run d MX1_fewestArrows 3 L (v2 :: v1 :: .ref i :: st) h = a_cont d MX1_fewestArrows (a_bk MX1_fewestArrows 3 L st (a_call d MX1_needTwo [.ref i, v1, v2] h)) := w_callV (as := [.ref i, v1, v2]) dX1_fewestArrows_3 rfl rfl rfl hc (a_rcv_of hk rfl)
theorem w_X1_fewestArrows_6 (d : Nat) (a1 a2 : Option Value) (x : Nat) (st : List Value) (h : a_H) : a_run d MX1_fewestArrows 6 [some (.ref x), a1, a2] st h = a_run d MX1_fewestArrows 7 [some (.ref x), a1, a2] (.ref x :: st) h := w_ldAn dX1_fewestArrows_6 rfl
theorem w_X1_fewestArrows_7 (d : Nat) (L : a_L) (i : Nat) (st : List Value) (h : a_H) : a_run d MX1_fewestArrows 7 L (.ref i :: st) h = (a_gf h i 0 [0]).bind fun v => a_run d MX1_fewestArrows 10 L (v :: st) h := w_getf dX1_fewestArrows_7 rfl
theorem w_X1_fewestArrows_10 (d : Nat) (a0 a2 : Option Value) (x : Int32) (st : List Value) (h : a_H) : a_run d MX1_fewestArrows 10 [a0, some (.int x), a2] st h = a_run d MX1_fewestArrows 11 [a0, some (.int x), a2] (.int x :: st) h := w_ldIn dX1_fewestArrows_10 rfl
theorem w_X1_fewestArrows_11 (d : Nat) (a0 a1 : Option Value) (x : Int32) (st : List Value) (h : a_H) : a_run d MX1_fewestArrows 11 [a0, a1, some (.int x)] st h = a_run d MX1_fewestArrows 12 [a0, a1, some (.int x)] (.int x :: st) h := w_ldIn dX1_fewestArrows_11 rfl
theorem w_X1_fewestArrows_12 (d : Nat) (L : a_L) (st : List Value) (h : a_H) : a_run d MX1_fewestArrows 12 L st h = a_run d MX1_fewestArrows 13 L (.int (nI 1) :: st) h := w_iconst dX1_fewestArrows_12 rfl
theorem w_X1_fewestArrows_13 (d : Nat) (L : a_L) (i : Nat) (v1 v2 v3 : Value) (st : List Value) (h : a_H) (hk : a_kls h i = some 1) (hc : a_cat st ≤ 8) : a_run d MX1_fewestArrows 13 L (v3 :: v2 :: v1 :: .ref i :: st) h = a_cont d MX1_fewestArrows (a_bk MX1_fewestArrows 13 L st (a_call d MX2_arrowsOn [.ref i, v1, v2, v3] h)) := w_callV (as := [.ref i, v1, v2, v3]) dX1_fewestArrows_13 rfl rfl rfl hc (a_rcv_of hk rfl)
theorem w_X1_fewestArrows_16 (d : Nat) (L : a_L) (v0 : Value) (st : List Value) (h : a_H) (hc : a_cat st ≤ 8) : a_run d MX1_fewestArrows 16 L (v0 :: st) h = a_cont d MX1_fewestArrows (a_bk MX1_fewestArrows 16 L st (a_call d MX1_there [v0] h)) := w_callS (as := [v0]) dX1_fewestArrows_16 rfl rfl rfl hc
theorem w_X1_fewestArrows_19 (d : Nat) (L : a_L) (x : Int32) (h : a_H) : a_run d MX1_fewestArrows 19 L [.int x] h = some (.inl (some (.int x)), h) := w_iret dX1_fewestArrows_19 (w_retI rfl)
theorem e_X1_there (d : Nat) (x0 : Int32) (h : a_H) : a_call (d + 1) MX1_there [.int x0] h = a_run d MX1_there 0 [some (.int x0)] [] h := a_call_run rfl (Nat.le_of_ble_eq_true rfl) rfl
theorem w_X1_there_0 (d : Nat) (x : Int32) (st : List Value) (h : a_H) : a_run d MX1_there 0 [some (.int x)] st h = a_run d MX1_there 1 [some (.int x)] (.int x :: st) h := w_ldIn dX1_there_0 rfl
theorem w_X1_there_1 (d : Nat) (L : a_L) (st : List Value) (h : a_H) : a_run d MX1_there 1 L st h = a_run d MX1_there 2 L (.int ((-1)) :: st) h := w_iconst dX1_there_1 rfl
theorem w_X1_there_2 (d : Nat) (L : a_L) (x y : Int32) (st : List Value) (h : a_H) : a_run d MX1_there 2 L (.int y :: .int x :: st) h = if x = y then a_run d MX1_there 9 L st h else a_run d MX1_there 5 L st h := w_icmp_eq dX1_there_2 rfl
theorem w_X1_there_5 (d : Nat) (L : a_L) (st : List Value) (h : a_H) : a_run d MX1_there 5 L st h = a_run d MX1_there 6 L (.int (nI 1) :: st) h := w_iconst dX1_there_5 rfl
theorem w_X1_there_6 (d : Nat) (L : a_L) (st : List Value) (h : a_H) : a_run d MX1_there 6 L st h = a_run d MX1_there 10 L st h := w_goto dX1_there_6 rfl
theorem w_X1_there_9 (d : Nat) (L : a_L) (st : List Value) (h : a_H) : a_run d MX1_there 9 L st h = a_run d MX1_there 10 L (.int (nI 0) :: st) h := w_iconst dX1_there_9 rfl
theorem w_X1_there_10 (d : Nat) (L : a_L) (v0 : Value) (st : List Value) (h : a_H) (hc : a_cat st ≤ 8) : a_run d MX1_there 10 L (v0 :: st) h = a_cont d MX1_there (a_bk MX1_there 10 L st (a_call d MX1_needSuch [v0] h)) := w_callS (as := [v0]) dX1_there_10 rfl rfl rfl hc
theorem w_X1_there_13 (d : Nat) (x : Int32) (st : List Value) (h : a_H) : a_run d MX1_there 13 [some (.int x)] st h = a_run d MX1_there 14 [some (.int x)] (.int x :: st) h := w_ldIn dX1_there_13 rfl
theorem w_X1_there_14 (d : Nat) (L : a_L) (x : Int32) (h : a_H) : a_run d MX1_there 14 L [.int x] h = some (.inl (some (.int x)), h) := w_iret dX1_there_14 (w_retI rfl)
theorem e_X1_needSuch (d : Nat) (x0 : Int32) (h : a_H) : a_call (d + 1) MX1_needSuch [.int x0] h = a_run d MX1_needSuch 0 [some (.int x0)] [] h := a_call_run rfl (Nat.le_of_ble_eq_true rfl) rfl
theorem w_X1_needSuch_0 (d : Nat) (x : Int32) (st : List Value) (h : a_H) : a_run d MX1_needSuch 0 [some (.int x)] st h = a_run d MX1_needSuch 1 [some (.int x)] (.int x :: st) h := w_ldIn dX1_needSuch_0 rfl
theorem w_X1_needSuch_1 (d : Nat) (L : a_L) (x : Int32) (st : List Value) (h : a_H) : a_run d MX1_needSuch 1 L (.int x :: st) h = if x = 0 then a_run d MX1_needSuch 4 L st h else a_run d MX1_needSuch 14 L st h := w_if_ne dX1_needSuch_1 rfl
theorem w_X1_needSuch_4 (d : Nat) (L : a_L) (st : List Value) (h : a_H) : a_run d MX1_needSuch 4 L st h = a_run d MX1_needSuch 7 L (.ref h.1 :: st) (a_add h (.inr (10, [.null, .null, .null, .null, .null, .int 0])) 6) := w_new dX1_needSuch_4 rfl rfl
theorem w_X1_needSuch_7 (d : Nat) (L : a_L) (x : Nat) (st : List Value) (h : a_H) : a_run d MX1_needSuch 7 L (.ref x :: st) h = a_run d MX1_needSuch 8 L (.ref x :: .ref x :: st) h := w_dup dX1_needSuch_7
theorem w_X1_needSuch_7I (d : Nat) (L : a_L) (x : Int32) (st : List Value) (h : a_H) : a_run d MX1_needSuch 7 L (.int x :: st) h = a_run d MX1_needSuch 8 L (.int x :: .int x :: st) h := w_dupI dX1_needSuch_7
theorem w_X1_needSuch_8 (d : Nat) (L : a_L) (st : List Value) (h : a_H) : a_run d MX1_needSuch 8 L st h = a_run d MX1_needSuch 10 L (.ref 707 :: st) h := w_ldc dX1_needSuch_8 rfl
theorem w_X1_needSuch_10 (d : Nat) (L : a_L) (i : Nat) (v1 : Value) (st : List Value) (h : a_H) (hi : 1024 ≤ i) (hc : a_cat st ≤ 8) : a_run d MX1_needSuch 10 L (v1 :: .ref i :: st) h = a_cont d MX1_needSuch (a_bk MX1_needSuch 10 L st (a_call d MJ14_init_2 [.ref i, v1] h)) := w_callI (as := [.ref i, v1]) dX1_needSuch_10 rfl rfl rfl hc (a_new0_of hi)
theorem w_X1_needSuch_13 (d : Nat) (L : a_L) (x : Nat) (st : List Value) (h : a_H) : a_run d MX1_needSuch 13 L (.ref x :: st) h = a_cont d MX1_needSuch (a_thr MX1_needSuch 13 L x h) := w_athrow dX1_needSuch_13
theorem w_X1_needSuch_14 (d : Nat) (L : a_L) (h : a_H) : a_run d MX1_needSuch 14 L [] h = some (.inl none, h) := w_vret dX1_needSuch_14 rfl
theorem e_X1_mostArrows (d : Nat) (x0 : Nat) (x1 : Int32) (x2 : Int32) (h : a_H) : a_call (d + 1) MX1_mostArrows [.ref x0, .int x1, .int x2] h = a_run d MX1_mostArrows 0 [some (.ref x0), some (.int x1), some (.int x2)] [] h := a_call_run rfl (Nat.le_of_ble_eq_true rfl) rfl
theorem w_X1_mostArrows_0 (d : Nat) (a1 a2 : Option Value) (x : Nat) (st : List Value) (h : a_H) : a_run d MX1_mostArrows 0 [some (.ref x), a1, a2] st h = a_run d MX1_mostArrows 1 [some (.ref x), a1, a2] (.ref x :: st) h := w_ldAn dX1_mostArrows_0 rfl
theorem w_X1_mostArrows_1 (d : Nat) (a0 a2 : Option Value) (x : Int32) (st : List Value) (h : a_H) : a_run d MX1_mostArrows 1 [a0, some (.int x), a2] st h = a_run d MX1_mostArrows 2 [a0, some (.int x), a2] (.int x :: st) h := w_ldIn dX1_mostArrows_1 rfl
theorem w_X1_mostArrows_2 (d : Nat) (a0 a1 : Option Value) (x : Int32) (st : List Value) (h : a_H) : a_run d MX1_mostArrows 2 [a0, a1, some (.int x)] st h = a_run d MX1_mostArrows 3 [a0, a1, some (.int x)] (.int x :: st) h := w_ldIn dX1_mostArrows_2 rfl
theorem w_X1_mostArrows_3 (d : Nat) (L : a_L) (i : Nat) (v1 v2 : Value) (st : List Value) (h : a_H) (hk : a_kls h i = some 0) (hc : a_cat st ≤ 8) : a_run d MX1_mostArrows 3 L (v2 :: v1 :: .ref i :: st) h = a_cont d MX1_mostArrows (a_bk MX1_mostArrows 3 L st (a_call d MX1_needTwo [.ref i, v1, v2] h)) := w_callV (as := [.ref i, v1, v2]) dX1_mostArrows_3 rfl rfl rfl hc (a_rcv_of hk rfl)
theorem w_X1_mostArrows_6 (d : Nat) (a1 a2 : Option Value) (x : Nat) (st : List Value) (h : a_H) : a_run d MX1_mostArrows 6 [some (.ref x), a1, a2] st h = a_run d MX1_mostArrows 7 [some (.ref x), a1, a2] (.ref x :: st) h := w_ldAn dX1_mostArrows_6 rfl
theorem w_X1_mostArrows_7 (d : Nat) (L : a_L) (i : Nat) (st : List Value) (h : a_H) : a_run d MX1_mostArrows 7 L (.ref i :: st) h = (a_gf h i 0 [0]).bind fun v => a_run d MX1_mostArrows 10 L (v :: st) h := w_getf dX1_mostArrows_7 rfl
theorem w_X1_mostArrows_10 (d : Nat) (a0 a2 : Option Value) (x : Int32) (st : List Value) (h : a_H) : a_run d MX1_mostArrows 10 [a0, some (.int x), a2] st h = a_run d MX1_mostArrows 11 [a0, some (.int x), a2] (.int x :: st) h := w_ldIn dX1_mostArrows_10 rfl
theorem w_X1_mostArrows_11 (d : Nat) (a0 a1 : Option Value) (x : Int32) (st : List Value) (h : a_H) : a_run d MX1_mostArrows 11 [a0, a1, some (.int x)] st h = a_run d MX1_mostArrows 12 [a0, a1, some (.int x)] (.int x :: st) h := w_ldIn dX1_mostArrows_11 rfl
theorem w_X1_mostArrows_12 (d : Nat) (L : a_L) (st : List Value) (h : a_H) : a_run d MX1_mostArrows 12 L st h = a_run d MX1_mostArrows 13 L (.int (nI 0) :: st) h := w_iconst dX1_mostArrows_12 rfl
theorem w_X1_mostArrows_13 (d : Nat) (L : a_L) (i : Nat) (v1 v2 v3 : Value) (st : List Value) (h : a_H) (hk : a_kls h i = some 1) (hc : a_cat st ≤ 8) : a_run d MX1_mostArrows 13 L (v3 :: v2 :: v1 :: .ref i :: st) h = a_cont d MX1_mostArrows (a_bk MX1_mostArrows 13 L st (a_call d MX2_arrowsOn [.ref i, v1, v2, v3] h)) := w_callV (as := [.ref i, v1, v2, v3]) dX1_mostArrows_13 rfl rfl rfl hc (a_rcv_of hk rfl)
theorem w_X1_mostArrows_16 (d : Nat) (L : a_L) (v0 : Value) (st : List Value) (h : a_H) (hc : a_cat st ≤ 8) : a_run d MX1_mostArrows 16 L (v0 :: st) h = a_cont d MX1_mostArrows (a_bk MX1_mostArrows 16 L st (a_call d MX1_there [v0] h)) := w_callS (as := [v0]) dX1_mostArrows_16 rfl rfl rfl hc
theorem w_X1_mostArrows_19 (d : Nat) (L : a_L) (x : Int32) (h : a_H) : a_run d MX1_mostArrows 19 L [.int x] h = some (.inl (some (.int x)), h) := w_iret dX1_mostArrows_19 (w_retI rfl)
theorem e_X1_layerOf (d : Nat) (x0 : Nat) (x1 : Int32) (h : a_H) : a_call (d + 1) MX1_layerOf [.ref x0, .int x1] h = a_run d MX1_layerOf 0 [some (.ref x0), some (.int x1)] [] h := a_call_run rfl (Nat.le_of_ble_eq_true rfl) rfl
theorem w_X1_layerOf_0 (d : Nat) (a1 : Option Value) (x : Nat) (st : List Value) (h : a_H) : a_run d MX1_layerOf 0 [some (.ref x), a1] st h = a_run d MX1_layerOf 1 [some (.ref x), a1] (.ref x :: st) h := w_ldAn dX1_layerOf_0 rfl
theorem w_X1_layerOf_1 (d : Nat) (L : a_L) (i : Nat) (st : List Value) (h : a_H) : a_run d MX1_layerOf 1 L (.ref i :: st) h = (a_gf h i 0 [0]).bind fun v => a_run d MX1_layerOf 4 L (v :: st) h := w_getf dX1_layerOf_1 rfl
theorem w_X1_layerOf_4 (d : Nat) (L : a_L) (i : Nat) (st : List Value) (h : a_H) : a_run d MX1_layerOf 4 L (.ref i :: st) h = (a_gf h i 3 [1]).bind fun v => a_run d MX1_layerOf 7 L (v :: st) h := w_getf dX1_layerOf_4 rfl
theorem w_X1_layerOf_7 (d : Nat) (a1 : Option Value) (x : Nat) (st : List Value) (h : a_H) : a_run d MX1_layerOf 7 [some (.ref x), a1] st h = a_run d MX1_layerOf 8 [some (.ref x), a1] (.ref x :: st) h := w_ldAn dX1_layerOf_7 rfl
theorem w_X1_layerOf_8 (d : Nat) (a0 : Option Value) (x : Int32) (st : List Value) (h : a_H) : a_run d MX1_layerOf 8 [a0, some (.int x)] st h = a_run d MX1_layerOf 9 [a0, some (.int x)] (.int x :: st) h := w_ldIn dX1_layerOf_8 rfl
theorem w_X1_layerOf_9 (d : Nat) (L : a_L) (i : Nat) (v1 : Value) (st : List Value) (h : a_H) (hk : a_kls h i = some 0) (hc : a_cat st ≤ 8) : a_run d MX1_layerOf 9 L (v1 :: .ref i :: st) h = a_cont d MX1_layerOf (a_bk MX1_layerOf 9 L st (a_call d MX1_known [.ref i, v1] h)) := w_callV (as := [.ref i, v1]) dX1_layerOf_9 rfl rfl rfl hc (a_rcv_of hk rfl)
theorem w_X1_layerOf_12 (d : Nat) (L : a_L) (x : Int32) (i : Nat) (st : List Value) (h : a_H) : a_run d MX1_layerOf 12 L (.int x :: .ref i :: st) h = (a_rdi h i a_int x).bind fun v => a_run d MX1_layerOf 13 L (v :: st) h := w_iald dX1_layerOf_12
theorem w_X1_layerOf_13 (d : Nat) (L : a_L) (x : Int32) (h : a_H) : a_run d MX1_layerOf 13 L [.int x] h = some (.inl (some (.int x)), h) := w_iret dX1_layerOf_13 (w_retI rfl)
theorem e_X1_layerByGoingBack (d : Nat) (x0 : Nat) (x1 : Int32) (h : a_H) : a_call (d + 1) MX1_layerByGoingBack [.ref x0, .int x1] h = a_run d MX1_layerByGoingBack 0 [some (.ref x0), some (.int x1)] [] h := a_call_run rfl (Nat.le_of_ble_eq_true rfl) rfl
theorem w_X1_layerByGoingBack_0 (d : Nat) (a1 : Option Value) (x : Nat) (st : List Value) (h : a_H) : a_run d MX1_layerByGoingBack 0 [some (.ref x), a1] st h = a_run d MX1_layerByGoingBack 1 [some (.ref x), a1] (.ref x :: st) h := w_ldAn dX1_layerByGoingBack_0 rfl
theorem w_X1_layerByGoingBack_1 (d : Nat) (L : a_L) (i : Nat) (st : List Value) (h : a_H) : a_run d MX1_layerByGoingBack 1 L (.ref i :: st) h = (a_gf h i 0 [0]).bind fun v => a_run d MX1_layerByGoingBack 4 L (v :: st) h := w_getf dX1_layerByGoingBack_1 rfl
theorem w_X1_layerByGoingBack_4 (d : Nat) (a1 : Option Value) (x : Nat) (st : List Value) (h : a_H) : a_run d MX1_layerByGoingBack 4 [some (.ref x), a1] st h = a_run d MX1_layerByGoingBack 5 [some (.ref x), a1] (.ref x :: st) h := w_ldAn dX1_layerByGoingBack_4 rfl
theorem w_X1_layerByGoingBack_5 (d : Nat) (a0 : Option Value) (x : Int32) (st : List Value) (h : a_H) : a_run d MX1_layerByGoingBack 5 [a0, some (.int x)] st h = a_run d MX1_layerByGoingBack 6 [a0, some (.int x)] (.int x :: st) h := w_ldIn dX1_layerByGoingBack_5 rfl
theorem w_X1_layerByGoingBack_6 (d : Nat) (L : a_L) (i : Nat) (v1 : Value) (st : List Value) (h : a_H) (hk : a_kls h i = some 0) (hc : a_cat st ≤ 8) : a_run d MX1_layerByGoingBack 6 L (v1 :: .ref i :: st) h = a_cont d MX1_layerByGoingBack (a_bk MX1_layerByGoingBack 6 L st (a_call d MX1_known [.ref i, v1] h)) := w_callV (as := [.ref i, v1]) dX1_layerByGoingBack_6 rfl rfl rfl hc (a_rcv_of hk rfl)
theorem w_X1_layerByGoingBack_9 (d : Nat) (L : a_L) (i : Nat) (v1 : Value) (st : List Value) (h : a_H) (hk : a_kls h i = some 1) (hc : a_cat st ≤ 8) : a_run d MX1_layerByGoingBack 9 L (v1 :: .ref i :: st) h = a_cont d MX1_layerByGoingBack (a_bk MX1_layerByGoingBack 9 L st (a_call d MX2_back [.ref i, v1] h)) := w_callV (as := [.ref i, v1]) dX1_layerByGoingBack_9 rfl rfl rfl hc (a_rcv_of hk rfl)
theorem w_X1_layerByGoingBack_12 (d : Nat) (L : a_L) (x : Int32) (h : a_H) : a_run d MX1_layerByGoingBack 12 L [.int x] h = some (.inl (some (.int x)), h) := w_iret dX1_layerByGoingBack_12 (w_retI rfl)
theorem e_X1_leastOf (d : Nat) (x0 : Nat) (x1 : Int32) (h : a_H) : a_call (d + 1) MX1_leastOf [.ref x0, .int x1] h = a_run d MX1_leastOf 0 [some (.ref x0), some (.int x1)] [] h := a_call_run rfl (Nat.le_of_ble_eq_true rfl) rfl
theorem w_X1_leastOf_0 (d : Nat) (a1 : Option Value) (x : Nat) (st : List Value) (h : a_H) : a_run d MX1_leastOf 0 [some (.ref x), a1] st h = a_run d MX1_leastOf 1 [some (.ref x), a1] (.ref x :: st) h := w_ldAn dX1_leastOf_0 rfl
theorem w_X1_leastOf_1 (d : Nat) (L : a_L) (i : Nat) (st : List Value) (h : a_H) : a_run d MX1_leastOf 1 L (.ref i :: st) h = (a_gf h i 0 [0]).bind fun v => a_run d MX1_leastOf 4 L (v :: st) h := w_getf dX1_leastOf_1 rfl
theorem w_X1_leastOf_4 (d : Nat) (L : a_L) (i : Nat) (st : List Value) (h : a_H) : a_run d MX1_leastOf 4 L (.ref i :: st) h = (a_gf h i 2 [1]).bind fun v => a_run d MX1_leastOf 7 L (v :: st) h := w_getf dX1_leastOf_4 rfl
theorem w_X1_leastOf_7 (d : Nat) (a1 : Option Value) (x : Nat) (st : List Value) (h : a_H) : a_run d MX1_leastOf 7 [some (.ref x), a1] st h = a_run d MX1_leastOf 8 [some (.ref x), a1] (.ref x :: st) h := w_ldAn dX1_leastOf_7 rfl
theorem w_X1_leastOf_8 (d : Nat) (a0 : Option Value) (x : Int32) (st : List Value) (h : a_H) : a_run d MX1_leastOf 8 [a0, some (.int x)] st h = a_run d MX1_leastOf 9 [a0, some (.int x)] (.int x :: st) h := w_ldIn dX1_leastOf_8 rfl
theorem w_X1_leastOf_9 (d : Nat) (L : a_L) (i : Nat) (v1 : Value) (st : List Value) (h : a_H) (hk : a_kls h i = some 0) (hc : a_cat st ≤ 8) : a_run d MX1_leastOf 9 L (v1 :: .ref i :: st) h = a_cont d MX1_leastOf (a_bk MX1_leastOf 9 L st (a_call d MX1_known [.ref i, v1] h)) := w_callV (as := [.ref i, v1]) dX1_leastOf_9 rfl rfl rfl hc (a_rcv_of hk rfl)
theorem w_X1_leastOf_12 (d : Nat) (L : a_L) (x : Int32) (i : Nat) (st : List Value) (h : a_H) : a_run d MX1_leastOf 12 L (.int x :: .ref i :: st) h = (a_rdi h i a_int x).bind fun v => a_run d MX1_leastOf 13 L (v :: st) h := w_iald dX1_leastOf_12
theorem w_X1_leastOf_13 (d : Nat) (L : a_L) (x : Int32) (h : a_H) : a_run d MX1_leastOf 13 L [.int x] h = some (.inl (some (.int x)), h) := w_iret dX1_leastOf_13 (w_retI rfl)
theorem e_X1_spanOf (d : Nat) (x0 : Nat) (x1 : Int32) (h : a_H) : a_call (d + 1) MX1_spanOf [.ref x0, .int x1] h = a_run d MX1_spanOf 0 [some (.ref x0), some (.int x1), none] [] h := a_call_run rfl (Nat.le_of_ble_eq_true rfl) rfl
theorem w_X1_spanOf_0 (d : Nat) (a1 a2 : Option Value) (x : Nat) (st : List Value) (h : a_H) : a_run d MX1_spanOf 0 [some (.ref x), a1, a2] st h = a_run d MX1_spanOf 1 [some (.ref x), a1, a2] (.ref x :: st) h := w_ldAn dX1_spanOf_0 rfl
theorem w_X1_spanOf_1 (d : Nat) (a0 a2 : Option Value) (x : Int32) (st : List Value) (h : a_H) : a_run d MX1_spanOf 1 [a0, some (.int x), a2] st h = a_run d MX1_spanOf 2 [a0, some (.int x), a2] (.int x :: st) h := w_ldIn dX1_spanOf_1 rfl
theorem w_X1_spanOf_2 (d : Nat) (L : a_L) (i : Nat) (v1 : Value) (st : List Value) (h : a_H) (hk : a_kls h i = some 0) (hc : a_cat st ≤ 8) : a_run d MX1_spanOf 2 L (v1 :: .ref i :: st) h = a_cont d MX1_spanOf (a_bk MX1_spanOf 2 L st (a_call d MX1_arrowThere [.ref i, v1] h)) := w_callV (as := [.ref i, v1]) dX1_spanOf_2 rfl rfl rfl hc (a_rcv_of hk rfl)
theorem w_X1_spanOf_5 (d : Nat) (a0 a1 a2 : Option Value) (x : Int32) (st : List Value) (h : a_H) : a_run d MX1_spanOf 5 [a0, a1, a2] (.int x :: st) h = a_run d MX1_spanOf 6 [a0, a1, some (.int x)] st h := w_stIn dX1_spanOf_5 (Nat.le_of_ble_eq_true rfl) rfl
theorem w_X1_spanOf_6 (d : Nat) (a1 a2 : Option Value) (x : Nat) (st : List Value) (h : a_H) : a_run d MX1_spanOf 6 [some (.ref x), a1, a2] st h = a_run d MX1_spanOf 7 [some (.ref x), a1, a2] (.ref x :: st) h := w_ldAn dX1_spanOf_6 rfl
theorem w_X1_spanOf_7 (d : Nat) (L : a_L) (i : Nat) (st : List Value) (h : a_H) : a_run d MX1_spanOf 7 L (.ref i :: st) h = (a_gf h i 0 [0]).bind fun v => a_run d MX1_spanOf 10 L (v :: st) h := w_getf dX1_spanOf_7 rfl
theorem w_X1_spanOf_10 (d : Nat) (L : a_L) (i : Nat) (st : List Value) (h : a_H) : a_run d MX1_spanOf 10 L (.ref i :: st) h = (a_gf h i 3 [1]).bind fun v => a_run d MX1_spanOf 13 L (v :: st) h := w_getf dX1_spanOf_10 rfl
theorem w_X1_spanOf_13 (d : Nat) (a1 a2 : Option Value) (x : Nat) (st : List Value) (h : a_H) : a_run d MX1_spanOf 13 [some (.ref x), a1, a2] st h = a_run d MX1_spanOf 14 [some (.ref x), a1, a2] (.ref x :: st) h := w_ldAn dX1_spanOf_13 rfl
theorem w_X1_spanOf_14 (d : Nat) (L : a_L) (i : Nat) (st : List Value) (h : a_H) : a_run d MX1_spanOf 14 L (.ref i :: st) h = (a_gf h i 0 [0]).bind fun v => a_run d MX1_spanOf 17 L (v :: st) h := w_getf dX1_spanOf_14 rfl
theorem w_X1_spanOf_17 (d : Nat) (L : a_L) (i : Nat) (st : List Value) (h : a_H) : a_run d MX1_spanOf 17 L (.ref i :: st) h = (a_gf h i 1 [1]).bind fun v => a_run d MX1_spanOf 20 L (v :: st) h := w_getf dX1_spanOf_17 rfl
theorem w_X1_spanOf_20 (d : Nat) (a0 a1 : Option Value) (x : Int32) (st : List Value) (h : a_H) : a_run d MX1_spanOf 20 [a0, a1, some (.int x)] st h = a_run d MX1_spanOf 21 [a0, a1, some (.int x)] (.int x :: st) h := w_ldIn dX1_spanOf_20 rfl
theorem w_X1_spanOf_21 (d : Nat) (L : a_L) (x : Int32) (i : Nat) (st : List Value) (h : a_H) : a_run d MX1_spanOf 21 L (.int x :: .ref i :: st) h = (a_rdi h i a_int x).bind fun v => a_run d MX1_spanOf 22 L (v :: st) h := w_iald dX1_spanOf_21
theorem w_X1_spanOf_22 (d : Nat) (L : a_L) (x : Int32) (i : Nat) (st : List Value) (h : a_H) : a_run d MX1_spanOf 22 L (.int x :: .ref i :: st) h = (a_rdi h i a_int x).bind fun v => a_run d MX1_spanOf 23 L (v :: st) h := w_iald dX1_spanOf_22
theorem w_X1_spanOf_23 (d : Nat) (a1 a2 : Option Value) (x : Nat) (st : List Value) (h : a_H) : a_run d MX1_spanOf 23 [some (.ref x), a1, a2] st h = a_run d MX1_spanOf 24 [some (.ref x), a1, a2] (.ref x :: st) h := w_ldAn dX1_spanOf_23 rfl
theorem w_X1_spanOf_24 (d : Nat) (L : a_L) (i : Nat) (st : List Value) (h : a_H) : a_run d MX1_spanOf 24 L (.ref i :: st) h = (a_gf h i 0 [0]).bind fun v => a_run d MX1_spanOf 27 L (v :: st) h := w_getf dX1_spanOf_24 rfl
theorem w_X1_spanOf_27 (d : Nat) (L : a_L) (i : Nat) (st : List Value) (h : a_H) : a_run d MX1_spanOf 27 L (.ref i :: st) h = (a_gf h i 3 [1]).bind fun v => a_run d MX1_spanOf 30 L (v :: st) h := w_getf dX1_spanOf_27 rfl
theorem w_X1_spanOf_30 (d : Nat) (a1 a2 : Option Value) (x : Nat) (st : List Value) (h : a_H) : a_run d MX1_spanOf 30 [some (.ref x), a1, a2] st h = a_run d MX1_spanOf 31 [some (.ref x), a1, a2] (.ref x :: st) h := w_ldAn dX1_spanOf_30 rfl
theorem w_X1_spanOf_31 (d : Nat) (L : a_L) (i : Nat) (st : List Value) (h : a_H) : a_run d MX1_spanOf 31 L (.ref i :: st) h = (a_gf h i 0 [0]).bind fun v => a_run d MX1_spanOf 34 L (v :: st) h := w_getf dX1_spanOf_31 rfl
theorem w_X1_spanOf_34 (d : Nat) (L : a_L) (i : Nat) (st : List Value) (h : a_H) : a_run d MX1_spanOf 34 L (.ref i :: st) h = (a_gf h i 0 [1]).bind fun v => a_run d MX1_spanOf 37 L (v :: st) h := w_getf dX1_spanOf_34 rfl
theorem w_X1_spanOf_37 (d : Nat) (a0 a1 : Option Value) (x : Int32) (st : List Value) (h : a_H) : a_run d MX1_spanOf 37 [a0, a1, some (.int x)] st h = a_run d MX1_spanOf 38 [a0, a1, some (.int x)] (.int x :: st) h := w_ldIn dX1_spanOf_37 rfl
theorem w_X1_spanOf_38 (d : Nat) (L : a_L) (x : Int32) (i : Nat) (st : List Value) (h : a_H) : a_run d MX1_spanOf 38 L (.int x :: .ref i :: st) h = (a_rdi h i a_int x).bind fun v => a_run d MX1_spanOf 39 L (v :: st) h := w_iald dX1_spanOf_38
theorem w_X1_spanOf_39 (d : Nat) (L : a_L) (x : Int32) (i : Nat) (st : List Value) (h : a_H) : a_run d MX1_spanOf 39 L (.int x :: .ref i :: st) h = (a_rdi h i a_int x).bind fun v => a_run d MX1_spanOf 40 L (v :: st) h := w_iald dX1_spanOf_39
theorem w_X1_spanOf_40 (d : Nat) (L : a_L) (x y : Int32) (st : List Value) (h : a_H) : a_run d MX1_spanOf 40 L (.int y :: .int x :: st) h = a_run d MX1_spanOf 41 L (.int (x - y) :: st) h := w_isub dX1_spanOf_40
theorem w_X1_spanOf_41 (d : Nat) (L : a_L) (x : Int32) (h : a_H) : a_run d MX1_spanOf 41 L [.int x] h = some (.inl (some (.int x)), h) := w_iret dX1_spanOf_41 (w_retI rfl)
theorem e_X1_pointsOf (d : Nat) (x0 : Nat) (x1 : Int32) (h : a_H) : a_call (d + 1) MX1_pointsOf [.ref x0, .int x1] h = a_run d MX1_pointsOf 0 [some (.ref x0), some (.int x1)] [] h := a_call_run rfl (Nat.le_of_ble_eq_true rfl) rfl
theorem w_X1_pointsOf_0 (d : Nat) (a1 : Option Value) (x : Nat) (st : List Value) (h : a_H) : a_run d MX1_pointsOf 0 [some (.ref x), a1] st h = a_run d MX1_pointsOf 1 [some (.ref x), a1] (.ref x :: st) h := w_ldAn dX1_pointsOf_0 rfl
theorem w_X1_pointsOf_1 (d : Nat) (L : a_L) (i : Nat) (st : List Value) (h : a_H) : a_run d MX1_pointsOf 1 L (.ref i :: st) h = (a_gf h i 0 [0]).bind fun v => a_run d MX1_pointsOf 4 L (v :: st) h := w_getf dX1_pointsOf_1 rfl
theorem w_X1_pointsOf_4 (d : Nat) (L : a_L) (i : Nat) (st : List Value) (h : a_H) : a_run d MX1_pointsOf 4 L (.ref i :: st) h = (a_gf h i 5 [1]).bind fun v => a_run d MX1_pointsOf 7 L (v :: st) h := w_getf dX1_pointsOf_4 rfl
theorem w_X1_pointsOf_7 (d : Nat) (a1 : Option Value) (x : Nat) (st : List Value) (h : a_H) : a_run d MX1_pointsOf 7 [some (.ref x), a1] st h = a_run d MX1_pointsOf 8 [some (.ref x), a1] (.ref x :: st) h := w_ldAn dX1_pointsOf_7 rfl
theorem w_X1_pointsOf_8 (d : Nat) (a0 : Option Value) (x : Int32) (st : List Value) (h : a_H) : a_run d MX1_pointsOf 8 [a0, some (.int x)] st h = a_run d MX1_pointsOf 9 [a0, some (.int x)] (.int x :: st) h := w_ldIn dX1_pointsOf_8 rfl
theorem w_X1_pointsOf_9 (d : Nat) (L : a_L) (i : Nat) (v1 : Value) (st : List Value) (h : a_H) (hk : a_kls h i = some 0) (hc : a_cat st ≤ 8) : a_run d MX1_pointsOf 9 L (v1 :: .ref i :: st) h = a_cont d MX1_pointsOf (a_bk MX1_pointsOf 9 L st (a_call d MX1_layerThere [.ref i, v1] h)) := w_callV (as := [.ref i, v1]) dX1_pointsOf_9 rfl rfl rfl hc (a_rcv_of hk rfl)
theorem w_X1_pointsOf_12 (d : Nat) (L : a_L) (x : Int32) (i : Nat) (st : List Value) (h : a_H) : a_run d MX1_pointsOf 12 L (.int x :: .ref i :: st) h = (a_rdi h i a_int x).bind fun v => a_run d MX1_pointsOf 13 L (v :: st) h := w_iald dX1_pointsOf_12
theorem w_X1_pointsOf_13 (d : Nat) (L : a_L) (x : Int32) (h : a_H) : a_run d MX1_pointsOf 13 L [.int x] h = some (.inl (some (.int x)), h) := w_iret dX1_pointsOf_13 (w_retI rfl)
theorem e_X1_layerThere (d : Nat) (x0 : Nat) (x1 : Int32) (h : a_H) : a_call (d + 1) MX1_layerThere [.ref x0, .int x1] h = a_run d MX1_layerThere 0 [some (.ref x0), some (.int x1)] [] h := a_call_run rfl (Nat.le_of_ble_eq_true rfl) rfl
theorem w_X1_layerThere_0 (d : Nat) (a1 : Option Value) (x : Nat) (st : List Value) (h : a_H) : a_run d MX1_layerThere 0 [some (.ref x), a1] st h = a_run d MX1_layerThere 1 [some (.ref x), a1] (.ref x :: st) h := w_ldAn dX1_layerThere_0 rfl
theorem w_X1_layerThere_1 (d : Nat) (L : a_L) (i : Nat) (st : List Value) (h : a_H) : a_run d MX1_layerThere 1 L (.ref i :: st) h = (a_gf h i 0 [0]).bind fun v => a_run d MX1_layerThere 4 L (v :: st) h := w_getf dX1_layerThere_1 rfl
theorem w_X1_layerThere_4 (d : Nat) (a0 : Option Value) (x : Int32) (st : List Value) (h : a_H) : a_run d MX1_layerThere 4 [a0, some (.int x)] st h = a_run d MX1_layerThere 5 [a0, some (.int x)] (.int x :: st) h := w_ldIn dX1_layerThere_4 rfl
theorem w_X1_layerThere_5 (d : Nat) (L : a_L) (i : Nat) (v1 : Value) (st : List Value) (h : a_H) (hk : a_kls h i = some 1) (hc : a_cat st ≤ 8) : a_run d MX1_layerThere 5 L (v1 :: .ref i :: st) h = a_cont d MX1_layerThere (a_bk MX1_layerThere 5 L st (a_call d MX2_isLayer [.ref i, v1] h)) := w_callV (as := [.ref i, v1]) dX1_layerThere_5 rfl rfl rfl hc (a_rcv_of hk rfl)
theorem w_X1_layerThere_8 (d : Nat) (L : a_L) (v0 : Value) (st : List Value) (h : a_H) (hc : a_cat st ≤ 8) : a_run d MX1_layerThere 8 L (v0 :: st) h = a_cont d MX1_layerThere (a_bk MX1_layerThere 8 L st (a_call d MX1_needArgument [v0] h)) := w_callS (as := [v0]) dX1_layerThere_8 rfl rfl rfl hc
theorem w_X1_layerThere_11 (d : Nat) (a0 : Option Value) (x : Int32) (st : List Value) (h : a_H) : a_run d MX1_layerThere 11 [a0, some (.int x)] st h = a_run d MX1_layerThere 12 [a0, some (.int x)] (.int x :: st) h := w_ldIn dX1_layerThere_11 rfl
theorem w_X1_layerThere_12 (d : Nat) (L : a_L) (x : Int32) (h : a_H) : a_run d MX1_layerThere 12 L [.int x] h = some (.inl (some (.int x)), h) := w_iret dX1_layerThere_12 (w_retI rfl)
theorem e_X1_pointAt (d : Nat) (x0 : Nat) (x1 : Int32) (x2 : Int32) (h : a_H) : a_call (d + 1) MX1_pointAt [.ref x0, .int x1, .int x2] h = a_run d MX1_pointAt 0 [some (.ref x0), some (.int x1), some (.int x2)] [] h := a_call_run rfl (Nat.le_of_ble_eq_true rfl) rfl
theorem w_X1_pointAt_0 (d : Nat) (a1 a2 : Option Value) (x : Nat) (st : List Value) (h : a_H) : a_run d MX1_pointAt 0 [some (.ref x), a1, a2] st h = a_run d MX1_pointAt 1 [some (.ref x), a1, a2] (.ref x :: st) h := w_ldAn dX1_pointAt_0 rfl
theorem w_X1_pointAt_1 (d : Nat) (a0 a2 : Option Value) (x : Int32) (st : List Value) (h : a_H) : a_run d MX1_pointAt 1 [a0, some (.int x), a2] st h = a_run d MX1_pointAt 2 [a0, some (.int x), a2] (.int x :: st) h := w_ldIn dX1_pointAt_1 rfl
theorem w_X1_pointAt_2 (d : Nat) (a0 a1 : Option Value) (x : Int32) (st : List Value) (h : a_H) : a_run d MX1_pointAt 2 [a0, a1, some (.int x)] st h = a_run d MX1_pointAt 3 [a0, a1, some (.int x)] (.int x :: st) h := w_ldIn dX1_pointAt_2 rfl
theorem w_X1_pointAt_3 (d : Nat) (L : a_L) (i : Nat) (v1 v2 : Value) (st : List Value) (h : a_H) (hk : a_kls h i = some 0) (hc : a_cat st ≤ 8) : a_run d MX1_pointAt 3 L (v2 :: v1 :: .ref i :: st) h = a_cont d MX1_pointAt (a_bk MX1_pointAt 3 L st (a_call d MX1_needPoint [.ref i, v1, v2] h)) := w_callV (as := [.ref i, v1, v2]) dX1_pointAt_3 rfl rfl rfl hc (a_rcv_of hk rfl)
theorem w_X1_pointAt_6 (d : Nat) (a1 a2 : Option Value) (x : Nat) (st : List Value) (h : a_H) : a_run d MX1_pointAt 6 [some (.ref x), a1, a2] st h = a_run d MX1_pointAt 7 [some (.ref x), a1, a2] (.ref x :: st) h := w_ldAn dX1_pointAt_6 rfl
theorem w_X1_pointAt_7 (d : Nat) (L : a_L) (i : Nat) (st : List Value) (h : a_H) : a_run d MX1_pointAt 7 L (.ref i :: st) h = (a_gf h i 0 [0]).bind fun v => a_run d MX1_pointAt 10 L (v :: st) h := w_getf dX1_pointAt_7 rfl
theorem w_X1_pointAt_10 (d : Nat) (a0 a2 : Option Value) (x : Int32) (st : List Value) (h : a_H) : a_run d MX1_pointAt 10 [a0, some (.int x), a2] st h = a_run d MX1_pointAt 11 [a0, some (.int x), a2] (.int x :: st) h := w_ldIn dX1_pointAt_10 rfl
theorem w_X1_pointAt_11 (d : Nat) (a0 a1 : Option Value) (x : Int32) (st : List Value) (h : a_H) : a_run d MX1_pointAt 11 [a0, a1, some (.int x)] st h = a_run d MX1_pointAt 12 [a0, a1, some (.int x)] (.int x :: st) h := w_ldIn dX1_pointAt_11 rfl
theorem w_X1_pointAt_12 (d : Nat) (L : a_L) (i : Nat) (v1 v2 : Value) (st : List Value) (h : a_H) (hk : a_kls h i = some 1) (hc : a_cat st ≤ 8) : a_run d MX1_pointAt 12 L (v2 :: v1 :: .ref i :: st) h = a_cont d MX1_pointAt (a_bk MX1_pointAt 12 L st (a_call d MX2_point [.ref i, v1, v2] h)) := w_callV (as := [.ref i, v1, v2]) dX1_pointAt_12 rfl rfl rfl hc (a_rcv_of hk rfl)
theorem w_X1_pointAt_15 (d : Nat) (L : a_L) (x : Int32) (h : a_H) : a_run d MX1_pointAt 15 L [.int x] h = some (.inl (some (.int x)), h) := w_iret dX1_pointAt_15 (w_retI rfl)
theorem e_X1_needPoint (d : Nat) (x0 : Nat) (x1 : Int32) (x2 : Int32) (h : a_H) : a_call (d + 1) MX1_needPoint [.ref x0, .int x1, .int x2] h = a_run d MX1_needPoint 0 [some (.ref x0), some (.int x1), some (.int x2)] [] h := a_call_run rfl (Nat.le_of_ble_eq_true rfl) rfl
theorem w_X1_needPoint_0 (d : Nat) (a1 a2 : Option Value) (x : Nat) (st : List Value) (h : a_H) : a_run d MX1_needPoint 0 [some (.ref x), a1, a2] st h = a_run d MX1_needPoint 1 [some (.ref x), a1, a2] (.ref x :: st) h := w_ldAn dX1_needPoint_0 rfl
theorem w_X1_needPoint_1 (d : Nat) (L : a_L) (i : Nat) (st : List Value) (h : a_H) : a_run d MX1_needPoint 1 L (.ref i :: st) h = (a_gf h i 0 [0]).bind fun v => a_run d MX1_needPoint 4 L (v :: st) h := w_getf dX1_needPoint_1 rfl
theorem w_X1_needPoint_4 (d : Nat) (a0 a2 : Option Value) (x : Int32) (st : List Value) (h : a_H) : a_run d MX1_needPoint 4 [a0, some (.int x), a2] st h = a_run d MX1_needPoint 5 [a0, some (.int x), a2] (.int x :: st) h := w_ldIn dX1_needPoint_4 rfl
theorem w_X1_needPoint_5 (d : Nat) (L : a_L) (i : Nat) (v1 : Value) (st : List Value) (h : a_H) (hk : a_kls h i = some 1) (hc : a_cat st ≤ 8) : a_run d MX1_needPoint 5 L (v1 :: .ref i :: st) h = a_cont d MX1_needPoint (a_bk MX1_needPoint 5 L st (a_call d MX2_isLayer [.ref i, v1] h)) := w_callV (as := [.ref i, v1]) dX1_needPoint_5 rfl rfl rfl hc (a_rcv_of hk rfl)
theorem w_X1_needPoint_8 (d : Nat) (L : a_L) (x : Int32) (st : List Value) (h : a_H) : a_run d MX1_needPoint 8 L (.int x :: st) h = if x = 0 then a_run d MX1_needPoint 19 L st h else a_run d MX1_needPoint 11 L st h := w_if_eq dX1_needPoint_8 rfl
theorem w_X1_needPoint_11 (d : Nat) (a0 a1 : Option Value) (x : Int32) (st : List Value) (h : a_H) : a_run d MX1_needPoint 11 [a0, a1, some (.int x)] st h = a_run d MX1_needPoint 12 [a0, a1, some (.int x)] (.int x :: st) h := w_ldIn dX1_needPoint_11 rfl
theorem w_X1_needPoint_12 (d : Nat) (L : a_L) (x : Int32) (st : List Value) (h : a_H) : a_run d MX1_needPoint 12 L (.int x :: st) h = if x < 0 then a_run d MX1_needPoint 19 L st h else a_run d MX1_needPoint 15 L st h := w_if_lt dX1_needPoint_12 rfl
theorem w_X1_needPoint_15 (d : Nat) (L : a_L) (st : List Value) (h : a_H) : a_run d MX1_needPoint 15 L st h = a_run d MX1_needPoint 16 L (.int (nI 1) :: st) h := w_iconst dX1_needPoint_15 rfl
theorem w_X1_needPoint_16 (d : Nat) (L : a_L) (st : List Value) (h : a_H) : a_run d MX1_needPoint 16 L st h = a_run d MX1_needPoint 20 L st h := w_goto dX1_needPoint_16 rfl
theorem w_X1_needPoint_19 (d : Nat) (L : a_L) (st : List Value) (h : a_H) : a_run d MX1_needPoint 19 L st h = a_run d MX1_needPoint 20 L (.int (nI 0) :: st) h := w_iconst dX1_needPoint_19 rfl
theorem w_X1_needPoint_20 (d : Nat) (L : a_L) (v0 : Value) (st : List Value) (h : a_H) (hc : a_cat st ≤ 8) : a_run d MX1_needPoint 20 L (v0 :: st) h = a_cont d MX1_needPoint (a_bk MX1_needPoint 20 L st (a_call d MX1_needArgument [v0] h)) := w_callS (as := [v0]) dX1_needPoint_20 rfl rfl rfl hc
theorem w_X1_needPoint_23 (d : Nat) (a0 a1 : Option Value) (x : Int32) (st : List Value) (h : a_H) : a_run d MX1_needPoint 23 [a0, a1, some (.int x)] st h = a_run d MX1_needPoint 24 [a0, a1, some (.int x)] (.int x :: st) h := w_ldIn dX1_needPoint_23 rfl
theorem w_X1_needPoint_24 (d : Nat) (a1 a2 : Option Value) (x : Nat) (st : List Value) (h : a_H) : a_run d MX1_needPoint 24 [some (.ref x), a1, a2] st h = a_run d MX1_needPoint 25 [some (.ref x), a1, a2] (.ref x :: st) h := w_ldAn dX1_needPoint_24 rfl
theorem w_X1_needPoint_25 (d : Nat) (L : a_L) (i : Nat) (st : List Value) (h : a_H) : a_run d MX1_needPoint 25 L (.ref i :: st) h = (a_gf h i 0 [0]).bind fun v => a_run d MX1_needPoint 28 L (v :: st) h := w_getf dX1_needPoint_25 rfl
theorem w_X1_needPoint_28 (d : Nat) (L : a_L) (i : Nat) (st : List Value) (h : a_H) : a_run d MX1_needPoint 28 L (.ref i :: st) h = (a_gf h i 5 [1]).bind fun v => a_run d MX1_needPoint 31 L (v :: st) h := w_getf dX1_needPoint_28 rfl
theorem w_X1_needPoint_31 (d : Nat) (a0 a2 : Option Value) (x : Int32) (st : List Value) (h : a_H) : a_run d MX1_needPoint 31 [a0, some (.int x), a2] st h = a_run d MX1_needPoint 32 [a0, some (.int x), a2] (.int x :: st) h := w_ldIn dX1_needPoint_31 rfl
theorem w_X1_needPoint_32 (d : Nat) (L : a_L) (x : Int32) (i : Nat) (st : List Value) (h : a_H) : a_run d MX1_needPoint 32 L (.int x :: .ref i :: st) h = (a_rdi h i a_int x).bind fun v => a_run d MX1_needPoint 33 L (v :: st) h := w_iald dX1_needPoint_32
theorem w_X1_needPoint_33 (d : Nat) (L : a_L) (x y : Int32) (st : List Value) (h : a_H) : a_run d MX1_needPoint 33 L (.int y :: .int x :: st) h = if x < y then a_run d MX1_needPoint 36 L st h else a_run d MX1_needPoint 40 L st h := w_icmp_ge dX1_needPoint_33 rfl
theorem w_X1_needPoint_36 (d : Nat) (L : a_L) (st : List Value) (h : a_H) : a_run d MX1_needPoint 36 L st h = a_run d MX1_needPoint 37 L (.int (nI 1) :: st) h := w_iconst dX1_needPoint_36 rfl
theorem w_X1_needPoint_37 (d : Nat) (L : a_L) (st : List Value) (h : a_H) : a_run d MX1_needPoint 37 L st h = a_run d MX1_needPoint 41 L st h := w_goto dX1_needPoint_37 rfl
theorem w_X1_needPoint_40 (d : Nat) (L : a_L) (st : List Value) (h : a_H) : a_run d MX1_needPoint 40 L st h = a_run d MX1_needPoint 41 L (.int (nI 0) :: st) h := w_iconst dX1_needPoint_40 rfl
theorem w_X1_needPoint_41 (d : Nat) (L : a_L) (v0 : Value) (st : List Value) (h : a_H) (hc : a_cat st ≤ 8) : a_run d MX1_needPoint 41 L (v0 :: st) h = a_cont d MX1_needPoint (a_bk MX1_needPoint 41 L st (a_call d MX1_needSuch [v0] h)) := w_callS (as := [v0]) dX1_needPoint_41 rfl rfl rfl hc
theorem w_X1_needPoint_44 (d : Nat) (L : a_L) (h : a_H) : a_run d MX1_needPoint 44 L [] h = some (.inl none, h) := w_vret dX1_needPoint_44 rfl
theorem e_X1_placeOf (d : Nat) (x0 : Nat) (x1 : Int32) (h : a_H) : a_call (d + 1) MX1_placeOf [.ref x0, .int x1] h = a_run d MX1_placeOf 0 [some (.ref x0), some (.int x1)] [] h := a_call_run rfl (Nat.le_of_ble_eq_true rfl) rfl
theorem w_X1_placeOf_0 (d : Nat) (a1 : Option Value) (x : Nat) (st : List Value) (h : a_H) : a_run d MX1_placeOf 0 [some (.ref x), a1] st h = a_run d MX1_placeOf 1 [some (.ref x), a1] (.ref x :: st) h := w_ldAn dX1_placeOf_0 rfl
theorem w_X1_placeOf_1 (d : Nat) (L : a_L) (i : Nat) (st : List Value) (h : a_H) : a_run d MX1_placeOf 1 L (.ref i :: st) h = (a_gf h i 0 [0]).bind fun v => a_run d MX1_placeOf 4 L (v :: st) h := w_getf dX1_placeOf_1 rfl
theorem w_X1_placeOf_4 (d : Nat) (a1 : Option Value) (x : Nat) (st : List Value) (h : a_H) : a_run d MX1_placeOf 4 [some (.ref x), a1] st h = a_run d MX1_placeOf 5 [some (.ref x), a1] (.ref x :: st) h := w_ldAn dX1_placeOf_4 rfl
theorem w_X1_placeOf_5 (d : Nat) (L : a_L) (i : Nat) (st : List Value) (h : a_H) : a_run d MX1_placeOf 5 L (.ref i :: st) h = (a_gf h i 0 [0]).bind fun v => a_run d MX1_placeOf 8 L (v :: st) h := w_getf dX1_placeOf_5 rfl
theorem w_X1_placeOf_8 (d : Nat) (L : a_L) (i : Nat) (st : List Value) (h : a_H) : a_run d MX1_placeOf 8 L (.ref i :: st) h = (a_gf h i 3 [1]).bind fun v => a_run d MX1_placeOf 11 L (v :: st) h := w_getf dX1_placeOf_8 rfl
theorem w_X1_placeOf_11 (d : Nat) (a1 : Option Value) (x : Nat) (st : List Value) (h : a_H) : a_run d MX1_placeOf 11 [some (.ref x), a1] st h = a_run d MX1_placeOf 12 [some (.ref x), a1] (.ref x :: st) h := w_ldAn dX1_placeOf_11 rfl
theorem w_X1_placeOf_12 (d : Nat) (a0 : Option Value) (x : Int32) (st : List Value) (h : a_H) : a_run d MX1_placeOf 12 [a0, some (.int x)] st h = a_run d MX1_placeOf 13 [a0, some (.int x)] (.int x :: st) h := w_ldIn dX1_placeOf_12 rfl
theorem w_X1_placeOf_13 (d : Nat) (L : a_L) (i : Nat) (v1 : Value) (st : List Value) (h : a_H) (hk : a_kls h i = some 0) (hc : a_cat st ≤ 8) : a_run d MX1_placeOf 13 L (v1 :: .ref i :: st) h = a_cont d MX1_placeOf (a_bk MX1_placeOf 13 L st (a_call d MX1_known [.ref i, v1] h)) := w_callV (as := [.ref i, v1]) dX1_placeOf_13 rfl rfl rfl hc (a_rcv_of hk rfl)
theorem w_X1_placeOf_16 (d : Nat) (L : a_L) (x : Int32) (i : Nat) (st : List Value) (h : a_H) : a_run d MX1_placeOf 16 L (.int x :: .ref i :: st) h = (a_rdi h i a_int x).bind fun v => a_run d MX1_placeOf 17 L (v :: st) h := w_iald dX1_placeOf_16
theorem w_X1_placeOf_17 (d : Nat) (a0 : Option Value) (x : Int32) (st : List Value) (h : a_H) : a_run d MX1_placeOf 17 [a0, some (.int x)] st h = a_run d MX1_placeOf 18 [a0, some (.int x)] (.int x :: st) h := w_ldIn dX1_placeOf_17 rfl
theorem w_X1_placeOf_18 (d : Nat) (L : a_L) (i : Nat) (v1 v2 : Value) (st : List Value) (h : a_H) (hk : a_kls h i = some 1) (hc : a_cat st ≤ 8) : a_run d MX1_placeOf 18 L (v2 :: v1 :: .ref i :: st) h = a_cont d MX1_placeOf (a_bk MX1_placeOf 18 L st (a_call d MX2_place [.ref i, v1, v2] h)) := w_callV (as := [.ref i, v1, v2]) dX1_placeOf_18 rfl rfl rfl hc (a_rcv_of hk rfl)
theorem w_X1_placeOf_21 (d : Nat) (L : a_L) (x : Int32) (h : a_H) : a_run d MX1_placeOf 21 L [.int x] h = some (.inl (some (.int x)), h) := w_iret dX1_placeOf_21 (w_retI rfl)
theorem e_X1_medianAbove (d : Nat) (x0 : Nat) (x1 : Int32) (x2 : Int32) (h : a_H) : a_call (d + 1) MX1_medianAbove [.ref x0, .int x1, .int x2] h = a_run d MX1_medianAbove 0 [some (.ref x0), some (.int x1), some (.int x2)] [] h := a_call_run rfl (Nat.le_of_ble_eq_true rfl) rfl
theorem w_X1_medianAbove_0 (d : Nat) (a1 a2 : Option Value) (x : Nat) (st : List Value) (h : a_H) : a_run d MX1_medianAbove 0 [some (.ref x), a1, a2] st h = a_run d MX1_medianAbove 1 [some (.ref x), a1, a2] (.ref x :: st) h := w_ldAn dX1_medianAbove_0 rfl
theorem w_X1_medianAbove_1 (d : Nat) (a0 a2 : Option Value) (x : Int32) (st : List Value) (h : a_H) : a_run d MX1_medianAbove 1 [a0, some (.int x), a2] st h = a_run d MX1_medianAbove 2 [a0, some (.int x), a2] (.int x :: st) h := w_ldIn dX1_medianAbove_1 rfl
theorem w_X1_medianAbove_2 (d : Nat) (a0 a1 : Option Value) (x : Int32) (st : List Value) (h : a_H) : a_run d MX1_medianAbove 2 [a0, a1, some (.int x)] st h = a_run d MX1_medianAbove 3 [a0, a1, some (.int x)] (.int x :: st) h := w_ldIn dX1_medianAbove_2 rfl
theorem w_X1_medianAbove_3 (d : Nat) (L : a_L) (i : Nat) (v1 v2 : Value) (st : List Value) (h : a_H) (hk : a_kls h i = some 0) (hc : a_cat st ≤ 8) : a_run d MX1_medianAbove 3 L (v2 :: v1 :: .ref i :: st) h = a_cont d MX1_medianAbove (a_bk MX1_medianAbove 3 L st (a_call d MX1_needPoint [.ref i, v1, v2] h)) := w_callV (as := [.ref i, v1, v2]) dX1_medianAbove_3 rfl rfl rfl hc (a_rcv_of hk rfl)
theorem w_X1_medianAbove_6 (d : Nat) (a1 a2 : Option Value) (x : Nat) (st : List Value) (h : a_H) : a_run d MX1_medianAbove 6 [some (.ref x), a1, a2] st h = a_run d MX1_medianAbove 7 [some (.ref x), a1, a2] (.ref x :: st) h := w_ldAn dX1_medianAbove_6 rfl
theorem w_X1_medianAbove_7 (d : Nat) (L : a_L) (i : Nat) (st : List Value) (h : a_H) : a_run d MX1_medianAbove 7 L (.ref i :: st) h = (a_gf h i 0 [0]).bind fun v => a_run d MX1_medianAbove 10 L (v :: st) h := w_getf dX1_medianAbove_7 rfl
theorem w_X1_medianAbove_10 (d : Nat) (a0 a2 : Option Value) (x : Int32) (st : List Value) (h : a_H) : a_run d MX1_medianAbove 10 [a0, some (.int x), a2] st h = a_run d MX1_medianAbove 11 [a0, some (.int x), a2] (.int x :: st) h := w_ldIn dX1_medianAbove_10 rfl
theorem w_X1_medianAbove_11 (d : Nat) (a0 a1 : Option Value) (x : Int32) (st : List Value) (h : a_H) : a_run d MX1_medianAbove 11 [a0, a1, some (.int x)] st h = a_run d MX1_medianAbove 12 [a0, a1, some (.int x)] (.int x :: st) h := w_ldIn dX1_medianAbove_11 rfl
theorem w_X1_medianAbove_12 (d : Nat) (L : a_L) (st : List Value) (h : a_H) : a_run d MX1_medianAbove 12 L st h = a_run d MX1_medianAbove 13 L (.int (nI 1) :: st) h := w_iconst dX1_medianAbove_12 rfl
theorem w_X1_medianAbove_13 (d : Nat) (L : a_L) (i : Nat) (v1 v2 v3 : Value) (st : List Value) (h : a_H) (hk : a_kls h i = some 1) (hc : a_cat st ≤ 8) : a_run d MX1_medianAbove 13 L (v3 :: v2 :: v1 :: .ref i :: st) h = a_cont d MX1_medianAbove (a_bk MX1_medianAbove 13 L st (a_call d MX2_median [.ref i, v1, v2, v3] h)) := w_callV (as := [.ref i, v1, v2, v3]) dX1_medianAbove_13 rfl rfl rfl hc (a_rcv_of hk rfl)
theorem w_X1_medianAbove_16 (d : Nat) (L : a_L) (x : Int32) (h : a_H) : a_run d MX1_medianAbove 16 L [.int x] h = some (.inl (some (.int x)), h) := w_iret dX1_medianAbove_16 (w_retI rfl)
theorem e_X1_medianBelow (d : Nat) (x0 : Nat) (x1 : Int32) (x2 : Int32) (h : a_H) : a_call (d + 1) MX1_medianBelow [.ref x0, .int x1, .int x2] h = a_run d MX1_medianBelow 0 [some (.ref x0), some (.int x1), some (.int x2)] [] h := a_call_run rfl (Nat.le_of_ble_eq_true rfl) rfl
theorem w_X1_medianBelow_0 (d : Nat) (a1 a2 : Option Value) (x : Nat) (st : List Value) (h : a_H) : a_run d MX1_medianBelow 0 [some (.ref x), a1, a2] st h = a_run d MX1_medianBelow 1 [some (.ref x), a1, a2] (.ref x :: st) h := w_ldAn dX1_medianBelow_0 rfl
theorem w_X1_medianBelow_1 (d : Nat) (a0 a2 : Option Value) (x : Int32) (st : List Value) (h : a_H) : a_run d MX1_medianBelow 1 [a0, some (.int x), a2] st h = a_run d MX1_medianBelow 2 [a0, some (.int x), a2] (.int x :: st) h := w_ldIn dX1_medianBelow_1 rfl
theorem w_X1_medianBelow_2 (d : Nat) (a0 a1 : Option Value) (x : Int32) (st : List Value) (h : a_H) : a_run d MX1_medianBelow 2 [a0, a1, some (.int x)] st h = a_run d MX1_medianBelow 3 [a0, a1, some (.int x)] (.int x :: st) h := w_ldIn dX1_medianBelow_2 rfl
theorem w_X1_medianBelow_3 (d : Nat) (L : a_L) (i : Nat) (v1 v2 : Value) (st : List Value) (h : a_H) (hk : a_kls h i = some 0) (hc : a_cat st ≤ 8) : a_run d MX1_medianBelow 3 L (v2 :: v1 :: .ref i :: st) h = a_cont d MX1_medianBelow (a_bk MX1_medianBelow 3 L st (a_call d MX1_needPoint [.ref i, v1, v2] h)) := w_callV (as := [.ref i, v1, v2]) dX1_medianBelow_3 rfl rfl rfl hc (a_rcv_of hk rfl)
theorem w_X1_medianBelow_6 (d : Nat) (a1 a2 : Option Value) (x : Nat) (st : List Value) (h : a_H) : a_run d MX1_medianBelow 6 [some (.ref x), a1, a2] st h = a_run d MX1_medianBelow 7 [some (.ref x), a1, a2] (.ref x :: st) h := w_ldAn dX1_medianBelow_6 rfl
theorem w_X1_medianBelow_7 (d : Nat) (L : a_L) (i : Nat) (st : List Value) (h : a_H) : a_run d MX1_medianBelow 7 L (.ref i :: st) h = (a_gf h i 0 [0]).bind fun v => a_run d MX1_medianBelow 10 L (v :: st) h := w_getf dX1_medianBelow_7 rfl
theorem w_X1_medianBelow_10 (d : Nat) (a0 a2 : Option Value) (x : Int32) (st : List Value) (h : a_H) : a_run d MX1_medianBelow 10 [a0, some (.int x), a2] st h = a_run d MX1_medianBelow 11 [a0, some (.int x), a2] (.int x :: st) h := w_ldIn dX1_medianBelow_10 rfl
theorem w_X1_medianBelow_11 (d : Nat) (a0 a1 : Option Value) (x : Int32) (st : List Value) (h : a_H) : a_run d MX1_medianBelow 11 [a0, a1, some (.int x)] st h = a_run d MX1_medianBelow 12 [a0, a1, some (.int x)] (.int x :: st) h := w_ldIn dX1_medianBelow_11 rfl
theorem w_X1_medianBelow_12 (d : Nat) (L : a_L) (st : List Value) (h : a_H) : a_run d MX1_medianBelow 12 L st h = a_run d MX1_medianBelow 13 L (.int (nI 0) :: st) h := w_iconst dX1_medianBelow_12 rfl
theorem w_X1_medianBelow_13 (d : Nat) (L : a_L) (i : Nat) (v1 v2 v3 : Value) (st : List Value) (h : a_H) (hk : a_kls h i = some 1) (hc : a_cat st ≤ 8) : a_run d MX1_medianBelow 13 L (v3 :: v2 :: v1 :: .ref i :: st) h = a_cont d MX1_medianBelow (a_bk MX1_medianBelow 13 L st (a_call d MX2_median [.ref i, v1, v2, v3] h)) := w_callV (as := [.ref i, v1, v2, v3]) dX1_medianBelow_13 rfl rfl rfl hc (a_rcv_of hk rfl)
theorem w_X1_medianBelow_16 (d : Nat) (L : a_L) (x : Int32) (h : a_H) : a_run d MX1_medianBelow 16 L [.int x] h = some (.inl (some (.int x)), h) := w_iret dX1_medianBelow_16 (w_retI rfl)
theorem e_X1_crowdedLayer (d : Nat) (x0 : Nat) (h : a_H) : a_call (d + 1) MX1_crowdedLayer [.ref x0] h = a_run d MX1_crowdedLayer 0 [some (.ref x0), none, none] [] h := a_call_run rfl (Nat.le_of_ble_eq_true rfl) rfl
theorem w_X1_crowdedLayer_0 (d : Nat) (a1 a2 : Option Value) (x : Nat) (st : List Value) (h : a_H) : a_run d MX1_crowdedLayer 0 [some (.ref x), a1, a2] st h = a_run d MX1_crowdedLayer 1 [some (.ref x), a1, a2] (.ref x :: st) h := w_ldAn dX1_crowdedLayer_0 rfl
theorem w_X1_crowdedLayer_1 (d : Nat) (L : a_L) (i : Nat) (st : List Value) (h : a_H) : a_run d MX1_crowdedLayer 1 L (.ref i :: st) h = (a_gf h i 0 [0]).bind fun v => a_run d MX1_crowdedLayer 4 L (v :: st) h := w_getf dX1_crowdedLayer_1 rfl
theorem w_X1_crowdedLayer_4 (d : Nat) (L : a_L) (i : Nat) (st : List Value) (h : a_H) : a_run d MX1_crowdedLayer 4 L (.ref i :: st) h = (a_gf h i 13 [1]).bind fun v => a_run d MX1_crowdedLayer 7 L (v :: st) h := w_getf dX1_crowdedLayer_4 rfl
theorem w_X1_crowdedLayer_7 (d : Nat) (L : a_L) (x : Int32) (st : List Value) (h : a_H) : a_run d MX1_crowdedLayer 7 L (.int x :: st) h = if 0 < x then a_run d MX1_crowdedLayer 10 L st h else a_run d MX1_crowdedLayer 14 L st h := w_if_le dX1_crowdedLayer_7 rfl
theorem w_X1_crowdedLayer_10 (d : Nat) (L : a_L) (st : List Value) (h : a_H) : a_run d MX1_crowdedLayer 10 L st h = a_run d MX1_crowdedLayer 11 L (.int (nI 1) :: st) h := w_iconst dX1_crowdedLayer_10 rfl
theorem w_X1_crowdedLayer_11 (d : Nat) (L : a_L) (st : List Value) (h : a_H) : a_run d MX1_crowdedLayer 11 L st h = a_run d MX1_crowdedLayer 15 L st h := w_goto dX1_crowdedLayer_11 rfl
theorem w_X1_crowdedLayer_14 (d : Nat) (L : a_L) (st : List Value) (h : a_H) : a_run d MX1_crowdedLayer 14 L st h = a_run d MX1_crowdedLayer 15 L (.int (nI 0) :: st) h := w_iconst dX1_crowdedLayer_14 rfl
theorem w_X1_crowdedLayer_15 (d : Nat) (L : a_L) (v0 : Value) (st : List Value) (h : a_H) (hc : a_cat st ≤ 8) : a_run d MX1_crowdedLayer 15 L (v0 :: st) h = a_cont d MX1_crowdedLayer (a_bk MX1_crowdedLayer 15 L st (a_call d MX1_needSuch [v0] h)) := w_callS (as := [v0]) dX1_crowdedLayer_15 rfl rfl rfl hc
theorem w_X1_crowdedLayer_18 (d : Nat) (L : a_L) (st : List Value) (h : a_H) : a_run d MX1_crowdedLayer 18 L st h = a_run d MX1_crowdedLayer 19 L (.int (nI 0) :: st) h := w_iconst dX1_crowdedLayer_18 rfl
theorem w_X1_crowdedLayer_19 (d : Nat) (a0 a1 a2 : Option Value) (x : Int32) (st : List Value) (h : a_H) : a_run d MX1_crowdedLayer 19 [a0, a1, a2] (.int x :: st) h = a_run d MX1_crowdedLayer 20 [a0, some (.int x), a2] st h := w_stIn dX1_crowdedLayer_19 (Nat.le_of_ble_eq_true rfl) rfl
theorem w_X1_crowdedLayer_20 (d : Nat) (L : a_L) (st : List Value) (h : a_H) : a_run d MX1_crowdedLayer 20 L st h = a_run d MX1_crowdedLayer 21 L (.int (nI 1) :: st) h := w_iconst dX1_crowdedLayer_20 rfl
theorem w_X1_crowdedLayer_21 (d : Nat) (a0 a1 a2 : Option Value) (x : Int32) (st : List Value) (h : a_H) : a_run d MX1_crowdedLayer 21 [a0, a1, a2] (.int x :: st) h = a_run d MX1_crowdedLayer 22 [a0, a1, some (.int x)] st h := w_stIn dX1_crowdedLayer_21 (Nat.le_of_ble_eq_true rfl) rfl
theorem w_X1_crowdedLayer_22 (d : Nat) (a0 a1 : Option Value) (x : Int32) (st : List Value) (h : a_H) : a_run d MX1_crowdedLayer 22 [a0, a1, some (.int x)] st h = a_run d MX1_crowdedLayer 23 [a0, a1, some (.int x)] (.int x :: st) h := w_ldIn dX1_crowdedLayer_22 rfl
theorem w_X1_crowdedLayer_23 (d : Nat) (a1 a2 : Option Value) (x : Nat) (st : List Value) (h : a_H) : a_run d MX1_crowdedLayer 23 [some (.ref x), a1, a2] st h = a_run d MX1_crowdedLayer 24 [some (.ref x), a1, a2] (.ref x :: st) h := w_ldAn dX1_crowdedLayer_23 rfl
theorem w_X1_crowdedLayer_24 (d : Nat) (L : a_L) (i : Nat) (st : List Value) (h : a_H) : a_run d MX1_crowdedLayer 24 L (.ref i :: st) h = (a_gf h i 0 [0]).bind fun v => a_run d MX1_crowdedLayer 27 L (v :: st) h := w_getf dX1_crowdedLayer_24 rfl
theorem w_X1_crowdedLayer_27 (d : Nat) (L : a_L) (i : Nat) (st : List Value) (h : a_H) : a_run d MX1_crowdedLayer 27 L (.ref i :: st) h = (a_gf h i 13 [1]).bind fun v => a_run d MX1_crowdedLayer 30 L (v :: st) h := w_getf dX1_crowdedLayer_27 rfl
theorem w_X1_crowdedLayer_30 (d : Nat) (L : a_L) (x y : Int32) (st : List Value) (h : a_H) : a_run d MX1_crowdedLayer 30 L (.int y :: .int x :: st) h = if x < y then a_run d MX1_crowdedLayer 33 L st h else a_run d MX1_crowdedLayer 66 L st h := w_icmp_ge dX1_crowdedLayer_30 rfl
theorem w_X1_crowdedLayer_33 (d : Nat) (a1 a2 : Option Value) (x : Nat) (st : List Value) (h : a_H) : a_run d MX1_crowdedLayer 33 [some (.ref x), a1, a2] st h = a_run d MX1_crowdedLayer 34 [some (.ref x), a1, a2] (.ref x :: st) h := w_ldAn dX1_crowdedLayer_33 rfl
theorem w_X1_crowdedLayer_34 (d : Nat) (L : a_L) (i : Nat) (st : List Value) (h : a_H) : a_run d MX1_crowdedLayer 34 L (.ref i :: st) h = (a_gf h i 0 [0]).bind fun v => a_run d MX1_crowdedLayer 37 L (v :: st) h := w_getf dX1_crowdedLayer_34 rfl
theorem w_X1_crowdedLayer_37 (d : Nat) (L : a_L) (i : Nat) (st : List Value) (h : a_H) : a_run d MX1_crowdedLayer 37 L (.ref i :: st) h = (a_gf h i 5 [1]).bind fun v => a_run d MX1_crowdedLayer 40 L (v :: st) h := w_getf dX1_crowdedLayer_37 rfl
theorem w_X1_crowdedLayer_40 (d : Nat) (a0 a1 : Option Value) (x : Int32) (st : List Value) (h : a_H) : a_run d MX1_crowdedLayer 40 [a0, a1, some (.int x)] st h = a_run d MX1_crowdedLayer 41 [a0, a1, some (.int x)] (.int x :: st) h := w_ldIn dX1_crowdedLayer_40 rfl
theorem w_X1_crowdedLayer_41 (d : Nat) (L : a_L) (x : Int32) (i : Nat) (st : List Value) (h : a_H) : a_run d MX1_crowdedLayer 41 L (.int x :: .ref i :: st) h = (a_rdi h i a_int x).bind fun v => a_run d MX1_crowdedLayer 42 L (v :: st) h := w_iald dX1_crowdedLayer_41
theorem w_X1_crowdedLayer_42 (d : Nat) (a1 a2 : Option Value) (x : Nat) (st : List Value) (h : a_H) : a_run d MX1_crowdedLayer 42 [some (.ref x), a1, a2] st h = a_run d MX1_crowdedLayer 43 [some (.ref x), a1, a2] (.ref x :: st) h := w_ldAn dX1_crowdedLayer_42 rfl
theorem w_X1_crowdedLayer_43 (d : Nat) (L : a_L) (i : Nat) (st : List Value) (h : a_H) : a_run d MX1_crowdedLayer 43 L (.ref i :: st) h = (a_gf h i 0 [0]).bind fun v => a_run d MX1_crowdedLayer 46 L (v :: st) h := w_getf dX1_crowdedLayer_43 rfl
theorem w_X1_crowdedLayer_46 (d : Nat) (L : a_L) (i : Nat) (st : List Value) (h : a_H) : a_run d MX1_crowdedLayer 46 L (.ref i :: st) h = (a_gf h i 5 [1]).bind fun v => a_run d MX1_crowdedLayer 49 L (v :: st) h := w_getf dX1_crowdedLayer_46 rfl
theorem w_X1_crowdedLayer_49 (d : Nat) (a0 a2 : Option Value) (x : Int32) (st : List Value) (h : a_H) : a_run d MX1_crowdedLayer 49 [a0, some (.int x), a2] st h = a_run d MX1_crowdedLayer 50 [a0, some (.int x), a2] (.int x :: st) h := w_ldIn dX1_crowdedLayer_49 rfl
theorem w_X1_crowdedLayer_50 (d : Nat) (L : a_L) (x : Int32) (i : Nat) (st : List Value) (h : a_H) : a_run d MX1_crowdedLayer 50 L (.int x :: .ref i :: st) h = (a_rdi h i a_int x).bind fun v => a_run d MX1_crowdedLayer 51 L (v :: st) h := w_iald dX1_crowdedLayer_50
theorem w_X1_crowdedLayer_51 (d : Nat) (L : a_L) (x y : Int32) (st : List Value) (h : a_H) : a_run d MX1_crowdedLayer 51 L (.int y :: .int x :: st) h = if y < x then a_run d MX1_crowdedLayer 54 L st h else a_run d MX1_crowdedLayer 58 L st h := w_icmp_le dX1_crowdedLayer_51 rfl
theorem w_X1_crowdedLayer_54 (d : Nat) (a0 a1 : Option Value) (x : Int32) (st : List Value) (h : a_H) : a_run d MX1_crowdedLayer 54 [a0, a1, some (.int x)] st h = a_run d MX1_crowdedLayer 55 [a0, a1, some (.int x)] (.int x :: st) h := w_ldIn dX1_crowdedLayer_54 rfl
theorem w_X1_crowdedLayer_55 (d : Nat) (L : a_L) (st : List Value) (h : a_H) : a_run d MX1_crowdedLayer 55 L st h = a_run d MX1_crowdedLayer 59 L st h := w_goto dX1_crowdedLayer_55 rfl
theorem w_X1_crowdedLayer_58 (d : Nat) (a0 a2 : Option Value) (x : Int32) (st : List Value) (h : a_H) : a_run d MX1_crowdedLayer 58 [a0, some (.int x), a2] st h = a_run d MX1_crowdedLayer 59 [a0, some (.int x), a2] (.int x :: st) h := w_ldIn dX1_crowdedLayer_58 rfl
theorem w_X1_crowdedLayer_59 (d : Nat) (a0 a1 a2 : Option Value) (x : Int32) (st : List Value) (h : a_H) : a_run d MX1_crowdedLayer 59 [a0, a1, a2] (.int x :: st) h = a_run d MX1_crowdedLayer 60 [a0, some (.int x), a2] st h := w_stIn dX1_crowdedLayer_59 (Nat.le_of_ble_eq_true rfl) rfl
theorem w_X1_crowdedLayer_60 (d : Nat) (a0 a1 : Option Value) (x : Int32) (st : List Value) (h : a_H) : a_run d MX1_crowdedLayer 60 [a0, a1, some (.int x)] st h = a_run d MX1_crowdedLayer 63 [a0, a1, some (.int (x + nI 1))] st h := w_incL dX1_crowdedLayer_60 rfl rfl rfl
theorem w_X1_crowdedLayer_63 (d : Nat) (L : a_L) (st : List Value) (h : a_H) : a_run d MX1_crowdedLayer 63 L st h = a_run d MX1_crowdedLayer 22 L st h := w_goto dX1_crowdedLayer_63 rfl
theorem w_X1_crowdedLayer_66 (d : Nat) (a0 a2 : Option Value) (x : Int32) (st : List Value) (h : a_H) : a_run d MX1_crowdedLayer 66 [a0, some (.int x), a2] st h = a_run d MX1_crowdedLayer 67 [a0, some (.int x), a2] (.int x :: st) h := w_ldIn dX1_crowdedLayer_66 rfl
theorem w_X1_crowdedLayer_67 (d : Nat) (L : a_L) (x : Int32) (h : a_H) : a_run d MX1_crowdedLayer 67 L [.int x] h = some (.inl (some (.int x)), h) := w_iret dX1_crowdedLayer_67 (w_retI rfl)
theorem e_X1_crossingsBelow (d : Nat) (x0 : Nat) (x1 : Int32) (h : a_H) : a_call (d + 1) MX1_crossingsBelow [.ref x0, .int x1] h = a_run d MX1_crossingsBelow 0 [some (.ref x0), some (.int x1), none] [] h := a_call_run rfl (Nat.le_of_ble_eq_true rfl) rfl
theorem w_X1_crossingsBelow_0 (d : Nat) (a1 a2 : Option Value) (x : Nat) (st : List Value) (h : a_H) : a_run d MX1_crossingsBelow 0 [some (.ref x), a1, a2] st h = a_run d MX1_crossingsBelow 1 [some (.ref x), a1, a2] (.ref x :: st) h := w_ldAn dX1_crossingsBelow_0 rfl
theorem w_X1_crossingsBelow_1 (d : Nat) (a0 a2 : Option Value) (x : Int32) (st : List Value) (h : a_H) : a_run d MX1_crossingsBelow 1 [a0, some (.int x), a2] st h = a_run d MX1_crossingsBelow 2 [a0, some (.int x), a2] (.int x :: st) h := w_ldIn dX1_crossingsBelow_1 rfl
theorem w_X1_crossingsBelow_2 (d : Nat) (L : a_L) (i : Nat) (v1 : Value) (st : List Value) (h : a_H) (hk : a_kls h i = some 0) (hc : a_cat st ≤ 8) : a_run d MX1_crossingsBelow 2 L (v1 :: .ref i :: st) h = a_cont d MX1_crossingsBelow (a_bk MX1_crossingsBelow 2 L st (a_call d MX1_layerThere [.ref i, v1] h)) := w_callV (as := [.ref i, v1]) dX1_crossingsBelow_2 rfl rfl rfl hc (a_rcv_of hk rfl)
theorem w_X1_crossingsBelow_5 (d : Nat) (a0 a1 a2 : Option Value) (x : Int32) (st : List Value) (h : a_H) : a_run d MX1_crossingsBelow 5 [a0, a1, a2] (.int x :: st) h = a_run d MX1_crossingsBelow 6 [a0, a1, some (.int x)] st h := w_stIn dX1_crossingsBelow_5 (Nat.le_of_ble_eq_true rfl) rfl
theorem w_X1_crossingsBelow_6 (d : Nat) (a0 a1 : Option Value) (x : Int32) (st : List Value) (h : a_H) : a_run d MX1_crossingsBelow 6 [a0, a1, some (.int x)] st h = a_run d MX1_crossingsBelow 7 [a0, a1, some (.int x)] (.int x :: st) h := w_ldIn dX1_crossingsBelow_6 rfl
theorem w_X1_crossingsBelow_7 (d : Nat) (L : a_L) (st : List Value) (h : a_H) : a_run d MX1_crossingsBelow 7 L st h = a_run d MX1_crossingsBelow 8 L (.int (nI 1) :: st) h := w_iconst dX1_crossingsBelow_7 rfl
theorem w_X1_crossingsBelow_8 (d : Nat) (L : a_L) (x y : Int32) (st : List Value) (h : a_H) : a_run d MX1_crossingsBelow 8 L (.int y :: .int x :: st) h = a_run d MX1_crossingsBelow 9 L (.int (x + y) :: st) h := w_iadd dX1_crossingsBelow_8
theorem w_X1_crossingsBelow_9 (d : Nat) (a1 a2 : Option Value) (x : Nat) (st : List Value) (h : a_H) : a_run d MX1_crossingsBelow 9 [some (.ref x), a1, a2] st h = a_run d MX1_crossingsBelow 10 [some (.ref x), a1, a2] (.ref x :: st) h := w_ldAn dX1_crossingsBelow_9 rfl
theorem w_X1_crossingsBelow_10 (d : Nat) (L : a_L) (i : Nat) (st : List Value) (h : a_H) : a_run d MX1_crossingsBelow 10 L (.ref i :: st) h = (a_gf h i 0 [0]).bind fun v => a_run d MX1_crossingsBelow 13 L (v :: st) h := w_getf dX1_crossingsBelow_10 rfl
theorem w_X1_crossingsBelow_13 (d : Nat) (L : a_L) (i : Nat) (st : List Value) (h : a_H) : a_run d MX1_crossingsBelow 13 L (.ref i :: st) h = (a_gf h i 13 [1]).bind fun v => a_run d MX1_crossingsBelow 16 L (v :: st) h := w_getf dX1_crossingsBelow_13 rfl
theorem w_X1_crossingsBelow_16 (d : Nat) (L : a_L) (x y : Int32) (st : List Value) (h : a_H) : a_run d MX1_crossingsBelow 16 L (.int y :: .int x :: st) h = if x < y then a_run d MX1_crossingsBelow 19 L st h else a_run d MX1_crossingsBelow 30 L st h := w_icmp_ge dX1_crossingsBelow_16 rfl
theorem w_X1_crossingsBelow_19 (d : Nat) (a1 a2 : Option Value) (x : Nat) (st : List Value) (h : a_H) : a_run d MX1_crossingsBelow 19 [some (.ref x), a1, a2] st h = a_run d MX1_crossingsBelow 20 [some (.ref x), a1, a2] (.ref x :: st) h := w_ldAn dX1_crossingsBelow_19 rfl
theorem w_X1_crossingsBelow_20 (d : Nat) (L : a_L) (i : Nat) (st : List Value) (h : a_H) : a_run d MX1_crossingsBelow 20 L (.ref i :: st) h = (a_gf h i 0 [0]).bind fun v => a_run d MX1_crossingsBelow 23 L (v :: st) h := w_getf dX1_crossingsBelow_20 rfl
theorem w_X1_crossingsBelow_23 (d : Nat) (a0 a1 : Option Value) (x : Int32) (st : List Value) (h : a_H) : a_run d MX1_crossingsBelow 23 [a0, a1, some (.int x)] st h = a_run d MX1_crossingsBelow 24 [a0, a1, some (.int x)] (.int x :: st) h := w_ldIn dX1_crossingsBelow_23 rfl
theorem w_X1_crossingsBelow_24 (d : Nat) (L : a_L) (i : Nat) (v1 : Value) (st : List Value) (h : a_H) (hk : a_kls h i = some 1) (hc : a_cat st ≤ 8) : a_run d MX1_crossingsBelow 24 L (v1 :: .ref i :: st) h = a_cont d MX1_crossingsBelow (a_bk MX1_crossingsBelow 24 L st (a_call d MX2_crossingsAt [.ref i, v1] h)) := w_callV (as := [.ref i, v1]) dX1_crossingsBelow_24 rfl rfl rfl hc (a_rcv_of hk rfl)
theorem w_X1_crossingsBelow_27 (d : Nat) (L : a_L) (st : List Value) (h : a_H) : a_run d MX1_crossingsBelow 27 L st h = a_run d MX1_crossingsBelow 31 L st h := w_goto dX1_crossingsBelow_27 rfl
theorem w_X1_crossingsBelow_30 (d : Nat) (L : a_L) (st : List Value) (h : a_H) : a_run d MX1_crossingsBelow 30 L st h = a_run d MX1_crossingsBelow 31 L (.int (nI 0) :: st) h := w_iconst dX1_crossingsBelow_30 rfl
theorem w_X1_crossingsBelow_31 (d : Nat) (L : a_L) (x : Int32) (h : a_H) : a_run d MX1_crossingsBelow 31 L [.int x] h = some (.inl (some (.int x)), h) := w_iret dX1_crossingsBelow_31 (w_retI rfl)
theorem e_X1_crossingsOf (d : Nat) (x0 : Nat) (x1 : Int32) (h : a_H) : a_call (d + 1) MX1_crossingsOf [.ref x0, .int x1] h = a_run d MX1_crossingsOf 0 [some (.ref x0), some (.int x1)] [] h := a_call_run rfl (Nat.le_of_ble_eq_true rfl) rfl
theorem w_X1_crossingsOf_0 (d : Nat) (a1 : Option Value) (x : Nat) (st : List Value) (h : a_H) : a_run d MX1_crossingsOf 0 [some (.ref x), a1] st h = a_run d MX1_crossingsOf 1 [some (.ref x), a1] (.ref x :: st) h := w_ldAn dX1_crossingsOf_0 rfl
theorem w_X1_crossingsOf_1 (d : Nat) (L : a_L) (i : Nat) (st : List Value) (h : a_H) : a_run d MX1_crossingsOf 1 L (.ref i :: st) h = (a_gf h i 0 [0]).bind fun v => a_run d MX1_crossingsOf 4 L (v :: st) h := w_getf dX1_crossingsOf_1 rfl
theorem w_X1_crossingsOf_4 (d : Nat) (a1 : Option Value) (x : Nat) (st : List Value) (h : a_H) : a_run d MX1_crossingsOf 4 [some (.ref x), a1] st h = a_run d MX1_crossingsOf 5 [some (.ref x), a1] (.ref x :: st) h := w_ldAn dX1_crossingsOf_4 rfl
theorem w_X1_crossingsOf_5 (d : Nat) (a0 : Option Value) (x : Int32) (st : List Value) (h : a_H) : a_run d MX1_crossingsOf 5 [a0, some (.int x)] st h = a_run d MX1_crossingsOf 6 [a0, some (.int x)] (.int x :: st) h := w_ldIn dX1_crossingsOf_5 rfl
theorem w_X1_crossingsOf_6 (d : Nat) (L : a_L) (i : Nat) (v1 : Value) (st : List Value) (h : a_H) (hk : a_kls h i = some 0) (hc : a_cat st ≤ 8) : a_run d MX1_crossingsOf 6 L (v1 :: .ref i :: st) h = a_cont d MX1_crossingsOf (a_bk MX1_crossingsOf 6 L st (a_call d MX1_arrowThere [.ref i, v1] h)) := w_callV (as := [.ref i, v1]) dX1_crossingsOf_6 rfl rfl rfl hc (a_rcv_of hk rfl)
theorem w_X1_crossingsOf_9 (d : Nat) (L : a_L) (i : Nat) (v1 : Value) (st : List Value) (h : a_H) (hk : a_kls h i = some 1) (hc : a_cat st ≤ 8) : a_run d MX1_crossingsOf 9 L (v1 :: .ref i :: st) h = a_cont d MX1_crossingsOf (a_bk MX1_crossingsOf 9 L st (a_call d MX2_crossingsBy [.ref i, v1] h)) := w_callV (as := [.ref i, v1]) dX1_crossingsOf_9 rfl rfl rfl hc (a_rcv_of hk rfl)
theorem w_X1_crossingsOf_12 (d : Nat) (L : a_L) (x : Int32) (h : a_H) : a_run d MX1_crossingsOf 12 L [.int x] h = some (.inl (some (.int x)), h) := w_iret dX1_crossingsOf_12 (w_retI rfl)
theorem e_X1_columnAt (d : Nat) (x0 : Nat) (x1 : Int32) (x2 : Int32) (h : a_H) : a_call (d + 1) MX1_columnAt [.ref x0, .int x1, .int x2] h = a_run d MX1_columnAt 0 [some (.ref x0), some (.int x1), some (.int x2)] [] h := a_call_run rfl (Nat.le_of_ble_eq_true rfl) rfl
theorem w_X1_columnAt_0 (d : Nat) (a1 a2 : Option Value) (x : Nat) (st : List Value) (h : a_H) : a_run d MX1_columnAt 0 [some (.ref x), a1, a2] st h = a_run d MX1_columnAt 1 [some (.ref x), a1, a2] (.ref x :: st) h := w_ldAn dX1_columnAt_0 rfl
theorem w_X1_columnAt_1 (d : Nat) (a0 a2 : Option Value) (x : Int32) (st : List Value) (h : a_H) : a_run d MX1_columnAt 1 [a0, some (.int x), a2] st h = a_run d MX1_columnAt 2 [a0, some (.int x), a2] (.int x :: st) h := w_ldIn dX1_columnAt_1 rfl
theorem w_X1_columnAt_2 (d : Nat) (a0 a1 : Option Value) (x : Int32) (st : List Value) (h : a_H) : a_run d MX1_columnAt 2 [a0, a1, some (.int x)] st h = a_run d MX1_columnAt 3 [a0, a1, some (.int x)] (.int x :: st) h := w_ldIn dX1_columnAt_2 rfl
theorem w_X1_columnAt_3 (d : Nat) (L : a_L) (i : Nat) (v1 v2 : Value) (st : List Value) (h : a_H) (hk : a_kls h i = some 0) (hc : a_cat st ≤ 8) : a_run d MX1_columnAt 3 L (v2 :: v1 :: .ref i :: st) h = a_cont d MX1_columnAt (a_bk MX1_columnAt 3 L st (a_call d MX1_needPoint [.ref i, v1, v2] h)) := w_callV (as := [.ref i, v1, v2]) dX1_columnAt_3 rfl rfl rfl hc (a_rcv_of hk rfl)
theorem w_X1_columnAt_6 (d : Nat) (a1 a2 : Option Value) (x : Nat) (st : List Value) (h : a_H) : a_run d MX1_columnAt 6 [some (.ref x), a1, a2] st h = a_run d MX1_columnAt 7 [some (.ref x), a1, a2] (.ref x :: st) h := w_ldAn dX1_columnAt_6 rfl
theorem w_X1_columnAt_7 (d : Nat) (L : a_L) (i : Nat) (st : List Value) (h : a_H) : a_run d MX1_columnAt 7 L (.ref i :: st) h = (a_gf h i 0 [0]).bind fun v => a_run d MX1_columnAt 10 L (v :: st) h := w_getf dX1_columnAt_7 rfl
theorem w_X1_columnAt_10 (d : Nat) (L : a_L) (i : Nat) (st : List Value) (h : a_H) (hk : a_kls h i = some 1) (hc : a_cat st ≤ 8) : a_run d MX1_columnAt 10 L (.ref i :: st) h = a_cont d MX1_columnAt (a_bk MX1_columnAt 10 L st (a_call d MX2_columns [.ref i] h)) := w_callV (as := [.ref i]) dX1_columnAt_10 rfl rfl rfl hc (a_rcv_of hk rfl)
theorem w_X1_columnAt_13 (d : Nat) (a0 a2 : Option Value) (x : Int32) (st : List Value) (h : a_H) : a_run d MX1_columnAt 13 [a0, some (.int x), a2] st h = a_run d MX1_columnAt 14 [a0, some (.int x), a2] (.int x :: st) h := w_ldIn dX1_columnAt_13 rfl
theorem w_X1_columnAt_14 (d : Nat) (L : a_L) (st : List Value) (h : a_H) : a_run d MX1_columnAt 14 L st h = a_run d MX1_columnAt 16 L (.int (nI 46) :: st) h := w_bipush dX1_columnAt_14 rfl
theorem w_X1_columnAt_16 (d : Nat) (L : a_L) (x y : Int32) (st : List Value) (h : a_H) : a_run d MX1_columnAt 16 L (.int y :: .int x :: st) h = a_run d MX1_columnAt 17 L (.int (x * y) :: st) h := w_imul dX1_columnAt_16
theorem w_X1_columnAt_17 (d : Nat) (a0 a1 : Option Value) (x : Int32) (st : List Value) (h : a_H) : a_run d MX1_columnAt 17 [a0, a1, some (.int x)] st h = a_run d MX1_columnAt 18 [a0, a1, some (.int x)] (.int x :: st) h := w_ldIn dX1_columnAt_17 rfl
theorem w_X1_columnAt_18 (d : Nat) (L : a_L) (x y : Int32) (st : List Value) (h : a_H) : a_run d MX1_columnAt 18 L (.int y :: .int x :: st) h = a_run d MX1_columnAt 19 L (.int (x + y) :: st) h := w_iadd dX1_columnAt_18
theorem w_X1_columnAt_19 (d : Nat) (L : a_L) (x : Int32) (i : Nat) (st : List Value) (h : a_H) : a_run d MX1_columnAt 19 L (.int x :: .ref i :: st) h = (a_rdi h i a_int x).bind fun v => a_run d MX1_columnAt 20 L (v :: st) h := w_iald dX1_columnAt_19
theorem w_X1_columnAt_20 (d : Nat) (L : a_L) (x : Int32) (h : a_H) : a_run d MX1_columnAt 20 L [.int x] h = some (.inl (some (.int x)), h) := w_iret dX1_columnAt_20 (w_retI rfl)
theorem e_X1_bendsOf (d : Nat) (x0 : Nat) (x1 : Int32) (h : a_H) : a_call (d + 1) MX1_bendsOf [.ref x0, .int x1] h = a_run d MX1_bendsOf 0 [some (.ref x0), some (.int x1), none] [] h := a_call_run rfl (Nat.le_of_ble_eq_true rfl) rfl
theorem w_X1_bendsOf_0 (d : Nat) (a1 a2 : Option Value) (x : Nat) (st : List Value) (h : a_H) : a_run d MX1_bendsOf 0 [some (.ref x), a1, a2] st h = a_run d MX1_bendsOf 1 [some (.ref x), a1, a2] (.ref x :: st) h := w_ldAn dX1_bendsOf_0 rfl
theorem w_X1_bendsOf_1 (d : Nat) (a0 a2 : Option Value) (x : Int32) (st : List Value) (h : a_H) : a_run d MX1_bendsOf 1 [a0, some (.int x), a2] st h = a_run d MX1_bendsOf 2 [a0, some (.int x), a2] (.int x :: st) h := w_ldIn dX1_bendsOf_1 rfl
theorem w_X1_bendsOf_2 (d : Nat) (L : a_L) (i : Nat) (v1 : Value) (st : List Value) (h : a_H) (hk : a_kls h i = some 0) (hc : a_cat st ≤ 8) : a_run d MX1_bendsOf 2 L (v1 :: .ref i :: st) h = a_cont d MX1_bendsOf (a_bk MX1_bendsOf 2 L st (a_call d MX1_arrowThere [.ref i, v1] h)) := w_callV (as := [.ref i, v1]) dX1_bendsOf_2 rfl rfl rfl hc (a_rcv_of hk rfl)
theorem w_X1_bendsOf_5 (d : Nat) (a0 a1 a2 : Option Value) (x : Int32) (st : List Value) (h : a_H) : a_run d MX1_bendsOf 5 [a0, a1, a2] (.int x :: st) h = a_run d MX1_bendsOf 6 [a0, a1, some (.int x)] st h := w_stIn dX1_bendsOf_5 (Nat.le_of_ble_eq_true rfl) rfl
theorem w_X1_bendsOf_6 (d : Nat) (a1 a2 : Option Value) (x : Nat) (st : List Value) (h : a_H) : a_run d MX1_bendsOf 6 [some (.ref x), a1, a2] st h = a_run d MX1_bendsOf 7 [some (.ref x), a1, a2] (.ref x :: st) h := w_ldAn dX1_bendsOf_6 rfl
theorem w_X1_bendsOf_7 (d : Nat) (L : a_L) (i : Nat) (st : List Value) (h : a_H) : a_run d MX1_bendsOf 7 L (.ref i :: st) h = (a_gf h i 0 [0]).bind fun v => a_run d MX1_bendsOf 10 L (v :: st) h := w_getf dX1_bendsOf_7 rfl
theorem w_X1_bendsOf_10 (d : Nat) (a0 a1 : Option Value) (x : Int32) (st : List Value) (h : a_H) : a_run d MX1_bendsOf 10 [a0, a1, some (.int x)] st h = a_run d MX1_bendsOf 11 [a0, a1, some (.int x)] (.int x :: st) h := w_ldIn dX1_bendsOf_10 rfl
theorem w_X1_bendsOf_11 (d : Nat) (a1 a2 : Option Value) (x : Nat) (st : List Value) (h : a_H) : a_run d MX1_bendsOf 11 [some (.ref x), a1, a2] st h = a_run d MX1_bendsOf 12 [some (.ref x), a1, a2] (.ref x :: st) h := w_ldAn dX1_bendsOf_11 rfl
theorem w_X1_bendsOf_12 (d : Nat) (L : a_L) (i : Nat) (st : List Value) (h : a_H) : a_run d MX1_bendsOf 12 L (.ref i :: st) h = (a_gf h i 0 [0]).bind fun v => a_run d MX1_bendsOf 15 L (v :: st) h := w_getf dX1_bendsOf_12 rfl
theorem w_X1_bendsOf_15 (d : Nat) (L : a_L) (i : Nat) (st : List Value) (h : a_H) (hk : a_kls h i = some 1) (hc : a_cat st ≤ 8) : a_run d MX1_bendsOf 15 L (.ref i :: st) h = a_cont d MX1_bendsOf (a_bk MX1_bendsOf 15 L st (a_call d MX2_columns [.ref i] h)) := w_callV (as := [.ref i]) dX1_bendsOf_15 rfl rfl rfl hc (a_rcv_of hk rfl)
theorem w_X1_bendsOf_18 (d : Nat) (L : a_L) (i : Nat) (v1 v2 : Value) (st : List Value) (h : a_H) (hk : a_kls h i = some 1) (hc : a_cat st ≤ 8) : a_run d MX1_bendsOf 18 L (v2 :: v1 :: .ref i :: st) h = a_cont d MX1_bendsOf (a_bk MX1_bendsOf 18 L st (a_call d MX2_bendsBy [.ref i, v1, v2] h)) := w_callV (as := [.ref i, v1, v2]) dX1_bendsOf_18 rfl rfl rfl hc (a_rcv_of hk rfl)
theorem w_X1_bendsOf_21 (d : Nat) (L : a_L) (x : Int32) (h : a_H) : a_run d MX1_bendsOf 21 L [.int x] h = some (.inl (some (.int x)), h) := w_iret dX1_bendsOf_21 (w_retI rfl)
theorem e_X1_meanPoints (d : Nat) (x0 : Nat) (h : a_H) : a_call (d + 1) MX1_meanPoints [.ref x0] h = a_run d MX1_meanPoints 0 [some (.ref x0)] [] h := a_call_run rfl (Nat.le_of_ble_eq_true rfl) rfl
theorem w_X1_meanPoints_0 (d : Nat) (x : Nat) (st : List Value) (h : a_H) : a_run d MX1_meanPoints 0 [some (.ref x)] st h = a_run d MX1_meanPoints 1 [some (.ref x)] (.ref x :: st) h := w_ldAn dX1_meanPoints_0 rfl
theorem w_X1_meanPoints_1 (d : Nat) (L : a_L) (i : Nat) (st : List Value) (h : a_H) : a_run d MX1_meanPoints 1 L (.ref i :: st) h = (a_gf h i 0 [0]).bind fun v => a_run d MX1_meanPoints 4 L (v :: st) h := w_getf dX1_meanPoints_1 rfl
theorem w_X1_meanPoints_4 (d : Nat) (L : a_L) (i : Nat) (st : List Value) (h : a_H) : a_run d MX1_meanPoints 4 L (.ref i :: st) h = (a_gf h i 11 [1]).bind fun v => a_run d MX1_meanPoints 7 L (v :: st) h := w_getf dX1_meanPoints_4 rfl
theorem w_X1_meanPoints_7 (d : Nat) (L : a_L) (x : Int32) (st : List Value) (h : a_H) : a_run d MX1_meanPoints 7 L (.int x :: st) h = if 0 < x then a_run d MX1_meanPoints 10 L st h else a_run d MX1_meanPoints 14 L st h := w_if_le dX1_meanPoints_7 rfl
theorem w_X1_meanPoints_10 (d : Nat) (L : a_L) (st : List Value) (h : a_H) : a_run d MX1_meanPoints 10 L st h = a_run d MX1_meanPoints 11 L (.int (nI 1) :: st) h := w_iconst dX1_meanPoints_10 rfl
theorem w_X1_meanPoints_11 (d : Nat) (L : a_L) (st : List Value) (h : a_H) : a_run d MX1_meanPoints 11 L st h = a_run d MX1_meanPoints 15 L st h := w_goto dX1_meanPoints_11 rfl
theorem w_X1_meanPoints_14 (d : Nat) (L : a_L) (st : List Value) (h : a_H) : a_run d MX1_meanPoints 14 L st h = a_run d MX1_meanPoints 15 L (.int (nI 0) :: st) h := w_iconst dX1_meanPoints_14 rfl
theorem w_X1_meanPoints_15 (d : Nat) (L : a_L) (v0 : Value) (st : List Value) (h : a_H) (hc : a_cat st ≤ 8) : a_run d MX1_meanPoints 15 L (v0 :: st) h = a_cont d MX1_meanPoints (a_bk MX1_meanPoints 15 L st (a_call d MX1_needSuch [v0] h)) := w_callS (as := [v0]) dX1_meanPoints_15 rfl rfl rfl hc
theorem w_X1_meanPoints_18 (d : Nat) (x : Nat) (st : List Value) (h : a_H) : a_run d MX1_meanPoints 18 [some (.ref x)] st h = a_run d MX1_meanPoints 19 [some (.ref x)] (.ref x :: st) h := w_ldAn dX1_meanPoints_18 rfl
theorem w_X1_meanPoints_19 (d : Nat) (L : a_L) (i : Nat) (st : List Value) (h : a_H) : a_run d MX1_meanPoints 19 L (.ref i :: st) h = (a_gf h i 0 [0]).bind fun v => a_run d MX1_meanPoints 22 L (v :: st) h := w_getf dX1_meanPoints_19 rfl
theorem w_X1_meanPoints_22 (d : Nat) (L : a_L) (i : Nat) (st : List Value) (h : a_H) (hk : a_kls h i = some 1) (hc : a_cat st ≤ 8) : a_run d MX1_meanPoints 22 L (.ref i :: st) h = a_cont d MX1_meanPoints (a_bk MX1_meanPoints 22 L st (a_call d MX2_pointCount [.ref i] h)) := w_callV (as := [.ref i]) dX1_meanPoints_22 rfl rfl rfl hc (a_rcv_of hk rfl)
theorem w_X1_meanPoints_25 (d : Nat) (L : a_L) (x : Int32) (st : List Value) (h : a_H) : a_run d MX1_meanPoints 25 L (.int x :: st) h = a_run d MX1_meanPoints 26 L (.float (FP.i2f x) :: st) h := w_i2f dX1_meanPoints_25
theorem w_X1_meanPoints_26 (d : Nat) (x : Nat) (st : List Value) (h : a_H) : a_run d MX1_meanPoints 26 [some (.ref x)] st h = a_run d MX1_meanPoints 27 [some (.ref x)] (.ref x :: st) h := w_ldAn dX1_meanPoints_26 rfl
theorem w_X1_meanPoints_27 (d : Nat) (L : a_L) (i : Nat) (st : List Value) (h : a_H) : a_run d MX1_meanPoints 27 L (.ref i :: st) h = (a_gf h i 0 [0]).bind fun v => a_run d MX1_meanPoints 30 L (v :: st) h := w_getf dX1_meanPoints_27 rfl
theorem w_X1_meanPoints_30 (d : Nat) (L : a_L) (i : Nat) (st : List Value) (h : a_H) : a_run d MX1_meanPoints 30 L (.ref i :: st) h = (a_gf h i 13 [1]).bind fun v => a_run d MX1_meanPoints 33 L (v :: st) h := w_getf dX1_meanPoints_30 rfl
theorem w_X1_meanPoints_33 (d : Nat) (L : a_L) (x : Int32) (st : List Value) (h : a_H) : a_run d MX1_meanPoints 33 L (.int x :: st) h = a_run d MX1_meanPoints 34 L (.float (FP.i2f x) :: st) h := w_i2f dX1_meanPoints_33
theorem w_X1_meanPoints_34 (d : Nat) (L : a_L) (x y : UInt32) (st : List Value) (h : a_H) (hn : FP.fdiv x y &&& 0x7fffffff ≤ 0x7f800000) : a_run d MX1_meanPoints 34 L (.float y :: .float x :: st) h = a_run d MX1_meanPoints 35 L (.float (FP.fdiv x y) :: st) h := w_fdiv dX1_meanPoints_34 hn
theorem w_X1_meanPoints_35 (d : Nat) (L : a_L) (x : UInt32) (h : a_H) : a_run d MX1_meanPoints 35 L [.float x] h = some (.inl (some (.float x)), h) := w_fret dX1_meanPoints_35 rfl
theorem e_X1_goBack (d : Nat) (x0 : Nat) (h : a_H) : a_call (d + 1) MX1_goBack [.ref x0] h = a_run d MX1_goBack 0 [some (.ref x0)] [] h := a_call_run rfl (Nat.le_of_ble_eq_true rfl) rfl
theorem w_X1_goBack_0 (d : Nat) (x : Nat) (st : List Value) (h : a_H) : a_run d MX1_goBack 0 [some (.ref x)] st h = a_run d MX1_goBack 1 [some (.ref x)] (.ref x :: st) h := w_ldAn dX1_goBack_0 rfl
theorem w_X1_goBack_1 (d : Nat) (L : a_L) (i : Nat) (st : List Value) (h : a_H) : a_run d MX1_goBack 1 L (.ref i :: st) h = (a_gf h i 1 [0]).bind fun v => a_run d MX1_goBack 4 L (v :: st) h := w_getf dX1_goBack_1 rfl
theorem w_X1_goBack_4 (d : Nat) (L : a_L) (x : Nat) (st : List Value) (h : a_H) (hx : 1024 ≤ x) : a_run d MX1_goBack 4 L (.ref x :: st) h = a_run d MX1_goBack 7 L st h := w_ifnull_r (tgt := 11) dX1_goBack_4 rfl hx
theorem w_X1_goBack_4N (d : Nat) (L : a_L) (st : List Value) (h : a_H) : a_run d MX1_goBack 4 L (.null :: st) h = a_run d MX1_goBack 11 L st h := w_ifnull_n dX1_goBack_4 rfl
theorem w_X1_goBack_7 (d : Nat) (L : a_L) (st : List Value) (h : a_H) : a_run d MX1_goBack 7 L st h = a_run d MX1_goBack 8 L (.int (nI 1) :: st) h := w_iconst dX1_goBack_7 rfl
theorem w_X1_goBack_8 (d : Nat) (L : a_L) (st : List Value) (h : a_H) : a_run d MX1_goBack 8 L st h = a_run d MX1_goBack 12 L st h := w_goto dX1_goBack_8 rfl
theorem w_X1_goBack_11 (d : Nat) (L : a_L) (st : List Value) (h : a_H) : a_run d MX1_goBack 11 L st h = a_run d MX1_goBack 12 L (.int (nI 0) :: st) h := w_iconst dX1_goBack_11 rfl
theorem w_X1_goBack_12 (d : Nat) (L : a_L) (v0 : Value) (st : List Value) (h : a_H) (hc : a_cat st ≤ 8) : a_run d MX1_goBack 12 L (v0 :: st) h = a_cont d MX1_goBack (a_bk MX1_goBack 12 L st (a_call d MX1_needState [v0] h)) := w_callS (as := [v0]) dX1_goBack_12 rfl rfl rfl hc
theorem w_X1_goBack_15 (d : Nat) (x : Nat) (st : List Value) (h : a_H) : a_run d MX1_goBack 15 [some (.ref x)] st h = a_run d MX1_goBack 16 [some (.ref x)] (.ref x :: st) h := w_ldAn dX1_goBack_15 rfl
theorem w_X1_goBack_16 (d : Nat) (x : Nat) (st : List Value) (h : a_H) : a_run d MX1_goBack 16 [some (.ref x)] st h = a_run d MX1_goBack 17 [some (.ref x)] (.ref x :: st) h := w_ldAn dX1_goBack_16 rfl
theorem w_X1_goBack_17 (d : Nat) (L : a_L) (i : Nat) (st : List Value) (h : a_H) : a_run d MX1_goBack 17 L (.ref i :: st) h = (a_gf h i 1 [0]).bind fun v => a_run d MX1_goBack 20 L (v :: st) h := w_getf dX1_goBack_17 rfl
theorem w_X1_goBack_20 (d : Nat) (x : Nat) (st : List Value) (h : a_H) : a_run d MX1_goBack 20 [some (.ref x)] st h = a_run d MX1_goBack 21 [some (.ref x)] (.ref x :: st) h := w_ldAn dX1_goBack_20 rfl
theorem w_X1_goBack_21 (d : Nat) (L : a_L) (i : Nat) (st : List Value) (h : a_H) : a_run d MX1_goBack 21 L (.ref i :: st) h = (a_gf h i 1 [0]).bind fun v => a_run d MX1_goBack 24 L (v :: st) h := w_getf dX1_goBack_21 rfl
theorem w_X1_goBack_24 (d : Nat) (L : a_L) (i : Nat) (st : List Value) (h : a_H) : a_run d MX1_goBack 24 L (.ref i :: st) h = (a_gf h i 11 [1]).bind fun v => a_run d MX1_goBack 27 L (v :: st) h := w_getf dX1_goBack_24 rfl
theorem w_X1_goBack_27 (d : Nat) (L : a_L) (i : Nat) (v1 v2 : Value) (st : List Value) (h : a_H) (hk : a_kls h i = some 0) (hc : a_cat st ≤ 8) : a_run d MX1_goBack 27 L (v2 :: v1 :: .ref i :: st) h = a_cont d MX1_goBack (a_bk MX1_goBack 27 L st (a_call d MX1_changed [.ref i, v1, v2] h)) := w_callV (as := [.ref i, v1, v2]) dX1_goBack_27 rfl rfl rfl hc (a_rcv_of hk rfl)
theorem w_X1_goBack_30 (d : Nat) (L : a_L) (x : Int32) (h : a_H) : a_run d MX1_goBack 30 L [.int x] h = some (.inl (some (.int x)), h) := w_iret dX1_goBack_30 (w_retI rfl)
theorem e_X1_needState (d : Nat) (x0 : Int32) (h : a_H) : a_call (d + 1) MX1_needState [.int x0] h = a_run d MX1_needState 0 [some (.int x0)] [] h := a_call_run rfl (Nat.le_of_ble_eq_true rfl) rfl
theorem w_X1_needState_0 (d : Nat) (x : Int32) (st : List Value) (h : a_H) : a_run d MX1_needState 0 [some (.int x)] st h = a_run d MX1_needState 1 [some (.int x)] (.int x :: st) h := w_ldIn dX1_needState_0 rfl
theorem w_X1_needState_1 (d : Nat) (L : a_L) (x : Int32) (st : List Value) (h : a_H) : a_run d MX1_needState 1 L (.int x :: st) h = if x = 0 then a_run d MX1_needState 4 L st h else a_run d MX1_needState 14 L st h := w_if_ne dX1_needState_1 rfl
theorem w_X1_needState_4 (d : Nat) (L : a_L) (st : List Value) (h : a_H) : a_run d MX1_needState 4 L st h = a_run d MX1_needState 7 L (.ref h.1 :: st) (a_add h (.inr (9, [.null, .null, .null, .null, .null, .int 0])) 6) := w_new dX1_needState_4 rfl rfl
theorem w_X1_needState_7 (d : Nat) (L : a_L) (x : Nat) (st : List Value) (h : a_H) : a_run d MX1_needState 7 L (.ref x :: st) h = a_run d MX1_needState 8 L (.ref x :: .ref x :: st) h := w_dup dX1_needState_7
theorem w_X1_needState_7I (d : Nat) (L : a_L) (x : Int32) (st : List Value) (h : a_H) : a_run d MX1_needState 7 L (.int x :: st) h = a_run d MX1_needState 8 L (.int x :: .int x :: st) h := w_dupI dX1_needState_7
theorem w_X1_needState_8 (d : Nat) (L : a_L) (st : List Value) (h : a_H) : a_run d MX1_needState 8 L st h = a_run d MX1_needState 10 L (.ref 706 :: st) h := w_ldc dX1_needState_8 rfl
theorem w_X1_needState_10 (d : Nat) (L : a_L) (i : Nat) (v1 : Value) (st : List Value) (h : a_H) (hi : 1024 ≤ i) (hc : a_cat st ≤ 8) : a_run d MX1_needState 10 L (v1 :: .ref i :: st) h = a_cont d MX1_needState (a_bk MX1_needState 10 L st (a_call d MJ12_init [.ref i, v1] h)) := w_callI (as := [.ref i, v1]) dX1_needState_10 rfl rfl rfl hc (a_new0_of hi)
theorem w_X1_needState_13 (d : Nat) (L : a_L) (x : Nat) (st : List Value) (h : a_H) : a_run d MX1_needState 13 L (.ref x :: st) h = a_cont d MX1_needState (a_thr MX1_needState 13 L x h) := w_athrow dX1_needState_13
theorem w_X1_needState_14 (d : Nat) (L : a_L) (h : a_H) : a_run d MX1_needState 14 L [] h = some (.inl none, h) := w_vret dX1_needState_14 rfl
theorem e_X1_undo (d : Nat) (x0 : Nat) (h : a_H) : a_call (d + 1) MX1_undo [.ref x0] h = a_run d MX1_undo 0 [some (.ref x0)] [] h := a_call_run rfl (Nat.le_of_ble_eq_true rfl) rfl
theorem w_X1_undo_0 (d : Nat) (x : Nat) (st : List Value) (h : a_H) : a_run d MX1_undo 0 [some (.ref x)] st h = a_run d MX1_undo 1 [some (.ref x)] (.ref x :: st) h := w_ldAn dX1_undo_0 rfl
theorem w_X1_undo_1 (d : Nat) (L : a_L) (i : Nat) (st : List Value) (h : a_H) : a_run d MX1_undo 1 L (.ref i :: st) h = (a_gf h i 2 [0]).bind fun v => a_run d MX1_undo 4 L (v :: st) h := w_getf dX1_undo_1 rfl
theorem w_X1_undo_4 (d : Nat) (L : a_L) (i : Nat) (st : List Value) (h : a_H) (hk : a_kls h i = some 7) (hc : a_cat st ≤ 8) : a_run d MX1_undo 4 L (.ref i :: st) h = a_cont d MX1_undo (a_bk MX1_undo 4 L st (a_call d MJ1_isEmpty [.ref i] h)) := w_callV (as := [.ref i]) dX1_undo_4 rfl rfl rfl hc (a_rcv_of hk rfl)
theorem w_X1_undo_7 (d : Nat) (L : a_L) (x : Int32) (st : List Value) (h : a_H) : a_run d MX1_undo 7 L (.int x :: st) h = if x = 0 then a_run d MX1_undo 10 L st h else a_run d MX1_undo 14 L st h := w_if_ne dX1_undo_7 rfl
theorem w_X1_undo_10 (d : Nat) (L : a_L) (st : List Value) (h : a_H) : a_run d MX1_undo 10 L st h = a_run d MX1_undo 11 L (.int (nI 1) :: st) h := w_iconst dX1_undo_10 rfl
theorem w_X1_undo_11 (d : Nat) (L : a_L) (st : List Value) (h : a_H) : a_run d MX1_undo 11 L st h = a_run d MX1_undo 15 L st h := w_goto dX1_undo_11 rfl
theorem w_X1_undo_14 (d : Nat) (L : a_L) (st : List Value) (h : a_H) : a_run d MX1_undo 14 L st h = a_run d MX1_undo 15 L (.int (nI 0) :: st) h := w_iconst dX1_undo_14 rfl
theorem w_X1_undo_15 (d : Nat) (L : a_L) (v0 : Value) (st : List Value) (h : a_H) (hc : a_cat st ≤ 8) : a_run d MX1_undo 15 L (v0 :: st) h = a_cont d MX1_undo (a_bk MX1_undo 15 L st (a_call d MX1_needState [v0] h)) := w_callS (as := [v0]) dX1_undo_15 rfl rfl rfl hc
theorem w_X1_undo_18 (d : Nat) (x : Nat) (st : List Value) (h : a_H) : a_run d MX1_undo 18 [some (.ref x)] st h = a_run d MX1_undo 19 [some (.ref x)] (.ref x :: st) h := w_ldAn dX1_undo_18 rfl
theorem w_X1_undo_19 (d : Nat) (x : Nat) (st : List Value) (h : a_H) : a_run d MX1_undo 19 [some (.ref x)] st h = a_run d MX1_undo 20 [some (.ref x)] (.ref x :: st) h := w_ldAn dX1_undo_19 rfl
theorem w_X1_undo_20 (d : Nat) (L : a_L) (i : Nat) (st : List Value) (h : a_H) : a_run d MX1_undo 20 L (.ref i :: st) h = (a_gf h i 2 [0]).bind fun v => a_run d MX1_undo 23 L (v :: st) h := w_getf dX1_undo_20 rfl
theorem w_X1_undo_23 (d : Nat) (L : a_L) (i : Nat) (st : List Value) (h : a_H) (hk : a_kls h i = some 7) (hc : a_cat st ≤ 8) : a_run d MX1_undo 23 L (.ref i :: st) h = a_cont d MX1_undo (a_bk MX1_undo 23 L st (a_call d MJ1_removeLast [.ref i] h)) := w_callV (as := [.ref i]) dX1_undo_23 rfl rfl rfl hc (a_rcv_of hk rfl)
theorem w_X1_undo_26 (d : Nat) (L : a_L) (i c : Nat) (st : List Value) (h : a_H) (hk : a_kls h i = some c) (hc : k_cast c 1 = some true) : a_run d MX1_undo 26 L (.ref i :: st) h = a_run d MX1_undo 29 L (.ref i :: st) h := w_cast dX1_undo_26 rfl hk hc
theorem w_X1_undo_26N (d : Nat) (L : a_L) (st : List Value) (h : a_H) : a_run d MX1_undo 26 L (.null :: st) h = a_run d MX1_undo 29 L (.null :: st) h := w_castN dX1_undo_26 rfl
theorem w_X1_undo_29 (d : Nat) (L : a_L) (x : Nat) (i : Nat) (st : List Value) (h : a_H) : a_run d MX1_undo 29 L (.ref x :: .ref i :: st) h = (a_pf h i 0 [0] (.ref x)).bind fun h' => a_run d MX1_undo 32 L st h' := w_putf dX1_undo_29 rfl rfl (Or.inl rfl) rfl rfl
theorem w_X1_undo_29N (d : Nat) (L : a_L) (i : Nat) (st : List Value) (h : a_H) : a_run d MX1_undo 29 L (.null :: .ref i :: st) h = (a_pf h i 0 [0] (.null)).bind fun h' => a_run d MX1_undo 32 L st h' := w_putf dX1_undo_29 rfl rfl (Or.inl rfl) rfl rfl
theorem w_X1_undo_32 (d : Nat) (x : Nat) (st : List Value) (h : a_H) : a_run d MX1_undo 32 [some (.ref x)] st h = a_run d MX1_undo 33 [some (.ref x)] (.ref x :: st) h := w_ldAn dX1_undo_32 rfl
theorem w_X1_undo_33 (d : Nat) (L : a_L) (i : Nat) (st : List Value) (h : a_H) : a_run d MX1_undo 33 L (.ref i :: st) h = (a_gf h i 2 [0]).bind fun v => a_run d MX1_undo 36 L (v :: st) h := w_getf dX1_undo_33 rfl
theorem w_X1_undo_36 (d : Nat) (L : a_L) (i : Nat) (st : List Value) (h : a_H) (hk : a_kls h i = some 7) (hc : a_cat st ≤ 8) : a_run d MX1_undo 36 L (.ref i :: st) h = a_cont d MX1_undo (a_bk MX1_undo 36 L st (a_call d MJ1_size [.ref i] h)) := w_callV (as := [.ref i]) dX1_undo_36 rfl rfl rfl hc (a_rcv_of hk rfl)
theorem w_X1_undo_39 (d : Nat) (L : a_L) (x : Int32) (h : a_H) : a_run d MX1_undo 39 L [.int x] h = some (.inl (some (.int x)), h) := w_iret dX1_undo_39 (w_retI rfl)
theorem e_X1_type (d : Nat) (x0 : Nat) (x1 : Int32) (h : a_H) : a_call (d + 1) MX1_type [.ref x0, .int x1] h = a_run d MX1_type 0 [some (.ref x0), some (.int x1)] [] h := a_call_run rfl (Nat.le_of_ble_eq_true rfl) rfl
theorem w_X1_type_0 (d : Nat) (a0 : Option Value) (x : Int32) (st : List Value) (h : a_H) : a_run d MX1_type 0 [a0, some (.int x)] st h = a_run d MX1_type 1 [a0, some (.int x)] (.int x :: st) h := w_ldIn dX1_type_0 rfl
theorem w_X1_type_1 (d : Nat) (L : a_L) (x : Int32) (st : List Value) (h : a_H) : a_run d MX1_type 1 L (.int x :: st) h = a_run d MX1_type 2 L (.long x.toInt64 :: st) h := w_i2l dX1_type_1
theorem w_X1_type_2 (d : Nat) (L : a_L) (st : List Value) (h : a_H) : a_run d MX1_type 2 L st h = a_run d MX1_type 5 L (.long (32 : Int64) :: st) h := w_ldc2 dX1_type_2 rfl
theorem w_X1_type_5 (d : Nat) (L : a_L) (st : List Value) (h : a_H) : a_run d MX1_type 5 L st h = a_run d MX1_type 8 L (.long (126 : Int64) :: st) h := w_ldc2 dX1_type_5 rfl
theorem w_X1_type_8 (d : Nat) (L : a_L) (v0 v1 v2 : Value) (st : List Value) (h : a_H) (hc : a_cat st ≤ 8) : a_run d MX1_type 8 L (v2 :: v1 :: v0 :: st) h = a_cont d MX1_type (a_bk MX1_type 8 L st (a_call d MX1_isBetween [v0, v1, v2] h)) := w_callS (as := [v0, v1, v2]) dX1_type_8 rfl rfl rfl hc
theorem w_X1_type_11 (d : Nat) (L : a_L) (v0 : Value) (st : List Value) (h : a_H) (hc : a_cat st ≤ 8) : a_run d MX1_type 11 L (v0 :: st) h = a_cont d MX1_type (a_bk MX1_type 11 L st (a_call d MX1_needArgument [v0] h)) := w_callS (as := [v0]) dX1_type_11 rfl rfl rfl hc
theorem w_X1_type_14 (d : Nat) (a1 : Option Value) (x : Nat) (st : List Value) (h : a_H) : a_run d MX1_type 14 [some (.ref x), a1] st h = a_run d MX1_type 15 [some (.ref x), a1] (.ref x :: st) h := w_ldAn dX1_type_14 rfl
theorem w_X1_type_15 (d : Nat) (L : a_L) (i : Nat) (st : List Value) (h : a_H) : a_run d MX1_type 15 L (.ref i :: st) h = (a_gf h i 3 [0]).bind fun v => a_run d MX1_type 18 L (v :: st) h := w_getf dX1_type_15 rfl
theorem w_X1_type_18 (d : Nat) (L : a_L) (i : Nat) (st : List Value) (h : a_H) (hk : a_kls h i = some 8) (hc : a_cat st ≤ 8) : a_run d MX1_type 18 L (.ref i :: st) h = a_cont d MX1_type (a_bk MX1_type 18 L st (a_call d MJ3_length [.ref i] h)) := w_callV (as := [.ref i]) dX1_type_18 rfl rfl rfl hc (a_rcv_of hk rfl)
theorem w_X1_type_21 (d : Nat) (L : a_L) (st : List Value) (h : a_H) : a_run d MX1_type 21 L st h = a_run d MX1_type 23 L (.int (nI 60) :: st) h := w_bipush dX1_type_21 rfl
theorem w_X1_type_23 (d : Nat) (L : a_L) (x y : Int32) (st : List Value) (h : a_H) : a_run d MX1_type 23 L (.int y :: .int x :: st) h = if x < y then a_run d MX1_type 26 L st h else a_run d MX1_type 30 L st h := w_icmp_ge dX1_type_23 rfl
theorem w_X1_type_26 (d : Nat) (L : a_L) (st : List Value) (h : a_H) : a_run d MX1_type 26 L st h = a_run d MX1_type 27 L (.int (nI 1) :: st) h := w_iconst dX1_type_26 rfl
theorem w_X1_type_27 (d : Nat) (L : a_L) (st : List Value) (h : a_H) : a_run d MX1_type 27 L st h = a_run d MX1_type 31 L st h := w_goto dX1_type_27 rfl
theorem w_X1_type_30 (d : Nat) (L : a_L) (st : List Value) (h : a_H) : a_run d MX1_type 30 L st h = a_run d MX1_type 31 L (.int (nI 0) :: st) h := w_iconst dX1_type_30 rfl
theorem w_X1_type_31 (d : Nat) (L : a_L) (v0 : Value) (st : List Value) (h : a_H) (hc : a_cat st ≤ 8) : a_run d MX1_type 31 L (v0 :: st) h = a_cont d MX1_type (a_bk MX1_type 31 L st (a_call d MX1_needState [v0] h)) := w_callS (as := [v0]) dX1_type_31 rfl rfl rfl hc
theorem w_X1_type_34 (d : Nat) (a1 : Option Value) (x : Nat) (st : List Value) (h : a_H) : a_run d MX1_type 34 [some (.ref x), a1] st h = a_run d MX1_type 35 [some (.ref x), a1] (.ref x :: st) h := w_ldAn dX1_type_34 rfl
theorem w_X1_type_35 (d : Nat) (L : a_L) (i : Nat) (st : List Value) (h : a_H) : a_run d MX1_type 35 L (.ref i :: st) h = (a_gf h i 3 [0]).bind fun v => a_run d MX1_type 38 L (v :: st) h := w_getf dX1_type_35 rfl
theorem w_X1_type_38 (d : Nat) (a0 : Option Value) (x : Int32) (st : List Value) (h : a_H) : a_run d MX1_type 38 [a0, some (.int x)] st h = a_run d MX1_type 39 [a0, some (.int x)] (.int x :: st) h := w_ldIn dX1_type_38 rfl
theorem w_X1_type_39 (d : Nat) (L : a_L) (x : Int32) (st : List Value) (h : a_H) : a_run d MX1_type 39 L (.int x :: st) h = a_run d MX1_type 40 L (.int (x.toUInt32 % 65536).toInt32 :: st) h := w_i2c dX1_type_39
theorem w_X1_type_40 (d : Nat) (L : a_L) (i : Nat) (v1 : Value) (st : List Value) (h : a_H) (hk : a_kls h i = some 8) (hc : a_cat st ≤ 8) : a_run d MX1_type 40 L (v1 :: .ref i :: st) h = a_cont d MX1_type (a_bk MX1_type 40 L st (a_call d MJ3_append_3 [.ref i, v1] h)) := w_callV (as := [.ref i, v1]) dX1_type_40 rfl rfl rfl hc (a_rcv_of hk rfl)
theorem w_X1_type_43 (d : Nat) (L : a_L) (x : Nat) (st : List Value) (h : a_H) : a_run d MX1_type 43 L (.ref x :: st) h = a_run d MX1_type 44 L st h := w_pop dX1_type_43
theorem w_X1_type_43I (d : Nat) (L : a_L) (x : Int32) (st : List Value) (h : a_H) : a_run d MX1_type 43 L (.int x :: st) h = a_run d MX1_type 44 L st h := w_popI dX1_type_43
theorem w_X1_type_44 (d : Nat) (a1 : Option Value) (x : Nat) (st : List Value) (h : a_H) : a_run d MX1_type 44 [some (.ref x), a1] st h = a_run d MX1_type 45 [some (.ref x), a1] (.ref x :: st) h := w_ldAn dX1_type_44 rfl
theorem w_X1_type_45 (d : Nat) (L : a_L) (i : Nat) (st : List Value) (h : a_H) : a_run d MX1_type 45 L (.ref i :: st) h = (a_gf h i 3 [0]).bind fun v => a_run d MX1_type 48 L (v :: st) h := w_getf dX1_type_45 rfl
theorem w_X1_type_48 (d : Nat) (L : a_L) (i : Nat) (st : List Value) (h : a_H) (hk : a_kls h i = some 8) (hc : a_cat st ≤ 8) : a_run d MX1_type 48 L (.ref i :: st) h = a_cont d MX1_type (a_bk MX1_type 48 L st (a_call d MJ3_length [.ref i] h)) := w_callV (as := [.ref i]) dX1_type_48 rfl rfl rfl hc (a_rcv_of hk rfl)
theorem w_X1_type_51 (d : Nat) (L : a_L) (x : Int32) (h : a_H) : a_run d MX1_type 51 L [.int x] h = some (.inl (some (.int x)), h) := w_iret dX1_type_51 (w_retI rfl)
theorem e_X1_faultPosition (d : Nat) (x0 : Nat) (h : a_H) : a_call (d + 1) MX1_faultPosition [.ref x0] h = a_run d MX1_faultPosition 0 [some (.ref x0)] [] h := a_call_run rfl (Nat.le_of_ble_eq_true rfl) rfl
theorem w_X1_faultPosition_0 (d : Nat) (x : Nat) (st : List Value) (h : a_H) : a_run d MX1_faultPosition 0 [some (.ref x)] st h = a_run d MX1_faultPosition 1 [some (.ref x)] (.ref x :: st) h := w_ldAn dX1_faultPosition_0 rfl
theorem w_X1_faultPosition_1 (d : Nat) (L : a_L) (i : Nat) (st : List Value) (h : a_H) (hk : a_kls h i = some 0) (hc : a_cat st ≤ 8) : a_run d MX1_faultPosition 1 L (.ref i :: st) h = a_cont d MX1_faultPosition (a_bk MX1_faultPosition 1 L st (a_call d MX1_faulty [.ref i] h)) := w_callV (as := [.ref i]) dX1_faultPosition_1 rfl rfl rfl hc (a_rcv_of hk rfl)
theorem w_X1_faultPosition_4 (d : Nat) (L : a_L) (i : Nat) (st : List Value) (h : a_H) : a_run d MX1_faultPosition 4 L (.ref i :: st) h = (a_gf h i 3 [6]).bind fun v => a_run d MX1_faultPosition 7 L (v :: st) h := w_getf dX1_faultPosition_4 rfl
theorem w_X1_faultPosition_7 (d : Nat) (L : a_L) (x : Int32) (h : a_H) : a_run d MX1_faultPosition 7 L [.int x] h = some (.inl (some (.int x)), h) := w_iret dX1_faultPosition_7 (w_retI rfl)
theorem e_X1_faulty (d : Nat) (x0 : Nat) (h : a_H) : a_call (d + 1) MX1_faulty [.ref x0] h = a_run d MX1_faulty 0 [some (.ref x0), none] [] h := a_call_run rfl (Nat.le_of_ble_eq_true rfl) rfl
theorem w_X1_faulty_0 (d : Nat) (L : a_L) (st : List Value) (h : a_H) : a_run d MX1_faulty 0 L st h = a_run d MX1_faulty 3 L (.ref h.1 :: st) (a_add h (.inr (6, [.null, .null, .int 0, .int 0, .int 0, .int 0, .int 0, .null])) 8) := w_new dX1_faulty_0 rfl rfl
theorem w_X1_faulty_3 (d : Nat) (L : a_L) (x : Nat) (st : List Value) (h : a_H) : a_run d MX1_faulty 3 L (.ref x :: st) h = a_run d MX1_faulty 4 L (.ref x :: .ref x :: st) h := w_dup dX1_faulty_3
theorem w_X1_faulty_3I (d : Nat) (L : a_L) (x : Int32) (st : List Value) (h : a_H) : a_run d MX1_faulty 3 L (.int x :: st) h = a_run d MX1_faulty 4 L (.int x :: .int x :: st) h := w_dupI dX1_faulty_3
theorem w_X1_faulty_4 (d : Nat) (a1 : Option Value) (x : Nat) (st : List Value) (h : a_H) : a_run d MX1_faulty 4 [some (.ref x), a1] st h = a_run d MX1_faulty 5 [some (.ref x), a1] (.ref x :: st) h := w_ldAn dX1_faulty_4 rfl
theorem w_X1_faulty_5 (d : Nat) (L : a_L) (i : Nat) (v1 : Value) (st : List Value) (h : a_H) (hi : 1024 ≤ i) (hc : a_cat st ≤ 8) : a_run d MX1_faulty 5 L (v1 :: .ref i :: st) h = a_cont d MX1_faulty (a_bk MX1_faulty 5 L st (a_call d MX7_init [.ref i, v1] h)) := w_callI (as := [.ref i, v1]) dX1_faulty_5 rfl rfl rfl hc (a_new0_of hi)
theorem w_X1_faulty_8 (d : Nat) (a0 a1 : Option Value) (x : Nat) (st : List Value) (h : a_H) : a_run d MX1_faulty 8 [a0, a1] (.ref x :: st) h = a_run d MX1_faulty 9 [a0, some (.ref x)] st h := w_stAn dX1_faulty_8 (Nat.le_of_ble_eq_true rfl) rfl
theorem w_X1_faulty_8N (d : Nat) (a0 a1 : Option Value) (st : List Value) (h : a_H) : a_run d MX1_faulty 8 [a0, a1] (.null :: st) h = a_run d MX1_faulty 9 [a0, some .null] st h := w_stNn dX1_faulty_8 (Nat.le_of_ble_eq_true rfl) rfl
theorem w_X1_faulty_9 (d : Nat) (a0 : Option Value) (x : Nat) (st : List Value) (h : a_H) : a_run d MX1_faulty 9 [a0, some (.ref x)] st h = a_run d MX1_faulty 10 [a0, some (.ref x)] (.ref x :: st) h := w_ldAn dX1_faulty_9 rfl
theorem w_X1_faulty_9N (d : Nat) (a0 : Option Value) (st : List Value) (h : a_H) : a_run d MX1_faulty 9 [a0, some .null] st h = a_run d MX1_faulty 10 [a0, some .null] (.null :: st) h := w_ldNn dX1_faulty_9 rfl
theorem w_X1_faulty_10 (d : Nat) (L : a_L) (i : Nat) (st : List Value) (h : a_H) (hk : a_kls h i = some 6) (hc : a_cat st ≤ 8) : a_run d MX1_faulty 10 L (.ref i :: st) h = a_cont d MX1_faulty (a_bk MX1_faulty 10 L st (a_call d MX7_isWell [.ref i] h)) := w_callV (as := [.ref i]) dX1_faulty_10 rfl rfl rfl hc (a_rcv_of hk rfl)
theorem w_X1_faulty_13 (d : Nat) (L : a_L) (x : Int32) (st : List Value) (h : a_H) : a_run d MX1_faulty 13 L (.int x :: st) h = if x = 0 then a_run d MX1_faulty 16 L st h else a_run d MX1_faulty 20 L st h := w_if_ne dX1_faulty_13 rfl
theorem w_X1_faulty_16 (d : Nat) (L : a_L) (st : List Value) (h : a_H) : a_run d MX1_faulty 16 L st h = a_run d MX1_faulty 17 L (.int (nI 1) :: st) h := w_iconst dX1_faulty_16 rfl
theorem w_X1_faulty_17 (d : Nat) (L : a_L) (st : List Value) (h : a_H) : a_run d MX1_faulty 17 L st h = a_run d MX1_faulty 21 L st h := w_goto dX1_faulty_17 rfl
theorem w_X1_faulty_20 (d : Nat) (L : a_L) (st : List Value) (h : a_H) : a_run d MX1_faulty 20 L st h = a_run d MX1_faulty 21 L (.int (nI 0) :: st) h := w_iconst dX1_faulty_20 rfl
theorem w_X1_faulty_21 (d : Nat) (L : a_L) (v0 : Value) (st : List Value) (h : a_H) (hc : a_cat st ≤ 8) : a_run d MX1_faulty 21 L (v0 :: st) h = a_cont d MX1_faulty (a_bk MX1_faulty 21 L st (a_call d MX1_needSuch [v0] h)) := w_callS (as := [v0]) dX1_faulty_21 rfl rfl rfl hc
theorem w_X1_faulty_24 (d : Nat) (a0 : Option Value) (x : Nat) (st : List Value) (h : a_H) : a_run d MX1_faulty 24 [a0, some (.ref x)] st h = a_run d MX1_faulty 25 [a0, some (.ref x)] (.ref x :: st) h := w_ldAn dX1_faulty_24 rfl
theorem w_X1_faulty_24N (d : Nat) (a0 : Option Value) (st : List Value) (h : a_H) : a_run d MX1_faulty 24 [a0, some .null] st h = a_run d MX1_faulty 25 [a0, some .null] (.null :: st) h := w_ldNn dX1_faulty_24 rfl
theorem w_X1_faulty_25 (d : Nat) (L : a_L) (x : Nat) (h : a_H) : a_run d MX1_faulty 25 L [.ref x] h = some (.inl (some (.ref x)), h) := w_aret dX1_faulty_25 rfl
theorem w_X1_faulty_25N (d : Nat) (L : a_L) (h : a_H) : a_run d MX1_faulty 25 L [.null] h = some (.inl (some .null), h) := w_aretN dX1_faulty_25 rfl
theorem e_X1_faultReason (d : Nat) (x0 : Nat) (h : a_H) : a_call (d + 1) MX1_faultReason [.ref x0] h = a_run d MX1_faultReason 0 [some (.ref x0)] [] h := a_call_run rfl (Nat.le_of_ble_eq_true rfl) rfl
theorem w_X1_faultReason_0 (d : Nat) (x : Nat) (st : List Value) (h : a_H) : a_run d MX1_faultReason 0 [some (.ref x)] st h = a_run d MX1_faultReason 1 [some (.ref x)] (.ref x :: st) h := w_ldAn dX1_faultReason_0 rfl
theorem w_X1_faultReason_1 (d : Nat) (L : a_L) (i : Nat) (st : List Value) (h : a_H) (hk : a_kls h i = some 0) (hc : a_cat st ≤ 8) : a_run d MX1_faultReason 1 L (.ref i :: st) h = a_cont d MX1_faultReason (a_bk MX1_faultReason 1 L st (a_call d MX1_faulty [.ref i] h)) := w_callV (as := [.ref i]) dX1_faultReason_1 rfl rfl rfl hc (a_rcv_of hk rfl)
theorem w_X1_faultReason_4 (d : Nat) (L : a_L) (i : Nat) (st : List Value) (h : a_H) : a_run d MX1_faultReason 4 L (.ref i :: st) h = (a_gf h i 4 [6]).bind fun v => a_run d MX1_faultReason 7 L (v :: st) h := w_getf dX1_faultReason_4 rfl
theorem w_X1_faultReason_7 (d : Nat) (L : a_L) (x : Int32) (h : a_H) : a_run d MX1_faultReason 7 L [.int x] h = some (.inl (some (.int x)), h) := w_iret dX1_faultReason_7 (w_retI rfl)
theorem e_X1_faultCause (d : Nat) (x0 : Nat) (h : a_H) : a_call (d + 1) MX1_faultCause [.ref x0] h = a_run d MX1_faultCause 0 [some (.ref x0)] [] h := a_call_run rfl (Nat.le_of_ble_eq_true rfl) rfl
theorem w_X1_faultCause_0 (d : Nat) (x : Nat) (st : List Value) (h : a_H) : a_run d MX1_faultCause 0 [some (.ref x)] st h = a_run d MX1_faultCause 1 [some (.ref x)] (.ref x :: st) h := w_ldAn dX1_faultCause_0 rfl
theorem w_X1_faultCause_1 (d : Nat) (L : a_L) (i : Nat) (st : List Value) (h : a_H) (hk : a_kls h i = some 0) (hc : a_cat st ≤ 8) : a_run d MX1_faultCause 1 L (.ref i :: st) h = a_cont d MX1_faultCause (a_bk MX1_faultCause 1 L st (a_call d MX1_faulty [.ref i] h)) := w_callV (as := [.ref i]) dX1_faultCause_1 rfl rfl rfl hc (a_rcv_of hk rfl)
theorem w_X1_faultCause_4 (d : Nat) (L : a_L) (i : Nat) (st : List Value) (h : a_H) : a_run d MX1_faultCause 4 L (.ref i :: st) h = (a_gf h i 5 [6]).bind fun v => a_run d MX1_faultCause 7 L (v :: st) h := w_getf dX1_faultCause_4 rfl
theorem w_X1_faultCause_7 (d : Nat) (L : a_L) (x : Int32) (h : a_H) : a_run d MX1_faultCause 7 L [.int x] h = some (.inl (some (.int x)), h) := w_iret dX1_faultCause_7 (w_retI rfl)
theorem e_X1_play (d : Nat) (x0 : Nat) (h : a_H) : a_call (d + 1) MX1_play [.ref x0] h = a_run d MX1_play 0 [some (.ref x0), none] [] h := a_call_run rfl (Nat.le_of_ble_eq_true rfl) rfl
theorem w_X1_play_0 (d : Nat) (L : a_L) (st : List Value) (h : a_H) : a_run d MX1_play 0 L st h = a_run d MX1_play 3 L (.ref h.1 :: st) (a_add h (.inr (6, [.null, .null, .int 0, .int 0, .int 0, .int 0, .int 0, .null])) 8) := w_new dX1_play_0 rfl rfl
theorem w_X1_play_3 (d : Nat) (L : a_L) (x : Nat) (st : List Value) (h : a_H) : a_run d MX1_play 3 L (.ref x :: st) h = a_run d MX1_play 4 L (.ref x :: .ref x :: st) h := w_dup dX1_play_3
theorem w_X1_play_3I (d : Nat) (L : a_L) (x : Int32) (st : List Value) (h : a_H) : a_run d MX1_play 3 L (.int x :: st) h = a_run d MX1_play 4 L (.int x :: .int x :: st) h := w_dupI dX1_play_3
theorem w_X1_play_4 (d : Nat) (a1 : Option Value) (x : Nat) (st : List Value) (h : a_H) : a_run d MX1_play 4 [some (.ref x), a1] st h = a_run d MX1_play 5 [some (.ref x), a1] (.ref x :: st) h := w_ldAn dX1_play_4 rfl
theorem w_X1_play_5 (d : Nat) (L : a_L) (i : Nat) (v1 : Value) (st : List Value) (h : a_H) (hi : 1024 ≤ i) (hc : a_cat st ≤ 8) : a_run d MX1_play 5 L (v1 :: .ref i :: st) h = a_cont d MX1_play (a_bk MX1_play 5 L st (a_call d MX7_init [.ref i, v1] h)) := w_callI (as := [.ref i, v1]) dX1_play_5 rfl rfl rfl hc (a_new0_of hi)
theorem w_X1_play_8 (d : Nat) (a0 a1 : Option Value) (x : Nat) (st : List Value) (h : a_H) : a_run d MX1_play 8 [a0, a1] (.ref x :: st) h = a_run d MX1_play 9 [a0, some (.ref x)] st h := w_stAn dX1_play_8 (Nat.le_of_ble_eq_true rfl) rfl
theorem w_X1_play_8N (d : Nat) (a0 a1 : Option Value) (st : List Value) (h : a_H) : a_run d MX1_play 8 [a0, a1] (.null :: st) h = a_run d MX1_play 9 [a0, some .null] st h := w_stNn dX1_play_8 (Nat.le_of_ble_eq_true rfl) rfl
theorem w_X1_play_9 (d : Nat) (a0 : Option Value) (x : Nat) (st : List Value) (h : a_H) : a_run d MX1_play 9 [a0, some (.ref x)] st h = a_run d MX1_play 10 [a0, some (.ref x)] (.ref x :: st) h := w_ldAn dX1_play_9 rfl
theorem w_X1_play_9N (d : Nat) (a0 : Option Value) (st : List Value) (h : a_H) : a_run d MX1_play 9 [a0, some .null] st h = a_run d MX1_play 10 [a0, some .null] (.null :: st) h := w_ldNn dX1_play_9 rfl
theorem w_X1_play_10 (d : Nat) (L : a_L) (i : Nat) (st : List Value) (h : a_H) (hk : a_kls h i = some 6) (hc : a_cat st ≤ 8) : a_run d MX1_play 10 L (.ref i :: st) h = a_cont d MX1_play (a_bk MX1_play 10 L st (a_call d MX7_isWell [.ref i] h)) := w_callV (as := [.ref i]) dX1_play_10 rfl rfl rfl hc (a_rcv_of hk rfl)
theorem w_X1_play_13 (d : Nat) (L : a_L) (v0 : Value) (st : List Value) (h : a_H) (hc : a_cat st ≤ 8) : a_run d MX1_play 13 L (v0 :: st) h = a_cont d MX1_play (a_bk MX1_play 13 L st (a_call d MX1_needState [v0] h)) := w_callS (as := [v0]) dX1_play_13 rfl rfl rfl hc
theorem w_X1_play_16 (d : Nat) (a1 : Option Value) (x : Nat) (st : List Value) (h : a_H) : a_run d MX1_play 16 [some (.ref x), a1] st h = a_run d MX1_play 17 [some (.ref x), a1] (.ref x :: st) h := w_ldAn dX1_play_16 rfl
theorem w_X1_play_17 (d : Nat) (a0 : Option Value) (x : Nat) (st : List Value) (h : a_H) : a_run d MX1_play 17 [a0, some (.ref x)] st h = a_run d MX1_play 18 [a0, some (.ref x)] (.ref x :: st) h := w_ldAn dX1_play_17 rfl
theorem w_X1_play_17N (d : Nat) (a0 : Option Value) (st : List Value) (h : a_H) : a_run d MX1_play 17 [a0, some .null] st h = a_run d MX1_play 18 [a0, some .null] (.null :: st) h := w_ldNn dX1_play_17 rfl
theorem w_X1_play_18 (d : Nat) (L : a_L) (i : Nat) (st : List Value) (h : a_H) : a_run d MX1_play 18 L (.ref i :: st) h = (a_gf h i 0 [6]).bind fun v => a_run d MX1_play 21 L (v :: st) h := w_getf dX1_play_18 rfl
theorem w_X1_play_21 (d : Nat) (a0 : Option Value) (x : Nat) (st : List Value) (h : a_H) : a_run d MX1_play 21 [a0, some (.ref x)] st h = a_run d MX1_play 22 [a0, some (.ref x)] (.ref x :: st) h := w_ldAn dX1_play_21 rfl
theorem w_X1_play_21N (d : Nat) (a0 : Option Value) (st : List Value) (h : a_H) : a_run d MX1_play 21 [a0, some .null] st h = a_run d MX1_play 22 [a0, some .null] (.null :: st) h := w_ldNn dX1_play_21 rfl
theorem w_X1_play_22 (d : Nat) (L : a_L) (i : Nat) (st : List Value) (h : a_H) : a_run d MX1_play 22 L (.ref i :: st) h = (a_gf h i 6 [6]).bind fun v => a_run d MX1_play 25 L (v :: st) h := w_getf dX1_play_22 rfl
theorem w_X1_play_25 (d : Nat) (L : a_L) (i : Nat) (v1 v2 : Value) (st : List Value) (h : a_H) (hk : a_kls h i = some 0) (hc : a_cat st ≤ 8) : a_run d MX1_play 25 L (v2 :: v1 :: .ref i :: st) h = a_cont d MX1_play (a_bk MX1_play 25 L st (a_call d MX1_changed [.ref i, v1, v2] h)) := w_callV (as := [.ref i, v1, v2]) dX1_play_25 rfl rfl rfl hc (a_rcv_of hk rfl)
theorem w_X1_play_28 (d : Nat) (L : a_L) (x : Int32) (h : a_H) : a_run d MX1_play 28 L [.int x] h = some (.inl (some (.int x)), h) := w_iret dX1_play_28 (w_retI rfl)
