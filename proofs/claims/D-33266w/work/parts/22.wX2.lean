set_option maxRecDepth 100000
set_option maxRecDepth 100000
set_option maxRecDepth 100000 in
set_option maxRecDepth 100000 in
def dkwX2_init_3 : List UInt8 := [188, 10, 181, 0, 36, 42, 17, 4, 126, 188, 10, 181, 0, 39, 42, 16, 25, 188, 10, 181, 0, 42, 177]
abbrev dktX2_init_3 : List UInt8 := dkwX2_init_3 ++ []
def dkwX2_init_2 : List UInt8 := [188, 10, 181, 0, 27, 42, 16, 30, 188, 10, 181, 0, 30, 42, 16, 16, 188, 10, 181, 0, 33, 42, 16, 16]
abbrev dktX2_init_2 : List UInt8 := dkwX2_init_2 ++ dktX2_init_3
def dkwX2_init_1 : List UInt8 := [188, 10, 181, 0, 18, 42, 16, 46, 188, 10, 181, 0, 21, 42, 16, 46, 188, 10, 181, 0, 24, 42, 16, 30]
abbrev dktX2_init_1 : List UInt8 := dkwX2_init_1 ++ dktX2_init_2
def dkwX2_init_0 : List UInt8 := [42, 183, 0, 3, 42, 16, 30, 188, 10, 181, 0, 9, 42, 16, 30, 188, 10, 181, 0, 15, 42, 16, 30]
abbrev dktX2_init_0 : List UInt8 := dkwX2_init_0 ++ dktX2_init_1
theorem dksX2_init_0 : cX2_init.data.toList.drop 0 = dktX2_init_0 := by decide +kernel
theorem dksX2_init_1 : cX2_init.data.toList.drop 23 = dktX2_init_1 := dk_seg dksX2_init_0 23 rfl rfl
theorem dksX2_init_2 : cX2_init.data.toList.drop 47 = dktX2_init_2 := dk_seg dksX2_init_1 24 rfl rfl
theorem dksX2_init_3 : cX2_init.data.toList.drop 71 = dktX2_init_3 := dk_seg dksX2_init_2 24 rfl rfl
theorem dX2_init_0 : decode cX2_init 0 = .ok (.aload_n 0, 1) := dk_42 (dk_at dksX2_init_0 0 rfl rfl)
theorem dX2_init_1 : decode cX2_init 1 = .ok (.invokespecial 3, 3) := dk_183 0 3 (dk_at dksX2_init_0 1 rfl rfl)
theorem dX2_init_4 : decode cX2_init 4 = .ok (.aload_n 0, 1) := dk_42 (dk_at dksX2_init_0 4 rfl rfl)
theorem dX2_init_5 : decode cX2_init 5 = .ok (.bipush 30, 2) := dk_16 30 (dk_at dksX2_init_0 5 rfl rfl)
theorem dX2_init_7 : decode cX2_init 7 = .ok (.newarray .int, 2) := dk_188_10 (dk_at dksX2_init_0 7 rfl rfl)
theorem dX2_init_9 : decode cX2_init 9 = .ok (.putfield 9, 3) := dk_181 0 9 (dk_at dksX2_init_0 9 rfl rfl)
theorem dX2_init_12 : decode cX2_init 12 = .ok (.aload_n 0, 1) := dk_42 (dk_at dksX2_init_0 12 rfl rfl)
theorem dX2_init_13 : decode cX2_init 13 = .ok (.bipush 30, 2) := dk_16 30 (dk_at dksX2_init_0 13 rfl rfl)
theorem dX2_init_15 : decode cX2_init 15 = .ok (.newarray .int, 2) := dk_188_10 (dk_at dksX2_init_0 15 rfl rfl)
theorem dX2_init_17 : decode cX2_init 17 = .ok (.putfield 15, 3) := dk_181 0 15 (dk_at dksX2_init_0 17 rfl rfl)
theorem dX2_init_20 : decode cX2_init 20 = .ok (.aload_n 0, 1) := dk_42 (dk_at dksX2_init_0 20 rfl rfl)
theorem dX2_init_21 : decode cX2_init 21 = .ok (.bipush 30, 2) := dk_16 30 (dk_at dksX2_init_0 21 rfl rfl)
theorem dX2_init_23 : decode cX2_init 23 = .ok (.newarray .int, 2) := dk_188_10 (dk_at dksX2_init_1 0 rfl rfl)
theorem dX2_init_25 : decode cX2_init 25 = .ok (.putfield 18, 3) := dk_181 0 18 (dk_at dksX2_init_1 2 rfl rfl)
theorem dX2_init_28 : decode cX2_init 28 = .ok (.aload_n 0, 1) := dk_42 (dk_at dksX2_init_1 5 rfl rfl)
theorem dX2_init_29 : decode cX2_init 29 = .ok (.bipush 46, 2) := dk_16 46 (dk_at dksX2_init_1 6 rfl rfl)
theorem dX2_init_31 : decode cX2_init 31 = .ok (.newarray .int, 2) := dk_188_10 (dk_at dksX2_init_1 8 rfl rfl)
theorem dX2_init_33 : decode cX2_init 33 = .ok (.putfield 21, 3) := dk_181 0 21 (dk_at dksX2_init_1 10 rfl rfl)
theorem dX2_init_36 : decode cX2_init 36 = .ok (.aload_n 0, 1) := dk_42 (dk_at dksX2_init_1 13 rfl rfl)
theorem dX2_init_37 : decode cX2_init 37 = .ok (.bipush 46, 2) := dk_16 46 (dk_at dksX2_init_1 14 rfl rfl)
theorem dX2_init_39 : decode cX2_init 39 = .ok (.newarray .int, 2) := dk_188_10 (dk_at dksX2_init_1 16 rfl rfl)
theorem dX2_init_41 : decode cX2_init 41 = .ok (.putfield 24, 3) := dk_181 0 24 (dk_at dksX2_init_1 18 rfl rfl)
theorem dX2_init_44 : decode cX2_init 44 = .ok (.aload_n 0, 1) := dk_42 (dk_at dksX2_init_1 21 rfl rfl)
theorem dX2_init_45 : decode cX2_init 45 = .ok (.bipush 30, 2) := dk_16 30 (dk_at dksX2_init_1 22 rfl rfl)
theorem dX2_init_47 : decode cX2_init 47 = .ok (.newarray .int, 2) := dk_188_10 (dk_at dksX2_init_2 0 rfl rfl)
theorem dX2_init_49 : decode cX2_init 49 = .ok (.putfield 27, 3) := dk_181 0 27 (dk_at dksX2_init_2 2 rfl rfl)
theorem dX2_init_52 : decode cX2_init 52 = .ok (.aload_n 0, 1) := dk_42 (dk_at dksX2_init_2 5 rfl rfl)
theorem dX2_init_53 : decode cX2_init 53 = .ok (.bipush 30, 2) := dk_16 30 (dk_at dksX2_init_2 6 rfl rfl)
theorem dX2_init_55 : decode cX2_init 55 = .ok (.newarray .int, 2) := dk_188_10 (dk_at dksX2_init_2 8 rfl rfl)
theorem dX2_init_57 : decode cX2_init 57 = .ok (.putfield 30, 3) := dk_181 0 30 (dk_at dksX2_init_2 10 rfl rfl)
theorem dX2_init_60 : decode cX2_init 60 = .ok (.aload_n 0, 1) := dk_42 (dk_at dksX2_init_2 13 rfl rfl)
theorem dX2_init_61 : decode cX2_init 61 = .ok (.bipush 16, 2) := dk_16 16 (dk_at dksX2_init_2 14 rfl rfl)
theorem dX2_init_63 : decode cX2_init 63 = .ok (.newarray .int, 2) := dk_188_10 (dk_at dksX2_init_2 16 rfl rfl)
theorem dX2_init_65 : decode cX2_init 65 = .ok (.putfield 33, 3) := dk_181 0 33 (dk_at dksX2_init_2 18 rfl rfl)
theorem dX2_init_68 : decode cX2_init 68 = .ok (.aload_n 0, 1) := dk_42 (dk_at dksX2_init_2 21 rfl rfl)
theorem dX2_init_69 : decode cX2_init 69 = .ok (.bipush 16, 2) := dk_16 16 (dk_at dksX2_init_2 22 rfl rfl)
theorem dX2_init_71 : decode cX2_init 71 = .ok (.newarray .int, 2) := dk_188_10 (dk_at dksX2_init_3 0 rfl rfl)
theorem dX2_init_73 : decode cX2_init 73 = .ok (.putfield 36, 3) := dk_181 0 36 (dk_at dksX2_init_3 2 rfl rfl)
theorem dX2_init_76 : decode cX2_init 76 = .ok (.aload_n 0, 1) := dk_42 (dk_at dksX2_init_3 5 rfl rfl)
theorem dX2_init_77 : decode cX2_init 77 = .ok (.sipush 1150, 3) := dk_17 4 126 (dk_at dksX2_init_3 6 rfl rfl)
theorem dX2_init_80 : decode cX2_init 80 = .ok (.newarray .int, 2) := dk_188_10 (dk_at dksX2_init_3 9 rfl rfl)
theorem dX2_init_82 : decode cX2_init 82 = .ok (.putfield 39, 3) := dk_181 0 39 (dk_at dksX2_init_3 11 rfl rfl)
theorem dX2_init_85 : decode cX2_init 85 = .ok (.aload_n 0, 1) := dk_42 (dk_at dksX2_init_3 14 rfl rfl)
theorem dX2_init_86 : decode cX2_init 86 = .ok (.bipush 25, 2) := dk_16 25 (dk_at dksX2_init_3 15 rfl rfl)
theorem dX2_init_88 : decode cX2_init 88 = .ok (.newarray .int, 2) := dk_188_10 (dk_at dksX2_init_3 17 rfl rfl)
theorem dX2_init_90 : decode cX2_init 90 = .ok (.putfield 42, 3) := dk_181 0 42 (dk_at dksX2_init_3 19 rfl rfl)
theorem dX2_init_93 : decode cX2_init 93 = .ok (.return_, 1) := dk_177 (dk_at dksX2_init_3 22 rfl rfl)
def dkwX2_init_2_7 : List UInt8 := [180, 0, 63, 181, 0, 63, 177]
abbrev dktX2_init_2_7 : List UInt8 := dkwX2_init_2_7 ++ []
def dkwX2_init_2_6 : List UInt8 := [180, 0, 54, 181, 0, 54, 42, 43, 180, 0, 57, 181, 0, 57, 42, 43, 180, 0, 60, 181, 0, 60, 42, 43]
abbrev dktX2_init_2_6 : List UInt8 := dkwX2_init_2_6 ++ dktX2_init_2_7
def dkwX2_init_2_5 : List UInt8 := [43, 180, 0, 42, 182, 0, 45, 192, 0, 46, 181, 0, 42, 42, 43, 180, 0, 50, 181, 0, 50, 42, 43]
abbrev dktX2_init_2_5 : List UInt8 := dkwX2_init_2_5 ++ dktX2_init_2_6
def dkwX2_init_2_4 : List UInt8 := [182, 0, 45, 192, 0, 46, 181, 0, 36, 42, 43, 180, 0, 39, 182, 0, 45, 192, 0, 46, 181, 0, 39, 42]
abbrev dktX2_init_2_4 : List UInt8 := dkwX2_init_2_4 ++ dktX2_init_2_5
def dkwX2_init_2_3 : List UInt8 := [181, 0, 30, 42, 43, 180, 0, 33, 182, 0, 45, 192, 0, 46, 181, 0, 33, 42, 43, 180, 0, 36]
abbrev dktX2_init_2_3 : List UInt8 := dkwX2_init_2_3 ++ dktX2_init_2_4
def dkwX2_init_2_2 : List UInt8 := [180, 0, 27, 182, 0, 45, 192, 0, 46, 181, 0, 27, 42, 43, 180, 0, 30, 182, 0, 45, 192, 0, 46]
abbrev dktX2_init_2_2 : List UInt8 := dkwX2_init_2_2 ++ dktX2_init_2_3
def dkwX2_init_2_1 : List UInt8 := [188, 10, 181, 0, 18, 42, 16, 46, 188, 10, 181, 0, 21, 42, 16, 46, 188, 10, 181, 0, 24, 42, 43]
abbrev dktX2_init_2_1 : List UInt8 := dkwX2_init_2_1 ++ dktX2_init_2_2
def dkwX2_init_2_0 : List UInt8 := [42, 183, 0, 3, 42, 16, 30, 188, 10, 181, 0, 9, 42, 16, 30, 188, 10, 181, 0, 15, 42, 16, 30]
abbrev dktX2_init_2_0 : List UInt8 := dkwX2_init_2_0 ++ dktX2_init_2_1
theorem dksX2_init_2_0 : cX2_init_2.data.toList.drop 0 = dktX2_init_2_0 := by decide +kernel
theorem dksX2_init_2_1 : cX2_init_2.data.toList.drop 23 = dktX2_init_2_1 := dk_seg dksX2_init_2_0 23 rfl rfl
theorem dksX2_init_2_2 : cX2_init_2.data.toList.drop 46 = dktX2_init_2_2 := dk_seg dksX2_init_2_1 23 rfl rfl
theorem dksX2_init_2_3 : cX2_init_2.data.toList.drop 69 = dktX2_init_2_3 := dk_seg dksX2_init_2_2 23 rfl rfl
theorem dksX2_init_2_4 : cX2_init_2.data.toList.drop 91 = dktX2_init_2_4 := dk_seg dksX2_init_2_3 22 rfl rfl
theorem dksX2_init_2_5 : cX2_init_2.data.toList.drop 115 = dktX2_init_2_5 := dk_seg dksX2_init_2_4 24 rfl rfl
theorem dksX2_init_2_6 : cX2_init_2.data.toList.drop 138 = dktX2_init_2_6 := dk_seg dksX2_init_2_5 23 rfl rfl
theorem dksX2_init_2_7 : cX2_init_2.data.toList.drop 162 = dktX2_init_2_7 := dk_seg dksX2_init_2_6 24 rfl rfl
theorem dX2_init_2_0 : decode cX2_init_2 0 = .ok (.aload_n 0, 1) := dk_42 (dk_at dksX2_init_2_0 0 rfl rfl)
theorem dX2_init_2_1 : decode cX2_init_2 1 = .ok (.invokespecial 3, 3) := dk_183 0 3 (dk_at dksX2_init_2_0 1 rfl rfl)
theorem dX2_init_2_4 : decode cX2_init_2 4 = .ok (.aload_n 0, 1) := dk_42 (dk_at dksX2_init_2_0 4 rfl rfl)
theorem dX2_init_2_5 : decode cX2_init_2 5 = .ok (.bipush 30, 2) := dk_16 30 (dk_at dksX2_init_2_0 5 rfl rfl)
theorem dX2_init_2_7 : decode cX2_init_2 7 = .ok (.newarray .int, 2) := dk_188_10 (dk_at dksX2_init_2_0 7 rfl rfl)
theorem dX2_init_2_9 : decode cX2_init_2 9 = .ok (.putfield 9, 3) := dk_181 0 9 (dk_at dksX2_init_2_0 9 rfl rfl)
theorem dX2_init_2_12 : decode cX2_init_2 12 = .ok (.aload_n 0, 1) := dk_42 (dk_at dksX2_init_2_0 12 rfl rfl)
theorem dX2_init_2_13 : decode cX2_init_2 13 = .ok (.bipush 30, 2) := dk_16 30 (dk_at dksX2_init_2_0 13 rfl rfl)
theorem dX2_init_2_15 : decode cX2_init_2 15 = .ok (.newarray .int, 2) := dk_188_10 (dk_at dksX2_init_2_0 15 rfl rfl)
theorem dX2_init_2_17 : decode cX2_init_2 17 = .ok (.putfield 15, 3) := dk_181 0 15 (dk_at dksX2_init_2_0 17 rfl rfl)
theorem dX2_init_2_20 : decode cX2_init_2 20 = .ok (.aload_n 0, 1) := dk_42 (dk_at dksX2_init_2_0 20 rfl rfl)
theorem dX2_init_2_21 : decode cX2_init_2 21 = .ok (.bipush 30, 2) := dk_16 30 (dk_at dksX2_init_2_0 21 rfl rfl)
theorem dX2_init_2_23 : decode cX2_init_2 23 = .ok (.newarray .int, 2) := dk_188_10 (dk_at dksX2_init_2_1 0 rfl rfl)
theorem dX2_init_2_25 : decode cX2_init_2 25 = .ok (.putfield 18, 3) := dk_181 0 18 (dk_at dksX2_init_2_1 2 rfl rfl)
theorem dX2_init_2_28 : decode cX2_init_2 28 = .ok (.aload_n 0, 1) := dk_42 (dk_at dksX2_init_2_1 5 rfl rfl)
theorem dX2_init_2_29 : decode cX2_init_2 29 = .ok (.bipush 46, 2) := dk_16 46 (dk_at dksX2_init_2_1 6 rfl rfl)
theorem dX2_init_2_31 : decode cX2_init_2 31 = .ok (.newarray .int, 2) := dk_188_10 (dk_at dksX2_init_2_1 8 rfl rfl)
theorem dX2_init_2_33 : decode cX2_init_2 33 = .ok (.putfield 21, 3) := dk_181 0 21 (dk_at dksX2_init_2_1 10 rfl rfl)
theorem dX2_init_2_36 : decode cX2_init_2 36 = .ok (.aload_n 0, 1) := dk_42 (dk_at dksX2_init_2_1 13 rfl rfl)
theorem dX2_init_2_37 : decode cX2_init_2 37 = .ok (.bipush 46, 2) := dk_16 46 (dk_at dksX2_init_2_1 14 rfl rfl)
theorem dX2_init_2_39 : decode cX2_init_2 39 = .ok (.newarray .int, 2) := dk_188_10 (dk_at dksX2_init_2_1 16 rfl rfl)
theorem dX2_init_2_41 : decode cX2_init_2 41 = .ok (.putfield 24, 3) := dk_181 0 24 (dk_at dksX2_init_2_1 18 rfl rfl)
theorem dX2_init_2_44 : decode cX2_init_2 44 = .ok (.aload_n 0, 1) := dk_42 (dk_at dksX2_init_2_1 21 rfl rfl)
theorem dX2_init_2_45 : decode cX2_init_2 45 = .ok (.aload_n 1, 1) := dk_43 (dk_at dksX2_init_2_1 22 rfl rfl)
theorem dX2_init_2_46 : decode cX2_init_2 46 = .ok (.getfield 27, 3) := dk_180 0 27 (dk_at dksX2_init_2_2 0 rfl rfl)
theorem dX2_init_2_49 : decode cX2_init_2 49 = .ok (.invokevirtual 45, 3) := dk_182 0 45 (dk_at dksX2_init_2_2 3 rfl rfl)
theorem dX2_init_2_52 : decode cX2_init_2 52 = .ok (.checkcast 46, 3) := dk_192 0 46 (dk_at dksX2_init_2_2 6 rfl rfl)
theorem dX2_init_2_55 : decode cX2_init_2 55 = .ok (.putfield 27, 3) := dk_181 0 27 (dk_at dksX2_init_2_2 9 rfl rfl)
theorem dX2_init_2_58 : decode cX2_init_2 58 = .ok (.aload_n 0, 1) := dk_42 (dk_at dksX2_init_2_2 12 rfl rfl)
theorem dX2_init_2_59 : decode cX2_init_2 59 = .ok (.aload_n 1, 1) := dk_43 (dk_at dksX2_init_2_2 13 rfl rfl)
theorem dX2_init_2_60 : decode cX2_init_2 60 = .ok (.getfield 30, 3) := dk_180 0 30 (dk_at dksX2_init_2_2 14 rfl rfl)
theorem dX2_init_2_63 : decode cX2_init_2 63 = .ok (.invokevirtual 45, 3) := dk_182 0 45 (dk_at dksX2_init_2_2 17 rfl rfl)
theorem dX2_init_2_66 : decode cX2_init_2 66 = .ok (.checkcast 46, 3) := dk_192 0 46 (dk_at dksX2_init_2_2 20 rfl rfl)
theorem dX2_init_2_69 : decode cX2_init_2 69 = .ok (.putfield 30, 3) := dk_181 0 30 (dk_at dksX2_init_2_3 0 rfl rfl)
theorem dX2_init_2_72 : decode cX2_init_2 72 = .ok (.aload_n 0, 1) := dk_42 (dk_at dksX2_init_2_3 3 rfl rfl)
theorem dX2_init_2_73 : decode cX2_init_2 73 = .ok (.aload_n 1, 1) := dk_43 (dk_at dksX2_init_2_3 4 rfl rfl)
theorem dX2_init_2_74 : decode cX2_init_2 74 = .ok (.getfield 33, 3) := dk_180 0 33 (dk_at dksX2_init_2_3 5 rfl rfl)
theorem dX2_init_2_77 : decode cX2_init_2 77 = .ok (.invokevirtual 45, 3) := dk_182 0 45 (dk_at dksX2_init_2_3 8 rfl rfl)
theorem dX2_init_2_80 : decode cX2_init_2 80 = .ok (.checkcast 46, 3) := dk_192 0 46 (dk_at dksX2_init_2_3 11 rfl rfl)
theorem dX2_init_2_83 : decode cX2_init_2 83 = .ok (.putfield 33, 3) := dk_181 0 33 (dk_at dksX2_init_2_3 14 rfl rfl)
theorem dX2_init_2_86 : decode cX2_init_2 86 = .ok (.aload_n 0, 1) := dk_42 (dk_at dksX2_init_2_3 17 rfl rfl)
theorem dX2_init_2_87 : decode cX2_init_2 87 = .ok (.aload_n 1, 1) := dk_43 (dk_at dksX2_init_2_3 18 rfl rfl)
theorem dX2_init_2_88 : decode cX2_init_2 88 = .ok (.getfield 36, 3) := dk_180 0 36 (dk_at dksX2_init_2_3 19 rfl rfl)
theorem dX2_init_2_91 : decode cX2_init_2 91 = .ok (.invokevirtual 45, 3) := dk_182 0 45 (dk_at dksX2_init_2_4 0 rfl rfl)
theorem dX2_init_2_94 : decode cX2_init_2 94 = .ok (.checkcast 46, 3) := dk_192 0 46 (dk_at dksX2_init_2_4 3 rfl rfl)
theorem dX2_init_2_97 : decode cX2_init_2 97 = .ok (.putfield 36, 3) := dk_181 0 36 (dk_at dksX2_init_2_4 6 rfl rfl)
theorem dX2_init_2_100 : decode cX2_init_2 100 = .ok (.aload_n 0, 1) := dk_42 (dk_at dksX2_init_2_4 9 rfl rfl)
theorem dX2_init_2_101 : decode cX2_init_2 101 = .ok (.aload_n 1, 1) := dk_43 (dk_at dksX2_init_2_4 10 rfl rfl)
theorem dX2_init_2_102 : decode cX2_init_2 102 = .ok (.getfield 39, 3) := dk_180 0 39 (dk_at dksX2_init_2_4 11 rfl rfl)
theorem dX2_init_2_105 : decode cX2_init_2 105 = .ok (.invokevirtual 45, 3) := dk_182 0 45 (dk_at dksX2_init_2_4 14 rfl rfl)
theorem dX2_init_2_108 : decode cX2_init_2 108 = .ok (.checkcast 46, 3) := dk_192 0 46 (dk_at dksX2_init_2_4 17 rfl rfl)
theorem dX2_init_2_111 : decode cX2_init_2 111 = .ok (.putfield 39, 3) := dk_181 0 39 (dk_at dksX2_init_2_4 20 rfl rfl)
theorem dX2_init_2_114 : decode cX2_init_2 114 = .ok (.aload_n 0, 1) := dk_42 (dk_at dksX2_init_2_4 23 rfl rfl)
theorem dX2_init_2_115 : decode cX2_init_2 115 = .ok (.aload_n 1, 1) := dk_43 (dk_at dksX2_init_2_5 0 rfl rfl)
theorem dX2_init_2_116 : decode cX2_init_2 116 = .ok (.getfield 42, 3) := dk_180 0 42 (dk_at dksX2_init_2_5 1 rfl rfl)
theorem dX2_init_2_119 : decode cX2_init_2 119 = .ok (.invokevirtual 45, 3) := dk_182 0 45 (dk_at dksX2_init_2_5 4 rfl rfl)
theorem dX2_init_2_122 : decode cX2_init_2 122 = .ok (.checkcast 46, 3) := dk_192 0 46 (dk_at dksX2_init_2_5 7 rfl rfl)
theorem dX2_init_2_125 : decode cX2_init_2 125 = .ok (.putfield 42, 3) := dk_181 0 42 (dk_at dksX2_init_2_5 10 rfl rfl)
theorem dX2_init_2_128 : decode cX2_init_2 128 = .ok (.aload_n 0, 1) := dk_42 (dk_at dksX2_init_2_5 13 rfl rfl)
theorem dX2_init_2_129 : decode cX2_init_2 129 = .ok (.aload_n 1, 1) := dk_43 (dk_at dksX2_init_2_5 14 rfl rfl)
theorem dX2_init_2_130 : decode cX2_init_2 130 = .ok (.getfield 50, 3) := dk_180 0 50 (dk_at dksX2_init_2_5 15 rfl rfl)
theorem dX2_init_2_133 : decode cX2_init_2 133 = .ok (.putfield 50, 3) := dk_181 0 50 (dk_at dksX2_init_2_5 18 rfl rfl)
theorem dX2_init_2_136 : decode cX2_init_2 136 = .ok (.aload_n 0, 1) := dk_42 (dk_at dksX2_init_2_5 21 rfl rfl)
theorem dX2_init_2_137 : decode cX2_init_2 137 = .ok (.aload_n 1, 1) := dk_43 (dk_at dksX2_init_2_5 22 rfl rfl)
theorem dX2_init_2_138 : decode cX2_init_2 138 = .ok (.getfield 54, 3) := dk_180 0 54 (dk_at dksX2_init_2_6 0 rfl rfl)
theorem dX2_init_2_141 : decode cX2_init_2 141 = .ok (.putfield 54, 3) := dk_181 0 54 (dk_at dksX2_init_2_6 3 rfl rfl)
theorem dX2_init_2_144 : decode cX2_init_2 144 = .ok (.aload_n 0, 1) := dk_42 (dk_at dksX2_init_2_6 6 rfl rfl)
theorem dX2_init_2_145 : decode cX2_init_2 145 = .ok (.aload_n 1, 1) := dk_43 (dk_at dksX2_init_2_6 7 rfl rfl)
theorem dX2_init_2_146 : decode cX2_init_2 146 = .ok (.getfield 57, 3) := dk_180 0 57 (dk_at dksX2_init_2_6 8 rfl rfl)
theorem dX2_init_2_149 : decode cX2_init_2 149 = .ok (.putfield 57, 3) := dk_181 0 57 (dk_at dksX2_init_2_6 11 rfl rfl)
theorem dX2_init_2_152 : decode cX2_init_2 152 = .ok (.aload_n 0, 1) := dk_42 (dk_at dksX2_init_2_6 14 rfl rfl)
theorem dX2_init_2_153 : decode cX2_init_2 153 = .ok (.aload_n 1, 1) := dk_43 (dk_at dksX2_init_2_6 15 rfl rfl)
theorem dX2_init_2_154 : decode cX2_init_2 154 = .ok (.getfield 60, 3) := dk_180 0 60 (dk_at dksX2_init_2_6 16 rfl rfl)
theorem dX2_init_2_157 : decode cX2_init_2 157 = .ok (.putfield 60, 3) := dk_181 0 60 (dk_at dksX2_init_2_6 19 rfl rfl)
theorem dX2_init_2_160 : decode cX2_init_2 160 = .ok (.aload_n 0, 1) := dk_42 (dk_at dksX2_init_2_6 22 rfl rfl)
theorem dX2_init_2_161 : decode cX2_init_2 161 = .ok (.aload_n 1, 1) := dk_43 (dk_at dksX2_init_2_6 23 rfl rfl)
theorem dX2_init_2_162 : decode cX2_init_2 162 = .ok (.getfield 63, 3) := dk_180 0 63 (dk_at dksX2_init_2_7 0 rfl rfl)
theorem dX2_init_2_165 : decode cX2_init_2 165 = .ok (.putfield 63, 3) := dk_181 0 63 (dk_at dksX2_init_2_7 3 rfl rfl)
theorem dX2_init_2_168 : decode cX2_init_2 168 = .ok (.return_, 1) := dk_177 (dk_at dksX2_init_2_7 6 rfl rfl)
def dkwX2_getsBox_2 : List UInt8 := [100, 172]
abbrev dktX2_getsBox_2 : List UInt8 := dkwX2_getsBox_2 ++ []
def dkwX2_getsBox_1 : List UInt8 := [180, 0, 50, 3, 79, 42, 89, 180, 0, 50, 4, 96, 181, 0, 50, 42, 182, 0, 177, 42, 180, 0, 50, 4]
abbrev dktX2_getsBox_1 : List UInt8 := dkwX2_getsBox_1 ++ dktX2_getsBox_2
def dkwX2_getsBox_0 : List UInt8 := [42, 180, 0, 50, 16, 16, 162, 0, 7, 4, 167, 0, 4, 3, 5, 184, 0, 173, 42, 180, 0, 33, 42]
abbrev dktX2_getsBox_0 : List UInt8 := dkwX2_getsBox_0 ++ dktX2_getsBox_1
theorem dksX2_getsBox_0 : cX2_getsBox.data.toList.drop 0 = dktX2_getsBox_0 := by decide +kernel
theorem dksX2_getsBox_1 : cX2_getsBox.data.toList.drop 23 = dktX2_getsBox_1 := dk_seg dksX2_getsBox_0 23 rfl rfl
theorem dksX2_getsBox_2 : cX2_getsBox.data.toList.drop 47 = dktX2_getsBox_2 := dk_seg dksX2_getsBox_1 24 rfl rfl
theorem dX2_getsBox_0 : decode cX2_getsBox 0 = .ok (.aload_n 0, 1) := dk_42 (dk_at dksX2_getsBox_0 0 rfl rfl)
theorem dX2_getsBox_1 : decode cX2_getsBox 1 = .ok (.getfield 50, 3) := dk_180 0 50 (dk_at dksX2_getsBox_0 1 rfl rfl)
theorem dX2_getsBox_4 : decode cX2_getsBox 4 = .ok (.bipush 16, 2) := dk_16 16 (dk_at dksX2_getsBox_0 4 rfl rfl)
theorem dX2_getsBox_6 : decode cX2_getsBox 6 = .ok (.if_icmp .ge 7, 3) := dk_162 0 7 (dk_at dksX2_getsBox_0 6 rfl rfl)
theorem dX2_getsBox_9 : decode cX2_getsBox 9 = .ok (.iconst 1, 1) := dk_4 (dk_at dksX2_getsBox_0 9 rfl rfl)
theorem dX2_getsBox_10 : decode cX2_getsBox 10 = .ok (.goto 4, 3) := dk_167 0 4 (dk_at dksX2_getsBox_0 10 rfl rfl)
theorem dX2_getsBox_13 : decode cX2_getsBox 13 = .ok (.iconst 0, 1) := dk_3 (dk_at dksX2_getsBox_0 13 rfl rfl)
theorem dX2_getsBox_14 : decode cX2_getsBox 14 = .ok (.iconst 2, 1) := dk_5 (dk_at dksX2_getsBox_0 14 rfl rfl)
theorem dX2_getsBox_15 : decode cX2_getsBox 15 = .ok (.invokestatic 173, 3) := dk_184 0 173 (dk_at dksX2_getsBox_0 15 rfl rfl)
theorem dX2_getsBox_18 : decode cX2_getsBox 18 = .ok (.aload_n 0, 1) := dk_42 (dk_at dksX2_getsBox_0 18 rfl rfl)
theorem dX2_getsBox_19 : decode cX2_getsBox 19 = .ok (.getfield 33, 3) := dk_180 0 33 (dk_at dksX2_getsBox_0 19 rfl rfl)
theorem dX2_getsBox_22 : decode cX2_getsBox 22 = .ok (.aload_n 0, 1) := dk_42 (dk_at dksX2_getsBox_0 22 rfl rfl)
theorem dX2_getsBox_23 : decode cX2_getsBox 23 = .ok (.getfield 50, 3) := dk_180 0 50 (dk_at dksX2_getsBox_1 0 rfl rfl)
theorem dX2_getsBox_26 : decode cX2_getsBox 26 = .ok (.iconst 0, 1) := dk_3 (dk_at dksX2_getsBox_1 3 rfl rfl)
theorem dX2_getsBox_27 : decode cX2_getsBox 27 = .ok (.iastore, 1) := dk_79 (dk_at dksX2_getsBox_1 4 rfl rfl)
theorem dX2_getsBox_28 : decode cX2_getsBox 28 = .ok (.aload_n 0, 1) := dk_42 (dk_at dksX2_getsBox_1 5 rfl rfl)
theorem dX2_getsBox_29 : decode cX2_getsBox 29 = .ok (.dup, 1) := dk_89 (dk_at dksX2_getsBox_1 6 rfl rfl)
theorem dX2_getsBox_30 : decode cX2_getsBox 30 = .ok (.getfield 50, 3) := dk_180 0 50 (dk_at dksX2_getsBox_1 7 rfl rfl)
theorem dX2_getsBox_33 : decode cX2_getsBox 33 = .ok (.iconst 1, 1) := dk_4 (dk_at dksX2_getsBox_1 10 rfl rfl)
theorem dX2_getsBox_34 : decode cX2_getsBox 34 = .ok (.iadd, 1) := dk_96 (dk_at dksX2_getsBox_1 11 rfl rfl)
theorem dX2_getsBox_35 : decode cX2_getsBox 35 = .ok (.putfield 50, 3) := dk_181 0 50 (dk_at dksX2_getsBox_1 12 rfl rfl)
theorem dX2_getsBox_38 : decode cX2_getsBox 38 = .ok (.aload_n 0, 1) := dk_42 (dk_at dksX2_getsBox_1 15 rfl rfl)
theorem dX2_getsBox_39 : decode cX2_getsBox 39 = .ok (.invokevirtual 177, 3) := dk_182 0 177 (dk_at dksX2_getsBox_1 16 rfl rfl)
theorem dX2_getsBox_42 : decode cX2_getsBox 42 = .ok (.aload_n 0, 1) := dk_42 (dk_at dksX2_getsBox_1 19 rfl rfl)
theorem dX2_getsBox_43 : decode cX2_getsBox 43 = .ok (.getfield 50, 3) := dk_180 0 50 (dk_at dksX2_getsBox_1 20 rfl rfl)
theorem dX2_getsBox_46 : decode cX2_getsBox 46 = .ok (.iconst 1, 1) := dk_4 (dk_at dksX2_getsBox_1 23 rfl rfl)
theorem dX2_getsBox_47 : decode cX2_getsBox 47 = .ok (.isub, 1) := dk_100 (dk_at dksX2_getsBox_2 0 rfl rfl)
theorem dX2_getsBox_48 : decode cX2_getsBox 48 = .ok (.ireturn, 1) := dk_172 (dk_at dksX2_getsBox_2 1 rfl rfl)
def dkwX2_lays_12 : List UInt8 := [132, 3, 1, 167, 255, 229, 132, 2, 1, 167, 255, 201, 177]
abbrev dktX2_lays_12 : List UInt8 := dkwX2_lays_12 ++ []
def dkwX2_lays_11 : List UInt8 := [42, 180, 0, 36, 42, 180, 0, 30, 28, 46, 46, 162, 0, 18, 42, 29, 16, 100, 28, 96, 182, 0, 107]
abbrev dktX2_lays_11 : List UInt8 := dkwX2_lays_11 ++ dktX2_lays_12
def dkwX2_lays_10 : List UInt8 := [61, 28, 42, 180, 0, 54, 162, 0, 53, 42, 180, 0, 36, 42, 180, 0, 27, 28, 46, 46, 4, 96, 62, 29]
abbrev dktX2_lays_10 : List UInt8 := dkwX2_lays_10 ++ dktX2_lays_11
def dkwX2_lays_9 : List UInt8 := [180, 0, 50, 162, 0, 20, 42, 42, 180, 0, 36, 28, 46, 28, 182, 0, 107, 132, 2, 1, 167, 255, 234, 3]
abbrev dktX2_lays_9 : List UInt8 := dkwX2_lays_9 ++ dktX2_lays_10
def dkwX2_lays_8 : List UInt8 := [61, 28, 16, 25, 162, 0, 16, 42, 180, 0, 42, 28, 3, 79, 132, 2, 1, 167, 255, 240, 3, 61, 28, 42]
abbrev dktX2_lays_8 : List UInt8 := dkwX2_lays_8 ++ dktX2_lays_9
def dkwX2_lays_7 : List UInt8 := [180, 0, 57, 42, 180, 0, 36, 28, 46, 4, 96, 184, 0, 102, 181, 0, 57, 132, 2, 1, 167, 255, 226, 3]
abbrev dktX2_lays_7 : List UInt8 := dkwX2_lays_7 ++ dktX2_lays_8
def dkwX2_lays_6 : List UInt8 := [167, 255, 168, 167, 255, 157, 42, 3, 181, 0, 57, 3, 61, 28, 42, 180, 0, 50, 162, 0, 28, 42, 42]
abbrev dktX2_lays_6 : List UInt8 := dkwX2_lays_6 ++ dktX2_lays_7
def dkwX2_lays_5 : List UInt8 := [167, 0, 14, 42, 180, 0, 36, 42, 180, 0, 30, 28, 46, 46, 79, 27, 29, 128, 60, 132, 2, 1]
abbrev dktX2_lays_5 : List UInt8 := dkwX2_lays_5 ++ dktX2_lays_6
def dkwX2_lays_4 : List UInt8 := [180, 0, 30, 28, 46, 29, 153, 0, 19, 42, 180, 0, 36, 42, 180, 0, 27, 28, 46, 46, 4, 96]
abbrev dktX2_lays_4 : List UInt8 := dkwX2_lays_4 ++ dktX2_lays_5
def dkwX2_lays_3 : List UInt8 := [180, 0, 36, 42, 180, 0, 27, 28, 46, 46, 163, 0, 7, 4, 167, 0, 4, 3, 62, 42, 180, 0, 36, 42]
abbrev dktX2_lays_3 : List UInt8 := dkwX2_lays_3 ++ dktX2_lays_4
def dkwX2_lays_2 : List UInt8 := [3, 61, 28, 42, 180, 0, 54, 162, 0, 86, 42, 180, 0, 36, 42, 180, 0, 30, 28, 46, 46, 42]
abbrev dktX2_lays_2 : List UInt8 := dkwX2_lays_2 ++ dktX2_lays_3
def dkwX2_lays_1 : List UInt8 := [180, 0, 33, 27, 46, 167, 0, 4, 3, 79, 132, 1, 1, 167, 255, 223, 4, 60, 27, 153, 0, 101, 3, 60]
abbrev dktX2_lays_1 : List UInt8 := dkwX2_lays_1 ++ dktX2_lays_2
def dkwX2_lays_0 : List UInt8 := [3, 60, 27, 16, 16, 162, 0, 33, 42, 180, 0, 36, 27, 27, 42, 180, 0, 50, 162, 0, 12, 42]
abbrev dktX2_lays_0 : List UInt8 := dkwX2_lays_0 ++ dktX2_lays_1
theorem dksX2_lays_0 : cX2_lays.data.toList.drop 0 = dktX2_lays_0 := by decide +kernel
theorem dksX2_lays_1 : cX2_lays.data.toList.drop 22 = dktX2_lays_1 := dk_seg dksX2_lays_0 22 rfl rfl
theorem dksX2_lays_2 : cX2_lays.data.toList.drop 46 = dktX2_lays_2 := dk_seg dksX2_lays_1 24 rfl rfl
theorem dksX2_lays_3 : cX2_lays.data.toList.drop 68 = dktX2_lays_3 := dk_seg dksX2_lays_2 22 rfl rfl
theorem dksX2_lays_4 : cX2_lays.data.toList.drop 92 = dktX2_lays_4 := dk_seg dksX2_lays_3 24 rfl rfl
theorem dksX2_lays_5 : cX2_lays.data.toList.drop 114 = dktX2_lays_5 := dk_seg dksX2_lays_4 22 rfl rfl
theorem dksX2_lays_6 : cX2_lays.data.toList.drop 136 = dktX2_lays_6 := dk_seg dksX2_lays_5 22 rfl rfl
theorem dksX2_lays_7 : cX2_lays.data.toList.drop 159 = dktX2_lays_7 := dk_seg dksX2_lays_6 23 rfl rfl
theorem dksX2_lays_8 : cX2_lays.data.toList.drop 183 = dktX2_lays_8 := dk_seg dksX2_lays_7 24 rfl rfl
theorem dksX2_lays_9 : cX2_lays.data.toList.drop 207 = dktX2_lays_9 := dk_seg dksX2_lays_8 24 rfl rfl
theorem dksX2_lays_10 : cX2_lays.data.toList.drop 231 = dktX2_lays_10 := dk_seg dksX2_lays_9 24 rfl rfl
theorem dksX2_lays_11 : cX2_lays.data.toList.drop 255 = dktX2_lays_11 := dk_seg dksX2_lays_10 24 rfl rfl
theorem dksX2_lays_12 : cX2_lays.data.toList.drop 278 = dktX2_lays_12 := dk_seg dksX2_lays_11 23 rfl rfl
theorem dX2_lays_0 : decode cX2_lays 0 = .ok (.iconst 0, 1) := dk_3 (dk_at dksX2_lays_0 0 rfl rfl)
theorem dX2_lays_1 : decode cX2_lays 1 = .ok (.istore_n 1, 1) := dk_60 (dk_at dksX2_lays_0 1 rfl rfl)
theorem dX2_lays_2 : decode cX2_lays 2 = .ok (.iload_n 1, 1) := dk_27 (dk_at dksX2_lays_0 2 rfl rfl)
theorem dX2_lays_3 : decode cX2_lays 3 = .ok (.bipush 16, 2) := dk_16 16 (dk_at dksX2_lays_0 3 rfl rfl)
theorem dX2_lays_5 : decode cX2_lays 5 = .ok (.if_icmp .ge 33, 3) := dk_162 0 33 (dk_at dksX2_lays_0 5 rfl rfl)
theorem dX2_lays_8 : decode cX2_lays 8 = .ok (.aload_n 0, 1) := dk_42 (dk_at dksX2_lays_0 8 rfl rfl)
theorem dX2_lays_9 : decode cX2_lays 9 = .ok (.getfield 36, 3) := dk_180 0 36 (dk_at dksX2_lays_0 9 rfl rfl)
theorem dX2_lays_12 : decode cX2_lays 12 = .ok (.iload_n 1, 1) := dk_27 (dk_at dksX2_lays_0 12 rfl rfl)
theorem dX2_lays_13 : decode cX2_lays 13 = .ok (.iload_n 1, 1) := dk_27 (dk_at dksX2_lays_0 13 rfl rfl)
theorem dX2_lays_14 : decode cX2_lays 14 = .ok (.aload_n 0, 1) := dk_42 (dk_at dksX2_lays_0 14 rfl rfl)
theorem dX2_lays_15 : decode cX2_lays 15 = .ok (.getfield 50, 3) := dk_180 0 50 (dk_at dksX2_lays_0 15 rfl rfl)
theorem dX2_lays_18 : decode cX2_lays 18 = .ok (.if_icmp .ge 12, 3) := dk_162 0 12 (dk_at dksX2_lays_0 18 rfl rfl)
theorem dX2_lays_21 : decode cX2_lays 21 = .ok (.aload_n 0, 1) := dk_42 (dk_at dksX2_lays_0 21 rfl rfl)
theorem dX2_lays_22 : decode cX2_lays 22 = .ok (.getfield 33, 3) := dk_180 0 33 (dk_at dksX2_lays_1 0 rfl rfl)
theorem dX2_lays_25 : decode cX2_lays 25 = .ok (.iload_n 1, 1) := dk_27 (dk_at dksX2_lays_1 3 rfl rfl)
theorem dX2_lays_26 : decode cX2_lays 26 = .ok (.iaload, 1) := dk_46 (dk_at dksX2_lays_1 4 rfl rfl)
theorem dX2_lays_27 : decode cX2_lays 27 = .ok (.goto 4, 3) := dk_167 0 4 (dk_at dksX2_lays_1 5 rfl rfl)
theorem dX2_lays_30 : decode cX2_lays 30 = .ok (.iconst 0, 1) := dk_3 (dk_at dksX2_lays_1 8 rfl rfl)
theorem dX2_lays_31 : decode cX2_lays 31 = .ok (.iastore, 1) := dk_79 (dk_at dksX2_lays_1 9 rfl rfl)
theorem dX2_lays_32 : decode cX2_lays 32 = .ok (.iinc 1 1, 3) := dk_132 1 1 (dk_at dksX2_lays_1 10 rfl rfl)
theorem dX2_lays_35 : decode cX2_lays 35 = .ok (.goto (-33), 3) := dk_167 255 223 (dk_at dksX2_lays_1 13 rfl rfl)
theorem dX2_lays_38 : decode cX2_lays 38 = .ok (.iconst 1, 1) := dk_4 (dk_at dksX2_lays_1 16 rfl rfl)
theorem dX2_lays_39 : decode cX2_lays 39 = .ok (.istore_n 1, 1) := dk_60 (dk_at dksX2_lays_1 17 rfl rfl)
theorem dX2_lays_40 : decode cX2_lays 40 = .ok (.iload_n 1, 1) := dk_27 (dk_at dksX2_lays_1 18 rfl rfl)
theorem dX2_lays_41 : decode cX2_lays 41 = .ok (.ifCond .eq 101, 3) := dk_153 0 101 (dk_at dksX2_lays_1 19 rfl rfl)
theorem dX2_lays_44 : decode cX2_lays 44 = .ok (.iconst 0, 1) := dk_3 (dk_at dksX2_lays_1 22 rfl rfl)
theorem dX2_lays_45 : decode cX2_lays 45 = .ok (.istore_n 1, 1) := dk_60 (dk_at dksX2_lays_1 23 rfl rfl)
theorem dX2_lays_46 : decode cX2_lays 46 = .ok (.iconst 0, 1) := dk_3 (dk_at dksX2_lays_2 0 rfl rfl)
theorem dX2_lays_47 : decode cX2_lays 47 = .ok (.istore_n 2, 1) := dk_61 (dk_at dksX2_lays_2 1 rfl rfl)
theorem dX2_lays_48 : decode cX2_lays 48 = .ok (.iload_n 2, 1) := dk_28 (dk_at dksX2_lays_2 2 rfl rfl)
theorem dX2_lays_49 : decode cX2_lays 49 = .ok (.aload_n 0, 1) := dk_42 (dk_at dksX2_lays_2 3 rfl rfl)
theorem dX2_lays_50 : decode cX2_lays 50 = .ok (.getfield 54, 3) := dk_180 0 54 (dk_at dksX2_lays_2 4 rfl rfl)
theorem dX2_lays_53 : decode cX2_lays 53 = .ok (.if_icmp .ge 86, 3) := dk_162 0 86 (dk_at dksX2_lays_2 7 rfl rfl)
theorem dX2_lays_56 : decode cX2_lays 56 = .ok (.aload_n 0, 1) := dk_42 (dk_at dksX2_lays_2 10 rfl rfl)
theorem dX2_lays_57 : decode cX2_lays 57 = .ok (.getfield 36, 3) := dk_180 0 36 (dk_at dksX2_lays_2 11 rfl rfl)
theorem dX2_lays_60 : decode cX2_lays 60 = .ok (.aload_n 0, 1) := dk_42 (dk_at dksX2_lays_2 14 rfl rfl)
theorem dX2_lays_61 : decode cX2_lays 61 = .ok (.getfield 30, 3) := dk_180 0 30 (dk_at dksX2_lays_2 15 rfl rfl)
theorem dX2_lays_64 : decode cX2_lays 64 = .ok (.iload_n 2, 1) := dk_28 (dk_at dksX2_lays_2 18 rfl rfl)
theorem dX2_lays_65 : decode cX2_lays 65 = .ok (.iaload, 1) := dk_46 (dk_at dksX2_lays_2 19 rfl rfl)
theorem dX2_lays_66 : decode cX2_lays 66 = .ok (.iaload, 1) := dk_46 (dk_at dksX2_lays_2 20 rfl rfl)
theorem dX2_lays_67 : decode cX2_lays 67 = .ok (.aload_n 0, 1) := dk_42 (dk_at dksX2_lays_2 21 rfl rfl)
theorem dX2_lays_68 : decode cX2_lays 68 = .ok (.getfield 36, 3) := dk_180 0 36 (dk_at dksX2_lays_3 0 rfl rfl)
theorem dX2_lays_71 : decode cX2_lays 71 = .ok (.aload_n 0, 1) := dk_42 (dk_at dksX2_lays_3 3 rfl rfl)
theorem dX2_lays_72 : decode cX2_lays 72 = .ok (.getfield 27, 3) := dk_180 0 27 (dk_at dksX2_lays_3 4 rfl rfl)
theorem dX2_lays_75 : decode cX2_lays 75 = .ok (.iload_n 2, 1) := dk_28 (dk_at dksX2_lays_3 7 rfl rfl)
theorem dX2_lays_76 : decode cX2_lays 76 = .ok (.iaload, 1) := dk_46 (dk_at dksX2_lays_3 8 rfl rfl)
theorem dX2_lays_77 : decode cX2_lays 77 = .ok (.iaload, 1) := dk_46 (dk_at dksX2_lays_3 9 rfl rfl)
theorem dX2_lays_78 : decode cX2_lays 78 = .ok (.if_icmp .gt 7, 3) := dk_163 0 7 (dk_at dksX2_lays_3 10 rfl rfl)
theorem dX2_lays_81 : decode cX2_lays 81 = .ok (.iconst 1, 1) := dk_4 (dk_at dksX2_lays_3 13 rfl rfl)
theorem dX2_lays_82 : decode cX2_lays 82 = .ok (.goto 4, 3) := dk_167 0 4 (dk_at dksX2_lays_3 14 rfl rfl)
theorem dX2_lays_85 : decode cX2_lays 85 = .ok (.iconst 0, 1) := dk_3 (dk_at dksX2_lays_3 17 rfl rfl)
theorem dX2_lays_86 : decode cX2_lays 86 = .ok (.istore_n 3, 1) := dk_62 (dk_at dksX2_lays_3 18 rfl rfl)
theorem dX2_lays_87 : decode cX2_lays 87 = .ok (.aload_n 0, 1) := dk_42 (dk_at dksX2_lays_3 19 rfl rfl)
theorem dX2_lays_88 : decode cX2_lays 88 = .ok (.getfield 36, 3) := dk_180 0 36 (dk_at dksX2_lays_3 20 rfl rfl)
theorem dX2_lays_91 : decode cX2_lays 91 = .ok (.aload_n 0, 1) := dk_42 (dk_at dksX2_lays_3 23 rfl rfl)
theorem dX2_lays_92 : decode cX2_lays 92 = .ok (.getfield 30, 3) := dk_180 0 30 (dk_at dksX2_lays_4 0 rfl rfl)
theorem dX2_lays_95 : decode cX2_lays 95 = .ok (.iload_n 2, 1) := dk_28 (dk_at dksX2_lays_4 3 rfl rfl)
theorem dX2_lays_96 : decode cX2_lays 96 = .ok (.iaload, 1) := dk_46 (dk_at dksX2_lays_4 4 rfl rfl)
theorem dX2_lays_97 : decode cX2_lays 97 = .ok (.iload_n 3, 1) := dk_29 (dk_at dksX2_lays_4 5 rfl rfl)
theorem dX2_lays_98 : decode cX2_lays 98 = .ok (.ifCond .eq 19, 3) := dk_153 0 19 (dk_at dksX2_lays_4 6 rfl rfl)
theorem dX2_lays_101 : decode cX2_lays 101 = .ok (.aload_n 0, 1) := dk_42 (dk_at dksX2_lays_4 9 rfl rfl)
theorem dX2_lays_102 : decode cX2_lays 102 = .ok (.getfield 36, 3) := dk_180 0 36 (dk_at dksX2_lays_4 10 rfl rfl)
theorem dX2_lays_105 : decode cX2_lays 105 = .ok (.aload_n 0, 1) := dk_42 (dk_at dksX2_lays_4 13 rfl rfl)
theorem dX2_lays_106 : decode cX2_lays 106 = .ok (.getfield 27, 3) := dk_180 0 27 (dk_at dksX2_lays_4 14 rfl rfl)
theorem dX2_lays_109 : decode cX2_lays 109 = .ok (.iload_n 2, 1) := dk_28 (dk_at dksX2_lays_4 17 rfl rfl)
theorem dX2_lays_110 : decode cX2_lays 110 = .ok (.iaload, 1) := dk_46 (dk_at dksX2_lays_4 18 rfl rfl)
theorem dX2_lays_111 : decode cX2_lays 111 = .ok (.iaload, 1) := dk_46 (dk_at dksX2_lays_4 19 rfl rfl)
theorem dX2_lays_112 : decode cX2_lays 112 = .ok (.iconst 1, 1) := dk_4 (dk_at dksX2_lays_4 20 rfl rfl)
theorem dX2_lays_113 : decode cX2_lays 113 = .ok (.iadd, 1) := dk_96 (dk_at dksX2_lays_4 21 rfl rfl)
theorem dX2_lays_114 : decode cX2_lays 114 = .ok (.goto 14, 3) := dk_167 0 14 (dk_at dksX2_lays_5 0 rfl rfl)
theorem dX2_lays_117 : decode cX2_lays 117 = .ok (.aload_n 0, 1) := dk_42 (dk_at dksX2_lays_5 3 rfl rfl)
theorem dX2_lays_118 : decode cX2_lays 118 = .ok (.getfield 36, 3) := dk_180 0 36 (dk_at dksX2_lays_5 4 rfl rfl)
theorem dX2_lays_121 : decode cX2_lays 121 = .ok (.aload_n 0, 1) := dk_42 (dk_at dksX2_lays_5 7 rfl rfl)
theorem dX2_lays_122 : decode cX2_lays 122 = .ok (.getfield 30, 3) := dk_180 0 30 (dk_at dksX2_lays_5 8 rfl rfl)
theorem dX2_lays_125 : decode cX2_lays 125 = .ok (.iload_n 2, 1) := dk_28 (dk_at dksX2_lays_5 11 rfl rfl)
theorem dX2_lays_126 : decode cX2_lays 126 = .ok (.iaload, 1) := dk_46 (dk_at dksX2_lays_5 12 rfl rfl)
theorem dX2_lays_127 : decode cX2_lays 127 = .ok (.iaload, 1) := dk_46 (dk_at dksX2_lays_5 13 rfl rfl)
theorem dX2_lays_128 : decode cX2_lays 128 = .ok (.iastore, 1) := dk_79 (dk_at dksX2_lays_5 14 rfl rfl)
theorem dX2_lays_129 : decode cX2_lays 129 = .ok (.iload_n 1, 1) := dk_27 (dk_at dksX2_lays_5 15 rfl rfl)
theorem dX2_lays_130 : decode cX2_lays 130 = .ok (.iload_n 3, 1) := dk_29 (dk_at dksX2_lays_5 16 rfl rfl)
theorem dX2_lays_131 : decode cX2_lays 131 = .ok (.ior, 1) := dk_128 (dk_at dksX2_lays_5 17 rfl rfl)
theorem dX2_lays_132 : decode cX2_lays 132 = .ok (.istore_n 1, 1) := dk_60 (dk_at dksX2_lays_5 18 rfl rfl)
theorem dX2_lays_133 : decode cX2_lays 133 = .ok (.iinc 2 1, 3) := dk_132 2 1 (dk_at dksX2_lays_5 19 rfl rfl)
theorem dX2_lays_136 : decode cX2_lays 136 = .ok (.goto (-88), 3) := dk_167 255 168 (dk_at dksX2_lays_6 0 rfl rfl)
theorem dX2_lays_139 : decode cX2_lays 139 = .ok (.goto (-99), 3) := dk_167 255 157 (dk_at dksX2_lays_6 3 rfl rfl)
theorem dX2_lays_142 : decode cX2_lays 142 = .ok (.aload_n 0, 1) := dk_42 (dk_at dksX2_lays_6 6 rfl rfl)
theorem dX2_lays_143 : decode cX2_lays 143 = .ok (.iconst 0, 1) := dk_3 (dk_at dksX2_lays_6 7 rfl rfl)
theorem dX2_lays_144 : decode cX2_lays 144 = .ok (.putfield 57, 3) := dk_181 0 57 (dk_at dksX2_lays_6 8 rfl rfl)
theorem dX2_lays_147 : decode cX2_lays 147 = .ok (.iconst 0, 1) := dk_3 (dk_at dksX2_lays_6 11 rfl rfl)
theorem dX2_lays_148 : decode cX2_lays 148 = .ok (.istore_n 2, 1) := dk_61 (dk_at dksX2_lays_6 12 rfl rfl)
theorem dX2_lays_149 : decode cX2_lays 149 = .ok (.iload_n 2, 1) := dk_28 (dk_at dksX2_lays_6 13 rfl rfl)
theorem dX2_lays_150 : decode cX2_lays 150 = .ok (.aload_n 0, 1) := dk_42 (dk_at dksX2_lays_6 14 rfl rfl)
theorem dX2_lays_151 : decode cX2_lays 151 = .ok (.getfield 50, 3) := dk_180 0 50 (dk_at dksX2_lays_6 15 rfl rfl)
theorem dX2_lays_154 : decode cX2_lays 154 = .ok (.if_icmp .ge 28, 3) := dk_162 0 28 (dk_at dksX2_lays_6 18 rfl rfl)
theorem dX2_lays_157 : decode cX2_lays 157 = .ok (.aload_n 0, 1) := dk_42 (dk_at dksX2_lays_6 21 rfl rfl)
theorem dX2_lays_158 : decode cX2_lays 158 = .ok (.aload_n 0, 1) := dk_42 (dk_at dksX2_lays_6 22 rfl rfl)
theorem dX2_lays_159 : decode cX2_lays 159 = .ok (.getfield 57, 3) := dk_180 0 57 (dk_at dksX2_lays_7 0 rfl rfl)
theorem dX2_lays_162 : decode cX2_lays 162 = .ok (.aload_n 0, 1) := dk_42 (dk_at dksX2_lays_7 3 rfl rfl)
theorem dX2_lays_163 : decode cX2_lays 163 = .ok (.getfield 36, 3) := dk_180 0 36 (dk_at dksX2_lays_7 4 rfl rfl)
theorem dX2_lays_166 : decode cX2_lays 166 = .ok (.iload_n 2, 1) := dk_28 (dk_at dksX2_lays_7 7 rfl rfl)
theorem dX2_lays_167 : decode cX2_lays 167 = .ok (.iaload, 1) := dk_46 (dk_at dksX2_lays_7 8 rfl rfl)
theorem dX2_lays_168 : decode cX2_lays 168 = .ok (.iconst 1, 1) := dk_4 (dk_at dksX2_lays_7 9 rfl rfl)
theorem dX2_lays_169 : decode cX2_lays 169 = .ok (.iadd, 1) := dk_96 (dk_at dksX2_lays_7 10 rfl rfl)
theorem dX2_lays_170 : decode cX2_lays 170 = .ok (.invokestatic 102, 3) := dk_184 0 102 (dk_at dksX2_lays_7 11 rfl rfl)
theorem dX2_lays_173 : decode cX2_lays 173 = .ok (.putfield 57, 3) := dk_181 0 57 (dk_at dksX2_lays_7 14 rfl rfl)
theorem dX2_lays_176 : decode cX2_lays 176 = .ok (.iinc 2 1, 3) := dk_132 2 1 (dk_at dksX2_lays_7 17 rfl rfl)
theorem dX2_lays_179 : decode cX2_lays 179 = .ok (.goto (-30), 3) := dk_167 255 226 (dk_at dksX2_lays_7 20 rfl rfl)
theorem dX2_lays_182 : decode cX2_lays 182 = .ok (.iconst 0, 1) := dk_3 (dk_at dksX2_lays_7 23 rfl rfl)
theorem dX2_lays_183 : decode cX2_lays 183 = .ok (.istore_n 2, 1) := dk_61 (dk_at dksX2_lays_8 0 rfl rfl)
theorem dX2_lays_184 : decode cX2_lays 184 = .ok (.iload_n 2, 1) := dk_28 (dk_at dksX2_lays_8 1 rfl rfl)
theorem dX2_lays_185 : decode cX2_lays 185 = .ok (.bipush 25, 2) := dk_16 25 (dk_at dksX2_lays_8 2 rfl rfl)
theorem dX2_lays_187 : decode cX2_lays 187 = .ok (.if_icmp .ge 16, 3) := dk_162 0 16 (dk_at dksX2_lays_8 4 rfl rfl)
theorem dX2_lays_190 : decode cX2_lays 190 = .ok (.aload_n 0, 1) := dk_42 (dk_at dksX2_lays_8 7 rfl rfl)
theorem dX2_lays_191 : decode cX2_lays 191 = .ok (.getfield 42, 3) := dk_180 0 42 (dk_at dksX2_lays_8 8 rfl rfl)
theorem dX2_lays_194 : decode cX2_lays 194 = .ok (.iload_n 2, 1) := dk_28 (dk_at dksX2_lays_8 11 rfl rfl)
theorem dX2_lays_195 : decode cX2_lays 195 = .ok (.iconst 0, 1) := dk_3 (dk_at dksX2_lays_8 12 rfl rfl)
theorem dX2_lays_196 : decode cX2_lays 196 = .ok (.iastore, 1) := dk_79 (dk_at dksX2_lays_8 13 rfl rfl)
theorem dX2_lays_197 : decode cX2_lays 197 = .ok (.iinc 2 1, 3) := dk_132 2 1 (dk_at dksX2_lays_8 14 rfl rfl)
theorem dX2_lays_200 : decode cX2_lays 200 = .ok (.goto (-16), 3) := dk_167 255 240 (dk_at dksX2_lays_8 17 rfl rfl)
theorem dX2_lays_203 : decode cX2_lays 203 = .ok (.iconst 0, 1) := dk_3 (dk_at dksX2_lays_8 20 rfl rfl)
theorem dX2_lays_204 : decode cX2_lays 204 = .ok (.istore_n 2, 1) := dk_61 (dk_at dksX2_lays_8 21 rfl rfl)
theorem dX2_lays_205 : decode cX2_lays 205 = .ok (.iload_n 2, 1) := dk_28 (dk_at dksX2_lays_8 22 rfl rfl)
theorem dX2_lays_206 : decode cX2_lays 206 = .ok (.aload_n 0, 1) := dk_42 (dk_at dksX2_lays_8 23 rfl rfl)
theorem dX2_lays_207 : decode cX2_lays 207 = .ok (.getfield 50, 3) := dk_180 0 50 (dk_at dksX2_lays_9 0 rfl rfl)
theorem dX2_lays_210 : decode cX2_lays 210 = .ok (.if_icmp .ge 20, 3) := dk_162 0 20 (dk_at dksX2_lays_9 3 rfl rfl)
theorem dX2_lays_213 : decode cX2_lays 213 = .ok (.aload_n 0, 1) := dk_42 (dk_at dksX2_lays_9 6 rfl rfl)
theorem dX2_lays_214 : decode cX2_lays 214 = .ok (.aload_n 0, 1) := dk_42 (dk_at dksX2_lays_9 7 rfl rfl)
theorem dX2_lays_215 : decode cX2_lays 215 = .ok (.getfield 36, 3) := dk_180 0 36 (dk_at dksX2_lays_9 8 rfl rfl)
theorem dX2_lays_218 : decode cX2_lays 218 = .ok (.iload_n 2, 1) := dk_28 (dk_at dksX2_lays_9 11 rfl rfl)
theorem dX2_lays_219 : decode cX2_lays 219 = .ok (.iaload, 1) := dk_46 (dk_at dksX2_lays_9 12 rfl rfl)
theorem dX2_lays_220 : decode cX2_lays 220 = .ok (.iload_n 2, 1) := dk_28 (dk_at dksX2_lays_9 13 rfl rfl)
theorem dX2_lays_221 : decode cX2_lays 221 = .ok (.invokevirtual 107, 3) := dk_182 0 107 (dk_at dksX2_lays_9 14 rfl rfl)
theorem dX2_lays_224 : decode cX2_lays 224 = .ok (.iinc 2 1, 3) := dk_132 2 1 (dk_at dksX2_lays_9 17 rfl rfl)
theorem dX2_lays_227 : decode cX2_lays 227 = .ok (.goto (-22), 3) := dk_167 255 234 (dk_at dksX2_lays_9 20 rfl rfl)
theorem dX2_lays_230 : decode cX2_lays 230 = .ok (.iconst 0, 1) := dk_3 (dk_at dksX2_lays_9 23 rfl rfl)
theorem dX2_lays_231 : decode cX2_lays 231 = .ok (.istore_n 2, 1) := dk_61 (dk_at dksX2_lays_10 0 rfl rfl)
theorem dX2_lays_232 : decode cX2_lays 232 = .ok (.iload_n 2, 1) := dk_28 (dk_at dksX2_lays_10 1 rfl rfl)
theorem dX2_lays_233 : decode cX2_lays 233 = .ok (.aload_n 0, 1) := dk_42 (dk_at dksX2_lays_10 2 rfl rfl)
theorem dX2_lays_234 : decode cX2_lays 234 = .ok (.getfield 54, 3) := dk_180 0 54 (dk_at dksX2_lays_10 3 rfl rfl)
theorem dX2_lays_237 : decode cX2_lays 237 = .ok (.if_icmp .ge 53, 3) := dk_162 0 53 (dk_at dksX2_lays_10 6 rfl rfl)
theorem dX2_lays_240 : decode cX2_lays 240 = .ok (.aload_n 0, 1) := dk_42 (dk_at dksX2_lays_10 9 rfl rfl)
theorem dX2_lays_241 : decode cX2_lays 241 = .ok (.getfield 36, 3) := dk_180 0 36 (dk_at dksX2_lays_10 10 rfl rfl)
theorem dX2_lays_244 : decode cX2_lays 244 = .ok (.aload_n 0, 1) := dk_42 (dk_at dksX2_lays_10 13 rfl rfl)
theorem dX2_lays_245 : decode cX2_lays 245 = .ok (.getfield 27, 3) := dk_180 0 27 (dk_at dksX2_lays_10 14 rfl rfl)
theorem dX2_lays_248 : decode cX2_lays 248 = .ok (.iload_n 2, 1) := dk_28 (dk_at dksX2_lays_10 17 rfl rfl)
theorem dX2_lays_249 : decode cX2_lays 249 = .ok (.iaload, 1) := dk_46 (dk_at dksX2_lays_10 18 rfl rfl)
theorem dX2_lays_250 : decode cX2_lays 250 = .ok (.iaload, 1) := dk_46 (dk_at dksX2_lays_10 19 rfl rfl)
theorem dX2_lays_251 : decode cX2_lays 251 = .ok (.iconst 1, 1) := dk_4 (dk_at dksX2_lays_10 20 rfl rfl)
theorem dX2_lays_252 : decode cX2_lays 252 = .ok (.iadd, 1) := dk_96 (dk_at dksX2_lays_10 21 rfl rfl)
theorem dX2_lays_253 : decode cX2_lays 253 = .ok (.istore_n 3, 1) := dk_62 (dk_at dksX2_lays_10 22 rfl rfl)
theorem dX2_lays_254 : decode cX2_lays 254 = .ok (.iload_n 3, 1) := dk_29 (dk_at dksX2_lays_10 23 rfl rfl)
theorem dX2_lays_255 : decode cX2_lays 255 = .ok (.aload_n 0, 1) := dk_42 (dk_at dksX2_lays_11 0 rfl rfl)
theorem dX2_lays_256 : decode cX2_lays 256 = .ok (.getfield 36, 3) := dk_180 0 36 (dk_at dksX2_lays_11 1 rfl rfl)
theorem dX2_lays_259 : decode cX2_lays 259 = .ok (.aload_n 0, 1) := dk_42 (dk_at dksX2_lays_11 4 rfl rfl)
theorem dX2_lays_260 : decode cX2_lays 260 = .ok (.getfield 30, 3) := dk_180 0 30 (dk_at dksX2_lays_11 5 rfl rfl)
theorem dX2_lays_263 : decode cX2_lays 263 = .ok (.iload_n 2, 1) := dk_28 (dk_at dksX2_lays_11 8 rfl rfl)
theorem dX2_lays_264 : decode cX2_lays 264 = .ok (.iaload, 1) := dk_46 (dk_at dksX2_lays_11 9 rfl rfl)
theorem dX2_lays_265 : decode cX2_lays 265 = .ok (.iaload, 1) := dk_46 (dk_at dksX2_lays_11 10 rfl rfl)
theorem dX2_lays_266 : decode cX2_lays 266 = .ok (.if_icmp .ge 18, 3) := dk_162 0 18 (dk_at dksX2_lays_11 11 rfl rfl)
theorem dX2_lays_269 : decode cX2_lays 269 = .ok (.aload_n 0, 1) := dk_42 (dk_at dksX2_lays_11 14 rfl rfl)
theorem dX2_lays_270 : decode cX2_lays 270 = .ok (.iload_n 3, 1) := dk_29 (dk_at dksX2_lays_11 15 rfl rfl)
theorem dX2_lays_271 : decode cX2_lays 271 = .ok (.bipush 100, 2) := dk_16 100 (dk_at dksX2_lays_11 16 rfl rfl)
theorem dX2_lays_273 : decode cX2_lays 273 = .ok (.iload_n 2, 1) := dk_28 (dk_at dksX2_lays_11 18 rfl rfl)
theorem dX2_lays_274 : decode cX2_lays 274 = .ok (.iadd, 1) := dk_96 (dk_at dksX2_lays_11 19 rfl rfl)
theorem dX2_lays_275 : decode cX2_lays 275 = .ok (.invokevirtual 107, 3) := dk_182 0 107 (dk_at dksX2_lays_11 20 rfl rfl)
theorem dX2_lays_278 : decode cX2_lays 278 = .ok (.iinc 3 1, 3) := dk_132 3 1 (dk_at dksX2_lays_12 0 rfl rfl)
theorem dX2_lays_281 : decode cX2_lays 281 = .ok (.goto (-27), 3) := dk_167 255 229 (dk_at dksX2_lays_12 3 rfl rfl)
theorem dX2_lays_284 : decode cX2_lays 284 = .ok (.iinc 2 1, 3) := dk_132 2 1 (dk_at dksX2_lays_12 6 rfl rfl)
theorem dX2_lays_287 : decode cX2_lays 287 = .ok (.goto (-55), 3) := dk_167 255 201 (dk_at dksX2_lays_12 9 rfl rfl)
theorem dX2_lays_290 : decode cX2_lays 290 = .ok (.return_, 1) := dk_177 (dk_at dksX2_lays_12 12 rfl rfl)
def dkwX2_puts_1 : List UInt8 := [4, 96, 79, 177]
abbrev dktX2_puts_1 : List UInt8 := dkwX2_puts_1 ++ []
def dkwX2_puts_0 : List UInt8 := [42, 180, 0, 39, 27, 16, 46, 104, 42, 180, 0, 42, 27, 46, 96, 28, 79, 42, 180, 0, 42, 27, 92, 46]
abbrev dktX2_puts_0 : List UInt8 := dkwX2_puts_0 ++ dktX2_puts_1
theorem dksX2_puts_0 : cX2_puts.data.toList.drop 0 = dktX2_puts_0 := by decide +kernel
theorem dksX2_puts_1 : cX2_puts.data.toList.drop 24 = dktX2_puts_1 := dk_seg dksX2_puts_0 24 rfl rfl
theorem dX2_puts_0 : decode cX2_puts 0 = .ok (.aload_n 0, 1) := dk_42 (dk_at dksX2_puts_0 0 rfl rfl)
theorem dX2_puts_1 : decode cX2_puts 1 = .ok (.getfield 39, 3) := dk_180 0 39 (dk_at dksX2_puts_0 1 rfl rfl)
theorem dX2_puts_4 : decode cX2_puts 4 = .ok (.iload_n 1, 1) := dk_27 (dk_at dksX2_puts_0 4 rfl rfl)
theorem dX2_puts_5 : decode cX2_puts 5 = .ok (.bipush 46, 2) := dk_16 46 (dk_at dksX2_puts_0 5 rfl rfl)
theorem dX2_puts_7 : decode cX2_puts 7 = .ok (.imul, 1) := dk_104 (dk_at dksX2_puts_0 7 rfl rfl)
theorem dX2_puts_8 : decode cX2_puts 8 = .ok (.aload_n 0, 1) := dk_42 (dk_at dksX2_puts_0 8 rfl rfl)
theorem dX2_puts_9 : decode cX2_puts 9 = .ok (.getfield 42, 3) := dk_180 0 42 (dk_at dksX2_puts_0 9 rfl rfl)
theorem dX2_puts_12 : decode cX2_puts 12 = .ok (.iload_n 1, 1) := dk_27 (dk_at dksX2_puts_0 12 rfl rfl)
theorem dX2_puts_13 : decode cX2_puts 13 = .ok (.iaload, 1) := dk_46 (dk_at dksX2_puts_0 13 rfl rfl)
theorem dX2_puts_14 : decode cX2_puts 14 = .ok (.iadd, 1) := dk_96 (dk_at dksX2_puts_0 14 rfl rfl)
theorem dX2_puts_15 : decode cX2_puts 15 = .ok (.iload_n 2, 1) := dk_28 (dk_at dksX2_puts_0 15 rfl rfl)
theorem dX2_puts_16 : decode cX2_puts 16 = .ok (.iastore, 1) := dk_79 (dk_at dksX2_puts_0 16 rfl rfl)
theorem dX2_puts_17 : decode cX2_puts 17 = .ok (.aload_n 0, 1) := dk_42 (dk_at dksX2_puts_0 17 rfl rfl)
theorem dX2_puts_18 : decode cX2_puts 18 = .ok (.getfield 42, 3) := dk_180 0 42 (dk_at dksX2_puts_0 18 rfl rfl)
theorem dX2_puts_21 : decode cX2_puts 21 = .ok (.iload_n 1, 1) := dk_27 (dk_at dksX2_puts_0 21 rfl rfl)
theorem dX2_puts_22 : decode cX2_puts 22 = .ok (.dup2, 1) := dk_92 (dk_at dksX2_puts_0 22 rfl rfl)
theorem dX2_puts_23 : decode cX2_puts 23 = .ok (.iaload, 1) := dk_46 (dk_at dksX2_puts_0 23 rfl rfl)
theorem dX2_puts_24 : decode cX2_puts 24 = .ok (.iconst 1, 1) := dk_4 (dk_at dksX2_puts_1 0 rfl rfl)
theorem dX2_puts_25 : decode cX2_puts 25 = .ok (.iadd, 1) := dk_96 (dk_at dksX2_puts_1 1 rfl rfl)
theorem dX2_puts_26 : decode cX2_puts 26 = .ok (.iastore, 1) := dk_79 (dk_at dksX2_puts_1 2 rfl rfl)
theorem dX2_puts_27 : decode cX2_puts 27 = .ok (.return_, 1) := dk_177 (dk_at dksX2_puts_1 3 rfl rfl)
def dkwX2_getsArrow_5 : List UInt8 := [181, 0, 63, 42, 182, 0, 177, 42, 180, 0, 54, 4, 100, 172]
abbrev dktX2_getsArrow_5 : List UInt8 := dkwX2_getsArrow_5 ++ []
def dkwX2_getsArrow_4 : List UInt8 := [180, 0, 54, 28, 79, 42, 89, 180, 0, 54, 4, 96, 181, 0, 54, 42, 89, 180, 0, 63, 4, 96]
abbrev dktX2_getsArrow_4 : List UInt8 := dkwX2_getsArrow_4 ++ dktX2_getsArrow_5
def dkwX2_getsArrow_3 : List UInt8 := [167, 0, 4, 3, 7, 184, 0, 187, 42, 180, 0, 27, 42, 180, 0, 54, 27, 79, 42, 180, 0, 30, 42]
abbrev dktX2_getsArrow_3 : List UInt8 := dkwX2_getsArrow_3 ++ dktX2_getsArrow_4
def dkwX2_getsArrow_2 : List UInt8 := [154, 0, 7, 4, 167, 0, 4, 3, 6, 184, 0, 187, 42, 27, 28, 2, 182, 0, 94, 154, 0, 7, 4]
abbrev dktX2_getsArrow_2 : List UInt8 := dkwX2_getsArrow_2 ++ dktX2_getsArrow_3
def dkwX2_getsArrow_1 : List UInt8 := [42, 180, 0, 54, 16, 30, 162, 0, 7, 4, 167, 0, 4, 3, 5, 184, 0, 187, 42, 27, 28, 182, 0, 190]
abbrev dktX2_getsArrow_1 : List UInt8 := dkwX2_getsArrow_1 ++ dktX2_getsArrow_2
def dkwX2_getsArrow_0 : List UInt8 := [42, 27, 182, 0, 184, 42, 28, 182, 0, 184, 27, 28, 159, 0, 7, 4, 167, 0, 4, 3, 4, 184, 0, 187]
abbrev dktX2_getsArrow_0 : List UInt8 := dkwX2_getsArrow_0 ++ dktX2_getsArrow_1
theorem dksX2_getsArrow_0 : cX2_getsArrow.data.toList.drop 0 = dktX2_getsArrow_0 := by decide +kernel
theorem dksX2_getsArrow_1 : cX2_getsArrow.data.toList.drop 24 = dktX2_getsArrow_1 := dk_seg dksX2_getsArrow_0 24 rfl rfl
theorem dksX2_getsArrow_2 : cX2_getsArrow.data.toList.drop 48 = dktX2_getsArrow_2 := dk_seg dksX2_getsArrow_1 24 rfl rfl
theorem dksX2_getsArrow_3 : cX2_getsArrow.data.toList.drop 71 = dktX2_getsArrow_3 := dk_seg dksX2_getsArrow_2 23 rfl rfl
theorem dksX2_getsArrow_4 : cX2_getsArrow.data.toList.drop 94 = dktX2_getsArrow_4 := dk_seg dksX2_getsArrow_3 23 rfl rfl
theorem dksX2_getsArrow_5 : cX2_getsArrow.data.toList.drop 116 = dktX2_getsArrow_5 := dk_seg dksX2_getsArrow_4 22 rfl rfl
theorem dX2_getsArrow_0 : decode cX2_getsArrow 0 = .ok (.aload_n 0, 1) := dk_42 (dk_at dksX2_getsArrow_0 0 rfl rfl)
theorem dX2_getsArrow_1 : decode cX2_getsArrow 1 = .ok (.iload_n 1, 1) := dk_27 (dk_at dksX2_getsArrow_0 1 rfl rfl)
theorem dX2_getsArrow_2 : decode cX2_getsArrow 2 = .ok (.invokevirtual 184, 3) := dk_182 0 184 (dk_at dksX2_getsArrow_0 2 rfl rfl)
theorem dX2_getsArrow_5 : decode cX2_getsArrow 5 = .ok (.aload_n 0, 1) := dk_42 (dk_at dksX2_getsArrow_0 5 rfl rfl)
theorem dX2_getsArrow_6 : decode cX2_getsArrow 6 = .ok (.iload_n 2, 1) := dk_28 (dk_at dksX2_getsArrow_0 6 rfl rfl)
theorem dX2_getsArrow_7 : decode cX2_getsArrow 7 = .ok (.invokevirtual 184, 3) := dk_182 0 184 (dk_at dksX2_getsArrow_0 7 rfl rfl)
theorem dX2_getsArrow_10 : decode cX2_getsArrow 10 = .ok (.iload_n 1, 1) := dk_27 (dk_at dksX2_getsArrow_0 10 rfl rfl)
theorem dX2_getsArrow_11 : decode cX2_getsArrow 11 = .ok (.iload_n 2, 1) := dk_28 (dk_at dksX2_getsArrow_0 11 rfl rfl)
theorem dX2_getsArrow_12 : decode cX2_getsArrow 12 = .ok (.if_icmp .eq 7, 3) := dk_159 0 7 (dk_at dksX2_getsArrow_0 12 rfl rfl)
theorem dX2_getsArrow_15 : decode cX2_getsArrow 15 = .ok (.iconst 1, 1) := dk_4 (dk_at dksX2_getsArrow_0 15 rfl rfl)
theorem dX2_getsArrow_16 : decode cX2_getsArrow 16 = .ok (.goto 4, 3) := dk_167 0 4 (dk_at dksX2_getsArrow_0 16 rfl rfl)
theorem dX2_getsArrow_19 : decode cX2_getsArrow 19 = .ok (.iconst 0, 1) := dk_3 (dk_at dksX2_getsArrow_0 19 rfl rfl)
theorem dX2_getsArrow_20 : decode cX2_getsArrow 20 = .ok (.iconst 1, 1) := dk_4 (dk_at dksX2_getsArrow_0 20 rfl rfl)
theorem dX2_getsArrow_21 : decode cX2_getsArrow 21 = .ok (.invokestatic 187, 3) := dk_184 0 187 (dk_at dksX2_getsArrow_0 21 rfl rfl)
theorem dX2_getsArrow_24 : decode cX2_getsArrow 24 = .ok (.aload_n 0, 1) := dk_42 (dk_at dksX2_getsArrow_1 0 rfl rfl)
theorem dX2_getsArrow_25 : decode cX2_getsArrow 25 = .ok (.getfield 54, 3) := dk_180 0 54 (dk_at dksX2_getsArrow_1 1 rfl rfl)
theorem dX2_getsArrow_28 : decode cX2_getsArrow 28 = .ok (.bipush 30, 2) := dk_16 30 (dk_at dksX2_getsArrow_1 4 rfl rfl)
theorem dX2_getsArrow_30 : decode cX2_getsArrow 30 = .ok (.if_icmp .ge 7, 3) := dk_162 0 7 (dk_at dksX2_getsArrow_1 6 rfl rfl)
theorem dX2_getsArrow_33 : decode cX2_getsArrow 33 = .ok (.iconst 1, 1) := dk_4 (dk_at dksX2_getsArrow_1 9 rfl rfl)
theorem dX2_getsArrow_34 : decode cX2_getsArrow 34 = .ok (.goto 4, 3) := dk_167 0 4 (dk_at dksX2_getsArrow_1 10 rfl rfl)
theorem dX2_getsArrow_37 : decode cX2_getsArrow 37 = .ok (.iconst 0, 1) := dk_3 (dk_at dksX2_getsArrow_1 13 rfl rfl)
theorem dX2_getsArrow_38 : decode cX2_getsArrow 38 = .ok (.iconst 2, 1) := dk_5 (dk_at dksX2_getsArrow_1 14 rfl rfl)
theorem dX2_getsArrow_39 : decode cX2_getsArrow 39 = .ok (.invokestatic 187, 3) := dk_184 0 187 (dk_at dksX2_getsArrow_1 15 rfl rfl)
theorem dX2_getsArrow_42 : decode cX2_getsArrow 42 = .ok (.aload_n 0, 1) := dk_42 (dk_at dksX2_getsArrow_1 18 rfl rfl)
theorem dX2_getsArrow_43 : decode cX2_getsArrow 43 = .ok (.iload_n 1, 1) := dk_27 (dk_at dksX2_getsArrow_1 19 rfl rfl)
theorem dX2_getsArrow_44 : decode cX2_getsArrow 44 = .ok (.iload_n 2, 1) := dk_28 (dk_at dksX2_getsArrow_1 20 rfl rfl)
theorem dX2_getsArrow_45 : decode cX2_getsArrow 45 = .ok (.invokevirtual 190, 3) := dk_182 0 190 (dk_at dksX2_getsArrow_1 21 rfl rfl)
theorem dX2_getsArrow_48 : decode cX2_getsArrow 48 = .ok (.ifCond .ne 7, 3) := dk_154 0 7 (dk_at dksX2_getsArrow_2 0 rfl rfl)
theorem dX2_getsArrow_51 : decode cX2_getsArrow 51 = .ok (.iconst 1, 1) := dk_4 (dk_at dksX2_getsArrow_2 3 rfl rfl)
theorem dX2_getsArrow_52 : decode cX2_getsArrow 52 = .ok (.goto 4, 3) := dk_167 0 4 (dk_at dksX2_getsArrow_2 4 rfl rfl)
theorem dX2_getsArrow_55 : decode cX2_getsArrow 55 = .ok (.iconst 0, 1) := dk_3 (dk_at dksX2_getsArrow_2 7 rfl rfl)
theorem dX2_getsArrow_56 : decode cX2_getsArrow 56 = .ok (.iconst 3, 1) := dk_6 (dk_at dksX2_getsArrow_2 8 rfl rfl)
theorem dX2_getsArrow_57 : decode cX2_getsArrow 57 = .ok (.invokestatic 187, 3) := dk_184 0 187 (dk_at dksX2_getsArrow_2 9 rfl rfl)
theorem dX2_getsArrow_60 : decode cX2_getsArrow 60 = .ok (.aload_n 0, 1) := dk_42 (dk_at dksX2_getsArrow_2 12 rfl rfl)
theorem dX2_getsArrow_61 : decode cX2_getsArrow 61 = .ok (.iload_n 1, 1) := dk_27 (dk_at dksX2_getsArrow_2 13 rfl rfl)
theorem dX2_getsArrow_62 : decode cX2_getsArrow 62 = .ok (.iload_n 2, 1) := dk_28 (dk_at dksX2_getsArrow_2 14 rfl rfl)
theorem dX2_getsArrow_63 : decode cX2_getsArrow 63 = .ok (.iconst (-1), 1) := dk_2 (dk_at dksX2_getsArrow_2 15 rfl rfl)
theorem dX2_getsArrow_64 : decode cX2_getsArrow 64 = .ok (.invokevirtual 94, 3) := dk_182 0 94 (dk_at dksX2_getsArrow_2 16 rfl rfl)
theorem dX2_getsArrow_67 : decode cX2_getsArrow 67 = .ok (.ifCond .ne 7, 3) := dk_154 0 7 (dk_at dksX2_getsArrow_2 19 rfl rfl)
theorem dX2_getsArrow_70 : decode cX2_getsArrow 70 = .ok (.iconst 1, 1) := dk_4 (dk_at dksX2_getsArrow_2 22 rfl rfl)
theorem dX2_getsArrow_71 : decode cX2_getsArrow 71 = .ok (.goto 4, 3) := dk_167 0 4 (dk_at dksX2_getsArrow_3 0 rfl rfl)
theorem dX2_getsArrow_74 : decode cX2_getsArrow 74 = .ok (.iconst 0, 1) := dk_3 (dk_at dksX2_getsArrow_3 3 rfl rfl)
theorem dX2_getsArrow_75 : decode cX2_getsArrow 75 = .ok (.iconst 4, 1) := dk_7 (dk_at dksX2_getsArrow_3 4 rfl rfl)
theorem dX2_getsArrow_76 : decode cX2_getsArrow 76 = .ok (.invokestatic 187, 3) := dk_184 0 187 (dk_at dksX2_getsArrow_3 5 rfl rfl)
theorem dX2_getsArrow_79 : decode cX2_getsArrow 79 = .ok (.aload_n 0, 1) := dk_42 (dk_at dksX2_getsArrow_3 8 rfl rfl)
theorem dX2_getsArrow_80 : decode cX2_getsArrow 80 = .ok (.getfield 27, 3) := dk_180 0 27 (dk_at dksX2_getsArrow_3 9 rfl rfl)
theorem dX2_getsArrow_83 : decode cX2_getsArrow 83 = .ok (.aload_n 0, 1) := dk_42 (dk_at dksX2_getsArrow_3 12 rfl rfl)
theorem dX2_getsArrow_84 : decode cX2_getsArrow 84 = .ok (.getfield 54, 3) := dk_180 0 54 (dk_at dksX2_getsArrow_3 13 rfl rfl)
theorem dX2_getsArrow_87 : decode cX2_getsArrow 87 = .ok (.iload_n 1, 1) := dk_27 (dk_at dksX2_getsArrow_3 16 rfl rfl)
theorem dX2_getsArrow_88 : decode cX2_getsArrow 88 = .ok (.iastore, 1) := dk_79 (dk_at dksX2_getsArrow_3 17 rfl rfl)
theorem dX2_getsArrow_89 : decode cX2_getsArrow 89 = .ok (.aload_n 0, 1) := dk_42 (dk_at dksX2_getsArrow_3 18 rfl rfl)
theorem dX2_getsArrow_90 : decode cX2_getsArrow 90 = .ok (.getfield 30, 3) := dk_180 0 30 (dk_at dksX2_getsArrow_3 19 rfl rfl)
theorem dX2_getsArrow_93 : decode cX2_getsArrow 93 = .ok (.aload_n 0, 1) := dk_42 (dk_at dksX2_getsArrow_3 22 rfl rfl)
theorem dX2_getsArrow_94 : decode cX2_getsArrow 94 = .ok (.getfield 54, 3) := dk_180 0 54 (dk_at dksX2_getsArrow_4 0 rfl rfl)
theorem dX2_getsArrow_97 : decode cX2_getsArrow 97 = .ok (.iload_n 2, 1) := dk_28 (dk_at dksX2_getsArrow_4 3 rfl rfl)
theorem dX2_getsArrow_98 : decode cX2_getsArrow 98 = .ok (.iastore, 1) := dk_79 (dk_at dksX2_getsArrow_4 4 rfl rfl)
theorem dX2_getsArrow_99 : decode cX2_getsArrow 99 = .ok (.aload_n 0, 1) := dk_42 (dk_at dksX2_getsArrow_4 5 rfl rfl)
theorem dX2_getsArrow_100 : decode cX2_getsArrow 100 = .ok (.dup, 1) := dk_89 (dk_at dksX2_getsArrow_4 6 rfl rfl)
theorem dX2_getsArrow_101 : decode cX2_getsArrow 101 = .ok (.getfield 54, 3) := dk_180 0 54 (dk_at dksX2_getsArrow_4 7 rfl rfl)
theorem dX2_getsArrow_104 : decode cX2_getsArrow 104 = .ok (.iconst 1, 1) := dk_4 (dk_at dksX2_getsArrow_4 10 rfl rfl)
theorem dX2_getsArrow_105 : decode cX2_getsArrow 105 = .ok (.iadd, 1) := dk_96 (dk_at dksX2_getsArrow_4 11 rfl rfl)
theorem dX2_getsArrow_106 : decode cX2_getsArrow 106 = .ok (.putfield 54, 3) := dk_181 0 54 (dk_at dksX2_getsArrow_4 12 rfl rfl)
theorem dX2_getsArrow_109 : decode cX2_getsArrow 109 = .ok (.aload_n 0, 1) := dk_42 (dk_at dksX2_getsArrow_4 15 rfl rfl)
theorem dX2_getsArrow_110 : decode cX2_getsArrow 110 = .ok (.dup, 1) := dk_89 (dk_at dksX2_getsArrow_4 16 rfl rfl)
theorem dX2_getsArrow_111 : decode cX2_getsArrow 111 = .ok (.getfield 63, 3) := dk_180 0 63 (dk_at dksX2_getsArrow_4 17 rfl rfl)
theorem dX2_getsArrow_114 : decode cX2_getsArrow 114 = .ok (.iconst 1, 1) := dk_4 (dk_at dksX2_getsArrow_4 20 rfl rfl)
theorem dX2_getsArrow_115 : decode cX2_getsArrow 115 = .ok (.iadd, 1) := dk_96 (dk_at dksX2_getsArrow_4 21 rfl rfl)
theorem dX2_getsArrow_116 : decode cX2_getsArrow 116 = .ok (.putfield 63, 3) := dk_181 0 63 (dk_at dksX2_getsArrow_5 0 rfl rfl)
theorem dX2_getsArrow_119 : decode cX2_getsArrow 119 = .ok (.aload_n 0, 1) := dk_42 (dk_at dksX2_getsArrow_5 3 rfl rfl)
theorem dX2_getsArrow_120 : decode cX2_getsArrow 120 = .ok (.invokevirtual 177, 3) := dk_182 0 177 (dk_at dksX2_getsArrow_5 4 rfl rfl)
theorem dX2_getsArrow_123 : decode cX2_getsArrow 123 = .ok (.aload_n 0, 1) := dk_42 (dk_at dksX2_getsArrow_5 7 rfl rfl)
theorem dX2_getsArrow_124 : decode cX2_getsArrow 124 = .ok (.getfield 54, 3) := dk_180 0 54 (dk_at dksX2_getsArrow_5 8 rfl rfl)
theorem dX2_getsArrow_127 : decode cX2_getsArrow 127 = .ok (.iconst 1, 1) := dk_4 (dk_at dksX2_getsArrow_5 11 rfl rfl)
theorem dX2_getsArrow_128 : decode cX2_getsArrow 128 = .ok (.isub, 1) := dk_100 (dk_at dksX2_getsArrow_5 12 rfl rfl)
theorem dX2_getsArrow_129 : decode cX2_getsArrow 129 = .ok (.ireturn, 1) := dk_172 (dk_at dksX2_getsArrow_5 13 rfl rfl)
def dkwX2_needBox_0 : List UInt8 := [42, 27, 182, 0, 180, 4, 184, 0, 173, 177]
abbrev dktX2_needBox_0 : List UInt8 := dkwX2_needBox_0 ++ []
theorem dksX2_needBox_0 : cX2_needBox.data.toList.drop 0 = dktX2_needBox_0 := by decide +kernel
theorem dX2_needBox_0 : decode cX2_needBox 0 = .ok (.aload_n 0, 1) := dk_42 (dk_at dksX2_needBox_0 0 rfl rfl)
theorem dX2_needBox_1 : decode cX2_needBox 1 = .ok (.iload_n 1, 1) := dk_27 (dk_at dksX2_needBox_0 1 rfl rfl)
theorem dX2_needBox_2 : decode cX2_needBox 2 = .ok (.invokevirtual 180, 3) := dk_182 0 180 (dk_at dksX2_needBox_0 2 rfl rfl)
theorem dX2_needBox_5 : decode cX2_needBox 5 = .ok (.iconst 1, 1) := dk_4 (dk_at dksX2_needBox_0 5 rfl rfl)
theorem dX2_needBox_6 : decode cX2_needBox 6 = .ok (.invokestatic 173, 3) := dk_184 0 173 (dk_at dksX2_needBox_0 6 rfl rfl)
theorem dX2_needBox_9 : decode cX2_needBox 9 = .ok (.return_, 1) := dk_177 (dk_at dksX2_needBox_0 9 rfl rfl)
def dkwX2_isBox_0 : List UInt8 := [27, 133, 9, 42, 180, 0, 50, 4, 100, 133, 184, 0, 66, 172]
abbrev dktX2_isBox_0 : List UInt8 := dkwX2_isBox_0 ++ []
theorem dksX2_isBox_0 : cX2_isBox.data.toList.drop 0 = dktX2_isBox_0 := by decide +kernel
theorem dX2_isBox_0 : decode cX2_isBox 0 = .ok (.iload_n 1, 1) := dk_27 (dk_at dksX2_isBox_0 0 rfl rfl)
theorem dX2_isBox_1 : decode cX2_isBox 1 = .ok (.i2l, 1) := dk_133 (dk_at dksX2_isBox_0 1 rfl rfl)
theorem dX2_isBox_2 : decode cX2_isBox 2 = .ok (.lconst 0, 1) := dk_9 (dk_at dksX2_isBox_0 2 rfl rfl)
theorem dX2_isBox_3 : decode cX2_isBox 3 = .ok (.aload_n 0, 1) := dk_42 (dk_at dksX2_isBox_0 3 rfl rfl)
theorem dX2_isBox_4 : decode cX2_isBox 4 = .ok (.getfield 50, 3) := dk_180 0 50 (dk_at dksX2_isBox_0 4 rfl rfl)
theorem dX2_isBox_7 : decode cX2_isBox 7 = .ok (.iconst 1, 1) := dk_4 (dk_at dksX2_isBox_0 7 rfl rfl)
theorem dX2_isBox_8 : decode cX2_isBox 8 = .ok (.isub, 1) := dk_100 (dk_at dksX2_isBox_0 8 rfl rfl)
theorem dX2_isBox_9 : decode cX2_isBox 9 = .ok (.i2l, 1) := dk_133 (dk_at dksX2_isBox_0 9 rfl rfl)
theorem dX2_isBox_10 : decode cX2_isBox 10 = .ok (.invokestatic 66, 3) := dk_184 0 66 (dk_at dksX2_isBox_0 10 rfl rfl)
theorem dX2_isBox_13 : decode cX2_isBox 13 = .ok (.ireturn, 1) := dk_172 (dk_at dksX2_isBox_0 13 rfl rfl)
def dkwX2_isThere_2 : List UInt8 := [167, 255, 214, 29, 172]
abbrev dktX2_isThere_2 : List UInt8 := dkwX2_isThere_2 ++ []
def dkwX2_isThere_1 : List UInt8 := [160, 0, 18, 42, 180, 0, 30, 21, 4, 46, 28, 160, 0, 7, 4, 167, 0, 4, 3, 128, 62, 132, 4, 1]
abbrev dktX2_isThere_1 : List UInt8 := dkwX2_isThere_1 ++ dktX2_isThere_2
def dkwX2_isThere_0 : List UInt8 := [3, 62, 3, 54, 4, 21, 4, 42, 180, 0, 54, 162, 0, 39, 29, 42, 180, 0, 27, 21, 4, 46, 27]
abbrev dktX2_isThere_0 : List UInt8 := dkwX2_isThere_0 ++ dktX2_isThere_1
theorem dksX2_isThere_0 : cX2_isThere.data.toList.drop 0 = dktX2_isThere_0 := by decide +kernel
theorem dksX2_isThere_1 : cX2_isThere.data.toList.drop 23 = dktX2_isThere_1 := dk_seg dksX2_isThere_0 23 rfl rfl
theorem dksX2_isThere_2 : cX2_isThere.data.toList.drop 47 = dktX2_isThere_2 := dk_seg dksX2_isThere_1 24 rfl rfl
theorem dX2_isThere_0 : decode cX2_isThere 0 = .ok (.iconst 0, 1) := dk_3 (dk_at dksX2_isThere_0 0 rfl rfl)
theorem dX2_isThere_1 : decode cX2_isThere 1 = .ok (.istore_n 3, 1) := dk_62 (dk_at dksX2_isThere_0 1 rfl rfl)
theorem dX2_isThere_2 : decode cX2_isThere 2 = .ok (.iconst 0, 1) := dk_3 (dk_at dksX2_isThere_0 2 rfl rfl)
theorem dX2_isThere_3 : decode cX2_isThere 3 = .ok (.istore 4, 2) := dk_54 4 (dk_at dksX2_isThere_0 3 rfl rfl)
theorem dX2_isThere_5 : decode cX2_isThere 5 = .ok (.iload 4, 2) := dk_21 4 (dk_at dksX2_isThere_0 5 rfl rfl)
theorem dX2_isThere_7 : decode cX2_isThere 7 = .ok (.aload_n 0, 1) := dk_42 (dk_at dksX2_isThere_0 7 rfl rfl)
theorem dX2_isThere_8 : decode cX2_isThere 8 = .ok (.getfield 54, 3) := dk_180 0 54 (dk_at dksX2_isThere_0 8 rfl rfl)
theorem dX2_isThere_11 : decode cX2_isThere 11 = .ok (.if_icmp .ge 39, 3) := dk_162 0 39 (dk_at dksX2_isThere_0 11 rfl rfl)
theorem dX2_isThere_14 : decode cX2_isThere 14 = .ok (.iload_n 3, 1) := dk_29 (dk_at dksX2_isThere_0 14 rfl rfl)
theorem dX2_isThere_15 : decode cX2_isThere 15 = .ok (.aload_n 0, 1) := dk_42 (dk_at dksX2_isThere_0 15 rfl rfl)
theorem dX2_isThere_16 : decode cX2_isThere 16 = .ok (.getfield 27, 3) := dk_180 0 27 (dk_at dksX2_isThere_0 16 rfl rfl)
theorem dX2_isThere_19 : decode cX2_isThere 19 = .ok (.iload 4, 2) := dk_21 4 (dk_at dksX2_isThere_0 19 rfl rfl)
theorem dX2_isThere_21 : decode cX2_isThere 21 = .ok (.iaload, 1) := dk_46 (dk_at dksX2_isThere_0 21 rfl rfl)
theorem dX2_isThere_22 : decode cX2_isThere 22 = .ok (.iload_n 1, 1) := dk_27 (dk_at dksX2_isThere_0 22 rfl rfl)
theorem dX2_isThere_23 : decode cX2_isThere 23 = .ok (.if_icmp .ne 18, 3) := dk_160 0 18 (dk_at dksX2_isThere_1 0 rfl rfl)
theorem dX2_isThere_26 : decode cX2_isThere 26 = .ok (.aload_n 0, 1) := dk_42 (dk_at dksX2_isThere_1 3 rfl rfl)
theorem dX2_isThere_27 : decode cX2_isThere 27 = .ok (.getfield 30, 3) := dk_180 0 30 (dk_at dksX2_isThere_1 4 rfl rfl)
theorem dX2_isThere_30 : decode cX2_isThere 30 = .ok (.iload 4, 2) := dk_21 4 (dk_at dksX2_isThere_1 7 rfl rfl)
theorem dX2_isThere_32 : decode cX2_isThere 32 = .ok (.iaload, 1) := dk_46 (dk_at dksX2_isThere_1 9 rfl rfl)
theorem dX2_isThere_33 : decode cX2_isThere 33 = .ok (.iload_n 2, 1) := dk_28 (dk_at dksX2_isThere_1 10 rfl rfl)
theorem dX2_isThere_34 : decode cX2_isThere 34 = .ok (.if_icmp .ne 7, 3) := dk_160 0 7 (dk_at dksX2_isThere_1 11 rfl rfl)
theorem dX2_isThere_37 : decode cX2_isThere 37 = .ok (.iconst 1, 1) := dk_4 (dk_at dksX2_isThere_1 14 rfl rfl)
theorem dX2_isThere_38 : decode cX2_isThere 38 = .ok (.goto 4, 3) := dk_167 0 4 (dk_at dksX2_isThere_1 15 rfl rfl)
theorem dX2_isThere_41 : decode cX2_isThere 41 = .ok (.iconst 0, 1) := dk_3 (dk_at dksX2_isThere_1 18 rfl rfl)
theorem dX2_isThere_42 : decode cX2_isThere 42 = .ok (.ior, 1) := dk_128 (dk_at dksX2_isThere_1 19 rfl rfl)
theorem dX2_isThere_43 : decode cX2_isThere 43 = .ok (.istore_n 3, 1) := dk_62 (dk_at dksX2_isThere_1 20 rfl rfl)
theorem dX2_isThere_44 : decode cX2_isThere 44 = .ok (.iinc 4 1, 3) := dk_132 4 1 (dk_at dksX2_isThere_1 21 rfl rfl)
theorem dX2_isThere_47 : decode cX2_isThere 47 = .ok (.goto (-42), 3) := dk_167 255 214 (dk_at dksX2_isThere_2 0 rfl rfl)
theorem dX2_isThere_50 : decode cX2_isThere 50 = .ok (.iload_n 3, 1) := dk_29 (dk_at dksX2_isThere_2 3 rfl rfl)
theorem dX2_isThere_51 : decode cX2_isThere 51 = .ok (.ireturn, 1) := dk_172 (dk_at dksX2_isThere_2 4 rfl rfl)
def dkwX2_listens_5 : List UInt8 := [46, 184, 0, 73, 182, 0, 79, 132, 7, 1, 167, 255, 175, 167, 255, 148, 25, 5, 28, 51, 172]
abbrev dktX2_listens_5 : List UInt8 := dkwX2_listens_5 ++ []
def dkwX2_listens_4 : List UInt8 := [21, 8, 153, 0, 29, 25, 5, 42, 180, 0, 27, 21, 7, 46, 4, 84, 25, 4, 42, 180, 0, 27, 21, 7]
abbrev dktX2_listens_4 : List UInt8 := dkwX2_listens_4 ++ dktX2_listens_5
def dkwX2_listens_3 : List UInt8 := [160, 0, 20, 25, 5, 42, 180, 0, 27, 21, 7, 46, 51, 154, 0, 7, 4, 167, 0, 4, 3, 54, 8]
abbrev dktX2_listens_3 : List UInt8 := dkwX2_listens_3 ++ dktX2_listens_4
def dkwX2_listens_2 : List UInt8 := [21, 7, 42, 180, 0, 54, 162, 0, 78, 21, 7, 29, 159, 0, 32, 42, 180, 0, 30, 21, 7, 46, 21, 6]
abbrev dktX2_listens_2 : List UInt8 := dkwX2_listens_2 ++ dktX2_listens_3
def dkwX2_listens_1 : List UInt8 := [25, 4, 182, 0, 83, 154, 0, 106, 25, 4, 182, 0, 87, 192, 0, 74, 182, 0, 90, 54, 6, 3, 54, 7]
abbrev dktX2_listens_1 : List UInt8 := dkwX2_listens_1 ++ dktX2_listens_2
def dkwX2_listens_0 : List UInt8 := [187, 0, 70, 89, 183, 0, 72, 58, 4, 16, 16, 188, 4, 58, 5, 25, 4, 27, 184, 0, 73, 182, 0, 79]
abbrev dktX2_listens_0 : List UInt8 := dkwX2_listens_0 ++ dktX2_listens_1
theorem dksX2_listens_0 : cX2_listens.data.toList.drop 0 = dktX2_listens_0 := by decide +kernel
theorem dksX2_listens_1 : cX2_listens.data.toList.drop 24 = dktX2_listens_1 := dk_seg dksX2_listens_0 24 rfl rfl
theorem dksX2_listens_2 : cX2_listens.data.toList.drop 48 = dktX2_listens_2 := dk_seg dksX2_listens_1 24 rfl rfl
theorem dksX2_listens_3 : cX2_listens.data.toList.drop 72 = dktX2_listens_3 := dk_seg dksX2_listens_2 24 rfl rfl
theorem dksX2_listens_4 : cX2_listens.data.toList.drop 95 = dktX2_listens_4 := dk_seg dksX2_listens_3 23 rfl rfl
theorem dksX2_listens_5 : cX2_listens.data.toList.drop 119 = dktX2_listens_5 := dk_seg dksX2_listens_4 24 rfl rfl
theorem dX2_listens_0 : decode cX2_listens 0 = .ok (.new 70, 3) := dk_187 0 70 (dk_at dksX2_listens_0 0 rfl rfl)
theorem dX2_listens_3 : decode cX2_listens 3 = .ok (.dup, 1) := dk_89 (dk_at dksX2_listens_0 3 rfl rfl)
theorem dX2_listens_4 : decode cX2_listens 4 = .ok (.invokespecial 72, 3) := dk_183 0 72 (dk_at dksX2_listens_0 4 rfl rfl)
theorem dX2_listens_7 : decode cX2_listens 7 = .ok (.astore 4, 2) := dk_58 4 (dk_at dksX2_listens_0 7 rfl rfl)
theorem dX2_listens_9 : decode cX2_listens 9 = .ok (.bipush 16, 2) := dk_16 16 (dk_at dksX2_listens_0 9 rfl rfl)
theorem dX2_listens_11 : decode cX2_listens 11 = .ok (.newarray .boolean, 2) := dk_188_4 (dk_at dksX2_listens_0 11 rfl rfl)
theorem dX2_listens_13 : decode cX2_listens 13 = .ok (.astore 5, 2) := dk_58 5 (dk_at dksX2_listens_0 13 rfl rfl)
theorem dX2_listens_15 : decode cX2_listens 15 = .ok (.aload 4, 2) := dk_25 4 (dk_at dksX2_listens_0 15 rfl rfl)
theorem dX2_listens_17 : decode cX2_listens 17 = .ok (.iload_n 1, 1) := dk_27 (dk_at dksX2_listens_0 17 rfl rfl)
theorem dX2_listens_18 : decode cX2_listens 18 = .ok (.invokestatic 73, 3) := dk_184 0 73 (dk_at dksX2_listens_0 18 rfl rfl)
theorem dX2_listens_21 : decode cX2_listens 21 = .ok (.invokevirtual 79, 3) := dk_182 0 79 (dk_at dksX2_listens_0 21 rfl rfl)
theorem dX2_listens_24 : decode cX2_listens 24 = .ok (.aload 4, 2) := dk_25 4 (dk_at dksX2_listens_1 0 rfl rfl)
theorem dX2_listens_26 : decode cX2_listens 26 = .ok (.invokevirtual 83, 3) := dk_182 0 83 (dk_at dksX2_listens_1 2 rfl rfl)
theorem dX2_listens_29 : decode cX2_listens 29 = .ok (.ifCond .ne 106, 3) := dk_154 0 106 (dk_at dksX2_listens_1 5 rfl rfl)
theorem dX2_listens_32 : decode cX2_listens 32 = .ok (.aload 4, 2) := dk_25 4 (dk_at dksX2_listens_1 8 rfl rfl)
theorem dX2_listens_34 : decode cX2_listens 34 = .ok (.invokevirtual 87, 3) := dk_182 0 87 (dk_at dksX2_listens_1 10 rfl rfl)
theorem dX2_listens_37 : decode cX2_listens 37 = .ok (.checkcast 74, 3) := dk_192 0 74 (dk_at dksX2_listens_1 13 rfl rfl)
theorem dX2_listens_40 : decode cX2_listens 40 = .ok (.invokevirtual 90, 3) := dk_182 0 90 (dk_at dksX2_listens_1 16 rfl rfl)
theorem dX2_listens_43 : decode cX2_listens 43 = .ok (.istore 6, 2) := dk_54 6 (dk_at dksX2_listens_1 19 rfl rfl)
theorem dX2_listens_45 : decode cX2_listens 45 = .ok (.iconst 0, 1) := dk_3 (dk_at dksX2_listens_1 21 rfl rfl)
theorem dX2_listens_46 : decode cX2_listens 46 = .ok (.istore 7, 2) := dk_54 7 (dk_at dksX2_listens_1 22 rfl rfl)
theorem dX2_listens_48 : decode cX2_listens 48 = .ok (.iload 7, 2) := dk_21 7 (dk_at dksX2_listens_2 0 rfl rfl)
theorem dX2_listens_50 : decode cX2_listens 50 = .ok (.aload_n 0, 1) := dk_42 (dk_at dksX2_listens_2 2 rfl rfl)
theorem dX2_listens_51 : decode cX2_listens 51 = .ok (.getfield 54, 3) := dk_180 0 54 (dk_at dksX2_listens_2 3 rfl rfl)
theorem dX2_listens_54 : decode cX2_listens 54 = .ok (.if_icmp .ge 78, 3) := dk_162 0 78 (dk_at dksX2_listens_2 6 rfl rfl)
theorem dX2_listens_57 : decode cX2_listens 57 = .ok (.iload 7, 2) := dk_21 7 (dk_at dksX2_listens_2 9 rfl rfl)
theorem dX2_listens_59 : decode cX2_listens 59 = .ok (.iload_n 3, 1) := dk_29 (dk_at dksX2_listens_2 11 rfl rfl)
theorem dX2_listens_60 : decode cX2_listens 60 = .ok (.if_icmp .eq 32, 3) := dk_159 0 32 (dk_at dksX2_listens_2 12 rfl rfl)
theorem dX2_listens_63 : decode cX2_listens 63 = .ok (.aload_n 0, 1) := dk_42 (dk_at dksX2_listens_2 15 rfl rfl)
theorem dX2_listens_64 : decode cX2_listens 64 = .ok (.getfield 30, 3) := dk_180 0 30 (dk_at dksX2_listens_2 16 rfl rfl)
theorem dX2_listens_67 : decode cX2_listens 67 = .ok (.iload 7, 2) := dk_21 7 (dk_at dksX2_listens_2 19 rfl rfl)
theorem dX2_listens_69 : decode cX2_listens 69 = .ok (.iaload, 1) := dk_46 (dk_at dksX2_listens_2 21 rfl rfl)
theorem dX2_listens_70 : decode cX2_listens 70 = .ok (.iload 6, 2) := dk_21 6 (dk_at dksX2_listens_2 22 rfl rfl)
theorem dX2_listens_72 : decode cX2_listens 72 = .ok (.if_icmp .ne 20, 3) := dk_160 0 20 (dk_at dksX2_listens_3 0 rfl rfl)
theorem dX2_listens_75 : decode cX2_listens 75 = .ok (.aload 5, 2) := dk_25 5 (dk_at dksX2_listens_3 3 rfl rfl)
theorem dX2_listens_77 : decode cX2_listens 77 = .ok (.aload_n 0, 1) := dk_42 (dk_at dksX2_listens_3 5 rfl rfl)
theorem dX2_listens_78 : decode cX2_listens 78 = .ok (.getfield 27, 3) := dk_180 0 27 (dk_at dksX2_listens_3 6 rfl rfl)
theorem dX2_listens_81 : decode cX2_listens 81 = .ok (.iload 7, 2) := dk_21 7 (dk_at dksX2_listens_3 9 rfl rfl)
theorem dX2_listens_83 : decode cX2_listens 83 = .ok (.iaload, 1) := dk_46 (dk_at dksX2_listens_3 11 rfl rfl)
theorem dX2_listens_84 : decode cX2_listens 84 = .ok (.baload, 1) := dk_51 (dk_at dksX2_listens_3 12 rfl rfl)
theorem dX2_listens_85 : decode cX2_listens 85 = .ok (.ifCond .ne 7, 3) := dk_154 0 7 (dk_at dksX2_listens_3 13 rfl rfl)
theorem dX2_listens_88 : decode cX2_listens 88 = .ok (.iconst 1, 1) := dk_4 (dk_at dksX2_listens_3 16 rfl rfl)
theorem dX2_listens_89 : decode cX2_listens 89 = .ok (.goto 4, 3) := dk_167 0 4 (dk_at dksX2_listens_3 17 rfl rfl)
theorem dX2_listens_92 : decode cX2_listens 92 = .ok (.iconst 0, 1) := dk_3 (dk_at dksX2_listens_3 20 rfl rfl)
theorem dX2_listens_93 : decode cX2_listens 93 = .ok (.istore 8, 2) := dk_54 8 (dk_at dksX2_listens_3 21 rfl rfl)
theorem dX2_listens_95 : decode cX2_listens 95 = .ok (.iload 8, 2) := dk_21 8 (dk_at dksX2_listens_4 0 rfl rfl)
theorem dX2_listens_97 : decode cX2_listens 97 = .ok (.ifCond .eq 29, 3) := dk_153 0 29 (dk_at dksX2_listens_4 2 rfl rfl)
theorem dX2_listens_100 : decode cX2_listens 100 = .ok (.aload 5, 2) := dk_25 5 (dk_at dksX2_listens_4 5 rfl rfl)
theorem dX2_listens_102 : decode cX2_listens 102 = .ok (.aload_n 0, 1) := dk_42 (dk_at dksX2_listens_4 7 rfl rfl)
theorem dX2_listens_103 : decode cX2_listens 103 = .ok (.getfield 27, 3) := dk_180 0 27 (dk_at dksX2_listens_4 8 rfl rfl)
theorem dX2_listens_106 : decode cX2_listens 106 = .ok (.iload 7, 2) := dk_21 7 (dk_at dksX2_listens_4 11 rfl rfl)
theorem dX2_listens_108 : decode cX2_listens 108 = .ok (.iaload, 1) := dk_46 (dk_at dksX2_listens_4 13 rfl rfl)
theorem dX2_listens_109 : decode cX2_listens 109 = .ok (.iconst 1, 1) := dk_4 (dk_at dksX2_listens_4 14 rfl rfl)
theorem dX2_listens_110 : decode cX2_listens 110 = .ok (.bastore, 1) := dk_84 (dk_at dksX2_listens_4 15 rfl rfl)
theorem dX2_listens_111 : decode cX2_listens 111 = .ok (.aload 4, 2) := dk_25 4 (dk_at dksX2_listens_4 16 rfl rfl)
theorem dX2_listens_113 : decode cX2_listens 113 = .ok (.aload_n 0, 1) := dk_42 (dk_at dksX2_listens_4 18 rfl rfl)
theorem dX2_listens_114 : decode cX2_listens 114 = .ok (.getfield 27, 3) := dk_180 0 27 (dk_at dksX2_listens_4 19 rfl rfl)
theorem dX2_listens_117 : decode cX2_listens 117 = .ok (.iload 7, 2) := dk_21 7 (dk_at dksX2_listens_4 22 rfl rfl)
theorem dX2_listens_119 : decode cX2_listens 119 = .ok (.iaload, 1) := dk_46 (dk_at dksX2_listens_5 0 rfl rfl)
theorem dX2_listens_120 : decode cX2_listens 120 = .ok (.invokestatic 73, 3) := dk_184 0 73 (dk_at dksX2_listens_5 1 rfl rfl)
theorem dX2_listens_123 : decode cX2_listens 123 = .ok (.invokevirtual 79, 3) := dk_182 0 79 (dk_at dksX2_listens_5 4 rfl rfl)
theorem dX2_listens_126 : decode cX2_listens 126 = .ok (.iinc 7 1, 3) := dk_132 7 1 (dk_at dksX2_listens_5 7 rfl rfl)
theorem dX2_listens_129 : decode cX2_listens 129 = .ok (.goto (-81), 3) := dk_167 255 175 (dk_at dksX2_listens_5 10 rfl rfl)
theorem dX2_listens_132 : decode cX2_listens 132 = .ok (.goto (-108), 3) := dk_167 255 148 (dk_at dksX2_listens_5 13 rfl rfl)
theorem dX2_listens_135 : decode cX2_listens 135 = .ok (.aload 5, 2) := dk_25 5 (dk_at dksX2_listens_5 16 rfl rfl)
theorem dX2_listens_137 : decode cX2_listens 137 = .ok (.iload_n 2, 1) := dk_28 (dk_at dksX2_listens_5 18 rfl rfl)
theorem dX2_listens_138 : decode cX2_listens 138 = .ok (.baload, 1) := dk_51 (dk_at dksX2_listens_5 19 rfl rfl)
theorem dX2_listens_139 : decode cX2_listens 139 = .ok (.ireturn, 1) := dk_172 (dk_at dksX2_listens_5 20 rfl rfl)
def dkwX2_getsChain_1 : List UInt8 := [42, 5, 28, 29, 182, 0, 207, 172]
abbrev dktX2_getsChain_1 : List UInt8 := dkwX2_getsChain_1 ++ []
def dkwX2_getsChain_0 : List UInt8 := [42, 27, 182, 0, 184, 42, 28, 182, 0, 184, 42, 29, 182, 0, 184, 42, 4, 27, 28, 182, 0, 207, 54, 4]
abbrev dktX2_getsChain_0 : List UInt8 := dkwX2_getsChain_0 ++ dktX2_getsChain_1
theorem dksX2_getsChain_0 : cX2_getsChain.data.toList.drop 0 = dktX2_getsChain_0 := by decide +kernel
theorem dksX2_getsChain_1 : cX2_getsChain.data.toList.drop 24 = dktX2_getsChain_1 := dk_seg dksX2_getsChain_0 24 rfl rfl
theorem dX2_getsChain_0 : decode cX2_getsChain 0 = .ok (.aload_n 0, 1) := dk_42 (dk_at dksX2_getsChain_0 0 rfl rfl)
theorem dX2_getsChain_1 : decode cX2_getsChain 1 = .ok (.iload_n 1, 1) := dk_27 (dk_at dksX2_getsChain_0 1 rfl rfl)
theorem dX2_getsChain_2 : decode cX2_getsChain 2 = .ok (.invokevirtual 184, 3) := dk_182 0 184 (dk_at dksX2_getsChain_0 2 rfl rfl)
theorem dX2_getsChain_5 : decode cX2_getsChain 5 = .ok (.aload_n 0, 1) := dk_42 (dk_at dksX2_getsChain_0 5 rfl rfl)
theorem dX2_getsChain_6 : decode cX2_getsChain 6 = .ok (.iload_n 2, 1) := dk_28 (dk_at dksX2_getsChain_0 6 rfl rfl)
theorem dX2_getsChain_7 : decode cX2_getsChain 7 = .ok (.invokevirtual 184, 3) := dk_182 0 184 (dk_at dksX2_getsChain_0 7 rfl rfl)
theorem dX2_getsChain_10 : decode cX2_getsChain 10 = .ok (.aload_n 0, 1) := dk_42 (dk_at dksX2_getsChain_0 10 rfl rfl)
theorem dX2_getsChain_11 : decode cX2_getsChain 11 = .ok (.iload_n 3, 1) := dk_29 (dk_at dksX2_getsChain_0 11 rfl rfl)
theorem dX2_getsChain_12 : decode cX2_getsChain 12 = .ok (.invokevirtual 184, 3) := dk_182 0 184 (dk_at dksX2_getsChain_0 12 rfl rfl)
theorem dX2_getsChain_15 : decode cX2_getsChain 15 = .ok (.aload_n 0, 1) := dk_42 (dk_at dksX2_getsChain_0 15 rfl rfl)
theorem dX2_getsChain_16 : decode cX2_getsChain 16 = .ok (.iconst 1, 1) := dk_4 (dk_at dksX2_getsChain_0 16 rfl rfl)
theorem dX2_getsChain_17 : decode cX2_getsChain 17 = .ok (.iload_n 1, 1) := dk_27 (dk_at dksX2_getsChain_0 17 rfl rfl)
theorem dX2_getsChain_18 : decode cX2_getsChain 18 = .ok (.iload_n 2, 1) := dk_28 (dk_at dksX2_getsChain_0 18 rfl rfl)
theorem dX2_getsChain_19 : decode cX2_getsChain 19 = .ok (.invokevirtual 207, 3) := dk_182 0 207 (dk_at dksX2_getsChain_0 19 rfl rfl)
theorem dX2_getsChain_22 : decode cX2_getsChain 22 = .ok (.istore 4, 2) := dk_54 4 (dk_at dksX2_getsChain_0 22 rfl rfl)
theorem dX2_getsChain_24 : decode cX2_getsChain 24 = .ok (.aload_n 0, 1) := dk_42 (dk_at dksX2_getsChain_1 0 rfl rfl)
theorem dX2_getsChain_25 : decode cX2_getsChain 25 = .ok (.iconst 2, 1) := dk_5 (dk_at dksX2_getsChain_1 1 rfl rfl)
theorem dX2_getsChain_26 : decode cX2_getsChain 26 = .ok (.iload_n 2, 1) := dk_28 (dk_at dksX2_getsChain_1 2 rfl rfl)
theorem dX2_getsChain_27 : decode cX2_getsChain 27 = .ok (.iload_n 3, 1) := dk_29 (dk_at dksX2_getsChain_1 3 rfl rfl)
theorem dX2_getsChain_28 : decode cX2_getsChain 28 = .ok (.invokevirtual 207, 3) := dk_182 0 207 (dk_at dksX2_getsChain_1 4 rfl rfl)
theorem dX2_getsChain_31 : decode cX2_getsChain 31 = .ok (.ireturn, 1) := dk_172 (dk_at dksX2_getsChain_1 7 rfl rfl)
def dkwX2_step_1 : List UInt8 := [25, 4, 183, 0, 203, 183, 0, 206, 191]
abbrev dktX2_step_1 : List UInt8 := dkwX2_step_1 ++ []
def dkwX2_step_0 : List UInt8 := [42, 28, 29, 182, 0, 193, 172, 58, 4, 187, 0, 196, 89, 25, 4, 180, 0, 198, 187, 0, 201, 89, 27]
abbrev dktX2_step_0 : List UInt8 := dkwX2_step_0 ++ dktX2_step_1
theorem dksX2_step_0 : cX2_step.data.toList.drop 0 = dktX2_step_0 := by decide +kernel
theorem dksX2_step_1 : cX2_step.data.toList.drop 23 = dktX2_step_1 := dk_seg dksX2_step_0 23 rfl rfl
theorem dX2_step_0 : decode cX2_step 0 = .ok (.aload_n 0, 1) := dk_42 (dk_at dksX2_step_0 0 rfl rfl)
theorem dX2_step_1 : decode cX2_step 1 = .ok (.iload_n 2, 1) := dk_28 (dk_at dksX2_step_0 1 rfl rfl)
theorem dX2_step_2 : decode cX2_step 2 = .ok (.iload_n 3, 1) := dk_29 (dk_at dksX2_step_0 2 rfl rfl)
theorem dX2_step_3 : decode cX2_step 3 = .ok (.invokevirtual 193, 3) := dk_182 0 193 (dk_at dksX2_step_0 3 rfl rfl)
theorem dX2_step_6 : decode cX2_step 6 = .ok (.ireturn, 1) := dk_172 (dk_at dksX2_step_0 6 rfl rfl)
theorem dX2_step_7 : decode cX2_step 7 = .ok (.astore 4, 2) := dk_58 4 (dk_at dksX2_step_0 7 rfl rfl)
theorem dX2_step_9 : decode cX2_step 9 = .ok (.new 196, 3) := dk_187 0 196 (dk_at dksX2_step_0 9 rfl rfl)
theorem dX2_step_12 : decode cX2_step 12 = .ok (.dup, 1) := dk_89 (dk_at dksX2_step_0 12 rfl rfl)
theorem dX2_step_13 : decode cX2_step 13 = .ok (.aload 4, 2) := dk_25 4 (dk_at dksX2_step_0 13 rfl rfl)
theorem dX2_step_15 : decode cX2_step 15 = .ok (.getfield 198, 3) := dk_180 0 198 (dk_at dksX2_step_0 15 rfl rfl)
theorem dX2_step_18 : decode cX2_step 18 = .ok (.new 201, 3) := dk_187 0 201 (dk_at dksX2_step_0 18 rfl rfl)
theorem dX2_step_21 : decode cX2_step 21 = .ok (.dup, 1) := dk_89 (dk_at dksX2_step_0 21 rfl rfl)
theorem dX2_step_22 : decode cX2_step 22 = .ok (.iload_n 1, 1) := dk_27 (dk_at dksX2_step_0 22 rfl rfl)
theorem dX2_step_23 : decode cX2_step 23 = .ok (.aload 4, 2) := dk_25 4 (dk_at dksX2_step_1 0 rfl rfl)
theorem dX2_step_25 : decode cX2_step 25 = .ok (.invokespecial 203, 3) := dk_183 0 203 (dk_at dksX2_step_1 2 rfl rfl)
theorem dX2_step_28 : decode cX2_step 28 = .ok (.invokespecial 206, 3) := dk_183 0 206 (dk_at dksX2_step_1 5 rfl rfl)
theorem dX2_step_31 : decode cX2_step 31 = .ok (.athrow, 1) := dk_191 (dk_at dksX2_step_1 8 rfl rfl)
def dkwX2_losesArrow_3 : List UInt8 := [172]
abbrev dktX2_losesArrow_3 : List UInt8 := dkwX2_losesArrow_3 ++ []
def dkwX2_losesArrow_2 : List UInt8 := [28, 42, 180, 0, 30, 28, 4, 96, 46, 79, 132, 2, 1, 167, 255, 217, 42, 182, 0, 177, 42, 180, 0, 54]
abbrev dktX2_losesArrow_2 : List UInt8 := dkwX2_losesArrow_2 ++ dktX2_losesArrow_3
def dkwX2_losesArrow_1 : List UInt8 := [180, 0, 54, 162, 0, 37, 42, 180, 0, 27, 28, 42, 180, 0, 27, 28, 4, 96, 46, 79, 42, 180, 0, 30]
abbrev dktX2_losesArrow_1 : List UInt8 := dkwX2_losesArrow_1 ++ dktX2_losesArrow_2
def dkwX2_losesArrow_0 : List UInt8 := [42, 27, 182, 0, 211, 4, 184, 0, 173, 42, 89, 180, 0, 54, 4, 100, 181, 0, 54, 27, 61, 28, 42]
abbrev dktX2_losesArrow_0 : List UInt8 := dkwX2_losesArrow_0 ++ dktX2_losesArrow_1
theorem dksX2_losesArrow_0 : cX2_losesArrow.data.toList.drop 0 = dktX2_losesArrow_0 := by decide +kernel
theorem dksX2_losesArrow_1 : cX2_losesArrow.data.toList.drop 23 = dktX2_losesArrow_1 := dk_seg dksX2_losesArrow_0 23 rfl rfl
theorem dksX2_losesArrow_2 : cX2_losesArrow.data.toList.drop 47 = dktX2_losesArrow_2 := dk_seg dksX2_losesArrow_1 24 rfl rfl
theorem dksX2_losesArrow_3 : cX2_losesArrow.data.toList.drop 71 = dktX2_losesArrow_3 := dk_seg dksX2_losesArrow_2 24 rfl rfl
theorem dX2_losesArrow_0 : decode cX2_losesArrow 0 = .ok (.aload_n 0, 1) := dk_42 (dk_at dksX2_losesArrow_0 0 rfl rfl)
theorem dX2_losesArrow_1 : decode cX2_losesArrow 1 = .ok (.iload_n 1, 1) := dk_27 (dk_at dksX2_losesArrow_0 1 rfl rfl)
theorem dX2_losesArrow_2 : decode cX2_losesArrow 2 = .ok (.invokevirtual 211, 3) := dk_182 0 211 (dk_at dksX2_losesArrow_0 2 rfl rfl)
theorem dX2_losesArrow_5 : decode cX2_losesArrow 5 = .ok (.iconst 1, 1) := dk_4 (dk_at dksX2_losesArrow_0 5 rfl rfl)
theorem dX2_losesArrow_6 : decode cX2_losesArrow 6 = .ok (.invokestatic 173, 3) := dk_184 0 173 (dk_at dksX2_losesArrow_0 6 rfl rfl)
theorem dX2_losesArrow_9 : decode cX2_losesArrow 9 = .ok (.aload_n 0, 1) := dk_42 (dk_at dksX2_losesArrow_0 9 rfl rfl)
theorem dX2_losesArrow_10 : decode cX2_losesArrow 10 = .ok (.dup, 1) := dk_89 (dk_at dksX2_losesArrow_0 10 rfl rfl)
theorem dX2_losesArrow_11 : decode cX2_losesArrow 11 = .ok (.getfield 54, 3) := dk_180 0 54 (dk_at dksX2_losesArrow_0 11 rfl rfl)
theorem dX2_losesArrow_14 : decode cX2_losesArrow 14 = .ok (.iconst 1, 1) := dk_4 (dk_at dksX2_losesArrow_0 14 rfl rfl)
theorem dX2_losesArrow_15 : decode cX2_losesArrow 15 = .ok (.isub, 1) := dk_100 (dk_at dksX2_losesArrow_0 15 rfl rfl)
theorem dX2_losesArrow_16 : decode cX2_losesArrow 16 = .ok (.putfield 54, 3) := dk_181 0 54 (dk_at dksX2_losesArrow_0 16 rfl rfl)
theorem dX2_losesArrow_19 : decode cX2_losesArrow 19 = .ok (.iload_n 1, 1) := dk_27 (dk_at dksX2_losesArrow_0 19 rfl rfl)
theorem dX2_losesArrow_20 : decode cX2_losesArrow 20 = .ok (.istore_n 2, 1) := dk_61 (dk_at dksX2_losesArrow_0 20 rfl rfl)
theorem dX2_losesArrow_21 : decode cX2_losesArrow 21 = .ok (.iload_n 2, 1) := dk_28 (dk_at dksX2_losesArrow_0 21 rfl rfl)
theorem dX2_losesArrow_22 : decode cX2_losesArrow 22 = .ok (.aload_n 0, 1) := dk_42 (dk_at dksX2_losesArrow_0 22 rfl rfl)
theorem dX2_losesArrow_23 : decode cX2_losesArrow 23 = .ok (.getfield 54, 3) := dk_180 0 54 (dk_at dksX2_losesArrow_1 0 rfl rfl)
theorem dX2_losesArrow_26 : decode cX2_losesArrow 26 = .ok (.if_icmp .ge 37, 3) := dk_162 0 37 (dk_at dksX2_losesArrow_1 3 rfl rfl)
theorem dX2_losesArrow_29 : decode cX2_losesArrow 29 = .ok (.aload_n 0, 1) := dk_42 (dk_at dksX2_losesArrow_1 6 rfl rfl)
theorem dX2_losesArrow_30 : decode cX2_losesArrow 30 = .ok (.getfield 27, 3) := dk_180 0 27 (dk_at dksX2_losesArrow_1 7 rfl rfl)
theorem dX2_losesArrow_33 : decode cX2_losesArrow 33 = .ok (.iload_n 2, 1) := dk_28 (dk_at dksX2_losesArrow_1 10 rfl rfl)
theorem dX2_losesArrow_34 : decode cX2_losesArrow 34 = .ok (.aload_n 0, 1) := dk_42 (dk_at dksX2_losesArrow_1 11 rfl rfl)
theorem dX2_losesArrow_35 : decode cX2_losesArrow 35 = .ok (.getfield 27, 3) := dk_180 0 27 (dk_at dksX2_losesArrow_1 12 rfl rfl)
theorem dX2_losesArrow_38 : decode cX2_losesArrow 38 = .ok (.iload_n 2, 1) := dk_28 (dk_at dksX2_losesArrow_1 15 rfl rfl)
theorem dX2_losesArrow_39 : decode cX2_losesArrow 39 = .ok (.iconst 1, 1) := dk_4 (dk_at dksX2_losesArrow_1 16 rfl rfl)
theorem dX2_losesArrow_40 : decode cX2_losesArrow 40 = .ok (.iadd, 1) := dk_96 (dk_at dksX2_losesArrow_1 17 rfl rfl)
theorem dX2_losesArrow_41 : decode cX2_losesArrow 41 = .ok (.iaload, 1) := dk_46 (dk_at dksX2_losesArrow_1 18 rfl rfl)
theorem dX2_losesArrow_42 : decode cX2_losesArrow 42 = .ok (.iastore, 1) := dk_79 (dk_at dksX2_losesArrow_1 19 rfl rfl)
theorem dX2_losesArrow_43 : decode cX2_losesArrow 43 = .ok (.aload_n 0, 1) := dk_42 (dk_at dksX2_losesArrow_1 20 rfl rfl)
theorem dX2_losesArrow_44 : decode cX2_losesArrow 44 = .ok (.getfield 30, 3) := dk_180 0 30 (dk_at dksX2_losesArrow_1 21 rfl rfl)
theorem dX2_losesArrow_47 : decode cX2_losesArrow 47 = .ok (.iload_n 2, 1) := dk_28 (dk_at dksX2_losesArrow_2 0 rfl rfl)
theorem dX2_losesArrow_48 : decode cX2_losesArrow 48 = .ok (.aload_n 0, 1) := dk_42 (dk_at dksX2_losesArrow_2 1 rfl rfl)
theorem dX2_losesArrow_49 : decode cX2_losesArrow 49 = .ok (.getfield 30, 3) := dk_180 0 30 (dk_at dksX2_losesArrow_2 2 rfl rfl)
theorem dX2_losesArrow_52 : decode cX2_losesArrow 52 = .ok (.iload_n 2, 1) := dk_28 (dk_at dksX2_losesArrow_2 5 rfl rfl)
theorem dX2_losesArrow_53 : decode cX2_losesArrow 53 = .ok (.iconst 1, 1) := dk_4 (dk_at dksX2_losesArrow_2 6 rfl rfl)
theorem dX2_losesArrow_54 : decode cX2_losesArrow 54 = .ok (.iadd, 1) := dk_96 (dk_at dksX2_losesArrow_2 7 rfl rfl)
theorem dX2_losesArrow_55 : decode cX2_losesArrow 55 = .ok (.iaload, 1) := dk_46 (dk_at dksX2_losesArrow_2 8 rfl rfl)
theorem dX2_losesArrow_56 : decode cX2_losesArrow 56 = .ok (.iastore, 1) := dk_79 (dk_at dksX2_losesArrow_2 9 rfl rfl)
theorem dX2_losesArrow_57 : decode cX2_losesArrow 57 = .ok (.iinc 2 1, 3) := dk_132 2 1 (dk_at dksX2_losesArrow_2 10 rfl rfl)
theorem dX2_losesArrow_60 : decode cX2_losesArrow 60 = .ok (.goto (-39), 3) := dk_167 255 217 (dk_at dksX2_losesArrow_2 13 rfl rfl)
theorem dX2_losesArrow_63 : decode cX2_losesArrow 63 = .ok (.aload_n 0, 1) := dk_42 (dk_at dksX2_losesArrow_2 16 rfl rfl)
theorem dX2_losesArrow_64 : decode cX2_losesArrow 64 = .ok (.invokevirtual 177, 3) := dk_182 0 177 (dk_at dksX2_losesArrow_2 17 rfl rfl)
theorem dX2_losesArrow_67 : decode cX2_losesArrow 67 = .ok (.aload_n 0, 1) := dk_42 (dk_at dksX2_losesArrow_2 20 rfl rfl)
theorem dX2_losesArrow_68 : decode cX2_losesArrow 68 = .ok (.getfield 54, 3) := dk_180 0 54 (dk_at dksX2_losesArrow_2 21 rfl rfl)
theorem dX2_losesArrow_71 : decode cX2_losesArrow 71 = .ok (.ireturn, 1) := dk_172 (dk_at dksX2_losesArrow_3 0 rfl rfl)
def dkwX2_isArrow_0 : List UInt8 := [27, 133, 9, 42, 180, 0, 54, 4, 100, 133, 184, 0, 66, 172]
abbrev dktX2_isArrow_0 : List UInt8 := dkwX2_isArrow_0 ++ []
theorem dksX2_isArrow_0 : cX2_isArrow.data.toList.drop 0 = dktX2_isArrow_0 := by decide +kernel
theorem dX2_isArrow_0 : decode cX2_isArrow 0 = .ok (.iload_n 1, 1) := dk_27 (dk_at dksX2_isArrow_0 0 rfl rfl)
theorem dX2_isArrow_1 : decode cX2_isArrow 1 = .ok (.i2l, 1) := dk_133 (dk_at dksX2_isArrow_0 1 rfl rfl)
theorem dX2_isArrow_2 : decode cX2_isArrow 2 = .ok (.lconst 0, 1) := dk_9 (dk_at dksX2_isArrow_0 2 rfl rfl)
theorem dX2_isArrow_3 : decode cX2_isArrow 3 = .ok (.aload_n 0, 1) := dk_42 (dk_at dksX2_isArrow_0 3 rfl rfl)
theorem dX2_isArrow_4 : decode cX2_isArrow 4 = .ok (.getfield 54, 3) := dk_180 0 54 (dk_at dksX2_isArrow_0 4 rfl rfl)
theorem dX2_isArrow_7 : decode cX2_isArrow 7 = .ok (.iconst 1, 1) := dk_4 (dk_at dksX2_isArrow_0 7 rfl rfl)
theorem dX2_isArrow_8 : decode cX2_isArrow 8 = .ok (.isub, 1) := dk_100 (dk_at dksX2_isArrow_0 8 rfl rfl)
theorem dX2_isArrow_9 : decode cX2_isArrow 9 = .ok (.i2l, 1) := dk_133 (dk_at dksX2_isArrow_0 9 rfl rfl)
theorem dX2_isArrow_10 : decode cX2_isArrow 10 = .ok (.invokestatic 66, 3) := dk_184 0 66 (dk_at dksX2_isArrow_0 10 rfl rfl)
theorem dX2_isArrow_13 : decode cX2_isArrow 13 = .ok (.ireturn, 1) := dk_172 (dk_at dksX2_isArrow_0 13 rfl rfl)
def dkwX2_holds_2 : List UInt8 := [172]
abbrev dktX2_holds_2 : List UInt8 := dkwX2_holds_2 ++ []
def dkwX2_holds_1 : List UInt8 := [3, 4, 184, 0, 173, 42, 180, 0, 33, 27, 46, 62, 42, 180, 0, 33, 27, 28, 79, 42, 182, 0, 177, 29]
abbrev dktX2_holds_1 : List UInt8 := dkwX2_holds_1 ++ dktX2_holds_2
def dkwX2_holds_0 : List UInt8 := [42, 27, 182, 0, 180, 153, 0, 19, 28, 133, 9, 20, 0, 217, 184, 0, 66, 153, 0, 7, 4, 167, 0, 4]
abbrev dktX2_holds_0 : List UInt8 := dkwX2_holds_0 ++ dktX2_holds_1
theorem dksX2_holds_0 : cX2_holds.data.toList.drop 0 = dktX2_holds_0 := by decide +kernel
theorem dksX2_holds_1 : cX2_holds.data.toList.drop 24 = dktX2_holds_1 := dk_seg dksX2_holds_0 24 rfl rfl
theorem dksX2_holds_2 : cX2_holds.data.toList.drop 48 = dktX2_holds_2 := dk_seg dksX2_holds_1 24 rfl rfl
theorem dX2_holds_0 : decode cX2_holds 0 = .ok (.aload_n 0, 1) := dk_42 (dk_at dksX2_holds_0 0 rfl rfl)
theorem dX2_holds_1 : decode cX2_holds 1 = .ok (.iload_n 1, 1) := dk_27 (dk_at dksX2_holds_0 1 rfl rfl)
theorem dX2_holds_2 : decode cX2_holds 2 = .ok (.invokevirtual 180, 3) := dk_182 0 180 (dk_at dksX2_holds_0 2 rfl rfl)
theorem dX2_holds_5 : decode cX2_holds 5 = .ok (.ifCond .eq 19, 3) := dk_153 0 19 (dk_at dksX2_holds_0 5 rfl rfl)
theorem dX2_holds_8 : decode cX2_holds 8 = .ok (.iload_n 2, 1) := dk_28 (dk_at dksX2_holds_0 8 rfl rfl)
theorem dX2_holds_9 : decode cX2_holds 9 = .ok (.i2l, 1) := dk_133 (dk_at dksX2_holds_0 9 rfl rfl)
theorem dX2_holds_10 : decode cX2_holds 10 = .ok (.lconst 0, 1) := dk_9 (dk_at dksX2_holds_0 10 rfl rfl)
theorem dX2_holds_11 : decode cX2_holds 11 = .ok (.ldc2_w 217, 3) := dk_20 0 217 (dk_at dksX2_holds_0 11 rfl rfl)
theorem dX2_holds_14 : decode cX2_holds 14 = .ok (.invokestatic 66, 3) := dk_184 0 66 (dk_at dksX2_holds_0 14 rfl rfl)
theorem dX2_holds_17 : decode cX2_holds 17 = .ok (.ifCond .eq 7, 3) := dk_153 0 7 (dk_at dksX2_holds_0 17 rfl rfl)
theorem dX2_holds_20 : decode cX2_holds 20 = .ok (.iconst 1, 1) := dk_4 (dk_at dksX2_holds_0 20 rfl rfl)
theorem dX2_holds_21 : decode cX2_holds 21 = .ok (.goto 4, 3) := dk_167 0 4 (dk_at dksX2_holds_0 21 rfl rfl)
theorem dX2_holds_24 : decode cX2_holds 24 = .ok (.iconst 0, 1) := dk_3 (dk_at dksX2_holds_1 0 rfl rfl)
theorem dX2_holds_25 : decode cX2_holds 25 = .ok (.iconst 1, 1) := dk_4 (dk_at dksX2_holds_1 1 rfl rfl)
theorem dX2_holds_26 : decode cX2_holds 26 = .ok (.invokestatic 173, 3) := dk_184 0 173 (dk_at dksX2_holds_1 2 rfl rfl)
theorem dX2_holds_29 : decode cX2_holds 29 = .ok (.aload_n 0, 1) := dk_42 (dk_at dksX2_holds_1 5 rfl rfl)
theorem dX2_holds_30 : decode cX2_holds 30 = .ok (.getfield 33, 3) := dk_180 0 33 (dk_at dksX2_holds_1 6 rfl rfl)
theorem dX2_holds_33 : decode cX2_holds 33 = .ok (.iload_n 1, 1) := dk_27 (dk_at dksX2_holds_1 9 rfl rfl)
theorem dX2_holds_34 : decode cX2_holds 34 = .ok (.iaload, 1) := dk_46 (dk_at dksX2_holds_1 10 rfl rfl)
theorem dX2_holds_35 : decode cX2_holds 35 = .ok (.istore_n 3, 1) := dk_62 (dk_at dksX2_holds_1 11 rfl rfl)
theorem dX2_holds_36 : decode cX2_holds 36 = .ok (.aload_n 0, 1) := dk_42 (dk_at dksX2_holds_1 12 rfl rfl)
theorem dX2_holds_37 : decode cX2_holds 37 = .ok (.getfield 33, 3) := dk_180 0 33 (dk_at dksX2_holds_1 13 rfl rfl)
theorem dX2_holds_40 : decode cX2_holds 40 = .ok (.iload_n 1, 1) := dk_27 (dk_at dksX2_holds_1 16 rfl rfl)
theorem dX2_holds_41 : decode cX2_holds 41 = .ok (.iload_n 2, 1) := dk_28 (dk_at dksX2_holds_1 17 rfl rfl)
theorem dX2_holds_42 : decode cX2_holds 42 = .ok (.iastore, 1) := dk_79 (dk_at dksX2_holds_1 18 rfl rfl)
theorem dX2_holds_43 : decode cX2_holds 43 = .ok (.aload_n 0, 1) := dk_42 (dk_at dksX2_holds_1 19 rfl rfl)
theorem dX2_holds_44 : decode cX2_holds 44 = .ok (.invokevirtual 177, 3) := dk_182 0 177 (dk_at dksX2_holds_1 20 rfl rfl)
theorem dX2_holds_47 : decode cX2_holds 47 = .ok (.iload_n 3, 1) := dk_29 (dk_at dksX2_holds_1 23 rfl rfl)
theorem dX2_holds_48 : decode cX2_holds 48 = .ok (.ireturn, 1) := dk_172 (dk_at dksX2_holds_2 0 rfl rfl)
def dkwX2_prunes_2 : List UInt8 := [42, 182, 0, 177, 27, 42, 180, 0, 54, 100, 172]
abbrev dktX2_prunes_2 : List UInt8 := dkwX2_prunes_2 ++ []
def dkwX2_prunes_1 : List UInt8 := [180, 0, 27, 28, 46, 28, 182, 0, 94, 153, 0, 9, 42, 28, 182, 0, 214, 62, 132, 2, 255, 167, 255, 223]
abbrev dktX2_prunes_1 : List UInt8 := dkwX2_prunes_1 ++ dktX2_prunes_2
def dkwX2_prunes_0 : List UInt8 := [42, 180, 0, 54, 60, 42, 180, 0, 54, 4, 100, 61, 28, 155, 0, 35, 42, 42, 180, 0, 30, 28, 46, 42]
abbrev dktX2_prunes_0 : List UInt8 := dkwX2_prunes_0 ++ dktX2_prunes_1
theorem dksX2_prunes_0 : cX2_prunes.data.toList.drop 0 = dktX2_prunes_0 := by decide +kernel
theorem dksX2_prunes_1 : cX2_prunes.data.toList.drop 24 = dktX2_prunes_1 := dk_seg dksX2_prunes_0 24 rfl rfl
theorem dksX2_prunes_2 : cX2_prunes.data.toList.drop 48 = dktX2_prunes_2 := dk_seg dksX2_prunes_1 24 rfl rfl
theorem dX2_prunes_0 : decode cX2_prunes 0 = .ok (.aload_n 0, 1) := dk_42 (dk_at dksX2_prunes_0 0 rfl rfl)
theorem dX2_prunes_1 : decode cX2_prunes 1 = .ok (.getfield 54, 3) := dk_180 0 54 (dk_at dksX2_prunes_0 1 rfl rfl)
theorem dX2_prunes_4 : decode cX2_prunes 4 = .ok (.istore_n 1, 1) := dk_60 (dk_at dksX2_prunes_0 4 rfl rfl)
theorem dX2_prunes_5 : decode cX2_prunes 5 = .ok (.aload_n 0, 1) := dk_42 (dk_at dksX2_prunes_0 5 rfl rfl)
theorem dX2_prunes_6 : decode cX2_prunes 6 = .ok (.getfield 54, 3) := dk_180 0 54 (dk_at dksX2_prunes_0 6 rfl rfl)
theorem dX2_prunes_9 : decode cX2_prunes 9 = .ok (.iconst 1, 1) := dk_4 (dk_at dksX2_prunes_0 9 rfl rfl)
theorem dX2_prunes_10 : decode cX2_prunes 10 = .ok (.isub, 1) := dk_100 (dk_at dksX2_prunes_0 10 rfl rfl)
theorem dX2_prunes_11 : decode cX2_prunes 11 = .ok (.istore_n 2, 1) := dk_61 (dk_at dksX2_prunes_0 11 rfl rfl)
theorem dX2_prunes_12 : decode cX2_prunes 12 = .ok (.iload_n 2, 1) := dk_28 (dk_at dksX2_prunes_0 12 rfl rfl)
theorem dX2_prunes_13 : decode cX2_prunes 13 = .ok (.ifCond .lt 35, 3) := dk_155 0 35 (dk_at dksX2_prunes_0 13 rfl rfl)
theorem dX2_prunes_16 : decode cX2_prunes 16 = .ok (.aload_n 0, 1) := dk_42 (dk_at dksX2_prunes_0 16 rfl rfl)
theorem dX2_prunes_17 : decode cX2_prunes 17 = .ok (.aload_n 0, 1) := dk_42 (dk_at dksX2_prunes_0 17 rfl rfl)
theorem dX2_prunes_18 : decode cX2_prunes 18 = .ok (.getfield 30, 3) := dk_180 0 30 (dk_at dksX2_prunes_0 18 rfl rfl)
theorem dX2_prunes_21 : decode cX2_prunes 21 = .ok (.iload_n 2, 1) := dk_28 (dk_at dksX2_prunes_0 21 rfl rfl)
theorem dX2_prunes_22 : decode cX2_prunes 22 = .ok (.iaload, 1) := dk_46 (dk_at dksX2_prunes_0 22 rfl rfl)
theorem dX2_prunes_23 : decode cX2_prunes 23 = .ok (.aload_n 0, 1) := dk_42 (dk_at dksX2_prunes_0 23 rfl rfl)
theorem dX2_prunes_24 : decode cX2_prunes 24 = .ok (.getfield 27, 3) := dk_180 0 27 (dk_at dksX2_prunes_1 0 rfl rfl)
theorem dX2_prunes_27 : decode cX2_prunes 27 = .ok (.iload_n 2, 1) := dk_28 (dk_at dksX2_prunes_1 3 rfl rfl)
theorem dX2_prunes_28 : decode cX2_prunes 28 = .ok (.iaload, 1) := dk_46 (dk_at dksX2_prunes_1 4 rfl rfl)
theorem dX2_prunes_29 : decode cX2_prunes 29 = .ok (.iload_n 2, 1) := dk_28 (dk_at dksX2_prunes_1 5 rfl rfl)
theorem dX2_prunes_30 : decode cX2_prunes 30 = .ok (.invokevirtual 94, 3) := dk_182 0 94 (dk_at dksX2_prunes_1 6 rfl rfl)
theorem dX2_prunes_33 : decode cX2_prunes 33 = .ok (.ifCond .eq 9, 3) := dk_153 0 9 (dk_at dksX2_prunes_1 9 rfl rfl)
theorem dX2_prunes_36 : decode cX2_prunes 36 = .ok (.aload_n 0, 1) := dk_42 (dk_at dksX2_prunes_1 12 rfl rfl)
theorem dX2_prunes_37 : decode cX2_prunes 37 = .ok (.iload_n 2, 1) := dk_28 (dk_at dksX2_prunes_1 13 rfl rfl)
theorem dX2_prunes_38 : decode cX2_prunes 38 = .ok (.invokevirtual 214, 3) := dk_182 0 214 (dk_at dksX2_prunes_1 14 rfl rfl)
theorem dX2_prunes_41 : decode cX2_prunes 41 = .ok (.istore_n 3, 1) := dk_62 (dk_at dksX2_prunes_1 17 rfl rfl)
theorem dX2_prunes_42 : decode cX2_prunes 42 = .ok (.iinc 2 (-1), 3) := dk_132 2 255 (dk_at dksX2_prunes_1 18 rfl rfl)
theorem dX2_prunes_45 : decode cX2_prunes 45 = .ok (.goto (-33), 3) := dk_167 255 223 (dk_at dksX2_prunes_1 21 rfl rfl)
theorem dX2_prunes_48 : decode cX2_prunes 48 = .ok (.aload_n 0, 1) := dk_42 (dk_at dksX2_prunes_2 0 rfl rfl)
theorem dX2_prunes_49 : decode cX2_prunes 49 = .ok (.invokevirtual 177, 3) := dk_182 0 177 (dk_at dksX2_prunes_2 1 rfl rfl)
theorem dX2_prunes_52 : decode cX2_prunes 52 = .ok (.iload_n 1, 1) := dk_27 (dk_at dksX2_prunes_2 4 rfl rfl)
theorem dX2_prunes_53 : decode cX2_prunes 53 = .ok (.aload_n 0, 1) := dk_42 (dk_at dksX2_prunes_2 5 rfl rfl)
theorem dX2_prunes_54 : decode cX2_prunes 54 = .ok (.getfield 54, 3) := dk_180 0 54 (dk_at dksX2_prunes_2 6 rfl rfl)
theorem dX2_prunes_57 : decode cX2_prunes 57 = .ok (.isub, 1) := dk_100 (dk_at dksX2_prunes_2 9 rfl rfl)
theorem dX2_prunes_58 : decode cX2_prunes 58 = .ok (.ireturn, 1) := dk_172 (dk_at dksX2_prunes_2 10 rfl rfl)
def dkwX2_turnsRound_2 : List UInt8 := [180, 0, 57, 172]
abbrev dktX2_turnsRound_2 : List UInt8 := dkwX2_turnsRound_2 ++ []
def dkwX2_turnsRound_1 : List UInt8 := [180, 0, 30, 27, 46, 79, 42, 180, 0, 30, 27, 28, 79, 132, 1, 1, 167, 255, 219, 42, 182, 0, 177, 42]
abbrev dktX2_turnsRound_1 : List UInt8 := dkwX2_turnsRound_1 ++ dktX2_turnsRound_2
def dkwX2_turnsRound_0 : List UInt8 := [3, 60, 27, 42, 180, 0, 54, 162, 0, 35, 42, 180, 0, 27, 27, 46, 61, 42, 180, 0, 27, 27, 42]
abbrev dktX2_turnsRound_0 : List UInt8 := dkwX2_turnsRound_0 ++ dktX2_turnsRound_1
theorem dksX2_turnsRound_0 : cX2_turnsRound.data.toList.drop 0 = dktX2_turnsRound_0 := by decide +kernel
theorem dksX2_turnsRound_1 : cX2_turnsRound.data.toList.drop 23 = dktX2_turnsRound_1 := dk_seg dksX2_turnsRound_0 23 rfl rfl
theorem dksX2_turnsRound_2 : cX2_turnsRound.data.toList.drop 47 = dktX2_turnsRound_2 := dk_seg dksX2_turnsRound_1 24 rfl rfl
theorem dX2_turnsRound_0 : decode cX2_turnsRound 0 = .ok (.iconst 0, 1) := dk_3 (dk_at dksX2_turnsRound_0 0 rfl rfl)
theorem dX2_turnsRound_1 : decode cX2_turnsRound 1 = .ok (.istore_n 1, 1) := dk_60 (dk_at dksX2_turnsRound_0 1 rfl rfl)
theorem dX2_turnsRound_2 : decode cX2_turnsRound 2 = .ok (.iload_n 1, 1) := dk_27 (dk_at dksX2_turnsRound_0 2 rfl rfl)
theorem dX2_turnsRound_3 : decode cX2_turnsRound 3 = .ok (.aload_n 0, 1) := dk_42 (dk_at dksX2_turnsRound_0 3 rfl rfl)
theorem dX2_turnsRound_4 : decode cX2_turnsRound 4 = .ok (.getfield 54, 3) := dk_180 0 54 (dk_at dksX2_turnsRound_0 4 rfl rfl)
theorem dX2_turnsRound_7 : decode cX2_turnsRound 7 = .ok (.if_icmp .ge 35, 3) := dk_162 0 35 (dk_at dksX2_turnsRound_0 7 rfl rfl)
theorem dX2_turnsRound_10 : decode cX2_turnsRound 10 = .ok (.aload_n 0, 1) := dk_42 (dk_at dksX2_turnsRound_0 10 rfl rfl)
theorem dX2_turnsRound_11 : decode cX2_turnsRound 11 = .ok (.getfield 27, 3) := dk_180 0 27 (dk_at dksX2_turnsRound_0 11 rfl rfl)
theorem dX2_turnsRound_14 : decode cX2_turnsRound 14 = .ok (.iload_n 1, 1) := dk_27 (dk_at dksX2_turnsRound_0 14 rfl rfl)
theorem dX2_turnsRound_15 : decode cX2_turnsRound 15 = .ok (.iaload, 1) := dk_46 (dk_at dksX2_turnsRound_0 15 rfl rfl)
theorem dX2_turnsRound_16 : decode cX2_turnsRound 16 = .ok (.istore_n 2, 1) := dk_61 (dk_at dksX2_turnsRound_0 16 rfl rfl)
theorem dX2_turnsRound_17 : decode cX2_turnsRound 17 = .ok (.aload_n 0, 1) := dk_42 (dk_at dksX2_turnsRound_0 17 rfl rfl)
theorem dX2_turnsRound_18 : decode cX2_turnsRound 18 = .ok (.getfield 27, 3) := dk_180 0 27 (dk_at dksX2_turnsRound_0 18 rfl rfl)
theorem dX2_turnsRound_21 : decode cX2_turnsRound 21 = .ok (.iload_n 1, 1) := dk_27 (dk_at dksX2_turnsRound_0 21 rfl rfl)
theorem dX2_turnsRound_22 : decode cX2_turnsRound 22 = .ok (.aload_n 0, 1) := dk_42 (dk_at dksX2_turnsRound_0 22 rfl rfl)
theorem dX2_turnsRound_23 : decode cX2_turnsRound 23 = .ok (.getfield 30, 3) := dk_180 0 30 (dk_at dksX2_turnsRound_1 0 rfl rfl)
theorem dX2_turnsRound_26 : decode cX2_turnsRound 26 = .ok (.iload_n 1, 1) := dk_27 (dk_at dksX2_turnsRound_1 3 rfl rfl)
theorem dX2_turnsRound_27 : decode cX2_turnsRound 27 = .ok (.iaload, 1) := dk_46 (dk_at dksX2_turnsRound_1 4 rfl rfl)
theorem dX2_turnsRound_28 : decode cX2_turnsRound 28 = .ok (.iastore, 1) := dk_79 (dk_at dksX2_turnsRound_1 5 rfl rfl)
theorem dX2_turnsRound_29 : decode cX2_turnsRound 29 = .ok (.aload_n 0, 1) := dk_42 (dk_at dksX2_turnsRound_1 6 rfl rfl)
theorem dX2_turnsRound_30 : decode cX2_turnsRound 30 = .ok (.getfield 30, 3) := dk_180 0 30 (dk_at dksX2_turnsRound_1 7 rfl rfl)
theorem dX2_turnsRound_33 : decode cX2_turnsRound 33 = .ok (.iload_n 1, 1) := dk_27 (dk_at dksX2_turnsRound_1 10 rfl rfl)
theorem dX2_turnsRound_34 : decode cX2_turnsRound 34 = .ok (.iload_n 2, 1) := dk_28 (dk_at dksX2_turnsRound_1 11 rfl rfl)
theorem dX2_turnsRound_35 : decode cX2_turnsRound 35 = .ok (.iastore, 1) := dk_79 (dk_at dksX2_turnsRound_1 12 rfl rfl)
theorem dX2_turnsRound_36 : decode cX2_turnsRound 36 = .ok (.iinc 1 1, 3) := dk_132 1 1 (dk_at dksX2_turnsRound_1 13 rfl rfl)
theorem dX2_turnsRound_39 : decode cX2_turnsRound 39 = .ok (.goto (-37), 3) := dk_167 255 219 (dk_at dksX2_turnsRound_1 16 rfl rfl)
theorem dX2_turnsRound_42 : decode cX2_turnsRound 42 = .ok (.aload_n 0, 1) := dk_42 (dk_at dksX2_turnsRound_1 19 rfl rfl)
theorem dX2_turnsRound_43 : decode cX2_turnsRound 43 = .ok (.invokevirtual 177, 3) := dk_182 0 177 (dk_at dksX2_turnsRound_1 20 rfl rfl)
theorem dX2_turnsRound_46 : decode cX2_turnsRound 46 = .ok (.aload_n 0, 1) := dk_42 (dk_at dksX2_turnsRound_1 23 rfl rfl)
theorem dX2_turnsRound_47 : decode cX2_turnsRound 47 = .ok (.getfield 57, 3) := dk_180 0 57 (dk_at dksX2_turnsRound_2 0 rfl rfl)
theorem dX2_turnsRound_50 : decode cX2_turnsRound 50 = .ok (.ireturn, 1) := dk_172 (dk_at dksX2_turnsRound_2 3 rfl rfl)
def dkwX2_goes_0 : List UInt8 := [42, 27, 182, 0, 219, 42, 89, 180, 0, 60, 4, 96, 181, 0, 60, 42, 182, 0, 223, 172]
abbrev dktX2_goes_0 : List UInt8 := dkwX2_goes_0 ++ []
theorem dksX2_goes_0 : cX2_goes.data.toList.drop 0 = dktX2_goes_0 := by decide +kernel
theorem dX2_goes_0 : decode cX2_goes 0 = .ok (.aload_n 0, 1) := dk_42 (dk_at dksX2_goes_0 0 rfl rfl)
theorem dX2_goes_1 : decode cX2_goes 1 = .ok (.iload_n 1, 1) := dk_27 (dk_at dksX2_goes_0 1 rfl rfl)
theorem dX2_goes_2 : decode cX2_goes 2 = .ok (.invokevirtual 219, 3) := dk_182 0 219 (dk_at dksX2_goes_0 2 rfl rfl)
theorem dX2_goes_5 : decode cX2_goes 5 = .ok (.aload_n 0, 1) := dk_42 (dk_at dksX2_goes_0 5 rfl rfl)
theorem dX2_goes_6 : decode cX2_goes 6 = .ok (.dup, 1) := dk_89 (dk_at dksX2_goes_0 6 rfl rfl)
theorem dX2_goes_7 : decode cX2_goes 7 = .ok (.getfield 60, 3) := dk_180 0 60 (dk_at dksX2_goes_0 7 rfl rfl)
theorem dX2_goes_10 : decode cX2_goes 10 = .ok (.iconst 1, 1) := dk_4 (dk_at dksX2_goes_0 10 rfl rfl)
theorem dX2_goes_11 : decode cX2_goes 11 = .ok (.iadd, 1) := dk_96 (dk_at dksX2_goes_0 11 rfl rfl)
theorem dX2_goes_12 : decode cX2_goes 12 = .ok (.putfield 60, 3) := dk_181 0 60 (dk_at dksX2_goes_0 12 rfl rfl)
theorem dX2_goes_15 : decode cX2_goes 15 = .ok (.aload_n 0, 1) := dk_42 (dk_at dksX2_goes_0 15 rfl rfl)
theorem dX2_goes_16 : decode cX2_goes 16 = .ok (.invokevirtual 223, 3) := dk_182 0 223 (dk_at dksX2_goes_0 16 rfl rfl)
theorem dX2_goes_19 : decode cX2_goes 19 = .ok (.ireturn, 1) := dk_172 (dk_at dksX2_goes_0 19 rfl rfl)
def dkwX2_brushes_1 : List UInt8 := [100, 28, 100, 27, 182, 0, 155, 132, 2, 1, 167, 255, 224, 177]
abbrev dktX2_brushes_1 : List UInt8 := dkwX2_brushes_1 ++ []
def dkwX2_brushes_0 : List UInt8 := [4, 61, 28, 42, 180, 0, 57, 162, 0, 30, 42, 27, 153, 0, 7, 28, 167, 0, 11, 42, 180, 0, 57, 4]
abbrev dktX2_brushes_0 : List UInt8 := dkwX2_brushes_0 ++ dktX2_brushes_1
theorem dksX2_brushes_0 : cX2_brushes.data.toList.drop 0 = dktX2_brushes_0 := by decide +kernel
theorem dksX2_brushes_1 : cX2_brushes.data.toList.drop 24 = dktX2_brushes_1 := dk_seg dksX2_brushes_0 24 rfl rfl
theorem dX2_brushes_0 : decode cX2_brushes 0 = .ok (.iconst 1, 1) := dk_4 (dk_at dksX2_brushes_0 0 rfl rfl)
theorem dX2_brushes_1 : decode cX2_brushes 1 = .ok (.istore_n 2, 1) := dk_61 (dk_at dksX2_brushes_0 1 rfl rfl)
theorem dX2_brushes_2 : decode cX2_brushes 2 = .ok (.iload_n 2, 1) := dk_28 (dk_at dksX2_brushes_0 2 rfl rfl)
theorem dX2_brushes_3 : decode cX2_brushes 3 = .ok (.aload_n 0, 1) := dk_42 (dk_at dksX2_brushes_0 3 rfl rfl)
theorem dX2_brushes_4 : decode cX2_brushes 4 = .ok (.getfield 57, 3) := dk_180 0 57 (dk_at dksX2_brushes_0 4 rfl rfl)
theorem dX2_brushes_7 : decode cX2_brushes 7 = .ok (.if_icmp .ge 30, 3) := dk_162 0 30 (dk_at dksX2_brushes_0 7 rfl rfl)
theorem dX2_brushes_10 : decode cX2_brushes 10 = .ok (.aload_n 0, 1) := dk_42 (dk_at dksX2_brushes_0 10 rfl rfl)
theorem dX2_brushes_11 : decode cX2_brushes 11 = .ok (.iload_n 1, 1) := dk_27 (dk_at dksX2_brushes_0 11 rfl rfl)
theorem dX2_brushes_12 : decode cX2_brushes 12 = .ok (.ifCond .eq 7, 3) := dk_153 0 7 (dk_at dksX2_brushes_0 12 rfl rfl)
theorem dX2_brushes_15 : decode cX2_brushes 15 = .ok (.iload_n 2, 1) := dk_28 (dk_at dksX2_brushes_0 15 rfl rfl)
theorem dX2_brushes_16 : decode cX2_brushes 16 = .ok (.goto 11, 3) := dk_167 0 11 (dk_at dksX2_brushes_0 16 rfl rfl)
theorem dX2_brushes_19 : decode cX2_brushes 19 = .ok (.aload_n 0, 1) := dk_42 (dk_at dksX2_brushes_0 19 rfl rfl)
theorem dX2_brushes_20 : decode cX2_brushes 20 = .ok (.getfield 57, 3) := dk_180 0 57 (dk_at dksX2_brushes_0 20 rfl rfl)
theorem dX2_brushes_23 : decode cX2_brushes 23 = .ok (.iconst 1, 1) := dk_4 (dk_at dksX2_brushes_0 23 rfl rfl)
theorem dX2_brushes_24 : decode cX2_brushes 24 = .ok (.isub, 1) := dk_100 (dk_at dksX2_brushes_1 0 rfl rfl)
theorem dX2_brushes_25 : decode cX2_brushes 25 = .ok (.iload_n 2, 1) := dk_28 (dk_at dksX2_brushes_1 1 rfl rfl)
theorem dX2_brushes_26 : decode cX2_brushes 26 = .ok (.isub, 1) := dk_100 (dk_at dksX2_brushes_1 2 rfl rfl)
theorem dX2_brushes_27 : decode cX2_brushes 27 = .ok (.iload_n 1, 1) := dk_27 (dk_at dksX2_brushes_1 3 rfl rfl)
theorem dX2_brushes_28 : decode cX2_brushes 28 = .ok (.invokevirtual 155, 3) := dk_182 0 155 (dk_at dksX2_brushes_1 4 rfl rfl)
theorem dX2_brushes_31 : decode cX2_brushes 31 = .ok (.iinc 2 1, 3) := dk_132 2 1 (dk_at dksX2_brushes_1 7 rfl rfl)
theorem dX2_brushes_34 : decode cX2_brushes 34 = .ok (.goto (-32), 3) := dk_167 255 224 (dk_at dksX2_brushes_1 10 rfl rfl)
theorem dX2_brushes_37 : decode cX2_brushes 37 = .ok (.return_, 1) := dk_177 (dk_at dksX2_brushes_1 13 rfl rfl)
def dkwX2_orders_6 : List UInt8 := [167, 255, 226, 177]
abbrev dktX2_orders_6 : List UInt8 := dkwX2_orders_6 ++ []
def dkwX2_orders_5 : List UInt8 := [162, 0, 26, 42, 180, 0, 39, 27, 16, 46, 104, 29, 96, 42, 180, 0, 24, 29, 46, 79, 132, 3, 1]
abbrev dktX2_orders_5 : List UInt8 := dkwX2_orders_5 ++ dktX2_orders_6
def dkwX2_orders_4 : List UInt8 := [21, 5, 42, 27, 29, 182, 0, 115, 79, 132, 3, 1, 167, 255, 152, 3, 62, 29, 42, 180, 0, 42, 27, 46]
abbrev dktX2_orders_4 : List UInt8 := dkwX2_orders_4 ++ dktX2_orders_5
def dkwX2_orders_3 : List UInt8 := [4, 100, 46, 79, 132, 5, 255, 167, 255, 202, 42, 180, 0, 21, 21, 5, 21, 4, 79, 42, 180, 0, 24]
abbrev dktX2_orders_3 : List UInt8 := dkwX2_orders_3 ++ dktX2_orders_4
def dkwX2_orders_2 : List UInt8 := [21, 5, 42, 180, 0, 21, 21, 5, 4, 100, 46, 79, 42, 180, 0, 24, 21, 5, 42, 180, 0, 24, 21, 5]
abbrev dktX2_orders_2 : List UInt8 := dkwX2_orders_2 ++ dktX2_orders_3
def dkwX2_orders_1 : List UInt8 := [21, 5, 158, 0, 55, 42, 180, 0, 21, 21, 5, 4, 100, 46, 21, 4, 164, 0, 41, 42, 180, 0, 21]
abbrev dktX2_orders_1 : List UInt8 := dkwX2_orders_1 ++ dktX2_orders_2
def dkwX2_orders_0 : List UInt8 := [3, 62, 29, 42, 180, 0, 42, 27, 46, 162, 0, 100, 42, 27, 29, 28, 182, 0, 151, 54, 4, 29, 54, 5]
abbrev dktX2_orders_0 : List UInt8 := dkwX2_orders_0 ++ dktX2_orders_1
theorem dksX2_orders_0 : cX2_orders.data.toList.drop 0 = dktX2_orders_0 := by decide +kernel
theorem dksX2_orders_1 : cX2_orders.data.toList.drop 24 = dktX2_orders_1 := dk_seg dksX2_orders_0 24 rfl rfl
theorem dksX2_orders_2 : cX2_orders.data.toList.drop 47 = dktX2_orders_2 := dk_seg dksX2_orders_1 23 rfl rfl
theorem dksX2_orders_3 : cX2_orders.data.toList.drop 71 = dktX2_orders_3 := dk_seg dksX2_orders_2 24 rfl rfl
theorem dksX2_orders_4 : cX2_orders.data.toList.drop 94 = dktX2_orders_4 := dk_seg dksX2_orders_3 23 rfl rfl
theorem dksX2_orders_5 : cX2_orders.data.toList.drop 118 = dktX2_orders_5 := dk_seg dksX2_orders_4 24 rfl rfl
theorem dksX2_orders_6 : cX2_orders.data.toList.drop 141 = dktX2_orders_6 := dk_seg dksX2_orders_5 23 rfl rfl
theorem dX2_orders_0 : decode cX2_orders 0 = .ok (.iconst 0, 1) := dk_3 (dk_at dksX2_orders_0 0 rfl rfl)
theorem dX2_orders_1 : decode cX2_orders 1 = .ok (.istore_n 3, 1) := dk_62 (dk_at dksX2_orders_0 1 rfl rfl)
theorem dX2_orders_2 : decode cX2_orders 2 = .ok (.iload_n 3, 1) := dk_29 (dk_at dksX2_orders_0 2 rfl rfl)
theorem dX2_orders_3 : decode cX2_orders 3 = .ok (.aload_n 0, 1) := dk_42 (dk_at dksX2_orders_0 3 rfl rfl)
theorem dX2_orders_4 : decode cX2_orders 4 = .ok (.getfield 42, 3) := dk_180 0 42 (dk_at dksX2_orders_0 4 rfl rfl)
theorem dX2_orders_7 : decode cX2_orders 7 = .ok (.iload_n 1, 1) := dk_27 (dk_at dksX2_orders_0 7 rfl rfl)
theorem dX2_orders_8 : decode cX2_orders 8 = .ok (.iaload, 1) := dk_46 (dk_at dksX2_orders_0 8 rfl rfl)
theorem dX2_orders_9 : decode cX2_orders 9 = .ok (.if_icmp .ge 100, 3) := dk_162 0 100 (dk_at dksX2_orders_0 9 rfl rfl)
theorem dX2_orders_12 : decode cX2_orders 12 = .ok (.aload_n 0, 1) := dk_42 (dk_at dksX2_orders_0 12 rfl rfl)
theorem dX2_orders_13 : decode cX2_orders 13 = .ok (.iload_n 1, 1) := dk_27 (dk_at dksX2_orders_0 13 rfl rfl)
theorem dX2_orders_14 : decode cX2_orders 14 = .ok (.iload_n 3, 1) := dk_29 (dk_at dksX2_orders_0 14 rfl rfl)
theorem dX2_orders_15 : decode cX2_orders 15 = .ok (.iload_n 2, 1) := dk_28 (dk_at dksX2_orders_0 15 rfl rfl)
theorem dX2_orders_16 : decode cX2_orders 16 = .ok (.invokevirtual 151, 3) := dk_182 0 151 (dk_at dksX2_orders_0 16 rfl rfl)
theorem dX2_orders_19 : decode cX2_orders 19 = .ok (.istore 4, 2) := dk_54 4 (dk_at dksX2_orders_0 19 rfl rfl)
theorem dX2_orders_21 : decode cX2_orders 21 = .ok (.iload_n 3, 1) := dk_29 (dk_at dksX2_orders_0 21 rfl rfl)
theorem dX2_orders_22 : decode cX2_orders 22 = .ok (.istore 5, 2) := dk_54 5 (dk_at dksX2_orders_0 22 rfl rfl)
theorem dX2_orders_24 : decode cX2_orders 24 = .ok (.iload 5, 2) := dk_21 5 (dk_at dksX2_orders_1 0 rfl rfl)
theorem dX2_orders_26 : decode cX2_orders 26 = .ok (.ifCond .le 55, 3) := dk_158 0 55 (dk_at dksX2_orders_1 2 rfl rfl)
theorem dX2_orders_29 : decode cX2_orders 29 = .ok (.aload_n 0, 1) := dk_42 (dk_at dksX2_orders_1 5 rfl rfl)
theorem dX2_orders_30 : decode cX2_orders 30 = .ok (.getfield 21, 3) := dk_180 0 21 (dk_at dksX2_orders_1 6 rfl rfl)
theorem dX2_orders_33 : decode cX2_orders 33 = .ok (.iload 5, 2) := dk_21 5 (dk_at dksX2_orders_1 9 rfl rfl)
theorem dX2_orders_35 : decode cX2_orders 35 = .ok (.iconst 1, 1) := dk_4 (dk_at dksX2_orders_1 11 rfl rfl)
theorem dX2_orders_36 : decode cX2_orders 36 = .ok (.isub, 1) := dk_100 (dk_at dksX2_orders_1 12 rfl rfl)
theorem dX2_orders_37 : decode cX2_orders 37 = .ok (.iaload, 1) := dk_46 (dk_at dksX2_orders_1 13 rfl rfl)
theorem dX2_orders_38 : decode cX2_orders 38 = .ok (.iload 4, 2) := dk_21 4 (dk_at dksX2_orders_1 14 rfl rfl)
theorem dX2_orders_40 : decode cX2_orders 40 = .ok (.if_icmp .le 41, 3) := dk_164 0 41 (dk_at dksX2_orders_1 16 rfl rfl)
theorem dX2_orders_43 : decode cX2_orders 43 = .ok (.aload_n 0, 1) := dk_42 (dk_at dksX2_orders_1 19 rfl rfl)
theorem dX2_orders_44 : decode cX2_orders 44 = .ok (.getfield 21, 3) := dk_180 0 21 (dk_at dksX2_orders_1 20 rfl rfl)
theorem dX2_orders_47 : decode cX2_orders 47 = .ok (.iload 5, 2) := dk_21 5 (dk_at dksX2_orders_2 0 rfl rfl)
theorem dX2_orders_49 : decode cX2_orders 49 = .ok (.aload_n 0, 1) := dk_42 (dk_at dksX2_orders_2 2 rfl rfl)
theorem dX2_orders_50 : decode cX2_orders 50 = .ok (.getfield 21, 3) := dk_180 0 21 (dk_at dksX2_orders_2 3 rfl rfl)
theorem dX2_orders_53 : decode cX2_orders 53 = .ok (.iload 5, 2) := dk_21 5 (dk_at dksX2_orders_2 6 rfl rfl)
theorem dX2_orders_55 : decode cX2_orders 55 = .ok (.iconst 1, 1) := dk_4 (dk_at dksX2_orders_2 8 rfl rfl)
theorem dX2_orders_56 : decode cX2_orders 56 = .ok (.isub, 1) := dk_100 (dk_at dksX2_orders_2 9 rfl rfl)
theorem dX2_orders_57 : decode cX2_orders 57 = .ok (.iaload, 1) := dk_46 (dk_at dksX2_orders_2 10 rfl rfl)
theorem dX2_orders_58 : decode cX2_orders 58 = .ok (.iastore, 1) := dk_79 (dk_at dksX2_orders_2 11 rfl rfl)
theorem dX2_orders_59 : decode cX2_orders 59 = .ok (.aload_n 0, 1) := dk_42 (dk_at dksX2_orders_2 12 rfl rfl)
theorem dX2_orders_60 : decode cX2_orders 60 = .ok (.getfield 24, 3) := dk_180 0 24 (dk_at dksX2_orders_2 13 rfl rfl)
theorem dX2_orders_63 : decode cX2_orders 63 = .ok (.iload 5, 2) := dk_21 5 (dk_at dksX2_orders_2 16 rfl rfl)
theorem dX2_orders_65 : decode cX2_orders 65 = .ok (.aload_n 0, 1) := dk_42 (dk_at dksX2_orders_2 18 rfl rfl)
theorem dX2_orders_66 : decode cX2_orders 66 = .ok (.getfield 24, 3) := dk_180 0 24 (dk_at dksX2_orders_2 19 rfl rfl)
theorem dX2_orders_69 : decode cX2_orders 69 = .ok (.iload 5, 2) := dk_21 5 (dk_at dksX2_orders_2 22 rfl rfl)
theorem dX2_orders_71 : decode cX2_orders 71 = .ok (.iconst 1, 1) := dk_4 (dk_at dksX2_orders_3 0 rfl rfl)
theorem dX2_orders_72 : decode cX2_orders 72 = .ok (.isub, 1) := dk_100 (dk_at dksX2_orders_3 1 rfl rfl)
theorem dX2_orders_73 : decode cX2_orders 73 = .ok (.iaload, 1) := dk_46 (dk_at dksX2_orders_3 2 rfl rfl)
theorem dX2_orders_74 : decode cX2_orders 74 = .ok (.iastore, 1) := dk_79 (dk_at dksX2_orders_3 3 rfl rfl)
theorem dX2_orders_75 : decode cX2_orders 75 = .ok (.iinc 5 (-1), 3) := dk_132 5 255 (dk_at dksX2_orders_3 4 rfl rfl)
theorem dX2_orders_78 : decode cX2_orders 78 = .ok (.goto (-54), 3) := dk_167 255 202 (dk_at dksX2_orders_3 7 rfl rfl)
theorem dX2_orders_81 : decode cX2_orders 81 = .ok (.aload_n 0, 1) := dk_42 (dk_at dksX2_orders_3 10 rfl rfl)
theorem dX2_orders_82 : decode cX2_orders 82 = .ok (.getfield 21, 3) := dk_180 0 21 (dk_at dksX2_orders_3 11 rfl rfl)
theorem dX2_orders_85 : decode cX2_orders 85 = .ok (.iload 5, 2) := dk_21 5 (dk_at dksX2_orders_3 14 rfl rfl)
theorem dX2_orders_87 : decode cX2_orders 87 = .ok (.iload 4, 2) := dk_21 4 (dk_at dksX2_orders_3 16 rfl rfl)
theorem dX2_orders_89 : decode cX2_orders 89 = .ok (.iastore, 1) := dk_79 (dk_at dksX2_orders_3 18 rfl rfl)
theorem dX2_orders_90 : decode cX2_orders 90 = .ok (.aload_n 0, 1) := dk_42 (dk_at dksX2_orders_3 19 rfl rfl)
theorem dX2_orders_91 : decode cX2_orders 91 = .ok (.getfield 24, 3) := dk_180 0 24 (dk_at dksX2_orders_3 20 rfl rfl)
theorem dX2_orders_94 : decode cX2_orders 94 = .ok (.iload 5, 2) := dk_21 5 (dk_at dksX2_orders_4 0 rfl rfl)
theorem dX2_orders_96 : decode cX2_orders 96 = .ok (.aload_n 0, 1) := dk_42 (dk_at dksX2_orders_4 2 rfl rfl)
theorem dX2_orders_97 : decode cX2_orders 97 = .ok (.iload_n 1, 1) := dk_27 (dk_at dksX2_orders_4 3 rfl rfl)
theorem dX2_orders_98 : decode cX2_orders 98 = .ok (.iload_n 3, 1) := dk_29 (dk_at dksX2_orders_4 4 rfl rfl)
theorem dX2_orders_99 : decode cX2_orders 99 = .ok (.invokevirtual 115, 3) := dk_182 0 115 (dk_at dksX2_orders_4 5 rfl rfl)
theorem dX2_orders_102 : decode cX2_orders 102 = .ok (.iastore, 1) := dk_79 (dk_at dksX2_orders_4 8 rfl rfl)
theorem dX2_orders_103 : decode cX2_orders 103 = .ok (.iinc 3 1, 3) := dk_132 3 1 (dk_at dksX2_orders_4 9 rfl rfl)
theorem dX2_orders_106 : decode cX2_orders 106 = .ok (.goto (-104), 3) := dk_167 255 152 (dk_at dksX2_orders_4 12 rfl rfl)
theorem dX2_orders_109 : decode cX2_orders 109 = .ok (.iconst 0, 1) := dk_3 (dk_at dksX2_orders_4 15 rfl rfl)
theorem dX2_orders_110 : decode cX2_orders 110 = .ok (.istore_n 3, 1) := dk_62 (dk_at dksX2_orders_4 16 rfl rfl)
theorem dX2_orders_111 : decode cX2_orders 111 = .ok (.iload_n 3, 1) := dk_29 (dk_at dksX2_orders_4 17 rfl rfl)
theorem dX2_orders_112 : decode cX2_orders 112 = .ok (.aload_n 0, 1) := dk_42 (dk_at dksX2_orders_4 18 rfl rfl)
theorem dX2_orders_113 : decode cX2_orders 113 = .ok (.getfield 42, 3) := dk_180 0 42 (dk_at dksX2_orders_4 19 rfl rfl)
theorem dX2_orders_116 : decode cX2_orders 116 = .ok (.iload_n 1, 1) := dk_27 (dk_at dksX2_orders_4 22 rfl rfl)
theorem dX2_orders_117 : decode cX2_orders 117 = .ok (.iaload, 1) := dk_46 (dk_at dksX2_orders_4 23 rfl rfl)
theorem dX2_orders_118 : decode cX2_orders 118 = .ok (.if_icmp .ge 26, 3) := dk_162 0 26 (dk_at dksX2_orders_5 0 rfl rfl)
theorem dX2_orders_121 : decode cX2_orders 121 = .ok (.aload_n 0, 1) := dk_42 (dk_at dksX2_orders_5 3 rfl rfl)
theorem dX2_orders_122 : decode cX2_orders 122 = .ok (.getfield 39, 3) := dk_180 0 39 (dk_at dksX2_orders_5 4 rfl rfl)
theorem dX2_orders_125 : decode cX2_orders 125 = .ok (.iload_n 1, 1) := dk_27 (dk_at dksX2_orders_5 7 rfl rfl)
theorem dX2_orders_126 : decode cX2_orders 126 = .ok (.bipush 46, 2) := dk_16 46 (dk_at dksX2_orders_5 8 rfl rfl)
theorem dX2_orders_128 : decode cX2_orders 128 = .ok (.imul, 1) := dk_104 (dk_at dksX2_orders_5 10 rfl rfl)
theorem dX2_orders_129 : decode cX2_orders 129 = .ok (.iload_n 3, 1) := dk_29 (dk_at dksX2_orders_5 11 rfl rfl)
theorem dX2_orders_130 : decode cX2_orders 130 = .ok (.iadd, 1) := dk_96 (dk_at dksX2_orders_5 12 rfl rfl)
theorem dX2_orders_131 : decode cX2_orders 131 = .ok (.aload_n 0, 1) := dk_42 (dk_at dksX2_orders_5 13 rfl rfl)
theorem dX2_orders_132 : decode cX2_orders 132 = .ok (.getfield 24, 3) := dk_180 0 24 (dk_at dksX2_orders_5 14 rfl rfl)
theorem dX2_orders_135 : decode cX2_orders 135 = .ok (.iload_n 3, 1) := dk_29 (dk_at dksX2_orders_5 17 rfl rfl)
theorem dX2_orders_136 : decode cX2_orders 136 = .ok (.iaload, 1) := dk_46 (dk_at dksX2_orders_5 18 rfl rfl)
theorem dX2_orders_137 : decode cX2_orders 137 = .ok (.iastore, 1) := dk_79 (dk_at dksX2_orders_5 19 rfl rfl)
theorem dX2_orders_138 : decode cX2_orders 138 = .ok (.iinc 3 1, 3) := dk_132 3 1 (dk_at dksX2_orders_5 20 rfl rfl)
theorem dX2_orders_141 : decode cX2_orders 141 = .ok (.goto (-30), 3) := dk_167 255 226 (dk_at dksX2_orders_6 0 rfl rfl)
theorem dX2_orders_144 : decode cX2_orders 144 = .ok (.return_, 1) := dk_177 (dk_at dksX2_orders_6 3 rfl rfl)
def dkwX2_median_0 : List UInt8 := [42, 5, 28, 104, 42, 27, 28, 29, 1, 182, 0, 144, 182, 0, 148, 172]
abbrev dktX2_median_0 : List UInt8 := dkwX2_median_0 ++ []
theorem dksX2_median_0 : cX2_median.data.toList.drop 0 = dktX2_median_0 := by decide +kernel
theorem dX2_median_0 : decode cX2_median 0 = .ok (.aload_n 0, 1) := dk_42 (dk_at dksX2_median_0 0 rfl rfl)
theorem dX2_median_1 : decode cX2_median 1 = .ok (.iconst 2, 1) := dk_5 (dk_at dksX2_median_0 1 rfl rfl)
theorem dX2_median_2 : decode cX2_median 2 = .ok (.iload_n 2, 1) := dk_28 (dk_at dksX2_median_0 2 rfl rfl)
theorem dX2_median_3 : decode cX2_median 3 = .ok (.imul, 1) := dk_104 (dk_at dksX2_median_0 3 rfl rfl)
theorem dX2_median_4 : decode cX2_median 4 = .ok (.aload_n 0, 1) := dk_42 (dk_at dksX2_median_0 4 rfl rfl)
theorem dX2_median_5 : decode cX2_median 5 = .ok (.iload_n 1, 1) := dk_27 (dk_at dksX2_median_0 5 rfl rfl)
theorem dX2_median_6 : decode cX2_median 6 = .ok (.iload_n 2, 1) := dk_28 (dk_at dksX2_median_0 6 rfl rfl)
theorem dX2_median_7 : decode cX2_median 7 = .ok (.iload_n 3, 1) := dk_29 (dk_at dksX2_median_0 7 rfl rfl)
theorem dX2_median_8 : decode cX2_median 8 = .ok (.aconst_null, 1) := dk_1 (dk_at dksX2_median_0 8 rfl rfl)
theorem dX2_median_9 : decode cX2_median 9 = .ok (.invokevirtual 144, 3) := dk_182 0 144 (dk_at dksX2_median_0 9 rfl rfl)
theorem dX2_median_12 : decode cX2_median 12 = .ok (.invokevirtual 148, 3) := dk_182 0 148 (dk_at dksX2_median_0 12 rfl rfl)
theorem dX2_median_15 : decode cX2_median 15 = .ok (.ireturn, 1) := dk_172 (dk_at dksX2_median_0 15 rfl rfl)
def dkwX2_neighbours_6 : List UInt8 := [167, 255, 218, 42, 180, 0, 18, 21, 11, 21, 10, 79, 132, 7, 1, 132, 8, 1, 167, 255, 132, 21, 7, 172]
abbrev dktX2_neighbours_6 : List UInt8 := dkwX2_neighbours_6 ++ []
def dkwX2_neighbours_5 : List UInt8 := [164, 0, 25, 42, 180, 0, 18, 21, 11, 42, 180, 0, 18, 21, 11, 4, 100, 46, 79, 132, 11, 255]
abbrev dktX2_neighbours_5 : List UInt8 := dkwX2_neighbours_5 ++ dktX2_neighbours_6
def dkwX2_neighbours_4 : List UInt8 := [96, 46, 54, 10, 21, 7, 54, 11, 21, 11, 158, 0, 39, 42, 180, 0, 18, 21, 11, 4, 100, 46, 21, 10]
abbrev dktX2_neighbours_4 : List UInt8 := dkwX2_neighbours_4 ++ dktX2_neighbours_5
def dkwX2_neighbours_3 : List UInt8 := [182, 0, 128, 54, 9, 25, 4, 199, 0, 8, 21, 9, 167, 0, 14, 25, 4, 21, 6, 16, 46, 104, 21, 9]
abbrev dktX2_neighbours_3 : List UInt8 := dkwX2_neighbours_3 ++ dktX2_neighbours_4
def dkwX2_neighbours_2 : List UInt8 := [182, 0, 124, 153, 0, 104, 42, 21, 8, 27, 182, 0, 128, 28, 160, 0, 93, 42, 21, 8, 21, 6]
abbrev dktX2_neighbours_2 : List UInt8 := dkwX2_neighbours_2 ++ dktX2_neighbours_3
def dkwX2_neighbours_1 : List UInt8 := [4, 96, 54, 6, 3, 54, 7, 3, 54, 8, 21, 8, 42, 180, 0, 54, 162, 0, 121, 42, 21, 8, 21, 5]
abbrev dktX2_neighbours_1 : List UInt8 := dkwX2_neighbours_1 ++ dktX2_neighbours_2
def dkwX2_neighbours_0 : List UInt8 := [29, 153, 0, 9, 27, 4, 100, 167, 0, 4, 27, 54, 5, 29, 153, 0, 9, 27, 4, 100, 167, 0, 6, 27]
abbrev dktX2_neighbours_0 : List UInt8 := dkwX2_neighbours_0 ++ dktX2_neighbours_1
theorem dksX2_neighbours_0 : cX2_neighbours.data.toList.drop 0 = dktX2_neighbours_0 := by decide +kernel
theorem dksX2_neighbours_1 : cX2_neighbours.data.toList.drop 24 = dktX2_neighbours_1 := dk_seg dksX2_neighbours_0 24 rfl rfl
theorem dksX2_neighbours_2 : cX2_neighbours.data.toList.drop 48 = dktX2_neighbours_2 := dk_seg dksX2_neighbours_1 24 rfl rfl
theorem dksX2_neighbours_3 : cX2_neighbours.data.toList.drop 70 = dktX2_neighbours_3 := dk_seg dksX2_neighbours_2 22 rfl rfl
theorem dksX2_neighbours_4 : cX2_neighbours.data.toList.drop 94 = dktX2_neighbours_4 := dk_seg dksX2_neighbours_3 24 rfl rfl
theorem dksX2_neighbours_5 : cX2_neighbours.data.toList.drop 118 = dktX2_neighbours_5 := dk_seg dksX2_neighbours_4 24 rfl rfl
theorem dksX2_neighbours_6 : cX2_neighbours.data.toList.drop 140 = dktX2_neighbours_6 := dk_seg dksX2_neighbours_5 22 rfl rfl
theorem dX2_neighbours_0 : decode cX2_neighbours 0 = .ok (.iload_n 3, 1) := dk_29 (dk_at dksX2_neighbours_0 0 rfl rfl)
theorem dX2_neighbours_1 : decode cX2_neighbours 1 = .ok (.ifCond .eq 9, 3) := dk_153 0 9 (dk_at dksX2_neighbours_0 1 rfl rfl)
theorem dX2_neighbours_4 : decode cX2_neighbours 4 = .ok (.iload_n 1, 1) := dk_27 (dk_at dksX2_neighbours_0 4 rfl rfl)
theorem dX2_neighbours_5 : decode cX2_neighbours 5 = .ok (.iconst 1, 1) := dk_4 (dk_at dksX2_neighbours_0 5 rfl rfl)
theorem dX2_neighbours_6 : decode cX2_neighbours 6 = .ok (.isub, 1) := dk_100 (dk_at dksX2_neighbours_0 6 rfl rfl)
theorem dX2_neighbours_7 : decode cX2_neighbours 7 = .ok (.goto 4, 3) := dk_167 0 4 (dk_at dksX2_neighbours_0 7 rfl rfl)
theorem dX2_neighbours_10 : decode cX2_neighbours 10 = .ok (.iload_n 1, 1) := dk_27 (dk_at dksX2_neighbours_0 10 rfl rfl)
theorem dX2_neighbours_11 : decode cX2_neighbours 11 = .ok (.istore 5, 2) := dk_54 5 (dk_at dksX2_neighbours_0 11 rfl rfl)
theorem dX2_neighbours_13 : decode cX2_neighbours 13 = .ok (.iload_n 3, 1) := dk_29 (dk_at dksX2_neighbours_0 13 rfl rfl)
theorem dX2_neighbours_14 : decode cX2_neighbours 14 = .ok (.ifCond .eq 9, 3) := dk_153 0 9 (dk_at dksX2_neighbours_0 14 rfl rfl)
theorem dX2_neighbours_17 : decode cX2_neighbours 17 = .ok (.iload_n 1, 1) := dk_27 (dk_at dksX2_neighbours_0 17 rfl rfl)
theorem dX2_neighbours_18 : decode cX2_neighbours 18 = .ok (.iconst 1, 1) := dk_4 (dk_at dksX2_neighbours_0 18 rfl rfl)
theorem dX2_neighbours_19 : decode cX2_neighbours 19 = .ok (.isub, 1) := dk_100 (dk_at dksX2_neighbours_0 19 rfl rfl)
theorem dX2_neighbours_20 : decode cX2_neighbours 20 = .ok (.goto 6, 3) := dk_167 0 6 (dk_at dksX2_neighbours_0 20 rfl rfl)
theorem dX2_neighbours_23 : decode cX2_neighbours 23 = .ok (.iload_n 1, 1) := dk_27 (dk_at dksX2_neighbours_0 23 rfl rfl)
theorem dX2_neighbours_24 : decode cX2_neighbours 24 = .ok (.iconst 1, 1) := dk_4 (dk_at dksX2_neighbours_1 0 rfl rfl)
theorem dX2_neighbours_25 : decode cX2_neighbours 25 = .ok (.iadd, 1) := dk_96 (dk_at dksX2_neighbours_1 1 rfl rfl)
theorem dX2_neighbours_26 : decode cX2_neighbours 26 = .ok (.istore 6, 2) := dk_54 6 (dk_at dksX2_neighbours_1 2 rfl rfl)
theorem dX2_neighbours_28 : decode cX2_neighbours 28 = .ok (.iconst 0, 1) := dk_3 (dk_at dksX2_neighbours_1 4 rfl rfl)
theorem dX2_neighbours_29 : decode cX2_neighbours 29 = .ok (.istore 7, 2) := dk_54 7 (dk_at dksX2_neighbours_1 5 rfl rfl)
theorem dX2_neighbours_31 : decode cX2_neighbours 31 = .ok (.iconst 0, 1) := dk_3 (dk_at dksX2_neighbours_1 7 rfl rfl)
theorem dX2_neighbours_32 : decode cX2_neighbours 32 = .ok (.istore 8, 2) := dk_54 8 (dk_at dksX2_neighbours_1 8 rfl rfl)
theorem dX2_neighbours_34 : decode cX2_neighbours 34 = .ok (.iload 8, 2) := dk_21 8 (dk_at dksX2_neighbours_1 10 rfl rfl)
theorem dX2_neighbours_36 : decode cX2_neighbours 36 = .ok (.aload_n 0, 1) := dk_42 (dk_at dksX2_neighbours_1 12 rfl rfl)
theorem dX2_neighbours_37 : decode cX2_neighbours 37 = .ok (.getfield 54, 3) := dk_180 0 54 (dk_at dksX2_neighbours_1 13 rfl rfl)
theorem dX2_neighbours_40 : decode cX2_neighbours 40 = .ok (.if_icmp .ge 121, 3) := dk_162 0 121 (dk_at dksX2_neighbours_1 16 rfl rfl)
theorem dX2_neighbours_43 : decode cX2_neighbours 43 = .ok (.aload_n 0, 1) := dk_42 (dk_at dksX2_neighbours_1 19 rfl rfl)
theorem dX2_neighbours_44 : decode cX2_neighbours 44 = .ok (.iload 8, 2) := dk_21 8 (dk_at dksX2_neighbours_1 20 rfl rfl)
theorem dX2_neighbours_46 : decode cX2_neighbours 46 = .ok (.iload 5, 2) := dk_21 5 (dk_at dksX2_neighbours_1 22 rfl rfl)
theorem dX2_neighbours_48 : decode cX2_neighbours 48 = .ok (.invokevirtual 124, 3) := dk_182 0 124 (dk_at dksX2_neighbours_2 0 rfl rfl)
theorem dX2_neighbours_51 : decode cX2_neighbours 51 = .ok (.ifCond .eq 104, 3) := dk_153 0 104 (dk_at dksX2_neighbours_2 3 rfl rfl)
theorem dX2_neighbours_54 : decode cX2_neighbours 54 = .ok (.aload_n 0, 1) := dk_42 (dk_at dksX2_neighbours_2 6 rfl rfl)
theorem dX2_neighbours_55 : decode cX2_neighbours 55 = .ok (.iload 8, 2) := dk_21 8 (dk_at dksX2_neighbours_2 7 rfl rfl)
theorem dX2_neighbours_57 : decode cX2_neighbours 57 = .ok (.iload_n 1, 1) := dk_27 (dk_at dksX2_neighbours_2 9 rfl rfl)
theorem dX2_neighbours_58 : decode cX2_neighbours 58 = .ok (.invokevirtual 128, 3) := dk_182 0 128 (dk_at dksX2_neighbours_2 10 rfl rfl)
theorem dX2_neighbours_61 : decode cX2_neighbours 61 = .ok (.iload_n 2, 1) := dk_28 (dk_at dksX2_neighbours_2 13 rfl rfl)
theorem dX2_neighbours_62 : decode cX2_neighbours 62 = .ok (.if_icmp .ne 93, 3) := dk_160 0 93 (dk_at dksX2_neighbours_2 14 rfl rfl)
theorem dX2_neighbours_65 : decode cX2_neighbours 65 = .ok (.aload_n 0, 1) := dk_42 (dk_at dksX2_neighbours_2 17 rfl rfl)
theorem dX2_neighbours_66 : decode cX2_neighbours 66 = .ok (.iload 8, 2) := dk_21 8 (dk_at dksX2_neighbours_2 18 rfl rfl)
theorem dX2_neighbours_68 : decode cX2_neighbours 68 = .ok (.iload 6, 2) := dk_21 6 (dk_at dksX2_neighbours_2 20 rfl rfl)
theorem dX2_neighbours_70 : decode cX2_neighbours 70 = .ok (.invokevirtual 128, 3) := dk_182 0 128 (dk_at dksX2_neighbours_3 0 rfl rfl)
theorem dX2_neighbours_73 : decode cX2_neighbours 73 = .ok (.istore 9, 2) := dk_54 9 (dk_at dksX2_neighbours_3 3 rfl rfl)
theorem dX2_neighbours_75 : decode cX2_neighbours 75 = .ok (.aload 4, 2) := dk_25 4 (dk_at dksX2_neighbours_3 5 rfl rfl)
theorem dX2_neighbours_77 : decode cX2_neighbours 77 = .ok (.ifnonnull 8, 3) := dk_199 0 8 (dk_at dksX2_neighbours_3 7 rfl rfl)
theorem dX2_neighbours_80 : decode cX2_neighbours 80 = .ok (.iload 9, 2) := dk_21 9 (dk_at dksX2_neighbours_3 10 rfl rfl)
theorem dX2_neighbours_82 : decode cX2_neighbours 82 = .ok (.goto 14, 3) := dk_167 0 14 (dk_at dksX2_neighbours_3 12 rfl rfl)
theorem dX2_neighbours_85 : decode cX2_neighbours 85 = .ok (.aload 4, 2) := dk_25 4 (dk_at dksX2_neighbours_3 15 rfl rfl)
theorem dX2_neighbours_87 : decode cX2_neighbours 87 = .ok (.iload 6, 2) := dk_21 6 (dk_at dksX2_neighbours_3 17 rfl rfl)
theorem dX2_neighbours_89 : decode cX2_neighbours 89 = .ok (.bipush 46, 2) := dk_16 46 (dk_at dksX2_neighbours_3 19 rfl rfl)
theorem dX2_neighbours_91 : decode cX2_neighbours 91 = .ok (.imul, 1) := dk_104 (dk_at dksX2_neighbours_3 21 rfl rfl)
theorem dX2_neighbours_92 : decode cX2_neighbours 92 = .ok (.iload 9, 2) := dk_21 9 (dk_at dksX2_neighbours_3 22 rfl rfl)
theorem dX2_neighbours_94 : decode cX2_neighbours 94 = .ok (.iadd, 1) := dk_96 (dk_at dksX2_neighbours_4 0 rfl rfl)
theorem dX2_neighbours_95 : decode cX2_neighbours 95 = .ok (.iaload, 1) := dk_46 (dk_at dksX2_neighbours_4 1 rfl rfl)
theorem dX2_neighbours_96 : decode cX2_neighbours 96 = .ok (.istore 10, 2) := dk_54 10 (dk_at dksX2_neighbours_4 2 rfl rfl)
theorem dX2_neighbours_98 : decode cX2_neighbours 98 = .ok (.iload 7, 2) := dk_21 7 (dk_at dksX2_neighbours_4 4 rfl rfl)
theorem dX2_neighbours_100 : decode cX2_neighbours 100 = .ok (.istore 11, 2) := dk_54 11 (dk_at dksX2_neighbours_4 6 rfl rfl)
theorem dX2_neighbours_102 : decode cX2_neighbours 102 = .ok (.iload 11, 2) := dk_21 11 (dk_at dksX2_neighbours_4 8 rfl rfl)
theorem dX2_neighbours_104 : decode cX2_neighbours 104 = .ok (.ifCond .le 39, 3) := dk_158 0 39 (dk_at dksX2_neighbours_4 10 rfl rfl)
theorem dX2_neighbours_107 : decode cX2_neighbours 107 = .ok (.aload_n 0, 1) := dk_42 (dk_at dksX2_neighbours_4 13 rfl rfl)
theorem dX2_neighbours_108 : decode cX2_neighbours 108 = .ok (.getfield 18, 3) := dk_180 0 18 (dk_at dksX2_neighbours_4 14 rfl rfl)
theorem dX2_neighbours_111 : decode cX2_neighbours 111 = .ok (.iload 11, 2) := dk_21 11 (dk_at dksX2_neighbours_4 17 rfl rfl)
theorem dX2_neighbours_113 : decode cX2_neighbours 113 = .ok (.iconst 1, 1) := dk_4 (dk_at dksX2_neighbours_4 19 rfl rfl)
theorem dX2_neighbours_114 : decode cX2_neighbours 114 = .ok (.isub, 1) := dk_100 (dk_at dksX2_neighbours_4 20 rfl rfl)
theorem dX2_neighbours_115 : decode cX2_neighbours 115 = .ok (.iaload, 1) := dk_46 (dk_at dksX2_neighbours_4 21 rfl rfl)
theorem dX2_neighbours_116 : decode cX2_neighbours 116 = .ok (.iload 10, 2) := dk_21 10 (dk_at dksX2_neighbours_4 22 rfl rfl)
theorem dX2_neighbours_118 : decode cX2_neighbours 118 = .ok (.if_icmp .le 25, 3) := dk_164 0 25 (dk_at dksX2_neighbours_5 0 rfl rfl)
theorem dX2_neighbours_121 : decode cX2_neighbours 121 = .ok (.aload_n 0, 1) := dk_42 (dk_at dksX2_neighbours_5 3 rfl rfl)
theorem dX2_neighbours_122 : decode cX2_neighbours 122 = .ok (.getfield 18, 3) := dk_180 0 18 (dk_at dksX2_neighbours_5 4 rfl rfl)
theorem dX2_neighbours_125 : decode cX2_neighbours 125 = .ok (.iload 11, 2) := dk_21 11 (dk_at dksX2_neighbours_5 7 rfl rfl)
theorem dX2_neighbours_127 : decode cX2_neighbours 127 = .ok (.aload_n 0, 1) := dk_42 (dk_at dksX2_neighbours_5 9 rfl rfl)
theorem dX2_neighbours_128 : decode cX2_neighbours 128 = .ok (.getfield 18, 3) := dk_180 0 18 (dk_at dksX2_neighbours_5 10 rfl rfl)
theorem dX2_neighbours_131 : decode cX2_neighbours 131 = .ok (.iload 11, 2) := dk_21 11 (dk_at dksX2_neighbours_5 13 rfl rfl)
theorem dX2_neighbours_133 : decode cX2_neighbours 133 = .ok (.iconst 1, 1) := dk_4 (dk_at dksX2_neighbours_5 15 rfl rfl)
theorem dX2_neighbours_134 : decode cX2_neighbours 134 = .ok (.isub, 1) := dk_100 (dk_at dksX2_neighbours_5 16 rfl rfl)
theorem dX2_neighbours_135 : decode cX2_neighbours 135 = .ok (.iaload, 1) := dk_46 (dk_at dksX2_neighbours_5 17 rfl rfl)
theorem dX2_neighbours_136 : decode cX2_neighbours 136 = .ok (.iastore, 1) := dk_79 (dk_at dksX2_neighbours_5 18 rfl rfl)
theorem dX2_neighbours_137 : decode cX2_neighbours 137 = .ok (.iinc 11 (-1), 3) := dk_132 11 255 (dk_at dksX2_neighbours_5 19 rfl rfl)
theorem dX2_neighbours_140 : decode cX2_neighbours 140 = .ok (.goto (-38), 3) := dk_167 255 218 (dk_at dksX2_neighbours_6 0 rfl rfl)
theorem dX2_neighbours_143 : decode cX2_neighbours 143 = .ok (.aload_n 0, 1) := dk_42 (dk_at dksX2_neighbours_6 3 rfl rfl)
theorem dX2_neighbours_144 : decode cX2_neighbours 144 = .ok (.getfield 18, 3) := dk_180 0 18 (dk_at dksX2_neighbours_6 4 rfl rfl)
theorem dX2_neighbours_147 : decode cX2_neighbours 147 = .ok (.iload 11, 2) := dk_21 11 (dk_at dksX2_neighbours_6 7 rfl rfl)
theorem dX2_neighbours_149 : decode cX2_neighbours 149 = .ok (.iload 10, 2) := dk_21 10 (dk_at dksX2_neighbours_6 9 rfl rfl)
theorem dX2_neighbours_151 : decode cX2_neighbours 151 = .ok (.iastore, 1) := dk_79 (dk_at dksX2_neighbours_6 11 rfl rfl)
theorem dX2_neighbours_152 : decode cX2_neighbours 152 = .ok (.iinc 7 1, 3) := dk_132 7 1 (dk_at dksX2_neighbours_6 12 rfl rfl)
theorem dX2_neighbours_155 : decode cX2_neighbours 155 = .ok (.iinc 8 1, 3) := dk_132 8 1 (dk_at dksX2_neighbours_6 15 rfl rfl)
theorem dX2_neighbours_158 : decode cX2_neighbours 158 = .ok (.goto (-124), 3) := dk_167 255 132 (dk_at dksX2_neighbours_6 18 rfl rfl)
theorem dX2_neighbours_161 : decode cX2_neighbours 161 = .ok (.iload 7, 2) := dk_21 7 (dk_at dksX2_neighbours_6 21 rfl rfl)
theorem dX2_neighbours_163 : decode cX2_neighbours 163 = .ok (.ireturn, 1) := dk_172 (dk_at dksX2_neighbours_6 23 rfl rfl)
def dkwX2_hasLine_1 : List UInt8 := [46, 46, 28, 164, 0, 7, 4, 167, 0, 4, 3, 172]
abbrev dktX2_hasLine_1 : List UInt8 := dkwX2_hasLine_1 ++ []
def dkwX2_hasLine_0 : List UInt8 := [42, 180, 0, 36, 42, 180, 0, 27, 27, 46, 46, 28, 163, 0, 22, 42, 180, 0, 36, 42, 180, 0, 30, 27]
abbrev dktX2_hasLine_0 : List UInt8 := dkwX2_hasLine_0 ++ dktX2_hasLine_1
theorem dksX2_hasLine_0 : cX2_hasLine.data.toList.drop 0 = dktX2_hasLine_0 := by decide +kernel
theorem dksX2_hasLine_1 : cX2_hasLine.data.toList.drop 24 = dktX2_hasLine_1 := dk_seg dksX2_hasLine_0 24 rfl rfl
theorem dX2_hasLine_0 : decode cX2_hasLine 0 = .ok (.aload_n 0, 1) := dk_42 (dk_at dksX2_hasLine_0 0 rfl rfl)
theorem dX2_hasLine_1 : decode cX2_hasLine 1 = .ok (.getfield 36, 3) := dk_180 0 36 (dk_at dksX2_hasLine_0 1 rfl rfl)
theorem dX2_hasLine_4 : decode cX2_hasLine 4 = .ok (.aload_n 0, 1) := dk_42 (dk_at dksX2_hasLine_0 4 rfl rfl)
theorem dX2_hasLine_5 : decode cX2_hasLine 5 = .ok (.getfield 27, 3) := dk_180 0 27 (dk_at dksX2_hasLine_0 5 rfl rfl)
theorem dX2_hasLine_8 : decode cX2_hasLine 8 = .ok (.iload_n 1, 1) := dk_27 (dk_at dksX2_hasLine_0 8 rfl rfl)
theorem dX2_hasLine_9 : decode cX2_hasLine 9 = .ok (.iaload, 1) := dk_46 (dk_at dksX2_hasLine_0 9 rfl rfl)
theorem dX2_hasLine_10 : decode cX2_hasLine 10 = .ok (.iaload, 1) := dk_46 (dk_at dksX2_hasLine_0 10 rfl rfl)
theorem dX2_hasLine_11 : decode cX2_hasLine 11 = .ok (.iload_n 2, 1) := dk_28 (dk_at dksX2_hasLine_0 11 rfl rfl)
theorem dX2_hasLine_12 : decode cX2_hasLine 12 = .ok (.if_icmp .gt 22, 3) := dk_163 0 22 (dk_at dksX2_hasLine_0 12 rfl rfl)
theorem dX2_hasLine_15 : decode cX2_hasLine 15 = .ok (.aload_n 0, 1) := dk_42 (dk_at dksX2_hasLine_0 15 rfl rfl)
theorem dX2_hasLine_16 : decode cX2_hasLine 16 = .ok (.getfield 36, 3) := dk_180 0 36 (dk_at dksX2_hasLine_0 16 rfl rfl)
theorem dX2_hasLine_19 : decode cX2_hasLine 19 = .ok (.aload_n 0, 1) := dk_42 (dk_at dksX2_hasLine_0 19 rfl rfl)
theorem dX2_hasLine_20 : decode cX2_hasLine 20 = .ok (.getfield 30, 3) := dk_180 0 30 (dk_at dksX2_hasLine_0 20 rfl rfl)
theorem dX2_hasLine_23 : decode cX2_hasLine 23 = .ok (.iload_n 1, 1) := dk_27 (dk_at dksX2_hasLine_0 23 rfl rfl)
theorem dX2_hasLine_24 : decode cX2_hasLine 24 = .ok (.iaload, 1) := dk_46 (dk_at dksX2_hasLine_1 0 rfl rfl)
theorem dX2_hasLine_25 : decode cX2_hasLine 25 = .ok (.iaload, 1) := dk_46 (dk_at dksX2_hasLine_1 1 rfl rfl)
theorem dX2_hasLine_26 : decode cX2_hasLine 26 = .ok (.iload_n 2, 1) := dk_28 (dk_at dksX2_hasLine_1 2 rfl rfl)
theorem dX2_hasLine_27 : decode cX2_hasLine 27 = .ok (.if_icmp .le 7, 3) := dk_164 0 7 (dk_at dksX2_hasLine_1 3 rfl rfl)
theorem dX2_hasLine_30 : decode cX2_hasLine 30 = .ok (.iconst 1, 1) := dk_4 (dk_at dksX2_hasLine_1 6 rfl rfl)
theorem dX2_hasLine_31 : decode cX2_hasLine 31 = .ok (.goto 4, 3) := dk_167 0 4 (dk_at dksX2_hasLine_1 7 rfl rfl)
theorem dX2_hasLine_34 : decode cX2_hasLine 34 = .ok (.iconst 0, 1) := dk_3 (dk_at dksX2_hasLine_1 10 rfl rfl)
theorem dX2_hasLine_35 : decode cX2_hasLine 35 = .ok (.ireturn, 1) := dk_172 (dk_at dksX2_hasLine_1 11 rfl rfl)
def dkwX2_endOf_0 : List UInt8 := [42, 28, 42, 27, 28, 182, 0, 118, 182, 0, 121, 172]
abbrev dktX2_endOf_0 : List UInt8 := dkwX2_endOf_0 ++ []
theorem dksX2_endOf_0 : cX2_endOf.data.toList.drop 0 = dktX2_endOf_0 := by decide +kernel
theorem dX2_endOf_0 : decode cX2_endOf 0 = .ok (.aload_n 0, 1) := dk_42 (dk_at dksX2_endOf_0 0 rfl rfl)
theorem dX2_endOf_1 : decode cX2_endOf 1 = .ok (.iload_n 2, 1) := dk_28 (dk_at dksX2_endOf_0 1 rfl rfl)
theorem dX2_endOf_2 : decode cX2_endOf 2 = .ok (.aload_n 0, 1) := dk_42 (dk_at dksX2_endOf_0 2 rfl rfl)
theorem dX2_endOf_3 : decode cX2_endOf 3 = .ok (.iload_n 1, 1) := dk_27 (dk_at dksX2_endOf_0 3 rfl rfl)
theorem dX2_endOf_4 : decode cX2_endOf 4 = .ok (.iload_n 2, 1) := dk_28 (dk_at dksX2_endOf_0 4 rfl rfl)
theorem dX2_endOf_5 : decode cX2_endOf 5 = .ok (.invokevirtual 118, 3) := dk_182 0 118 (dk_at dksX2_endOf_0 5 rfl rfl)
theorem dX2_endOf_8 : decode cX2_endOf 8 = .ok (.invokevirtual 121, 3) := dk_182 0 121 (dk_at dksX2_endOf_0 8 rfl rfl)
theorem dX2_endOf_11 : decode cX2_endOf 11 = .ok (.ireturn, 1) := dk_172 (dk_at dksX2_endOf_0 11 rfl rfl)
def dkwX2_pointOf_2 : List UInt8 := [16, 100, 27, 96, 172]
abbrev dktX2_pointOf_2 : List UInt8 := dkwX2_pointOf_2 ++ []
def dkwX2_pointOf_1 : List UInt8 := [42, 180, 0, 36, 42, 180, 0, 30, 27, 46, 46, 28, 160, 0, 12, 42, 180, 0, 30, 27, 46, 167, 0, 7]
abbrev dktX2_pointOf_1 : List UInt8 := dkwX2_pointOf_1 ++ dktX2_pointOf_2
def dkwX2_pointOf_0 : List UInt8 := [42, 180, 0, 36, 42, 180, 0, 27, 27, 46, 46, 28, 160, 0, 12, 42, 180, 0, 27, 27, 46, 167, 0, 31]
abbrev dktX2_pointOf_0 : List UInt8 := dkwX2_pointOf_0 ++ dktX2_pointOf_1
theorem dksX2_pointOf_0 : cX2_pointOf.data.toList.drop 0 = dktX2_pointOf_0 := by decide +kernel
theorem dksX2_pointOf_1 : cX2_pointOf.data.toList.drop 24 = dktX2_pointOf_1 := dk_seg dksX2_pointOf_0 24 rfl rfl
theorem dksX2_pointOf_2 : cX2_pointOf.data.toList.drop 48 = dktX2_pointOf_2 := dk_seg dksX2_pointOf_1 24 rfl rfl
theorem dX2_pointOf_0 : decode cX2_pointOf 0 = .ok (.aload_n 0, 1) := dk_42 (dk_at dksX2_pointOf_0 0 rfl rfl)
theorem dX2_pointOf_1 : decode cX2_pointOf 1 = .ok (.getfield 36, 3) := dk_180 0 36 (dk_at dksX2_pointOf_0 1 rfl rfl)
theorem dX2_pointOf_4 : decode cX2_pointOf 4 = .ok (.aload_n 0, 1) := dk_42 (dk_at dksX2_pointOf_0 4 rfl rfl)
theorem dX2_pointOf_5 : decode cX2_pointOf 5 = .ok (.getfield 27, 3) := dk_180 0 27 (dk_at dksX2_pointOf_0 5 rfl rfl)
theorem dX2_pointOf_8 : decode cX2_pointOf 8 = .ok (.iload_n 1, 1) := dk_27 (dk_at dksX2_pointOf_0 8 rfl rfl)
theorem dX2_pointOf_9 : decode cX2_pointOf 9 = .ok (.iaload, 1) := dk_46 (dk_at dksX2_pointOf_0 9 rfl rfl)
theorem dX2_pointOf_10 : decode cX2_pointOf 10 = .ok (.iaload, 1) := dk_46 (dk_at dksX2_pointOf_0 10 rfl rfl)
theorem dX2_pointOf_11 : decode cX2_pointOf 11 = .ok (.iload_n 2, 1) := dk_28 (dk_at dksX2_pointOf_0 11 rfl rfl)
theorem dX2_pointOf_12 : decode cX2_pointOf 12 = .ok (.if_icmp .ne 12, 3) := dk_160 0 12 (dk_at dksX2_pointOf_0 12 rfl rfl)
theorem dX2_pointOf_15 : decode cX2_pointOf 15 = .ok (.aload_n 0, 1) := dk_42 (dk_at dksX2_pointOf_0 15 rfl rfl)
theorem dX2_pointOf_16 : decode cX2_pointOf 16 = .ok (.getfield 27, 3) := dk_180 0 27 (dk_at dksX2_pointOf_0 16 rfl rfl)
theorem dX2_pointOf_19 : decode cX2_pointOf 19 = .ok (.iload_n 1, 1) := dk_27 (dk_at dksX2_pointOf_0 19 rfl rfl)
theorem dX2_pointOf_20 : decode cX2_pointOf 20 = .ok (.iaload, 1) := dk_46 (dk_at dksX2_pointOf_0 20 rfl rfl)
theorem dX2_pointOf_21 : decode cX2_pointOf 21 = .ok (.goto 31, 3) := dk_167 0 31 (dk_at dksX2_pointOf_0 21 rfl rfl)
theorem dX2_pointOf_24 : decode cX2_pointOf 24 = .ok (.aload_n 0, 1) := dk_42 (dk_at dksX2_pointOf_1 0 rfl rfl)
theorem dX2_pointOf_25 : decode cX2_pointOf 25 = .ok (.getfield 36, 3) := dk_180 0 36 (dk_at dksX2_pointOf_1 1 rfl rfl)
theorem dX2_pointOf_28 : decode cX2_pointOf 28 = .ok (.aload_n 0, 1) := dk_42 (dk_at dksX2_pointOf_1 4 rfl rfl)
theorem dX2_pointOf_29 : decode cX2_pointOf 29 = .ok (.getfield 30, 3) := dk_180 0 30 (dk_at dksX2_pointOf_1 5 rfl rfl)
theorem dX2_pointOf_32 : decode cX2_pointOf 32 = .ok (.iload_n 1, 1) := dk_27 (dk_at dksX2_pointOf_1 8 rfl rfl)
theorem dX2_pointOf_33 : decode cX2_pointOf 33 = .ok (.iaload, 1) := dk_46 (dk_at dksX2_pointOf_1 9 rfl rfl)
theorem dX2_pointOf_34 : decode cX2_pointOf 34 = .ok (.iaload, 1) := dk_46 (dk_at dksX2_pointOf_1 10 rfl rfl)
theorem dX2_pointOf_35 : decode cX2_pointOf 35 = .ok (.iload_n 2, 1) := dk_28 (dk_at dksX2_pointOf_1 11 rfl rfl)
theorem dX2_pointOf_36 : decode cX2_pointOf 36 = .ok (.if_icmp .ne 12, 3) := dk_160 0 12 (dk_at dksX2_pointOf_1 12 rfl rfl)
theorem dX2_pointOf_39 : decode cX2_pointOf 39 = .ok (.aload_n 0, 1) := dk_42 (dk_at dksX2_pointOf_1 15 rfl rfl)
theorem dX2_pointOf_40 : decode cX2_pointOf 40 = .ok (.getfield 30, 3) := dk_180 0 30 (dk_at dksX2_pointOf_1 16 rfl rfl)
theorem dX2_pointOf_43 : decode cX2_pointOf 43 = .ok (.iload_n 1, 1) := dk_27 (dk_at dksX2_pointOf_1 19 rfl rfl)
theorem dX2_pointOf_44 : decode cX2_pointOf 44 = .ok (.iaload, 1) := dk_46 (dk_at dksX2_pointOf_1 20 rfl rfl)
theorem dX2_pointOf_45 : decode cX2_pointOf 45 = .ok (.goto 7, 3) := dk_167 0 7 (dk_at dksX2_pointOf_1 21 rfl rfl)
theorem dX2_pointOf_48 : decode cX2_pointOf 48 = .ok (.bipush 100, 2) := dk_16 100 (dk_at dksX2_pointOf_2 0 rfl rfl)
theorem dX2_pointOf_50 : decode cX2_pointOf 50 = .ok (.iload_n 1, 1) := dk_27 (dk_at dksX2_pointOf_2 2 rfl rfl)
theorem dX2_pointOf_51 : decode cX2_pointOf 51 = .ok (.iadd, 1) := dk_96 (dk_at dksX2_pointOf_2 3 rfl rfl)
theorem dX2_pointOf_52 : decode cX2_pointOf 52 = .ok (.ireturn, 1) := dk_172 (dk_at dksX2_pointOf_2 4 rfl rfl)
def dkwX2_place_0 : List UInt8 := [3, 62, 42, 27, 29, 182, 0, 115, 28, 159, 0, 9, 132, 3, 1, 167, 255, 243, 29, 172]
abbrev dktX2_place_0 : List UInt8 := dkwX2_place_0 ++ []
theorem dksX2_place_0 : cX2_place.data.toList.drop 0 = dktX2_place_0 := by decide +kernel
theorem dX2_place_0 : decode cX2_place 0 = .ok (.iconst 0, 1) := dk_3 (dk_at dksX2_place_0 0 rfl rfl)
theorem dX2_place_1 : decode cX2_place 1 = .ok (.istore_n 3, 1) := dk_62 (dk_at dksX2_place_0 1 rfl rfl)
theorem dX2_place_2 : decode cX2_place 2 = .ok (.aload_n 0, 1) := dk_42 (dk_at dksX2_place_0 2 rfl rfl)
theorem dX2_place_3 : decode cX2_place 3 = .ok (.iload_n 1, 1) := dk_27 (dk_at dksX2_place_0 3 rfl rfl)
theorem dX2_place_4 : decode cX2_place 4 = .ok (.iload_n 3, 1) := dk_29 (dk_at dksX2_place_0 4 rfl rfl)
theorem dX2_place_5 : decode cX2_place 5 = .ok (.invokevirtual 115, 3) := dk_182 0 115 (dk_at dksX2_place_0 5 rfl rfl)
theorem dX2_place_8 : decode cX2_place 8 = .ok (.iload_n 2, 1) := dk_28 (dk_at dksX2_place_0 8 rfl rfl)
theorem dX2_place_9 : decode cX2_place 9 = .ok (.if_icmp .eq 9, 3) := dk_159 0 9 (dk_at dksX2_place_0 9 rfl rfl)
theorem dX2_place_12 : decode cX2_place 12 = .ok (.iinc 3 1, 3) := dk_132 3 1 (dk_at dksX2_place_0 12 rfl rfl)
theorem dX2_place_15 : decode cX2_place 15 = .ok (.goto (-13), 3) := dk_167 255 243 (dk_at dksX2_place_0 15 rfl rfl)
theorem dX2_place_18 : decode cX2_place 18 = .ok (.iload_n 3, 1) := dk_29 (dk_at dksX2_place_0 18 rfl rfl)
theorem dX2_place_19 : decode cX2_place 19 = .ok (.ireturn, 1) := dk_172 (dk_at dksX2_place_0 19 rfl rfl)
def dkwX2_point_0 : List UInt8 := [42, 180, 0, 39, 27, 16, 46, 104, 28, 96, 46, 172]
abbrev dktX2_point_0 : List UInt8 := dkwX2_point_0 ++ []
theorem dksX2_point_0 : cX2_point.data.toList.drop 0 = dktX2_point_0 := by decide +kernel
theorem dX2_point_0 : decode cX2_point 0 = .ok (.aload_n 0, 1) := dk_42 (dk_at dksX2_point_0 0 rfl rfl)
theorem dX2_point_1 : decode cX2_point 1 = .ok (.getfield 39, 3) := dk_180 0 39 (dk_at dksX2_point_0 1 rfl rfl)
theorem dX2_point_4 : decode cX2_point 4 = .ok (.iload_n 1, 1) := dk_27 (dk_at dksX2_point_0 4 rfl rfl)
theorem dX2_point_5 : decode cX2_point 5 = .ok (.bipush 46, 2) := dk_16 46 (dk_at dksX2_point_0 5 rfl rfl)
theorem dX2_point_7 : decode cX2_point 7 = .ok (.imul, 1) := dk_104 (dk_at dksX2_point_0 7 rfl rfl)
theorem dX2_point_8 : decode cX2_point 8 = .ok (.iload_n 2, 1) := dk_28 (dk_at dksX2_point_0 8 rfl rfl)
theorem dX2_point_9 : decode cX2_point 9 = .ok (.iadd, 1) := dk_96 (dk_at dksX2_point_0 9 rfl rfl)
theorem dX2_point_10 : decode cX2_point 10 = .ok (.iaload, 1) := dk_46 (dk_at dksX2_point_0 10 rfl rfl)
theorem dX2_point_11 : decode cX2_point 11 = .ok (.ireturn, 1) := dk_172 (dk_at dksX2_point_0 11 rfl rfl)
def dkwX2_middle_1 : List UInt8 := [29, 46, 104, 167, 0, 18, 42, 180, 0, 18, 29, 4, 100, 46, 42, 180, 0, 18, 29, 46, 96, 172]
abbrev dktX2_middle_1 : List UInt8 := dkwX2_middle_1 ++ []
def dkwX2_middle_0 : List UInt8 := [28, 5, 108, 62, 28, 154, 0, 7, 27, 167, 0, 36, 28, 5, 112, 4, 160, 0, 14, 5, 42, 180, 0, 18]
abbrev dktX2_middle_0 : List UInt8 := dkwX2_middle_0 ++ dktX2_middle_1
theorem dksX2_middle_0 : cX2_middle.data.toList.drop 0 = dktX2_middle_0 := by decide +kernel
theorem dksX2_middle_1 : cX2_middle.data.toList.drop 24 = dktX2_middle_1 := dk_seg dksX2_middle_0 24 rfl rfl
theorem dX2_middle_0 : decode cX2_middle 0 = .ok (.iload_n 2, 1) := dk_28 (dk_at dksX2_middle_0 0 rfl rfl)
theorem dX2_middle_1 : decode cX2_middle 1 = .ok (.iconst 2, 1) := dk_5 (dk_at dksX2_middle_0 1 rfl rfl)
theorem dX2_middle_2 : decode cX2_middle 2 = .ok (.idiv, 1) := dk_108 (dk_at dksX2_middle_0 2 rfl rfl)
theorem dX2_middle_3 : decode cX2_middle 3 = .ok (.istore_n 3, 1) := dk_62 (dk_at dksX2_middle_0 3 rfl rfl)
theorem dX2_middle_4 : decode cX2_middle 4 = .ok (.iload_n 2, 1) := dk_28 (dk_at dksX2_middle_0 4 rfl rfl)
theorem dX2_middle_5 : decode cX2_middle 5 = .ok (.ifCond .ne 7, 3) := dk_154 0 7 (dk_at dksX2_middle_0 5 rfl rfl)
theorem dX2_middle_8 : decode cX2_middle 8 = .ok (.iload_n 1, 1) := dk_27 (dk_at dksX2_middle_0 8 rfl rfl)
theorem dX2_middle_9 : decode cX2_middle 9 = .ok (.goto 36, 3) := dk_167 0 36 (dk_at dksX2_middle_0 9 rfl rfl)
theorem dX2_middle_12 : decode cX2_middle 12 = .ok (.iload_n 2, 1) := dk_28 (dk_at dksX2_middle_0 12 rfl rfl)
theorem dX2_middle_13 : decode cX2_middle 13 = .ok (.iconst 2, 1) := dk_5 (dk_at dksX2_middle_0 13 rfl rfl)
theorem dX2_middle_14 : decode cX2_middle 14 = .ok (.irem, 1) := dk_112 (dk_at dksX2_middle_0 14 rfl rfl)
theorem dX2_middle_15 : decode cX2_middle 15 = .ok (.iconst 1, 1) := dk_4 (dk_at dksX2_middle_0 15 rfl rfl)
theorem dX2_middle_16 : decode cX2_middle 16 = .ok (.if_icmp .ne 14, 3) := dk_160 0 14 (dk_at dksX2_middle_0 16 rfl rfl)
theorem dX2_middle_19 : decode cX2_middle 19 = .ok (.iconst 2, 1) := dk_5 (dk_at dksX2_middle_0 19 rfl rfl)
theorem dX2_middle_20 : decode cX2_middle 20 = .ok (.aload_n 0, 1) := dk_42 (dk_at dksX2_middle_0 20 rfl rfl)
theorem dX2_middle_21 : decode cX2_middle 21 = .ok (.getfield 18, 3) := dk_180 0 18 (dk_at dksX2_middle_0 21 rfl rfl)
theorem dX2_middle_24 : decode cX2_middle 24 = .ok (.iload_n 3, 1) := dk_29 (dk_at dksX2_middle_1 0 rfl rfl)
theorem dX2_middle_25 : decode cX2_middle 25 = .ok (.iaload, 1) := dk_46 (dk_at dksX2_middle_1 1 rfl rfl)
theorem dX2_middle_26 : decode cX2_middle 26 = .ok (.imul, 1) := dk_104 (dk_at dksX2_middle_1 2 rfl rfl)
theorem dX2_middle_27 : decode cX2_middle 27 = .ok (.goto 18, 3) := dk_167 0 18 (dk_at dksX2_middle_1 3 rfl rfl)
theorem dX2_middle_30 : decode cX2_middle 30 = .ok (.aload_n 0, 1) := dk_42 (dk_at dksX2_middle_1 6 rfl rfl)
theorem dX2_middle_31 : decode cX2_middle 31 = .ok (.getfield 18, 3) := dk_180 0 18 (dk_at dksX2_middle_1 7 rfl rfl)
theorem dX2_middle_34 : decode cX2_middle 34 = .ok (.iload_n 3, 1) := dk_29 (dk_at dksX2_middle_1 10 rfl rfl)
theorem dX2_middle_35 : decode cX2_middle 35 = .ok (.iconst 1, 1) := dk_4 (dk_at dksX2_middle_1 11 rfl rfl)
theorem dX2_middle_36 : decode cX2_middle 36 = .ok (.isub, 1) := dk_100 (dk_at dksX2_middle_1 12 rfl rfl)
theorem dX2_middle_37 : decode cX2_middle 37 = .ok (.iaload, 1) := dk_46 (dk_at dksX2_middle_1 13 rfl rfl)
theorem dX2_middle_38 : decode cX2_middle 38 = .ok (.aload_n 0, 1) := dk_42 (dk_at dksX2_middle_1 14 rfl rfl)
theorem dX2_middle_39 : decode cX2_middle 39 = .ok (.getfield 18, 3) := dk_180 0 18 (dk_at dksX2_middle_1 15 rfl rfl)
theorem dX2_middle_42 : decode cX2_middle 42 = .ok (.iload_n 3, 1) := dk_29 (dk_at dksX2_middle_1 18 rfl rfl)
theorem dX2_middle_43 : decode cX2_middle 43 = .ok (.iaload, 1) := dk_46 (dk_at dksX2_middle_1 19 rfl rfl)
theorem dX2_middle_44 : decode cX2_middle 44 = .ok (.iadd, 1) := dk_96 (dk_at dksX2_middle_1 20 rfl rfl)
theorem dX2_middle_45 : decode cX2_middle 45 = .ok (.ireturn, 1) := dk_172 (dk_at dksX2_middle_1 21 rfl rfl)
def dkwX2_allCrossings_1 : List UInt8 := [132, 2, 1, 167, 255, 235, 27, 172]
abbrev dktX2_allCrossings_1 : List UInt8 := dkwX2_allCrossings_1 ++ []
def dkwX2_allCrossings_0 : List UInt8 := [3, 60, 3, 61, 28, 4, 96, 42, 180, 0, 57, 162, 0, 17, 27, 42, 28, 182, 0, 138, 96, 60]
abbrev dktX2_allCrossings_0 : List UInt8 := dkwX2_allCrossings_0 ++ dktX2_allCrossings_1
theorem dksX2_allCrossings_0 : cX2_allCrossings.data.toList.drop 0 = dktX2_allCrossings_0 := by decide +kernel
theorem dksX2_allCrossings_1 : cX2_allCrossings.data.toList.drop 22 = dktX2_allCrossings_1 := dk_seg dksX2_allCrossings_0 22 rfl rfl
theorem dX2_allCrossings_0 : decode cX2_allCrossings 0 = .ok (.iconst 0, 1) := dk_3 (dk_at dksX2_allCrossings_0 0 rfl rfl)
theorem dX2_allCrossings_1 : decode cX2_allCrossings 1 = .ok (.istore_n 1, 1) := dk_60 (dk_at dksX2_allCrossings_0 1 rfl rfl)
theorem dX2_allCrossings_2 : decode cX2_allCrossings 2 = .ok (.iconst 0, 1) := dk_3 (dk_at dksX2_allCrossings_0 2 rfl rfl)
theorem dX2_allCrossings_3 : decode cX2_allCrossings 3 = .ok (.istore_n 2, 1) := dk_61 (dk_at dksX2_allCrossings_0 3 rfl rfl)
theorem dX2_allCrossings_4 : decode cX2_allCrossings 4 = .ok (.iload_n 2, 1) := dk_28 (dk_at dksX2_allCrossings_0 4 rfl rfl)
theorem dX2_allCrossings_5 : decode cX2_allCrossings 5 = .ok (.iconst 1, 1) := dk_4 (dk_at dksX2_allCrossings_0 5 rfl rfl)
theorem dX2_allCrossings_6 : decode cX2_allCrossings 6 = .ok (.iadd, 1) := dk_96 (dk_at dksX2_allCrossings_0 6 rfl rfl)
theorem dX2_allCrossings_7 : decode cX2_allCrossings 7 = .ok (.aload_n 0, 1) := dk_42 (dk_at dksX2_allCrossings_0 7 rfl rfl)
theorem dX2_allCrossings_8 : decode cX2_allCrossings 8 = .ok (.getfield 57, 3) := dk_180 0 57 (dk_at dksX2_allCrossings_0 8 rfl rfl)
theorem dX2_allCrossings_11 : decode cX2_allCrossings 11 = .ok (.if_icmp .ge 17, 3) := dk_162 0 17 (dk_at dksX2_allCrossings_0 11 rfl rfl)
theorem dX2_allCrossings_14 : decode cX2_allCrossings 14 = .ok (.iload_n 1, 1) := dk_27 (dk_at dksX2_allCrossings_0 14 rfl rfl)
theorem dX2_allCrossings_15 : decode cX2_allCrossings 15 = .ok (.aload_n 0, 1) := dk_42 (dk_at dksX2_allCrossings_0 15 rfl rfl)
theorem dX2_allCrossings_16 : decode cX2_allCrossings 16 = .ok (.iload_n 2, 1) := dk_28 (dk_at dksX2_allCrossings_0 16 rfl rfl)
theorem dX2_allCrossings_17 : decode cX2_allCrossings 17 = .ok (.invokevirtual 138, 3) := dk_182 0 138 (dk_at dksX2_allCrossings_0 17 rfl rfl)
theorem dX2_allCrossings_20 : decode cX2_allCrossings 20 = .ok (.iadd, 1) := dk_96 (dk_at dksX2_allCrossings_0 20 rfl rfl)
theorem dX2_allCrossings_21 : decode cX2_allCrossings 21 = .ok (.istore_n 1, 1) := dk_60 (dk_at dksX2_allCrossings_0 21 rfl rfl)
theorem dX2_allCrossings_22 : decode cX2_allCrossings 22 = .ok (.iinc 2 1, 3) := dk_132 2 1 (dk_at dksX2_allCrossings_1 0 rfl rfl)
theorem dX2_allCrossings_25 : decode cX2_allCrossings 25 = .ok (.goto (-21), 3) := dk_167 255 235 (dk_at dksX2_allCrossings_1 3 rfl rfl)
theorem dX2_allCrossings_28 : decode cX2_allCrossings 28 = .ok (.iload_n 1, 1) := dk_27 (dk_at dksX2_allCrossings_1 6 rfl rfl)
theorem dX2_allCrossings_29 : decode cX2_allCrossings 29 = .ok (.ireturn, 1) := dk_172 (dk_at dksX2_allCrossings_1 7 rfl rfl)
def dkwX2_crossingsAt_2 : List UInt8 := [167, 255, 229, 132, 3, 1, 167, 255, 212, 28, 172]
abbrev dktX2_crossingsAt_2 : List UInt8 := dkwX2_crossingsAt_2 ++ []
def dkwX2_crossingsAt_1 : List UInt8 := [162, 0, 27, 28, 42, 29, 21, 4, 182, 0, 135, 153, 0, 7, 4, 167, 0, 4, 3, 96, 61, 132, 4, 1]
abbrev dktX2_crossingsAt_1 : List UInt8 := dkwX2_crossingsAt_1 ++ dktX2_crossingsAt_2
def dkwX2_crossingsAt_0 : List UInt8 := [42, 27, 182, 0, 131, 3, 61, 3, 62, 29, 42, 180, 0, 54, 162, 0, 42, 3, 54, 4, 21, 4, 29]
abbrev dktX2_crossingsAt_0 : List UInt8 := dkwX2_crossingsAt_0 ++ dktX2_crossingsAt_1
theorem dksX2_crossingsAt_0 : cX2_crossingsAt.data.toList.drop 0 = dktX2_crossingsAt_0 := by decide +kernel
theorem dksX2_crossingsAt_1 : cX2_crossingsAt.data.toList.drop 23 = dktX2_crossingsAt_1 := dk_seg dksX2_crossingsAt_0 23 rfl rfl
theorem dksX2_crossingsAt_2 : cX2_crossingsAt.data.toList.drop 47 = dktX2_crossingsAt_2 := dk_seg dksX2_crossingsAt_1 24 rfl rfl
theorem dX2_crossingsAt_0 : decode cX2_crossingsAt 0 = .ok (.aload_n 0, 1) := dk_42 (dk_at dksX2_crossingsAt_0 0 rfl rfl)
theorem dX2_crossingsAt_1 : decode cX2_crossingsAt 1 = .ok (.iload_n 1, 1) := dk_27 (dk_at dksX2_crossingsAt_0 1 rfl rfl)
theorem dX2_crossingsAt_2 : decode cX2_crossingsAt 2 = .ok (.invokevirtual 131, 3) := dk_182 0 131 (dk_at dksX2_crossingsAt_0 2 rfl rfl)
theorem dX2_crossingsAt_5 : decode cX2_crossingsAt 5 = .ok (.iconst 0, 1) := dk_3 (dk_at dksX2_crossingsAt_0 5 rfl rfl)
theorem dX2_crossingsAt_6 : decode cX2_crossingsAt 6 = .ok (.istore_n 2, 1) := dk_61 (dk_at dksX2_crossingsAt_0 6 rfl rfl)
theorem dX2_crossingsAt_7 : decode cX2_crossingsAt 7 = .ok (.iconst 0, 1) := dk_3 (dk_at dksX2_crossingsAt_0 7 rfl rfl)
theorem dX2_crossingsAt_8 : decode cX2_crossingsAt 8 = .ok (.istore_n 3, 1) := dk_62 (dk_at dksX2_crossingsAt_0 8 rfl rfl)
theorem dX2_crossingsAt_9 : decode cX2_crossingsAt 9 = .ok (.iload_n 3, 1) := dk_29 (dk_at dksX2_crossingsAt_0 9 rfl rfl)
theorem dX2_crossingsAt_10 : decode cX2_crossingsAt 10 = .ok (.aload_n 0, 1) := dk_42 (dk_at dksX2_crossingsAt_0 10 rfl rfl)
theorem dX2_crossingsAt_11 : decode cX2_crossingsAt 11 = .ok (.getfield 54, 3) := dk_180 0 54 (dk_at dksX2_crossingsAt_0 11 rfl rfl)
theorem dX2_crossingsAt_14 : decode cX2_crossingsAt 14 = .ok (.if_icmp .ge 42, 3) := dk_162 0 42 (dk_at dksX2_crossingsAt_0 14 rfl rfl)
theorem dX2_crossingsAt_17 : decode cX2_crossingsAt 17 = .ok (.iconst 0, 1) := dk_3 (dk_at dksX2_crossingsAt_0 17 rfl rfl)
theorem dX2_crossingsAt_18 : decode cX2_crossingsAt 18 = .ok (.istore 4, 2) := dk_54 4 (dk_at dksX2_crossingsAt_0 18 rfl rfl)
theorem dX2_crossingsAt_20 : decode cX2_crossingsAt 20 = .ok (.iload 4, 2) := dk_21 4 (dk_at dksX2_crossingsAt_0 20 rfl rfl)
theorem dX2_crossingsAt_22 : decode cX2_crossingsAt 22 = .ok (.iload_n 3, 1) := dk_29 (dk_at dksX2_crossingsAt_0 22 rfl rfl)
theorem dX2_crossingsAt_23 : decode cX2_crossingsAt 23 = .ok (.if_icmp .ge 27, 3) := dk_162 0 27 (dk_at dksX2_crossingsAt_1 0 rfl rfl)
theorem dX2_crossingsAt_26 : decode cX2_crossingsAt 26 = .ok (.iload_n 2, 1) := dk_28 (dk_at dksX2_crossingsAt_1 3 rfl rfl)
theorem dX2_crossingsAt_27 : decode cX2_crossingsAt 27 = .ok (.aload_n 0, 1) := dk_42 (dk_at dksX2_crossingsAt_1 4 rfl rfl)
theorem dX2_crossingsAt_28 : decode cX2_crossingsAt 28 = .ok (.iload_n 3, 1) := dk_29 (dk_at dksX2_crossingsAt_1 5 rfl rfl)
theorem dX2_crossingsAt_29 : decode cX2_crossingsAt 29 = .ok (.iload 4, 2) := dk_21 4 (dk_at dksX2_crossingsAt_1 6 rfl rfl)
theorem dX2_crossingsAt_31 : decode cX2_crossingsAt 31 = .ok (.invokevirtual 135, 3) := dk_182 0 135 (dk_at dksX2_crossingsAt_1 8 rfl rfl)
theorem dX2_crossingsAt_34 : decode cX2_crossingsAt 34 = .ok (.ifCond .eq 7, 3) := dk_153 0 7 (dk_at dksX2_crossingsAt_1 11 rfl rfl)
theorem dX2_crossingsAt_37 : decode cX2_crossingsAt 37 = .ok (.iconst 1, 1) := dk_4 (dk_at dksX2_crossingsAt_1 14 rfl rfl)
theorem dX2_crossingsAt_38 : decode cX2_crossingsAt 38 = .ok (.goto 4, 3) := dk_167 0 4 (dk_at dksX2_crossingsAt_1 15 rfl rfl)
theorem dX2_crossingsAt_41 : decode cX2_crossingsAt 41 = .ok (.iconst 0, 1) := dk_3 (dk_at dksX2_crossingsAt_1 18 rfl rfl)
theorem dX2_crossingsAt_42 : decode cX2_crossingsAt 42 = .ok (.iadd, 1) := dk_96 (dk_at dksX2_crossingsAt_1 19 rfl rfl)
theorem dX2_crossingsAt_43 : decode cX2_crossingsAt 43 = .ok (.istore_n 2, 1) := dk_61 (dk_at dksX2_crossingsAt_1 20 rfl rfl)
theorem dX2_crossingsAt_44 : decode cX2_crossingsAt 44 = .ok (.iinc 4 1, 3) := dk_132 4 1 (dk_at dksX2_crossingsAt_1 21 rfl rfl)
theorem dX2_crossingsAt_47 : decode cX2_crossingsAt 47 = .ok (.goto (-27), 3) := dk_167 255 229 (dk_at dksX2_crossingsAt_2 0 rfl rfl)
theorem dX2_crossingsAt_50 : decode cX2_crossingsAt 50 = .ok (.iinc 3 1, 3) := dk_132 3 1 (dk_at dksX2_crossingsAt_2 3 rfl rfl)
theorem dX2_crossingsAt_53 : decode cX2_crossingsAt 53 = .ok (.goto (-44), 3) := dk_167 255 212 (dk_at dksX2_crossingsAt_2 6 rfl rfl)
theorem dX2_crossingsAt_56 : decode cX2_crossingsAt 56 = .ok (.iload_n 2, 1) := dk_28 (dk_at dksX2_crossingsAt_2 9 rfl rfl)
theorem dX2_crossingsAt_57 : decode cX2_crossingsAt 57 = .ok (.ireturn, 1) := dk_172 (dk_at dksX2_crossingsAt_2 10 rfl rfl)
def dkwX2_ends_2 : List UInt8 := [28, 27, 4, 96, 182, 0, 128, 167, 0, 4, 2, 79, 132, 2, 1, 167, 255, 196, 177]
abbrev dktX2_ends_2 : List UInt8 := dkwX2_ends_2 ++ []
def dkwX2_ends_1 : List UInt8 := [153, 0, 12, 42, 28, 27, 182, 0, 128, 167, 0, 4, 2, 79, 42, 180, 0, 15, 28, 29, 153, 0, 14, 42]
abbrev dktX2_ends_1 : List UInt8 := dkwX2_ends_1 ++ dktX2_ends_2
def dkwX2_ends_0 : List UInt8 := [3, 61, 28, 42, 180, 0, 54, 162, 0, 58, 42, 28, 27, 182, 0, 124, 62, 42, 180, 0, 9, 28, 29]
abbrev dktX2_ends_0 : List UInt8 := dkwX2_ends_0 ++ dktX2_ends_1
theorem dksX2_ends_0 : cX2_ends.data.toList.drop 0 = dktX2_ends_0 := by decide +kernel
theorem dksX2_ends_1 : cX2_ends.data.toList.drop 23 = dktX2_ends_1 := dk_seg dksX2_ends_0 23 rfl rfl
theorem dksX2_ends_2 : cX2_ends.data.toList.drop 47 = dktX2_ends_2 := dk_seg dksX2_ends_1 24 rfl rfl
theorem dX2_ends_0 : decode cX2_ends 0 = .ok (.iconst 0, 1) := dk_3 (dk_at dksX2_ends_0 0 rfl rfl)
theorem dX2_ends_1 : decode cX2_ends 1 = .ok (.istore_n 2, 1) := dk_61 (dk_at dksX2_ends_0 1 rfl rfl)
theorem dX2_ends_2 : decode cX2_ends 2 = .ok (.iload_n 2, 1) := dk_28 (dk_at dksX2_ends_0 2 rfl rfl)
theorem dX2_ends_3 : decode cX2_ends 3 = .ok (.aload_n 0, 1) := dk_42 (dk_at dksX2_ends_0 3 rfl rfl)
theorem dX2_ends_4 : decode cX2_ends 4 = .ok (.getfield 54, 3) := dk_180 0 54 (dk_at dksX2_ends_0 4 rfl rfl)
theorem dX2_ends_7 : decode cX2_ends 7 = .ok (.if_icmp .ge 58, 3) := dk_162 0 58 (dk_at dksX2_ends_0 7 rfl rfl)
theorem dX2_ends_10 : decode cX2_ends 10 = .ok (.aload_n 0, 1) := dk_42 (dk_at dksX2_ends_0 10 rfl rfl)
theorem dX2_ends_11 : decode cX2_ends 11 = .ok (.iload_n 2, 1) := dk_28 (dk_at dksX2_ends_0 11 rfl rfl)
theorem dX2_ends_12 : decode cX2_ends 12 = .ok (.iload_n 1, 1) := dk_27 (dk_at dksX2_ends_0 12 rfl rfl)
theorem dX2_ends_13 : decode cX2_ends 13 = .ok (.invokevirtual 124, 3) := dk_182 0 124 (dk_at dksX2_ends_0 13 rfl rfl)
theorem dX2_ends_16 : decode cX2_ends 16 = .ok (.istore_n 3, 1) := dk_62 (dk_at dksX2_ends_0 16 rfl rfl)
theorem dX2_ends_17 : decode cX2_ends 17 = .ok (.aload_n 0, 1) := dk_42 (dk_at dksX2_ends_0 17 rfl rfl)
theorem dX2_ends_18 : decode cX2_ends 18 = .ok (.getfield 9, 3) := dk_180 0 9 (dk_at dksX2_ends_0 18 rfl rfl)
theorem dX2_ends_21 : decode cX2_ends 21 = .ok (.iload_n 2, 1) := dk_28 (dk_at dksX2_ends_0 21 rfl rfl)
theorem dX2_ends_22 : decode cX2_ends 22 = .ok (.iload_n 3, 1) := dk_29 (dk_at dksX2_ends_0 22 rfl rfl)
theorem dX2_ends_23 : decode cX2_ends 23 = .ok (.ifCond .eq 12, 3) := dk_153 0 12 (dk_at dksX2_ends_1 0 rfl rfl)
theorem dX2_ends_26 : decode cX2_ends 26 = .ok (.aload_n 0, 1) := dk_42 (dk_at dksX2_ends_1 3 rfl rfl)
theorem dX2_ends_27 : decode cX2_ends 27 = .ok (.iload_n 2, 1) := dk_28 (dk_at dksX2_ends_1 4 rfl rfl)
theorem dX2_ends_28 : decode cX2_ends 28 = .ok (.iload_n 1, 1) := dk_27 (dk_at dksX2_ends_1 5 rfl rfl)
theorem dX2_ends_29 : decode cX2_ends 29 = .ok (.invokevirtual 128, 3) := dk_182 0 128 (dk_at dksX2_ends_1 6 rfl rfl)
theorem dX2_ends_32 : decode cX2_ends 32 = .ok (.goto 4, 3) := dk_167 0 4 (dk_at dksX2_ends_1 9 rfl rfl)
theorem dX2_ends_35 : decode cX2_ends 35 = .ok (.iconst (-1), 1) := dk_2 (dk_at dksX2_ends_1 12 rfl rfl)
theorem dX2_ends_36 : decode cX2_ends 36 = .ok (.iastore, 1) := dk_79 (dk_at dksX2_ends_1 13 rfl rfl)
theorem dX2_ends_37 : decode cX2_ends 37 = .ok (.aload_n 0, 1) := dk_42 (dk_at dksX2_ends_1 14 rfl rfl)
theorem dX2_ends_38 : decode cX2_ends 38 = .ok (.getfield 15, 3) := dk_180 0 15 (dk_at dksX2_ends_1 15 rfl rfl)
theorem dX2_ends_41 : decode cX2_ends 41 = .ok (.iload_n 2, 1) := dk_28 (dk_at dksX2_ends_1 18 rfl rfl)
theorem dX2_ends_42 : decode cX2_ends 42 = .ok (.iload_n 3, 1) := dk_29 (dk_at dksX2_ends_1 19 rfl rfl)
theorem dX2_ends_43 : decode cX2_ends 43 = .ok (.ifCond .eq 14, 3) := dk_153 0 14 (dk_at dksX2_ends_1 20 rfl rfl)
theorem dX2_ends_46 : decode cX2_ends 46 = .ok (.aload_n 0, 1) := dk_42 (dk_at dksX2_ends_1 23 rfl rfl)
theorem dX2_ends_47 : decode cX2_ends 47 = .ok (.iload_n 2, 1) := dk_28 (dk_at dksX2_ends_2 0 rfl rfl)
theorem dX2_ends_48 : decode cX2_ends 48 = .ok (.iload_n 1, 1) := dk_27 (dk_at dksX2_ends_2 1 rfl rfl)
theorem dX2_ends_49 : decode cX2_ends 49 = .ok (.iconst 1, 1) := dk_4 (dk_at dksX2_ends_2 2 rfl rfl)
theorem dX2_ends_50 : decode cX2_ends 50 = .ok (.iadd, 1) := dk_96 (dk_at dksX2_ends_2 3 rfl rfl)
theorem dX2_ends_51 : decode cX2_ends 51 = .ok (.invokevirtual 128, 3) := dk_182 0 128 (dk_at dksX2_ends_2 4 rfl rfl)
theorem dX2_ends_54 : decode cX2_ends 54 = .ok (.goto 4, 3) := dk_167 0 4 (dk_at dksX2_ends_2 7 rfl rfl)
theorem dX2_ends_57 : decode cX2_ends 57 = .ok (.iconst (-1), 1) := dk_2 (dk_at dksX2_ends_2 10 rfl rfl)
theorem dX2_ends_58 : decode cX2_ends 58 = .ok (.iastore, 1) := dk_79 (dk_at dksX2_ends_2 11 rfl rfl)
theorem dX2_ends_59 : decode cX2_ends 59 = .ok (.iinc 2 1, 3) := dk_132 2 1 (dk_at dksX2_ends_2 12 rfl rfl)
theorem dX2_ends_62 : decode cX2_ends 62 = .ok (.goto (-60), 3) := dk_167 255 196 (dk_at dksX2_ends_2 15 rfl rfl)
theorem dX2_ends_65 : decode cX2_ends 65 = .ok (.return_, 1) := dk_177 (dk_at dksX2_ends_2 18 rfl rfl)
def dkwX2_doCross_2 : List UInt8 := [46, 42, 180, 0, 15, 28, 46, 100, 104, 156, 0, 7, 4, 167, 0, 4, 3, 172]
abbrev dktX2_doCross_2 : List UInt8 := dkwX2_doCross_2 ++ []
def dkwX2_doCross_1 : List UInt8 := [3, 62, 29, 153, 0, 37, 42, 180, 0, 9, 27, 46, 42, 180, 0, 9, 28, 46, 100, 42, 180, 0, 15, 27]
abbrev dktX2_doCross_1 : List UInt8 := dkwX2_doCross_1 ++ dktX2_doCross_2
def dkwX2_doCross_0 : List UInt8 := [42, 180, 0, 9, 27, 46, 2, 159, 0, 17, 42, 180, 0, 9, 28, 46, 2, 159, 0, 7, 4, 167, 0, 4]
abbrev dktX2_doCross_0 : List UInt8 := dkwX2_doCross_0 ++ dktX2_doCross_1
theorem dksX2_doCross_0 : cX2_doCross.data.toList.drop 0 = dktX2_doCross_0 := by decide +kernel
theorem dksX2_doCross_1 : cX2_doCross.data.toList.drop 24 = dktX2_doCross_1 := dk_seg dksX2_doCross_0 24 rfl rfl
theorem dksX2_doCross_2 : cX2_doCross.data.toList.drop 48 = dktX2_doCross_2 := dk_seg dksX2_doCross_1 24 rfl rfl
theorem dX2_doCross_0 : decode cX2_doCross 0 = .ok (.aload_n 0, 1) := dk_42 (dk_at dksX2_doCross_0 0 rfl rfl)
theorem dX2_doCross_1 : decode cX2_doCross 1 = .ok (.getfield 9, 3) := dk_180 0 9 (dk_at dksX2_doCross_0 1 rfl rfl)
theorem dX2_doCross_4 : decode cX2_doCross 4 = .ok (.iload_n 1, 1) := dk_27 (dk_at dksX2_doCross_0 4 rfl rfl)
theorem dX2_doCross_5 : decode cX2_doCross 5 = .ok (.iaload, 1) := dk_46 (dk_at dksX2_doCross_0 5 rfl rfl)
theorem dX2_doCross_6 : decode cX2_doCross 6 = .ok (.iconst (-1), 1) := dk_2 (dk_at dksX2_doCross_0 6 rfl rfl)
theorem dX2_doCross_7 : decode cX2_doCross 7 = .ok (.if_icmp .eq 17, 3) := dk_159 0 17 (dk_at dksX2_doCross_0 7 rfl rfl)
theorem dX2_doCross_10 : decode cX2_doCross 10 = .ok (.aload_n 0, 1) := dk_42 (dk_at dksX2_doCross_0 10 rfl rfl)
theorem dX2_doCross_11 : decode cX2_doCross 11 = .ok (.getfield 9, 3) := dk_180 0 9 (dk_at dksX2_doCross_0 11 rfl rfl)
theorem dX2_doCross_14 : decode cX2_doCross 14 = .ok (.iload_n 2, 1) := dk_28 (dk_at dksX2_doCross_0 14 rfl rfl)
theorem dX2_doCross_15 : decode cX2_doCross 15 = .ok (.iaload, 1) := dk_46 (dk_at dksX2_doCross_0 15 rfl rfl)
theorem dX2_doCross_16 : decode cX2_doCross 16 = .ok (.iconst (-1), 1) := dk_2 (dk_at dksX2_doCross_0 16 rfl rfl)
theorem dX2_doCross_17 : decode cX2_doCross 17 = .ok (.if_icmp .eq 7, 3) := dk_159 0 7 (dk_at dksX2_doCross_0 17 rfl rfl)
theorem dX2_doCross_20 : decode cX2_doCross 20 = .ok (.iconst 1, 1) := dk_4 (dk_at dksX2_doCross_0 20 rfl rfl)
theorem dX2_doCross_21 : decode cX2_doCross 21 = .ok (.goto 4, 3) := dk_167 0 4 (dk_at dksX2_doCross_0 21 rfl rfl)
theorem dX2_doCross_24 : decode cX2_doCross 24 = .ok (.iconst 0, 1) := dk_3 (dk_at dksX2_doCross_1 0 rfl rfl)
theorem dX2_doCross_25 : decode cX2_doCross 25 = .ok (.istore_n 3, 1) := dk_62 (dk_at dksX2_doCross_1 1 rfl rfl)
theorem dX2_doCross_26 : decode cX2_doCross 26 = .ok (.iload_n 3, 1) := dk_29 (dk_at dksX2_doCross_1 2 rfl rfl)
theorem dX2_doCross_27 : decode cX2_doCross 27 = .ok (.ifCond .eq 37, 3) := dk_153 0 37 (dk_at dksX2_doCross_1 3 rfl rfl)
theorem dX2_doCross_30 : decode cX2_doCross 30 = .ok (.aload_n 0, 1) := dk_42 (dk_at dksX2_doCross_1 6 rfl rfl)
theorem dX2_doCross_31 : decode cX2_doCross 31 = .ok (.getfield 9, 3) := dk_180 0 9 (dk_at dksX2_doCross_1 7 rfl rfl)
theorem dX2_doCross_34 : decode cX2_doCross 34 = .ok (.iload_n 1, 1) := dk_27 (dk_at dksX2_doCross_1 10 rfl rfl)
theorem dX2_doCross_35 : decode cX2_doCross 35 = .ok (.iaload, 1) := dk_46 (dk_at dksX2_doCross_1 11 rfl rfl)
theorem dX2_doCross_36 : decode cX2_doCross 36 = .ok (.aload_n 0, 1) := dk_42 (dk_at dksX2_doCross_1 12 rfl rfl)
theorem dX2_doCross_37 : decode cX2_doCross 37 = .ok (.getfield 9, 3) := dk_180 0 9 (dk_at dksX2_doCross_1 13 rfl rfl)
theorem dX2_doCross_40 : decode cX2_doCross 40 = .ok (.iload_n 2, 1) := dk_28 (dk_at dksX2_doCross_1 16 rfl rfl)
theorem dX2_doCross_41 : decode cX2_doCross 41 = .ok (.iaload, 1) := dk_46 (dk_at dksX2_doCross_1 17 rfl rfl)
theorem dX2_doCross_42 : decode cX2_doCross 42 = .ok (.isub, 1) := dk_100 (dk_at dksX2_doCross_1 18 rfl rfl)
theorem dX2_doCross_43 : decode cX2_doCross 43 = .ok (.aload_n 0, 1) := dk_42 (dk_at dksX2_doCross_1 19 rfl rfl)
theorem dX2_doCross_44 : decode cX2_doCross 44 = .ok (.getfield 15, 3) := dk_180 0 15 (dk_at dksX2_doCross_1 20 rfl rfl)
theorem dX2_doCross_47 : decode cX2_doCross 47 = .ok (.iload_n 1, 1) := dk_27 (dk_at dksX2_doCross_1 23 rfl rfl)
theorem dX2_doCross_48 : decode cX2_doCross 48 = .ok (.iaload, 1) := dk_46 (dk_at dksX2_doCross_2 0 rfl rfl)
theorem dX2_doCross_49 : decode cX2_doCross 49 = .ok (.aload_n 0, 1) := dk_42 (dk_at dksX2_doCross_2 1 rfl rfl)
theorem dX2_doCross_50 : decode cX2_doCross 50 = .ok (.getfield 15, 3) := dk_180 0 15 (dk_at dksX2_doCross_2 2 rfl rfl)
theorem dX2_doCross_53 : decode cX2_doCross 53 = .ok (.iload_n 2, 1) := dk_28 (dk_at dksX2_doCross_2 5 rfl rfl)
theorem dX2_doCross_54 : decode cX2_doCross 54 = .ok (.iaload, 1) := dk_46 (dk_at dksX2_doCross_2 6 rfl rfl)
theorem dX2_doCross_55 : decode cX2_doCross 55 = .ok (.isub, 1) := dk_100 (dk_at dksX2_doCross_2 7 rfl rfl)
theorem dX2_doCross_56 : decode cX2_doCross 56 = .ok (.imul, 1) := dk_104 (dk_at dksX2_doCross_2 8 rfl rfl)
theorem dX2_doCross_57 : decode cX2_doCross 57 = .ok (.ifCond .ge 7, 3) := dk_156 0 7 (dk_at dksX2_doCross_2 9 rfl rfl)
theorem dX2_doCross_60 : decode cX2_doCross 60 = .ok (.iconst 1, 1) := dk_4 (dk_at dksX2_doCross_2 12 rfl rfl)
theorem dX2_doCross_61 : decode cX2_doCross 61 = .ok (.goto 4, 3) := dk_167 0 4 (dk_at dksX2_doCross_2 13 rfl rfl)
theorem dX2_doCross_64 : decode cX2_doCross 64 = .ok (.iconst 0, 1) := dk_3 (dk_at dksX2_doCross_2 16 rfl rfl)
theorem dX2_doCross_65 : decode cX2_doCross 65 = .ok (.ireturn, 1) := dk_172 (dk_at dksX2_doCross_2 17 rfl rfl)
def dkwX2_untangles_3 : List UInt8 := [100, 184, 0, 102, 96, 60, 132, 3, 1, 167, 255, 190, 132, 2, 1, 167, 255, 174, 27, 172]
abbrev dktX2_untangles_3 : List UInt8 := dkwX2_untangles_3 ++ []
def dkwX2_untangles_2 : List UInt8 := [54, 5, 21, 5, 21, 4, 161, 0, 12, 42, 28, 29, 29, 4, 96, 182, 0, 162, 27, 3, 21, 4, 21, 5]
abbrev dktX2_untangles_2 : List UInt8 := dkwX2_untangles_2 ++ dktX2_untangles_3
def dkwX2_untangles_1 : List UInt8 := [162, 0, 60, 42, 28, 182, 0, 159, 54, 4, 42, 28, 29, 29, 4, 96, 182, 0, 162, 42, 28, 182, 0, 159]
abbrev dktX2_untangles_1 : List UInt8 := dkwX2_untangles_1 ++ dktX2_untangles_2
def dkwX2_untangles_0 : List UInt8 := [3, 60, 3, 61, 28, 42, 180, 0, 57, 162, 0, 80, 3, 62, 29, 4, 96, 42, 180, 0, 42, 28, 46]
abbrev dktX2_untangles_0 : List UInt8 := dkwX2_untangles_0 ++ dktX2_untangles_1
theorem dksX2_untangles_0 : cX2_untangles.data.toList.drop 0 = dktX2_untangles_0 := by decide +kernel
theorem dksX2_untangles_1 : cX2_untangles.data.toList.drop 23 = dktX2_untangles_1 := dk_seg dksX2_untangles_0 23 rfl rfl
theorem dksX2_untangles_2 : cX2_untangles.data.toList.drop 47 = dktX2_untangles_2 := dk_seg dksX2_untangles_1 24 rfl rfl
theorem dksX2_untangles_3 : cX2_untangles.data.toList.drop 71 = dktX2_untangles_3 := dk_seg dksX2_untangles_2 24 rfl rfl
theorem dX2_untangles_0 : decode cX2_untangles 0 = .ok (.iconst 0, 1) := dk_3 (dk_at dksX2_untangles_0 0 rfl rfl)
theorem dX2_untangles_1 : decode cX2_untangles 1 = .ok (.istore_n 1, 1) := dk_60 (dk_at dksX2_untangles_0 1 rfl rfl)
theorem dX2_untangles_2 : decode cX2_untangles 2 = .ok (.iconst 0, 1) := dk_3 (dk_at dksX2_untangles_0 2 rfl rfl)
theorem dX2_untangles_3 : decode cX2_untangles 3 = .ok (.istore_n 2, 1) := dk_61 (dk_at dksX2_untangles_0 3 rfl rfl)
theorem dX2_untangles_4 : decode cX2_untangles 4 = .ok (.iload_n 2, 1) := dk_28 (dk_at dksX2_untangles_0 4 rfl rfl)
theorem dX2_untangles_5 : decode cX2_untangles 5 = .ok (.aload_n 0, 1) := dk_42 (dk_at dksX2_untangles_0 5 rfl rfl)
theorem dX2_untangles_6 : decode cX2_untangles 6 = .ok (.getfield 57, 3) := dk_180 0 57 (dk_at dksX2_untangles_0 6 rfl rfl)
theorem dX2_untangles_9 : decode cX2_untangles 9 = .ok (.if_icmp .ge 80, 3) := dk_162 0 80 (dk_at dksX2_untangles_0 9 rfl rfl)
theorem dX2_untangles_12 : decode cX2_untangles 12 = .ok (.iconst 0, 1) := dk_3 (dk_at dksX2_untangles_0 12 rfl rfl)
theorem dX2_untangles_13 : decode cX2_untangles 13 = .ok (.istore_n 3, 1) := dk_62 (dk_at dksX2_untangles_0 13 rfl rfl)
theorem dX2_untangles_14 : decode cX2_untangles 14 = .ok (.iload_n 3, 1) := dk_29 (dk_at dksX2_untangles_0 14 rfl rfl)
theorem dX2_untangles_15 : decode cX2_untangles 15 = .ok (.iconst 1, 1) := dk_4 (dk_at dksX2_untangles_0 15 rfl rfl)
theorem dX2_untangles_16 : decode cX2_untangles 16 = .ok (.iadd, 1) := dk_96 (dk_at dksX2_untangles_0 16 rfl rfl)
theorem dX2_untangles_17 : decode cX2_untangles 17 = .ok (.aload_n 0, 1) := dk_42 (dk_at dksX2_untangles_0 17 rfl rfl)
theorem dX2_untangles_18 : decode cX2_untangles 18 = .ok (.getfield 42, 3) := dk_180 0 42 (dk_at dksX2_untangles_0 18 rfl rfl)
theorem dX2_untangles_21 : decode cX2_untangles 21 = .ok (.iload_n 2, 1) := dk_28 (dk_at dksX2_untangles_0 21 rfl rfl)
theorem dX2_untangles_22 : decode cX2_untangles 22 = .ok (.iaload, 1) := dk_46 (dk_at dksX2_untangles_0 22 rfl rfl)
theorem dX2_untangles_23 : decode cX2_untangles 23 = .ok (.if_icmp .ge 60, 3) := dk_162 0 60 (dk_at dksX2_untangles_1 0 rfl rfl)
theorem dX2_untangles_26 : decode cX2_untangles 26 = .ok (.aload_n 0, 1) := dk_42 (dk_at dksX2_untangles_1 3 rfl rfl)
theorem dX2_untangles_27 : decode cX2_untangles 27 = .ok (.iload_n 2, 1) := dk_28 (dk_at dksX2_untangles_1 4 rfl rfl)
theorem dX2_untangles_28 : decode cX2_untangles 28 = .ok (.invokevirtual 159, 3) := dk_182 0 159 (dk_at dksX2_untangles_1 5 rfl rfl)
theorem dX2_untangles_31 : decode cX2_untangles 31 = .ok (.istore 4, 2) := dk_54 4 (dk_at dksX2_untangles_1 8 rfl rfl)
theorem dX2_untangles_33 : decode cX2_untangles 33 = .ok (.aload_n 0, 1) := dk_42 (dk_at dksX2_untangles_1 10 rfl rfl)
theorem dX2_untangles_34 : decode cX2_untangles 34 = .ok (.iload_n 2, 1) := dk_28 (dk_at dksX2_untangles_1 11 rfl rfl)
theorem dX2_untangles_35 : decode cX2_untangles 35 = .ok (.iload_n 3, 1) := dk_29 (dk_at dksX2_untangles_1 12 rfl rfl)
theorem dX2_untangles_36 : decode cX2_untangles 36 = .ok (.iload_n 3, 1) := dk_29 (dk_at dksX2_untangles_1 13 rfl rfl)
theorem dX2_untangles_37 : decode cX2_untangles 37 = .ok (.iconst 1, 1) := dk_4 (dk_at dksX2_untangles_1 14 rfl rfl)
theorem dX2_untangles_38 : decode cX2_untangles 38 = .ok (.iadd, 1) := dk_96 (dk_at dksX2_untangles_1 15 rfl rfl)
theorem dX2_untangles_39 : decode cX2_untangles 39 = .ok (.invokevirtual 162, 3) := dk_182 0 162 (dk_at dksX2_untangles_1 16 rfl rfl)
theorem dX2_untangles_42 : decode cX2_untangles 42 = .ok (.aload_n 0, 1) := dk_42 (dk_at dksX2_untangles_1 19 rfl rfl)
theorem dX2_untangles_43 : decode cX2_untangles 43 = .ok (.iload_n 2, 1) := dk_28 (dk_at dksX2_untangles_1 20 rfl rfl)
theorem dX2_untangles_44 : decode cX2_untangles 44 = .ok (.invokevirtual 159, 3) := dk_182 0 159 (dk_at dksX2_untangles_1 21 rfl rfl)
theorem dX2_untangles_47 : decode cX2_untangles 47 = .ok (.istore 5, 2) := dk_54 5 (dk_at dksX2_untangles_2 0 rfl rfl)
theorem dX2_untangles_49 : decode cX2_untangles 49 = .ok (.iload 5, 2) := dk_21 5 (dk_at dksX2_untangles_2 2 rfl rfl)
theorem dX2_untangles_51 : decode cX2_untangles 51 = .ok (.iload 4, 2) := dk_21 4 (dk_at dksX2_untangles_2 4 rfl rfl)
theorem dX2_untangles_53 : decode cX2_untangles 53 = .ok (.if_icmp .lt 12, 3) := dk_161 0 12 (dk_at dksX2_untangles_2 6 rfl rfl)
theorem dX2_untangles_56 : decode cX2_untangles 56 = .ok (.aload_n 0, 1) := dk_42 (dk_at dksX2_untangles_2 9 rfl rfl)
theorem dX2_untangles_57 : decode cX2_untangles 57 = .ok (.iload_n 2, 1) := dk_28 (dk_at dksX2_untangles_2 10 rfl rfl)
theorem dX2_untangles_58 : decode cX2_untangles 58 = .ok (.iload_n 3, 1) := dk_29 (dk_at dksX2_untangles_2 11 rfl rfl)
theorem dX2_untangles_59 : decode cX2_untangles 59 = .ok (.iload_n 3, 1) := dk_29 (dk_at dksX2_untangles_2 12 rfl rfl)
theorem dX2_untangles_60 : decode cX2_untangles 60 = .ok (.iconst 1, 1) := dk_4 (dk_at dksX2_untangles_2 13 rfl rfl)
theorem dX2_untangles_61 : decode cX2_untangles 61 = .ok (.iadd, 1) := dk_96 (dk_at dksX2_untangles_2 14 rfl rfl)
theorem dX2_untangles_62 : decode cX2_untangles 62 = .ok (.invokevirtual 162, 3) := dk_182 0 162 (dk_at dksX2_untangles_2 15 rfl rfl)
theorem dX2_untangles_65 : decode cX2_untangles 65 = .ok (.iload_n 1, 1) := dk_27 (dk_at dksX2_untangles_2 18 rfl rfl)
theorem dX2_untangles_66 : decode cX2_untangles 66 = .ok (.iconst 0, 1) := dk_3 (dk_at dksX2_untangles_2 19 rfl rfl)
theorem dX2_untangles_67 : decode cX2_untangles 67 = .ok (.iload 4, 2) := dk_21 4 (dk_at dksX2_untangles_2 20 rfl rfl)
theorem dX2_untangles_69 : decode cX2_untangles 69 = .ok (.iload 5, 2) := dk_21 5 (dk_at dksX2_untangles_2 22 rfl rfl)
theorem dX2_untangles_71 : decode cX2_untangles 71 = .ok (.isub, 1) := dk_100 (dk_at dksX2_untangles_3 0 rfl rfl)
theorem dX2_untangles_72 : decode cX2_untangles 72 = .ok (.invokestatic 102, 3) := dk_184 0 102 (dk_at dksX2_untangles_3 1 rfl rfl)
theorem dX2_untangles_75 : decode cX2_untangles 75 = .ok (.iadd, 1) := dk_96 (dk_at dksX2_untangles_3 4 rfl rfl)
theorem dX2_untangles_76 : decode cX2_untangles 76 = .ok (.istore_n 1, 1) := dk_60 (dk_at dksX2_untangles_3 5 rfl rfl)
theorem dX2_untangles_77 : decode cX2_untangles 77 = .ok (.iinc 3 1, 3) := dk_132 3 1 (dk_at dksX2_untangles_3 6 rfl rfl)
theorem dX2_untangles_80 : decode cX2_untangles 80 = .ok (.goto (-66), 3) := dk_167 255 190 (dk_at dksX2_untangles_3 9 rfl rfl)
theorem dX2_untangles_83 : decode cX2_untangles 83 = .ok (.iinc 2 1, 3) := dk_132 2 1 (dk_at dksX2_untangles_3 12 rfl rfl)
theorem dX2_untangles_86 : decode cX2_untangles 86 = .ok (.goto (-82), 3) := dk_167 255 174 (dk_at dksX2_untangles_3 15 rfl rfl)
theorem dX2_untangles_89 : decode cX2_untangles 89 = .ok (.iload_n 1, 1) := dk_27 (dk_at dksX2_untangles_3 18 rfl rfl)
theorem dX2_untangles_90 : decode cX2_untangles 90 = .ok (.ireturn, 1) := dk_172 (dk_at dksX2_untangles_3 19 rfl rfl)
def dkwX2_around_1 : List UInt8 := [162, 0, 11, 42, 27, 182, 0, 138, 167, 0, 4, 3, 96, 172]
abbrev dktX2_around_1 : List UInt8 := dkwX2_around_1 ++ []
def dkwX2_around_0 : List UInt8 := [27, 158, 0, 13, 42, 27, 4, 100, 182, 0, 138, 167, 0, 4, 3, 27, 4, 96, 42, 180, 0, 57]
abbrev dktX2_around_0 : List UInt8 := dkwX2_around_0 ++ dktX2_around_1
theorem dksX2_around_0 : cX2_around.data.toList.drop 0 = dktX2_around_0 := by decide +kernel
theorem dksX2_around_1 : cX2_around.data.toList.drop 22 = dktX2_around_1 := dk_seg dksX2_around_0 22 rfl rfl
theorem dX2_around_0 : decode cX2_around 0 = .ok (.iload_n 1, 1) := dk_27 (dk_at dksX2_around_0 0 rfl rfl)
theorem dX2_around_1 : decode cX2_around 1 = .ok (.ifCond .le 13, 3) := dk_158 0 13 (dk_at dksX2_around_0 1 rfl rfl)
theorem dX2_around_4 : decode cX2_around 4 = .ok (.aload_n 0, 1) := dk_42 (dk_at dksX2_around_0 4 rfl rfl)
theorem dX2_around_5 : decode cX2_around 5 = .ok (.iload_n 1, 1) := dk_27 (dk_at dksX2_around_0 5 rfl rfl)
theorem dX2_around_6 : decode cX2_around 6 = .ok (.iconst 1, 1) := dk_4 (dk_at dksX2_around_0 6 rfl rfl)
theorem dX2_around_7 : decode cX2_around 7 = .ok (.isub, 1) := dk_100 (dk_at dksX2_around_0 7 rfl rfl)
theorem dX2_around_8 : decode cX2_around 8 = .ok (.invokevirtual 138, 3) := dk_182 0 138 (dk_at dksX2_around_0 8 rfl rfl)
theorem dX2_around_11 : decode cX2_around 11 = .ok (.goto 4, 3) := dk_167 0 4 (dk_at dksX2_around_0 11 rfl rfl)
theorem dX2_around_14 : decode cX2_around 14 = .ok (.iconst 0, 1) := dk_3 (dk_at dksX2_around_0 14 rfl rfl)
theorem dX2_around_15 : decode cX2_around 15 = .ok (.iload_n 1, 1) := dk_27 (dk_at dksX2_around_0 15 rfl rfl)
theorem dX2_around_16 : decode cX2_around 16 = .ok (.iconst 1, 1) := dk_4 (dk_at dksX2_around_0 16 rfl rfl)
theorem dX2_around_17 : decode cX2_around 17 = .ok (.iadd, 1) := dk_96 (dk_at dksX2_around_0 17 rfl rfl)
theorem dX2_around_18 : decode cX2_around 18 = .ok (.aload_n 0, 1) := dk_42 (dk_at dksX2_around_0 18 rfl rfl)
theorem dX2_around_19 : decode cX2_around 19 = .ok (.getfield 57, 3) := dk_180 0 57 (dk_at dksX2_around_0 19 rfl rfl)
theorem dX2_around_22 : decode cX2_around 22 = .ok (.if_icmp .ge 11, 3) := dk_162 0 11 (dk_at dksX2_around_1 0 rfl rfl)
theorem dX2_around_25 : decode cX2_around 25 = .ok (.aload_n 0, 1) := dk_42 (dk_at dksX2_around_1 3 rfl rfl)
theorem dX2_around_26 : decode cX2_around 26 = .ok (.iload_n 1, 1) := dk_27 (dk_at dksX2_around_1 4 rfl rfl)
theorem dX2_around_27 : decode cX2_around 27 = .ok (.invokevirtual 138, 3) := dk_182 0 138 (dk_at dksX2_around_1 5 rfl rfl)
theorem dX2_around_30 : decode cX2_around 30 = .ok (.goto 4, 3) := dk_167 0 4 (dk_at dksX2_around_1 8 rfl rfl)
theorem dX2_around_33 : decode cX2_around 33 = .ok (.iconst 0, 1) := dk_3 (dk_at dksX2_around_1 11 rfl rfl)
theorem dX2_around_34 : decode cX2_around 34 = .ok (.iadd, 1) := dk_96 (dk_at dksX2_around_1 12 rfl rfl)
theorem dX2_around_35 : decode cX2_around 35 = .ok (.ireturn, 1) := dk_172 (dk_at dksX2_around_1 13 rfl rfl)
def dkwX2_swaps_1 : List UInt8 := [79, 42, 180, 0, 39, 27, 16, 46, 104, 29, 96, 21, 4, 79, 177]
abbrev dktX2_swaps_1 : List UInt8 := dkwX2_swaps_1 ++ []
def dkwX2_swaps_0 : List UInt8 := [42, 27, 28, 182, 0, 115, 54, 4, 42, 180, 0, 39, 27, 16, 46, 104, 28, 96, 42, 27, 29, 182, 0, 115]
abbrev dktX2_swaps_0 : List UInt8 := dkwX2_swaps_0 ++ dktX2_swaps_1
theorem dksX2_swaps_0 : cX2_swaps.data.toList.drop 0 = dktX2_swaps_0 := by decide +kernel
theorem dksX2_swaps_1 : cX2_swaps.data.toList.drop 24 = dktX2_swaps_1 := dk_seg dksX2_swaps_0 24 rfl rfl
theorem dX2_swaps_0 : decode cX2_swaps 0 = .ok (.aload_n 0, 1) := dk_42 (dk_at dksX2_swaps_0 0 rfl rfl)
theorem dX2_swaps_1 : decode cX2_swaps 1 = .ok (.iload_n 1, 1) := dk_27 (dk_at dksX2_swaps_0 1 rfl rfl)
theorem dX2_swaps_2 : decode cX2_swaps 2 = .ok (.iload_n 2, 1) := dk_28 (dk_at dksX2_swaps_0 2 rfl rfl)
theorem dX2_swaps_3 : decode cX2_swaps 3 = .ok (.invokevirtual 115, 3) := dk_182 0 115 (dk_at dksX2_swaps_0 3 rfl rfl)
theorem dX2_swaps_6 : decode cX2_swaps 6 = .ok (.istore 4, 2) := dk_54 4 (dk_at dksX2_swaps_0 6 rfl rfl)
theorem dX2_swaps_8 : decode cX2_swaps 8 = .ok (.aload_n 0, 1) := dk_42 (dk_at dksX2_swaps_0 8 rfl rfl)
theorem dX2_swaps_9 : decode cX2_swaps 9 = .ok (.getfield 39, 3) := dk_180 0 39 (dk_at dksX2_swaps_0 9 rfl rfl)
theorem dX2_swaps_12 : decode cX2_swaps 12 = .ok (.iload_n 1, 1) := dk_27 (dk_at dksX2_swaps_0 12 rfl rfl)
theorem dX2_swaps_13 : decode cX2_swaps 13 = .ok (.bipush 46, 2) := dk_16 46 (dk_at dksX2_swaps_0 13 rfl rfl)
theorem dX2_swaps_15 : decode cX2_swaps 15 = .ok (.imul, 1) := dk_104 (dk_at dksX2_swaps_0 15 rfl rfl)
theorem dX2_swaps_16 : decode cX2_swaps 16 = .ok (.iload_n 2, 1) := dk_28 (dk_at dksX2_swaps_0 16 rfl rfl)
theorem dX2_swaps_17 : decode cX2_swaps 17 = .ok (.iadd, 1) := dk_96 (dk_at dksX2_swaps_0 17 rfl rfl)
theorem dX2_swaps_18 : decode cX2_swaps 18 = .ok (.aload_n 0, 1) := dk_42 (dk_at dksX2_swaps_0 18 rfl rfl)
theorem dX2_swaps_19 : decode cX2_swaps 19 = .ok (.iload_n 1, 1) := dk_27 (dk_at dksX2_swaps_0 19 rfl rfl)
theorem dX2_swaps_20 : decode cX2_swaps 20 = .ok (.iload_n 3, 1) := dk_29 (dk_at dksX2_swaps_0 20 rfl rfl)
theorem dX2_swaps_21 : decode cX2_swaps 21 = .ok (.invokevirtual 115, 3) := dk_182 0 115 (dk_at dksX2_swaps_0 21 rfl rfl)
theorem dX2_swaps_24 : decode cX2_swaps 24 = .ok (.iastore, 1) := dk_79 (dk_at dksX2_swaps_1 0 rfl rfl)
theorem dX2_swaps_25 : decode cX2_swaps 25 = .ok (.aload_n 0, 1) := dk_42 (dk_at dksX2_swaps_1 1 rfl rfl)
theorem dX2_swaps_26 : decode cX2_swaps 26 = .ok (.getfield 39, 3) := dk_180 0 39 (dk_at dksX2_swaps_1 2 rfl rfl)
theorem dX2_swaps_29 : decode cX2_swaps 29 = .ok (.iload_n 1, 1) := dk_27 (dk_at dksX2_swaps_1 5 rfl rfl)
theorem dX2_swaps_30 : decode cX2_swaps 30 = .ok (.bipush 46, 2) := dk_16 46 (dk_at dksX2_swaps_1 6 rfl rfl)
theorem dX2_swaps_32 : decode cX2_swaps 32 = .ok (.imul, 1) := dk_104 (dk_at dksX2_swaps_1 8 rfl rfl)
theorem dX2_swaps_33 : decode cX2_swaps 33 = .ok (.iload_n 3, 1) := dk_29 (dk_at dksX2_swaps_1 9 rfl rfl)
theorem dX2_swaps_34 : decode cX2_swaps 34 = .ok (.iadd, 1) := dk_96 (dk_at dksX2_swaps_1 10 rfl rfl)
theorem dX2_swaps_35 : decode cX2_swaps 35 = .ok (.iload 4, 2) := dk_21 4 (dk_at dksX2_swaps_1 11 rfl rfl)
theorem dX2_swaps_37 : decode cX2_swaps 37 = .ok (.iastore, 1) := dk_79 (dk_at dksX2_swaps_1 13 rfl rfl)
theorem dX2_swaps_38 : decode cX2_swaps 38 = .ok (.return_, 1) := dk_177 (dk_at dksX2_swaps_1 14 rfl rfl)
def dkwX2_swapsAt_2 : List UInt8 := [167, 0, 4, 3, 4, 184, 0, 173, 42, 27, 28, 29, 182, 0, 162, 42, 182, 0, 223, 172]
abbrev dktX2_swapsAt_2 : List UInt8 := dkwX2_swapsAt_2 ++ []
def dkwX2_swapsAt_1 : List UInt8 := [153, 0, 25, 29, 133, 9, 42, 180, 0, 42, 27, 46, 4, 100, 133, 184, 0, 66, 153, 0, 7, 4]
abbrev dktX2_swapsAt_1 : List UInt8 := dkwX2_swapsAt_1 ++ dktX2_swapsAt_2
def dkwX2_swapsAt_0 : List UInt8 := [42, 27, 182, 0, 226, 153, 0, 43, 28, 133, 9, 42, 180, 0, 42, 27, 46, 4, 100, 133, 184, 0, 66]
abbrev dktX2_swapsAt_0 : List UInt8 := dkwX2_swapsAt_0 ++ dktX2_swapsAt_1
theorem dksX2_swapsAt_0 : cX2_swapsAt.data.toList.drop 0 = dktX2_swapsAt_0 := by decide +kernel
theorem dksX2_swapsAt_1 : cX2_swapsAt.data.toList.drop 23 = dktX2_swapsAt_1 := dk_seg dksX2_swapsAt_0 23 rfl rfl
theorem dksX2_swapsAt_2 : cX2_swapsAt.data.toList.drop 45 = dktX2_swapsAt_2 := dk_seg dksX2_swapsAt_1 22 rfl rfl
theorem dX2_swapsAt_0 : decode cX2_swapsAt 0 = .ok (.aload_n 0, 1) := dk_42 (dk_at dksX2_swapsAt_0 0 rfl rfl)
theorem dX2_swapsAt_1 : decode cX2_swapsAt 1 = .ok (.iload_n 1, 1) := dk_27 (dk_at dksX2_swapsAt_0 1 rfl rfl)
theorem dX2_swapsAt_2 : decode cX2_swapsAt 2 = .ok (.invokevirtual 226, 3) := dk_182 0 226 (dk_at dksX2_swapsAt_0 2 rfl rfl)
theorem dX2_swapsAt_5 : decode cX2_swapsAt 5 = .ok (.ifCond .eq 43, 3) := dk_153 0 43 (dk_at dksX2_swapsAt_0 5 rfl rfl)
theorem dX2_swapsAt_8 : decode cX2_swapsAt 8 = .ok (.iload_n 2, 1) := dk_28 (dk_at dksX2_swapsAt_0 8 rfl rfl)
theorem dX2_swapsAt_9 : decode cX2_swapsAt 9 = .ok (.i2l, 1) := dk_133 (dk_at dksX2_swapsAt_0 9 rfl rfl)
theorem dX2_swapsAt_10 : decode cX2_swapsAt 10 = .ok (.lconst 0, 1) := dk_9 (dk_at dksX2_swapsAt_0 10 rfl rfl)
theorem dX2_swapsAt_11 : decode cX2_swapsAt 11 = .ok (.aload_n 0, 1) := dk_42 (dk_at dksX2_swapsAt_0 11 rfl rfl)
theorem dX2_swapsAt_12 : decode cX2_swapsAt 12 = .ok (.getfield 42, 3) := dk_180 0 42 (dk_at dksX2_swapsAt_0 12 rfl rfl)
theorem dX2_swapsAt_15 : decode cX2_swapsAt 15 = .ok (.iload_n 1, 1) := dk_27 (dk_at dksX2_swapsAt_0 15 rfl rfl)
theorem dX2_swapsAt_16 : decode cX2_swapsAt 16 = .ok (.iaload, 1) := dk_46 (dk_at dksX2_swapsAt_0 16 rfl rfl)
theorem dX2_swapsAt_17 : decode cX2_swapsAt 17 = .ok (.iconst 1, 1) := dk_4 (dk_at dksX2_swapsAt_0 17 rfl rfl)
theorem dX2_swapsAt_18 : decode cX2_swapsAt 18 = .ok (.isub, 1) := dk_100 (dk_at dksX2_swapsAt_0 18 rfl rfl)
theorem dX2_swapsAt_19 : decode cX2_swapsAt 19 = .ok (.i2l, 1) := dk_133 (dk_at dksX2_swapsAt_0 19 rfl rfl)
theorem dX2_swapsAt_20 : decode cX2_swapsAt 20 = .ok (.invokestatic 66, 3) := dk_184 0 66 (dk_at dksX2_swapsAt_0 20 rfl rfl)
theorem dX2_swapsAt_23 : decode cX2_swapsAt 23 = .ok (.ifCond .eq 25, 3) := dk_153 0 25 (dk_at dksX2_swapsAt_1 0 rfl rfl)
theorem dX2_swapsAt_26 : decode cX2_swapsAt 26 = .ok (.iload_n 3, 1) := dk_29 (dk_at dksX2_swapsAt_1 3 rfl rfl)
theorem dX2_swapsAt_27 : decode cX2_swapsAt 27 = .ok (.i2l, 1) := dk_133 (dk_at dksX2_swapsAt_1 4 rfl rfl)
theorem dX2_swapsAt_28 : decode cX2_swapsAt 28 = .ok (.lconst 0, 1) := dk_9 (dk_at dksX2_swapsAt_1 5 rfl rfl)
theorem dX2_swapsAt_29 : decode cX2_swapsAt 29 = .ok (.aload_n 0, 1) := dk_42 (dk_at dksX2_swapsAt_1 6 rfl rfl)
theorem dX2_swapsAt_30 : decode cX2_swapsAt 30 = .ok (.getfield 42, 3) := dk_180 0 42 (dk_at dksX2_swapsAt_1 7 rfl rfl)
theorem dX2_swapsAt_33 : decode cX2_swapsAt 33 = .ok (.iload_n 1, 1) := dk_27 (dk_at dksX2_swapsAt_1 10 rfl rfl)
theorem dX2_swapsAt_34 : decode cX2_swapsAt 34 = .ok (.iaload, 1) := dk_46 (dk_at dksX2_swapsAt_1 11 rfl rfl)
theorem dX2_swapsAt_35 : decode cX2_swapsAt 35 = .ok (.iconst 1, 1) := dk_4 (dk_at dksX2_swapsAt_1 12 rfl rfl)
theorem dX2_swapsAt_36 : decode cX2_swapsAt 36 = .ok (.isub, 1) := dk_100 (dk_at dksX2_swapsAt_1 13 rfl rfl)
theorem dX2_swapsAt_37 : decode cX2_swapsAt 37 = .ok (.i2l, 1) := dk_133 (dk_at dksX2_swapsAt_1 14 rfl rfl)
theorem dX2_swapsAt_38 : decode cX2_swapsAt 38 = .ok (.invokestatic 66, 3) := dk_184 0 66 (dk_at dksX2_swapsAt_1 15 rfl rfl)
theorem dX2_swapsAt_41 : decode cX2_swapsAt 41 = .ok (.ifCond .eq 7, 3) := dk_153 0 7 (dk_at dksX2_swapsAt_1 18 rfl rfl)
theorem dX2_swapsAt_44 : decode cX2_swapsAt 44 = .ok (.iconst 1, 1) := dk_4 (dk_at dksX2_swapsAt_1 21 rfl rfl)
theorem dX2_swapsAt_45 : decode cX2_swapsAt 45 = .ok (.goto 4, 3) := dk_167 0 4 (dk_at dksX2_swapsAt_2 0 rfl rfl)
theorem dX2_swapsAt_48 : decode cX2_swapsAt 48 = .ok (.iconst 0, 1) := dk_3 (dk_at dksX2_swapsAt_2 3 rfl rfl)
theorem dX2_swapsAt_49 : decode cX2_swapsAt 49 = .ok (.iconst 1, 1) := dk_4 (dk_at dksX2_swapsAt_2 4 rfl rfl)
theorem dX2_swapsAt_50 : decode cX2_swapsAt 50 = .ok (.invokestatic 173, 3) := dk_184 0 173 (dk_at dksX2_swapsAt_2 5 rfl rfl)
theorem dX2_swapsAt_53 : decode cX2_swapsAt 53 = .ok (.aload_n 0, 1) := dk_42 (dk_at dksX2_swapsAt_2 8 rfl rfl)
theorem dX2_swapsAt_54 : decode cX2_swapsAt 54 = .ok (.iload_n 1, 1) := dk_27 (dk_at dksX2_swapsAt_2 9 rfl rfl)
theorem dX2_swapsAt_55 : decode cX2_swapsAt 55 = .ok (.iload_n 2, 1) := dk_28 (dk_at dksX2_swapsAt_2 10 rfl rfl)
theorem dX2_swapsAt_56 : decode cX2_swapsAt 56 = .ok (.iload_n 3, 1) := dk_29 (dk_at dksX2_swapsAt_2 11 rfl rfl)
theorem dX2_swapsAt_57 : decode cX2_swapsAt 57 = .ok (.invokevirtual 162, 3) := dk_182 0 162 (dk_at dksX2_swapsAt_2 12 rfl rfl)
theorem dX2_swapsAt_60 : decode cX2_swapsAt 60 = .ok (.aload_n 0, 1) := dk_42 (dk_at dksX2_swapsAt_2 15 rfl rfl)
theorem dX2_swapsAt_61 : decode cX2_swapsAt 61 = .ok (.invokevirtual 223, 3) := dk_182 0 223 (dk_at dksX2_swapsAt_2 16 rfl rfl)
theorem dX2_swapsAt_64 : decode cX2_swapsAt 64 = .ok (.ireturn, 1) := dk_172 (dk_at dksX2_swapsAt_2 19 rfl rfl)
def dkwX2_isLayer_0 : List UInt8 := [27, 133, 9, 42, 180, 0, 57, 4, 100, 133, 184, 0, 66, 172]
abbrev dktX2_isLayer_0 : List UInt8 := dkwX2_isLayer_0 ++ []
theorem dksX2_isLayer_0 : cX2_isLayer.data.toList.drop 0 = dktX2_isLayer_0 := by decide +kernel
theorem dX2_isLayer_0 : decode cX2_isLayer 0 = .ok (.iload_n 1, 1) := dk_27 (dk_at dksX2_isLayer_0 0 rfl rfl)
theorem dX2_isLayer_1 : decode cX2_isLayer 1 = .ok (.i2l, 1) := dk_133 (dk_at dksX2_isLayer_0 1 rfl rfl)
theorem dX2_isLayer_2 : decode cX2_isLayer 2 = .ok (.lconst 0, 1) := dk_9 (dk_at dksX2_isLayer_0 2 rfl rfl)
theorem dX2_isLayer_3 : decode cX2_isLayer 3 = .ok (.aload_n 0, 1) := dk_42 (dk_at dksX2_isLayer_0 3 rfl rfl)
theorem dX2_isLayer_4 : decode cX2_isLayer 4 = .ok (.getfield 57, 3) := dk_180 0 57 (dk_at dksX2_isLayer_0 4 rfl rfl)
theorem dX2_isLayer_7 : decode cX2_isLayer 7 = .ok (.iconst 1, 1) := dk_4 (dk_at dksX2_isLayer_0 7 rfl rfl)
theorem dX2_isLayer_8 : decode cX2_isLayer 8 = .ok (.isub, 1) := dk_100 (dk_at dksX2_isLayer_0 8 rfl rfl)
theorem dX2_isLayer_9 : decode cX2_isLayer 9 = .ok (.i2l, 1) := dk_133 (dk_at dksX2_isLayer_0 9 rfl rfl)
theorem dX2_isLayer_10 : decode cX2_isLayer 10 = .ok (.invokestatic 66, 3) := dk_184 0 66 (dk_at dksX2_isLayer_0 10 rfl rfl)
theorem dX2_isLayer_13 : decode cX2_isLayer 13 = .ok (.ireturn, 1) := dk_172 (dk_at dksX2_isLayer_0 13 rfl rfl)
def dkwX2_settles_4 : List UInt8 := [132, 5, 1, 167, 255, 223, 28, 21, 4, 184, 0, 235, 61, 132, 3, 1, 167, 255, 164, 28, 172]
abbrev dktX2_settles_4 : List UInt8 := dkwX2_settles_4 ++ []
def dkwX2_settles_3 : List UInt8 := [162, 0, 29, 21, 4, 28, 162, 0, 23, 42, 180, 0, 39, 21, 5, 43, 180, 0, 39, 21, 5, 46, 79]
abbrev dktX2_settles_3 : List UInt8 := dkwX2_settles_3 ++ dktX2_settles_4
def dkwX2_settles_2 : List UInt8 := [167, 0, 4, 3, 182, 0, 219, 43, 182, 0, 223, 54, 4, 3, 54, 5, 21, 5, 42, 180, 0, 39, 190]
abbrev dktX2_settles_2 : List UInt8 := dkwX2_settles_2 ++ dktX2_settles_3
def dkwX2_settles_1 : List UInt8 := [112, 5, 160, 0, 12, 43, 182, 0, 232, 54, 4, 167, 0, 18, 43, 29, 6, 112, 154, 0, 7, 4]
abbrev dktX2_settles_1 : List UInt8 := dkwX2_settles_1 ++ dktX2_settles_2
def dkwX2_settles_0 : List UInt8 := [187, 0, 10, 89, 42, 183, 0, 229, 76, 42, 182, 0, 223, 61, 3, 62, 29, 16, 10, 162, 0, 92, 29, 6]
abbrev dktX2_settles_0 : List UInt8 := dkwX2_settles_0 ++ dktX2_settles_1
theorem dksX2_settles_0 : cX2_settles.data.toList.drop 0 = dktX2_settles_0 := by decide +kernel
theorem dksX2_settles_1 : cX2_settles.data.toList.drop 24 = dktX2_settles_1 := dk_seg dksX2_settles_0 24 rfl rfl
theorem dksX2_settles_2 : cX2_settles.data.toList.drop 46 = dktX2_settles_2 := dk_seg dksX2_settles_1 22 rfl rfl
theorem dksX2_settles_3 : cX2_settles.data.toList.drop 69 = dktX2_settles_3 := dk_seg dksX2_settles_2 23 rfl rfl
theorem dksX2_settles_4 : cX2_settles.data.toList.drop 92 = dktX2_settles_4 := dk_seg dksX2_settles_3 23 rfl rfl
theorem dX2_settles_0 : decode cX2_settles 0 = .ok (.new 10, 3) := dk_187 0 10 (dk_at dksX2_settles_0 0 rfl rfl)
theorem dX2_settles_3 : decode cX2_settles 3 = .ok (.dup, 1) := dk_89 (dk_at dksX2_settles_0 3 rfl rfl)
theorem dX2_settles_4 : decode cX2_settles 4 = .ok (.aload_n 0, 1) := dk_42 (dk_at dksX2_settles_0 4 rfl rfl)
theorem dX2_settles_5 : decode cX2_settles 5 = .ok (.invokespecial 229, 3) := dk_183 0 229 (dk_at dksX2_settles_0 5 rfl rfl)
theorem dX2_settles_8 : decode cX2_settles 8 = .ok (.astore_n 1, 1) := dk_76 (dk_at dksX2_settles_0 8 rfl rfl)
theorem dX2_settles_9 : decode cX2_settles 9 = .ok (.aload_n 0, 1) := dk_42 (dk_at dksX2_settles_0 9 rfl rfl)
theorem dX2_settles_10 : decode cX2_settles 10 = .ok (.invokevirtual 223, 3) := dk_182 0 223 (dk_at dksX2_settles_0 10 rfl rfl)
theorem dX2_settles_13 : decode cX2_settles 13 = .ok (.istore_n 2, 1) := dk_61 (dk_at dksX2_settles_0 13 rfl rfl)
theorem dX2_settles_14 : decode cX2_settles 14 = .ok (.iconst 0, 1) := dk_3 (dk_at dksX2_settles_0 14 rfl rfl)
theorem dX2_settles_15 : decode cX2_settles 15 = .ok (.istore_n 3, 1) := dk_62 (dk_at dksX2_settles_0 15 rfl rfl)
theorem dX2_settles_16 : decode cX2_settles 16 = .ok (.iload_n 3, 1) := dk_29 (dk_at dksX2_settles_0 16 rfl rfl)
theorem dX2_settles_17 : decode cX2_settles 17 = .ok (.bipush 10, 2) := dk_16 10 (dk_at dksX2_settles_0 17 rfl rfl)
theorem dX2_settles_19 : decode cX2_settles 19 = .ok (.if_icmp .ge 92, 3) := dk_162 0 92 (dk_at dksX2_settles_0 19 rfl rfl)
theorem dX2_settles_22 : decode cX2_settles 22 = .ok (.iload_n 3, 1) := dk_29 (dk_at dksX2_settles_0 22 rfl rfl)
theorem dX2_settles_23 : decode cX2_settles 23 = .ok (.iconst 3, 1) := dk_6 (dk_at dksX2_settles_0 23 rfl rfl)
theorem dX2_settles_24 : decode cX2_settles 24 = .ok (.irem, 1) := dk_112 (dk_at dksX2_settles_1 0 rfl rfl)
theorem dX2_settles_25 : decode cX2_settles 25 = .ok (.iconst 2, 1) := dk_5 (dk_at dksX2_settles_1 1 rfl rfl)
theorem dX2_settles_26 : decode cX2_settles 26 = .ok (.if_icmp .ne 12, 3) := dk_160 0 12 (dk_at dksX2_settles_1 2 rfl rfl)
theorem dX2_settles_29 : decode cX2_settles 29 = .ok (.aload_n 1, 1) := dk_43 (dk_at dksX2_settles_1 5 rfl rfl)
theorem dX2_settles_30 : decode cX2_settles 30 = .ok (.invokevirtual 232, 3) := dk_182 0 232 (dk_at dksX2_settles_1 6 rfl rfl)
theorem dX2_settles_33 : decode cX2_settles 33 = .ok (.istore 4, 2) := dk_54 4 (dk_at dksX2_settles_1 9 rfl rfl)
theorem dX2_settles_35 : decode cX2_settles 35 = .ok (.goto 18, 3) := dk_167 0 18 (dk_at dksX2_settles_1 11 rfl rfl)
theorem dX2_settles_38 : decode cX2_settles 38 = .ok (.aload_n 1, 1) := dk_43 (dk_at dksX2_settles_1 14 rfl rfl)
theorem dX2_settles_39 : decode cX2_settles 39 = .ok (.iload_n 3, 1) := dk_29 (dk_at dksX2_settles_1 15 rfl rfl)
theorem dX2_settles_40 : decode cX2_settles 40 = .ok (.iconst 3, 1) := dk_6 (dk_at dksX2_settles_1 16 rfl rfl)
theorem dX2_settles_41 : decode cX2_settles 41 = .ok (.irem, 1) := dk_112 (dk_at dksX2_settles_1 17 rfl rfl)
theorem dX2_settles_42 : decode cX2_settles 42 = .ok (.ifCond .ne 7, 3) := dk_154 0 7 (dk_at dksX2_settles_1 18 rfl rfl)
theorem dX2_settles_45 : decode cX2_settles 45 = .ok (.iconst 1, 1) := dk_4 (dk_at dksX2_settles_1 21 rfl rfl)
theorem dX2_settles_46 : decode cX2_settles 46 = .ok (.goto 4, 3) := dk_167 0 4 (dk_at dksX2_settles_2 0 rfl rfl)
theorem dX2_settles_49 : decode cX2_settles 49 = .ok (.iconst 0, 1) := dk_3 (dk_at dksX2_settles_2 3 rfl rfl)
theorem dX2_settles_50 : decode cX2_settles 50 = .ok (.invokevirtual 219, 3) := dk_182 0 219 (dk_at dksX2_settles_2 4 rfl rfl)
theorem dX2_settles_53 : decode cX2_settles 53 = .ok (.aload_n 1, 1) := dk_43 (dk_at dksX2_settles_2 7 rfl rfl)
theorem dX2_settles_54 : decode cX2_settles 54 = .ok (.invokevirtual 223, 3) := dk_182 0 223 (dk_at dksX2_settles_2 8 rfl rfl)
theorem dX2_settles_57 : decode cX2_settles 57 = .ok (.istore 4, 2) := dk_54 4 (dk_at dksX2_settles_2 11 rfl rfl)
theorem dX2_settles_59 : decode cX2_settles 59 = .ok (.iconst 0, 1) := dk_3 (dk_at dksX2_settles_2 13 rfl rfl)
theorem dX2_settles_60 : decode cX2_settles 60 = .ok (.istore 5, 2) := dk_54 5 (dk_at dksX2_settles_2 14 rfl rfl)
theorem dX2_settles_62 : decode cX2_settles 62 = .ok (.iload 5, 2) := dk_21 5 (dk_at dksX2_settles_2 16 rfl rfl)
theorem dX2_settles_64 : decode cX2_settles 64 = .ok (.aload_n 0, 1) := dk_42 (dk_at dksX2_settles_2 18 rfl rfl)
theorem dX2_settles_65 : decode cX2_settles 65 = .ok (.getfield 39, 3) := dk_180 0 39 (dk_at dksX2_settles_2 19 rfl rfl)
theorem dX2_settles_68 : decode cX2_settles 68 = .ok (.arraylength, 1) := dk_190 (dk_at dksX2_settles_2 22 rfl rfl)
theorem dX2_settles_69 : decode cX2_settles 69 = .ok (.if_icmp .ge 29, 3) := dk_162 0 29 (dk_at dksX2_settles_3 0 rfl rfl)
theorem dX2_settles_72 : decode cX2_settles 72 = .ok (.iload 4, 2) := dk_21 4 (dk_at dksX2_settles_3 3 rfl rfl)
theorem dX2_settles_74 : decode cX2_settles 74 = .ok (.iload_n 2, 1) := dk_28 (dk_at dksX2_settles_3 5 rfl rfl)
theorem dX2_settles_75 : decode cX2_settles 75 = .ok (.if_icmp .ge 23, 3) := dk_162 0 23 (dk_at dksX2_settles_3 6 rfl rfl)
theorem dX2_settles_78 : decode cX2_settles 78 = .ok (.aload_n 0, 1) := dk_42 (dk_at dksX2_settles_3 9 rfl rfl)
theorem dX2_settles_79 : decode cX2_settles 79 = .ok (.getfield 39, 3) := dk_180 0 39 (dk_at dksX2_settles_3 10 rfl rfl)
theorem dX2_settles_82 : decode cX2_settles 82 = .ok (.iload 5, 2) := dk_21 5 (dk_at dksX2_settles_3 13 rfl rfl)
theorem dX2_settles_84 : decode cX2_settles 84 = .ok (.aload_n 1, 1) := dk_43 (dk_at dksX2_settles_3 15 rfl rfl)
theorem dX2_settles_85 : decode cX2_settles 85 = .ok (.getfield 39, 3) := dk_180 0 39 (dk_at dksX2_settles_3 16 rfl rfl)
theorem dX2_settles_88 : decode cX2_settles 88 = .ok (.iload 5, 2) := dk_21 5 (dk_at dksX2_settles_3 19 rfl rfl)
theorem dX2_settles_90 : decode cX2_settles 90 = .ok (.iaload, 1) := dk_46 (dk_at dksX2_settles_3 21 rfl rfl)
theorem dX2_settles_91 : decode cX2_settles 91 = .ok (.iastore, 1) := dk_79 (dk_at dksX2_settles_3 22 rfl rfl)
theorem dX2_settles_92 : decode cX2_settles 92 = .ok (.iinc 5 1, 3) := dk_132 5 1 (dk_at dksX2_settles_4 0 rfl rfl)
theorem dX2_settles_95 : decode cX2_settles 95 = .ok (.goto (-33), 3) := dk_167 255 223 (dk_at dksX2_settles_4 3 rfl rfl)
theorem dX2_settles_98 : decode cX2_settles 98 = .ok (.iload_n 2, 1) := dk_28 (dk_at dksX2_settles_4 6 rfl rfl)
theorem dX2_settles_99 : decode cX2_settles 99 = .ok (.iload 4, 2) := dk_21 4 (dk_at dksX2_settles_4 7 rfl rfl)
theorem dX2_settles_101 : decode cX2_settles 101 = .ok (.invokestatic 235, 3) := dk_184 0 235 (dk_at dksX2_settles_4 9 rfl rfl)
theorem dX2_settles_104 : decode cX2_settles 104 = .ok (.istore_n 2, 1) := dk_61 (dk_at dksX2_settles_4 12 rfl rfl)
theorem dX2_settles_105 : decode cX2_settles 105 = .ok (.iinc 3 1, 3) := dk_132 3 1 (dk_at dksX2_settles_4 13 rfl rfl)
theorem dX2_settles_108 : decode cX2_settles 108 = .ok (.goto (-92), 3) := dk_167 255 164 (dk_at dksX2_settles_4 16 rfl rfl)
theorem dX2_settles_111 : decode cX2_settles 111 = .ok (.iload_n 2, 1) := dk_28 (dk_at dksX2_settles_4 19 rfl rfl)
theorem dX2_settles_112 : decode cX2_settles 112 = .ok (.ireturn, 1) := dk_172 (dk_at dksX2_settles_4 20 rfl rfl)
def dkwX2_needlessOnes_1 : List UInt8 := [28, 46, 28, 182, 0, 94, 153, 0, 7, 4, 167, 0, 4, 3, 96, 60, 132, 2, 1, 167, 255, 217, 27, 172]
abbrev dktX2_needlessOnes_1 : List UInt8 := dkwX2_needlessOnes_1 ++ []
def dkwX2_needlessOnes_0 : List UInt8 := [3, 60, 3, 61, 28, 42, 180, 0, 54, 162, 0, 37, 27, 42, 42, 180, 0, 30, 28, 46, 42, 180, 0, 27]
abbrev dktX2_needlessOnes_0 : List UInt8 := dkwX2_needlessOnes_0 ++ dktX2_needlessOnes_1
theorem dksX2_needlessOnes_0 : cX2_needlessOnes.data.toList.drop 0 = dktX2_needlessOnes_0 := by decide +kernel
theorem dksX2_needlessOnes_1 : cX2_needlessOnes.data.toList.drop 24 = dktX2_needlessOnes_1 := dk_seg dksX2_needlessOnes_0 24 rfl rfl
theorem dX2_needlessOnes_0 : decode cX2_needlessOnes 0 = .ok (.iconst 0, 1) := dk_3 (dk_at dksX2_needlessOnes_0 0 rfl rfl)
theorem dX2_needlessOnes_1 : decode cX2_needlessOnes 1 = .ok (.istore_n 1, 1) := dk_60 (dk_at dksX2_needlessOnes_0 1 rfl rfl)
theorem dX2_needlessOnes_2 : decode cX2_needlessOnes 2 = .ok (.iconst 0, 1) := dk_3 (dk_at dksX2_needlessOnes_0 2 rfl rfl)
theorem dX2_needlessOnes_3 : decode cX2_needlessOnes 3 = .ok (.istore_n 2, 1) := dk_61 (dk_at dksX2_needlessOnes_0 3 rfl rfl)
theorem dX2_needlessOnes_4 : decode cX2_needlessOnes 4 = .ok (.iload_n 2, 1) := dk_28 (dk_at dksX2_needlessOnes_0 4 rfl rfl)
theorem dX2_needlessOnes_5 : decode cX2_needlessOnes 5 = .ok (.aload_n 0, 1) := dk_42 (dk_at dksX2_needlessOnes_0 5 rfl rfl)
theorem dX2_needlessOnes_6 : decode cX2_needlessOnes 6 = .ok (.getfield 54, 3) := dk_180 0 54 (dk_at dksX2_needlessOnes_0 6 rfl rfl)
theorem dX2_needlessOnes_9 : decode cX2_needlessOnes 9 = .ok (.if_icmp .ge 37, 3) := dk_162 0 37 (dk_at dksX2_needlessOnes_0 9 rfl rfl)
theorem dX2_needlessOnes_12 : decode cX2_needlessOnes 12 = .ok (.iload_n 1, 1) := dk_27 (dk_at dksX2_needlessOnes_0 12 rfl rfl)
theorem dX2_needlessOnes_13 : decode cX2_needlessOnes 13 = .ok (.aload_n 0, 1) := dk_42 (dk_at dksX2_needlessOnes_0 13 rfl rfl)
theorem dX2_needlessOnes_14 : decode cX2_needlessOnes 14 = .ok (.aload_n 0, 1) := dk_42 (dk_at dksX2_needlessOnes_0 14 rfl rfl)
theorem dX2_needlessOnes_15 : decode cX2_needlessOnes 15 = .ok (.getfield 30, 3) := dk_180 0 30 (dk_at dksX2_needlessOnes_0 15 rfl rfl)
theorem dX2_needlessOnes_18 : decode cX2_needlessOnes 18 = .ok (.iload_n 2, 1) := dk_28 (dk_at dksX2_needlessOnes_0 18 rfl rfl)
theorem dX2_needlessOnes_19 : decode cX2_needlessOnes 19 = .ok (.iaload, 1) := dk_46 (dk_at dksX2_needlessOnes_0 19 rfl rfl)
theorem dX2_needlessOnes_20 : decode cX2_needlessOnes 20 = .ok (.aload_n 0, 1) := dk_42 (dk_at dksX2_needlessOnes_0 20 rfl rfl)
theorem dX2_needlessOnes_21 : decode cX2_needlessOnes 21 = .ok (.getfield 27, 3) := dk_180 0 27 (dk_at dksX2_needlessOnes_0 21 rfl rfl)
theorem dX2_needlessOnes_24 : decode cX2_needlessOnes 24 = .ok (.iload_n 2, 1) := dk_28 (dk_at dksX2_needlessOnes_1 0 rfl rfl)
theorem dX2_needlessOnes_25 : decode cX2_needlessOnes 25 = .ok (.iaload, 1) := dk_46 (dk_at dksX2_needlessOnes_1 1 rfl rfl)
theorem dX2_needlessOnes_26 : decode cX2_needlessOnes 26 = .ok (.iload_n 2, 1) := dk_28 (dk_at dksX2_needlessOnes_1 2 rfl rfl)
theorem dX2_needlessOnes_27 : decode cX2_needlessOnes 27 = .ok (.invokevirtual 94, 3) := dk_182 0 94 (dk_at dksX2_needlessOnes_1 3 rfl rfl)
theorem dX2_needlessOnes_30 : decode cX2_needlessOnes 30 = .ok (.ifCond .eq 7, 3) := dk_153 0 7 (dk_at dksX2_needlessOnes_1 6 rfl rfl)
theorem dX2_needlessOnes_33 : decode cX2_needlessOnes 33 = .ok (.iconst 1, 1) := dk_4 (dk_at dksX2_needlessOnes_1 9 rfl rfl)
theorem dX2_needlessOnes_34 : decode cX2_needlessOnes 34 = .ok (.goto 4, 3) := dk_167 0 4 (dk_at dksX2_needlessOnes_1 10 rfl rfl)
theorem dX2_needlessOnes_37 : decode cX2_needlessOnes 37 = .ok (.iconst 0, 1) := dk_3 (dk_at dksX2_needlessOnes_1 13 rfl rfl)
theorem dX2_needlessOnes_38 : decode cX2_needlessOnes 38 = .ok (.iadd, 1) := dk_96 (dk_at dksX2_needlessOnes_1 14 rfl rfl)
theorem dX2_needlessOnes_39 : decode cX2_needlessOnes 39 = .ok (.istore_n 1, 1) := dk_60 (dk_at dksX2_needlessOnes_1 15 rfl rfl)
theorem dX2_needlessOnes_40 : decode cX2_needlessOnes 40 = .ok (.iinc 2 1, 3) := dk_132 2 1 (dk_at dksX2_needlessOnes_1 16 rfl rfl)
theorem dX2_needlessOnes_43 : decode cX2_needlessOnes 43 = .ok (.goto (-39), 3) := dk_167 255 217 (dk_at dksX2_needlessOnes_1 19 rfl rfl)
theorem dX2_needlessOnes_46 : decode cX2_needlessOnes 46 = .ok (.iload_n 1, 1) := dk_27 (dk_at dksX2_needlessOnes_1 22 rfl rfl)
theorem dX2_needlessOnes_47 : decode cX2_needlessOnes 47 = .ok (.ireturn, 1) := dk_172 (dk_at dksX2_needlessOnes_1 23 rfl rfl)
def dkwX2_endBoxes_2 : List UInt8 := [132, 3, 1, 167, 255, 219, 28, 172]
abbrev dktX2_endBoxes_2 : List UInt8 := dkwX2_endBoxes_2 ++ []
def dkwX2_endBoxes_1 : List UInt8 := [153, 0, 12, 42, 180, 0, 30, 29, 46, 167, 0, 9, 42, 180, 0, 27, 29, 46, 120, 2, 130, 126, 61]
abbrev dktX2_endBoxes_1 : List UInt8 := dkwX2_endBoxes_1 ++ dktX2_endBoxes_2
def dkwX2_endBoxes_0 : List UInt8 := [4, 42, 180, 0, 50, 120, 4, 100, 61, 3, 62, 29, 42, 180, 0, 54, 162, 0, 35, 28, 4, 27]
abbrev dktX2_endBoxes_0 : List UInt8 := dkwX2_endBoxes_0 ++ dktX2_endBoxes_1
theorem dksX2_endBoxes_0 : cX2_endBoxes.data.toList.drop 0 = dktX2_endBoxes_0 := by decide +kernel
theorem dksX2_endBoxes_1 : cX2_endBoxes.data.toList.drop 22 = dktX2_endBoxes_1 := dk_seg dksX2_endBoxes_0 22 rfl rfl
theorem dksX2_endBoxes_2 : cX2_endBoxes.data.toList.drop 45 = dktX2_endBoxes_2 := dk_seg dksX2_endBoxes_1 23 rfl rfl
theorem dX2_endBoxes_0 : decode cX2_endBoxes 0 = .ok (.iconst 1, 1) := dk_4 (dk_at dksX2_endBoxes_0 0 rfl rfl)
theorem dX2_endBoxes_1 : decode cX2_endBoxes 1 = .ok (.aload_n 0, 1) := dk_42 (dk_at dksX2_endBoxes_0 1 rfl rfl)
theorem dX2_endBoxes_2 : decode cX2_endBoxes 2 = .ok (.getfield 50, 3) := dk_180 0 50 (dk_at dksX2_endBoxes_0 2 rfl rfl)
theorem dX2_endBoxes_5 : decode cX2_endBoxes 5 = .ok (.ishl, 1) := dk_120 (dk_at dksX2_endBoxes_0 5 rfl rfl)
theorem dX2_endBoxes_6 : decode cX2_endBoxes 6 = .ok (.iconst 1, 1) := dk_4 (dk_at dksX2_endBoxes_0 6 rfl rfl)
theorem dX2_endBoxes_7 : decode cX2_endBoxes 7 = .ok (.isub, 1) := dk_100 (dk_at dksX2_endBoxes_0 7 rfl rfl)
theorem dX2_endBoxes_8 : decode cX2_endBoxes 8 = .ok (.istore_n 2, 1) := dk_61 (dk_at dksX2_endBoxes_0 8 rfl rfl)
theorem dX2_endBoxes_9 : decode cX2_endBoxes 9 = .ok (.iconst 0, 1) := dk_3 (dk_at dksX2_endBoxes_0 9 rfl rfl)
theorem dX2_endBoxes_10 : decode cX2_endBoxes 10 = .ok (.istore_n 3, 1) := dk_62 (dk_at dksX2_endBoxes_0 10 rfl rfl)
theorem dX2_endBoxes_11 : decode cX2_endBoxes 11 = .ok (.iload_n 3, 1) := dk_29 (dk_at dksX2_endBoxes_0 11 rfl rfl)
theorem dX2_endBoxes_12 : decode cX2_endBoxes 12 = .ok (.aload_n 0, 1) := dk_42 (dk_at dksX2_endBoxes_0 12 rfl rfl)
theorem dX2_endBoxes_13 : decode cX2_endBoxes 13 = .ok (.getfield 54, 3) := dk_180 0 54 (dk_at dksX2_endBoxes_0 13 rfl rfl)
theorem dX2_endBoxes_16 : decode cX2_endBoxes 16 = .ok (.if_icmp .ge 35, 3) := dk_162 0 35 (dk_at dksX2_endBoxes_0 16 rfl rfl)
theorem dX2_endBoxes_19 : decode cX2_endBoxes 19 = .ok (.iload_n 2, 1) := dk_28 (dk_at dksX2_endBoxes_0 19 rfl rfl)
theorem dX2_endBoxes_20 : decode cX2_endBoxes 20 = .ok (.iconst 1, 1) := dk_4 (dk_at dksX2_endBoxes_0 20 rfl rfl)
theorem dX2_endBoxes_21 : decode cX2_endBoxes 21 = .ok (.iload_n 1, 1) := dk_27 (dk_at dksX2_endBoxes_0 21 rfl rfl)
theorem dX2_endBoxes_22 : decode cX2_endBoxes 22 = .ok (.ifCond .eq 12, 3) := dk_153 0 12 (dk_at dksX2_endBoxes_1 0 rfl rfl)
theorem dX2_endBoxes_25 : decode cX2_endBoxes 25 = .ok (.aload_n 0, 1) := dk_42 (dk_at dksX2_endBoxes_1 3 rfl rfl)
theorem dX2_endBoxes_26 : decode cX2_endBoxes 26 = .ok (.getfield 30, 3) := dk_180 0 30 (dk_at dksX2_endBoxes_1 4 rfl rfl)
theorem dX2_endBoxes_29 : decode cX2_endBoxes 29 = .ok (.iload_n 3, 1) := dk_29 (dk_at dksX2_endBoxes_1 7 rfl rfl)
theorem dX2_endBoxes_30 : decode cX2_endBoxes 30 = .ok (.iaload, 1) := dk_46 (dk_at dksX2_endBoxes_1 8 rfl rfl)
theorem dX2_endBoxes_31 : decode cX2_endBoxes 31 = .ok (.goto 9, 3) := dk_167 0 9 (dk_at dksX2_endBoxes_1 9 rfl rfl)
theorem dX2_endBoxes_34 : decode cX2_endBoxes 34 = .ok (.aload_n 0, 1) := dk_42 (dk_at dksX2_endBoxes_1 12 rfl rfl)
theorem dX2_endBoxes_35 : decode cX2_endBoxes 35 = .ok (.getfield 27, 3) := dk_180 0 27 (dk_at dksX2_endBoxes_1 13 rfl rfl)
theorem dX2_endBoxes_38 : decode cX2_endBoxes 38 = .ok (.iload_n 3, 1) := dk_29 (dk_at dksX2_endBoxes_1 16 rfl rfl)
theorem dX2_endBoxes_39 : decode cX2_endBoxes 39 = .ok (.iaload, 1) := dk_46 (dk_at dksX2_endBoxes_1 17 rfl rfl)
theorem dX2_endBoxes_40 : decode cX2_endBoxes 40 = .ok (.ishl, 1) := dk_120 (dk_at dksX2_endBoxes_1 18 rfl rfl)
theorem dX2_endBoxes_41 : decode cX2_endBoxes 41 = .ok (.iconst (-1), 1) := dk_2 (dk_at dksX2_endBoxes_1 19 rfl rfl)
theorem dX2_endBoxes_42 : decode cX2_endBoxes 42 = .ok (.ixor, 1) := dk_130 (dk_at dksX2_endBoxes_1 20 rfl rfl)
theorem dX2_endBoxes_43 : decode cX2_endBoxes 43 = .ok (.iand, 1) := dk_126 (dk_at dksX2_endBoxes_1 21 rfl rfl)
theorem dX2_endBoxes_44 : decode cX2_endBoxes 44 = .ok (.istore_n 2, 1) := dk_61 (dk_at dksX2_endBoxes_1 22 rfl rfl)
theorem dX2_endBoxes_45 : decode cX2_endBoxes 45 = .ok (.iinc 3 1, 3) := dk_132 3 1 (dk_at dksX2_endBoxes_2 0 rfl rfl)
theorem dX2_endBoxes_48 : decode cX2_endBoxes 48 = .ok (.goto (-37), 3) := dk_167 255 219 (dk_at dksX2_endBoxes_2 3 rfl rfl)
theorem dX2_endBoxes_51 : decode cX2_endBoxes 51 = .ok (.iload_n 2, 1) := dk_28 (dk_at dksX2_endBoxes_2 6 rfl rfl)
theorem dX2_endBoxes_52 : decode cX2_endBoxes 52 = .ok (.ireturn, 1) := dk_172 (dk_at dksX2_endBoxes_2 7 rfl rfl)
def dkwX2_pointCount_1 : List UInt8 := [167, 255, 236, 27, 172]
abbrev dktX2_pointCount_1 : List UInt8 := dkwX2_pointCount_1 ++ []
def dkwX2_pointCount_0 : List UInt8 := [3, 60, 3, 61, 28, 42, 180, 0, 57, 162, 0, 18, 27, 42, 180, 0, 42, 28, 46, 96, 60, 132, 2, 1]
abbrev dktX2_pointCount_0 : List UInt8 := dkwX2_pointCount_0 ++ dktX2_pointCount_1
theorem dksX2_pointCount_0 : cX2_pointCount.data.toList.drop 0 = dktX2_pointCount_0 := by decide +kernel
theorem dksX2_pointCount_1 : cX2_pointCount.data.toList.drop 24 = dktX2_pointCount_1 := dk_seg dksX2_pointCount_0 24 rfl rfl
theorem dX2_pointCount_0 : decode cX2_pointCount 0 = .ok (.iconst 0, 1) := dk_3 (dk_at dksX2_pointCount_0 0 rfl rfl)
theorem dX2_pointCount_1 : decode cX2_pointCount 1 = .ok (.istore_n 1, 1) := dk_60 (dk_at dksX2_pointCount_0 1 rfl rfl)
theorem dX2_pointCount_2 : decode cX2_pointCount 2 = .ok (.iconst 0, 1) := dk_3 (dk_at dksX2_pointCount_0 2 rfl rfl)
theorem dX2_pointCount_3 : decode cX2_pointCount 3 = .ok (.istore_n 2, 1) := dk_61 (dk_at dksX2_pointCount_0 3 rfl rfl)
theorem dX2_pointCount_4 : decode cX2_pointCount 4 = .ok (.iload_n 2, 1) := dk_28 (dk_at dksX2_pointCount_0 4 rfl rfl)
theorem dX2_pointCount_5 : decode cX2_pointCount 5 = .ok (.aload_n 0, 1) := dk_42 (dk_at dksX2_pointCount_0 5 rfl rfl)
theorem dX2_pointCount_6 : decode cX2_pointCount 6 = .ok (.getfield 57, 3) := dk_180 0 57 (dk_at dksX2_pointCount_0 6 rfl rfl)
theorem dX2_pointCount_9 : decode cX2_pointCount 9 = .ok (.if_icmp .ge 18, 3) := dk_162 0 18 (dk_at dksX2_pointCount_0 9 rfl rfl)
theorem dX2_pointCount_12 : decode cX2_pointCount 12 = .ok (.iload_n 1, 1) := dk_27 (dk_at dksX2_pointCount_0 12 rfl rfl)
theorem dX2_pointCount_13 : decode cX2_pointCount 13 = .ok (.aload_n 0, 1) := dk_42 (dk_at dksX2_pointCount_0 13 rfl rfl)
theorem dX2_pointCount_14 : decode cX2_pointCount 14 = .ok (.getfield 42, 3) := dk_180 0 42 (dk_at dksX2_pointCount_0 14 rfl rfl)
theorem dX2_pointCount_17 : decode cX2_pointCount 17 = .ok (.iload_n 2, 1) := dk_28 (dk_at dksX2_pointCount_0 17 rfl rfl)
theorem dX2_pointCount_18 : decode cX2_pointCount 18 = .ok (.iaload, 1) := dk_46 (dk_at dksX2_pointCount_0 18 rfl rfl)
theorem dX2_pointCount_19 : decode cX2_pointCount 19 = .ok (.iadd, 1) := dk_96 (dk_at dksX2_pointCount_0 19 rfl rfl)
theorem dX2_pointCount_20 : decode cX2_pointCount 20 = .ok (.istore_n 1, 1) := dk_60 (dk_at dksX2_pointCount_0 20 rfl rfl)
theorem dX2_pointCount_21 : decode cX2_pointCount 21 = .ok (.iinc 2 1, 3) := dk_132 2 1 (dk_at dksX2_pointCount_0 21 rfl rfl)
theorem dX2_pointCount_24 : decode cX2_pointCount 24 = .ok (.goto (-20), 3) := dk_167 255 236 (dk_at dksX2_pointCount_1 0 rfl rfl)
theorem dX2_pointCount_27 : decode cX2_pointCount 27 = .ok (.iload_n 1, 1) := dk_27 (dk_at dksX2_pointCount_1 3 rfl rfl)
theorem dX2_pointCount_28 : decode cX2_pointCount 28 = .ok (.ireturn, 1) := dk_172 (dk_at dksX2_pointCount_1 4 rfl rfl)
def dkwX2_putIn_5 : List UInt8 := [21, 5, 182, 0, 141, 96, 79, 132, 5, 1, 167, 255, 225, 132, 4, 1, 167, 255, 138, 29, 172]
abbrev dktX2_putIn_5 : List UInt8 := dkwX2_putIn_5 ++ []
def dkwX2_putIn_4 : List UInt8 := [54, 5, 21, 5, 42, 180, 0, 42, 27, 4, 96, 46, 162, 0, 24, 44, 21, 5, 92, 46, 42, 21, 4]
abbrev dktX2_putIn_4 : List UInt8 := dkwX2_putIn_4 ++ dktX2_putIn_5
def dkwX2_putIn_3 : List UInt8 := [29, 21, 6, 44, 21, 7, 46, 104, 96, 62, 132, 7, 1, 167, 255, 230, 132, 5, 1, 167, 255, 195, 3]
abbrev dktX2_putIn_3 : List UInt8 := dkwX2_putIn_3 ++ dktX2_putIn_4
def dkwX2_putIn_2 : List UInt8 := [182, 0, 141, 54, 6, 21, 5, 4, 96, 54, 7, 21, 7, 42, 180, 0, 42, 27, 4, 96, 46, 162, 0, 19]
abbrev dktX2_putIn_2 : List UInt8 := dkwX2_putIn_2 ++ dktX2_putIn_3
def dkwX2_putIn_1 : List UInt8 := [162, 0, 113, 3, 54, 5, 21, 5, 42, 180, 0, 42, 27, 4, 96, 46, 162, 0, 54, 42, 21, 4, 21, 5]
abbrev dktX2_putIn_1 : List UInt8 := dkwX2_putIn_1 ++ dktX2_putIn_2
def dkwX2_putIn_0 : List UInt8 := [42, 27, 182, 0, 131, 16, 46, 188, 10, 77, 3, 62, 3, 54, 4, 21, 4, 42, 180, 0, 42, 27, 46]
abbrev dktX2_putIn_0 : List UInt8 := dkwX2_putIn_0 ++ dktX2_putIn_1
theorem dksX2_putIn_0 : cX2_putIn.data.toList.drop 0 = dktX2_putIn_0 := by decide +kernel
theorem dksX2_putIn_1 : cX2_putIn.data.toList.drop 23 = dktX2_putIn_1 := dk_seg dksX2_putIn_0 23 rfl rfl
theorem dksX2_putIn_2 : cX2_putIn.data.toList.drop 47 = dktX2_putIn_2 := dk_seg dksX2_putIn_1 24 rfl rfl
theorem dksX2_putIn_3 : cX2_putIn.data.toList.drop 71 = dktX2_putIn_3 := dk_seg dksX2_putIn_2 24 rfl rfl
theorem dksX2_putIn_4 : cX2_putIn.data.toList.drop 94 = dktX2_putIn_4 := dk_seg dksX2_putIn_3 23 rfl rfl
theorem dksX2_putIn_5 : cX2_putIn.data.toList.drop 117 = dktX2_putIn_5 := dk_seg dksX2_putIn_4 23 rfl rfl
theorem dX2_putIn_0 : decode cX2_putIn 0 = .ok (.aload_n 0, 1) := dk_42 (dk_at dksX2_putIn_0 0 rfl rfl)
theorem dX2_putIn_1 : decode cX2_putIn 1 = .ok (.iload_n 1, 1) := dk_27 (dk_at dksX2_putIn_0 1 rfl rfl)
theorem dX2_putIn_2 : decode cX2_putIn 2 = .ok (.invokevirtual 131, 3) := dk_182 0 131 (dk_at dksX2_putIn_0 2 rfl rfl)
theorem dX2_putIn_5 : decode cX2_putIn 5 = .ok (.bipush 46, 2) := dk_16 46 (dk_at dksX2_putIn_0 5 rfl rfl)
theorem dX2_putIn_7 : decode cX2_putIn 7 = .ok (.newarray .int, 2) := dk_188_10 (dk_at dksX2_putIn_0 7 rfl rfl)
theorem dX2_putIn_9 : decode cX2_putIn 9 = .ok (.astore_n 2, 1) := dk_77 (dk_at dksX2_putIn_0 9 rfl rfl)
theorem dX2_putIn_10 : decode cX2_putIn 10 = .ok (.iconst 0, 1) := dk_3 (dk_at dksX2_putIn_0 10 rfl rfl)
theorem dX2_putIn_11 : decode cX2_putIn 11 = .ok (.istore_n 3, 1) := dk_62 (dk_at dksX2_putIn_0 11 rfl rfl)
theorem dX2_putIn_12 : decode cX2_putIn 12 = .ok (.iconst 0, 1) := dk_3 (dk_at dksX2_putIn_0 12 rfl rfl)
theorem dX2_putIn_13 : decode cX2_putIn 13 = .ok (.istore 4, 2) := dk_54 4 (dk_at dksX2_putIn_0 13 rfl rfl)
theorem dX2_putIn_15 : decode cX2_putIn 15 = .ok (.iload 4, 2) := dk_21 4 (dk_at dksX2_putIn_0 15 rfl rfl)
theorem dX2_putIn_17 : decode cX2_putIn 17 = .ok (.aload_n 0, 1) := dk_42 (dk_at dksX2_putIn_0 17 rfl rfl)
theorem dX2_putIn_18 : decode cX2_putIn 18 = .ok (.getfield 42, 3) := dk_180 0 42 (dk_at dksX2_putIn_0 18 rfl rfl)
theorem dX2_putIn_21 : decode cX2_putIn 21 = .ok (.iload_n 1, 1) := dk_27 (dk_at dksX2_putIn_0 21 rfl rfl)
theorem dX2_putIn_22 : decode cX2_putIn 22 = .ok (.iaload, 1) := dk_46 (dk_at dksX2_putIn_0 22 rfl rfl)
theorem dX2_putIn_23 : decode cX2_putIn 23 = .ok (.if_icmp .ge 113, 3) := dk_162 0 113 (dk_at dksX2_putIn_1 0 rfl rfl)
theorem dX2_putIn_26 : decode cX2_putIn 26 = .ok (.iconst 0, 1) := dk_3 (dk_at dksX2_putIn_1 3 rfl rfl)
theorem dX2_putIn_27 : decode cX2_putIn 27 = .ok (.istore 5, 2) := dk_54 5 (dk_at dksX2_putIn_1 4 rfl rfl)
theorem dX2_putIn_29 : decode cX2_putIn 29 = .ok (.iload 5, 2) := dk_21 5 (dk_at dksX2_putIn_1 6 rfl rfl)
theorem dX2_putIn_31 : decode cX2_putIn 31 = .ok (.aload_n 0, 1) := dk_42 (dk_at dksX2_putIn_1 8 rfl rfl)
theorem dX2_putIn_32 : decode cX2_putIn 32 = .ok (.getfield 42, 3) := dk_180 0 42 (dk_at dksX2_putIn_1 9 rfl rfl)
theorem dX2_putIn_35 : decode cX2_putIn 35 = .ok (.iload_n 1, 1) := dk_27 (dk_at dksX2_putIn_1 12 rfl rfl)
theorem dX2_putIn_36 : decode cX2_putIn 36 = .ok (.iconst 1, 1) := dk_4 (dk_at dksX2_putIn_1 13 rfl rfl)
theorem dX2_putIn_37 : decode cX2_putIn 37 = .ok (.iadd, 1) := dk_96 (dk_at dksX2_putIn_1 14 rfl rfl)
theorem dX2_putIn_38 : decode cX2_putIn 38 = .ok (.iaload, 1) := dk_46 (dk_at dksX2_putIn_1 15 rfl rfl)
theorem dX2_putIn_39 : decode cX2_putIn 39 = .ok (.if_icmp .ge 54, 3) := dk_162 0 54 (dk_at dksX2_putIn_1 16 rfl rfl)
theorem dX2_putIn_42 : decode cX2_putIn 42 = .ok (.aload_n 0, 1) := dk_42 (dk_at dksX2_putIn_1 19 rfl rfl)
theorem dX2_putIn_43 : decode cX2_putIn 43 = .ok (.iload 4, 2) := dk_21 4 (dk_at dksX2_putIn_1 20 rfl rfl)
theorem dX2_putIn_45 : decode cX2_putIn 45 = .ok (.iload 5, 2) := dk_21 5 (dk_at dksX2_putIn_1 22 rfl rfl)
theorem dX2_putIn_47 : decode cX2_putIn 47 = .ok (.invokevirtual 141, 3) := dk_182 0 141 (dk_at dksX2_putIn_2 0 rfl rfl)
theorem dX2_putIn_50 : decode cX2_putIn 50 = .ok (.istore 6, 2) := dk_54 6 (dk_at dksX2_putIn_2 3 rfl rfl)
theorem dX2_putIn_52 : decode cX2_putIn 52 = .ok (.iload 5, 2) := dk_21 5 (dk_at dksX2_putIn_2 5 rfl rfl)
theorem dX2_putIn_54 : decode cX2_putIn 54 = .ok (.iconst 1, 1) := dk_4 (dk_at dksX2_putIn_2 7 rfl rfl)
theorem dX2_putIn_55 : decode cX2_putIn 55 = .ok (.iadd, 1) := dk_96 (dk_at dksX2_putIn_2 8 rfl rfl)
theorem dX2_putIn_56 : decode cX2_putIn 56 = .ok (.istore 7, 2) := dk_54 7 (dk_at dksX2_putIn_2 9 rfl rfl)
theorem dX2_putIn_58 : decode cX2_putIn 58 = .ok (.iload 7, 2) := dk_21 7 (dk_at dksX2_putIn_2 11 rfl rfl)
theorem dX2_putIn_60 : decode cX2_putIn 60 = .ok (.aload_n 0, 1) := dk_42 (dk_at dksX2_putIn_2 13 rfl rfl)
theorem dX2_putIn_61 : decode cX2_putIn 61 = .ok (.getfield 42, 3) := dk_180 0 42 (dk_at dksX2_putIn_2 14 rfl rfl)
theorem dX2_putIn_64 : decode cX2_putIn 64 = .ok (.iload_n 1, 1) := dk_27 (dk_at dksX2_putIn_2 17 rfl rfl)
theorem dX2_putIn_65 : decode cX2_putIn 65 = .ok (.iconst 1, 1) := dk_4 (dk_at dksX2_putIn_2 18 rfl rfl)
theorem dX2_putIn_66 : decode cX2_putIn 66 = .ok (.iadd, 1) := dk_96 (dk_at dksX2_putIn_2 19 rfl rfl)
theorem dX2_putIn_67 : decode cX2_putIn 67 = .ok (.iaload, 1) := dk_46 (dk_at dksX2_putIn_2 20 rfl rfl)
theorem dX2_putIn_68 : decode cX2_putIn 68 = .ok (.if_icmp .ge 19, 3) := dk_162 0 19 (dk_at dksX2_putIn_2 21 rfl rfl)
theorem dX2_putIn_71 : decode cX2_putIn 71 = .ok (.iload_n 3, 1) := dk_29 (dk_at dksX2_putIn_3 0 rfl rfl)
theorem dX2_putIn_72 : decode cX2_putIn 72 = .ok (.iload 6, 2) := dk_21 6 (dk_at dksX2_putIn_3 1 rfl rfl)
theorem dX2_putIn_74 : decode cX2_putIn 74 = .ok (.aload_n 2, 1) := dk_44 (dk_at dksX2_putIn_3 3 rfl rfl)
theorem dX2_putIn_75 : decode cX2_putIn 75 = .ok (.iload 7, 2) := dk_21 7 (dk_at dksX2_putIn_3 4 rfl rfl)
theorem dX2_putIn_77 : decode cX2_putIn 77 = .ok (.iaload, 1) := dk_46 (dk_at dksX2_putIn_3 6 rfl rfl)
theorem dX2_putIn_78 : decode cX2_putIn 78 = .ok (.imul, 1) := dk_104 (dk_at dksX2_putIn_3 7 rfl rfl)
theorem dX2_putIn_79 : decode cX2_putIn 79 = .ok (.iadd, 1) := dk_96 (dk_at dksX2_putIn_3 8 rfl rfl)
theorem dX2_putIn_80 : decode cX2_putIn 80 = .ok (.istore_n 3, 1) := dk_62 (dk_at dksX2_putIn_3 9 rfl rfl)
theorem dX2_putIn_81 : decode cX2_putIn 81 = .ok (.iinc 7 1, 3) := dk_132 7 1 (dk_at dksX2_putIn_3 10 rfl rfl)
theorem dX2_putIn_84 : decode cX2_putIn 84 = .ok (.goto (-26), 3) := dk_167 255 230 (dk_at dksX2_putIn_3 13 rfl rfl)
theorem dX2_putIn_87 : decode cX2_putIn 87 = .ok (.iinc 5 1, 3) := dk_132 5 1 (dk_at dksX2_putIn_3 16 rfl rfl)
theorem dX2_putIn_90 : decode cX2_putIn 90 = .ok (.goto (-61), 3) := dk_167 255 195 (dk_at dksX2_putIn_3 19 rfl rfl)
theorem dX2_putIn_93 : decode cX2_putIn 93 = .ok (.iconst 0, 1) := dk_3 (dk_at dksX2_putIn_3 22 rfl rfl)
theorem dX2_putIn_94 : decode cX2_putIn 94 = .ok (.istore 5, 2) := dk_54 5 (dk_at dksX2_putIn_4 0 rfl rfl)
theorem dX2_putIn_96 : decode cX2_putIn 96 = .ok (.iload 5, 2) := dk_21 5 (dk_at dksX2_putIn_4 2 rfl rfl)
theorem dX2_putIn_98 : decode cX2_putIn 98 = .ok (.aload_n 0, 1) := dk_42 (dk_at dksX2_putIn_4 4 rfl rfl)
theorem dX2_putIn_99 : decode cX2_putIn 99 = .ok (.getfield 42, 3) := dk_180 0 42 (dk_at dksX2_putIn_4 5 rfl rfl)
theorem dX2_putIn_102 : decode cX2_putIn 102 = .ok (.iload_n 1, 1) := dk_27 (dk_at dksX2_putIn_4 8 rfl rfl)
theorem dX2_putIn_103 : decode cX2_putIn 103 = .ok (.iconst 1, 1) := dk_4 (dk_at dksX2_putIn_4 9 rfl rfl)
theorem dX2_putIn_104 : decode cX2_putIn 104 = .ok (.iadd, 1) := dk_96 (dk_at dksX2_putIn_4 10 rfl rfl)
theorem dX2_putIn_105 : decode cX2_putIn 105 = .ok (.iaload, 1) := dk_46 (dk_at dksX2_putIn_4 11 rfl rfl)
theorem dX2_putIn_106 : decode cX2_putIn 106 = .ok (.if_icmp .ge 24, 3) := dk_162 0 24 (dk_at dksX2_putIn_4 12 rfl rfl)
theorem dX2_putIn_109 : decode cX2_putIn 109 = .ok (.aload_n 2, 1) := dk_44 (dk_at dksX2_putIn_4 15 rfl rfl)
theorem dX2_putIn_110 : decode cX2_putIn 110 = .ok (.iload 5, 2) := dk_21 5 (dk_at dksX2_putIn_4 16 rfl rfl)
theorem dX2_putIn_112 : decode cX2_putIn 112 = .ok (.dup2, 1) := dk_92 (dk_at dksX2_putIn_4 18 rfl rfl)
theorem dX2_putIn_113 : decode cX2_putIn 113 = .ok (.iaload, 1) := dk_46 (dk_at dksX2_putIn_4 19 rfl rfl)
theorem dX2_putIn_114 : decode cX2_putIn 114 = .ok (.aload_n 0, 1) := dk_42 (dk_at dksX2_putIn_4 20 rfl rfl)
theorem dX2_putIn_115 : decode cX2_putIn 115 = .ok (.iload 4, 2) := dk_21 4 (dk_at dksX2_putIn_4 21 rfl rfl)
theorem dX2_putIn_117 : decode cX2_putIn 117 = .ok (.iload 5, 2) := dk_21 5 (dk_at dksX2_putIn_5 0 rfl rfl)
theorem dX2_putIn_119 : decode cX2_putIn 119 = .ok (.invokevirtual 141, 3) := dk_182 0 141 (dk_at dksX2_putIn_5 2 rfl rfl)
theorem dX2_putIn_122 : decode cX2_putIn 122 = .ok (.iadd, 1) := dk_96 (dk_at dksX2_putIn_5 5 rfl rfl)
theorem dX2_putIn_123 : decode cX2_putIn 123 = .ok (.iastore, 1) := dk_79 (dk_at dksX2_putIn_5 6 rfl rfl)
theorem dX2_putIn_124 : decode cX2_putIn 124 = .ok (.iinc 5 1, 3) := dk_132 5 1 (dk_at dksX2_putIn_5 7 rfl rfl)
theorem dX2_putIn_127 : decode cX2_putIn 127 = .ok (.goto (-31), 3) := dk_167 255 225 (dk_at dksX2_putIn_5 10 rfl rfl)
theorem dX2_putIn_130 : decode cX2_putIn 130 = .ok (.iinc 4 1, 3) := dk_132 4 1 (dk_at dksX2_putIn_5 13 rfl rfl)
theorem dX2_putIn_133 : decode cX2_putIn 133 = .ok (.goto (-118), 3) := dk_167 255 138 (dk_at dksX2_putIn_5 16 rfl rfl)
theorem dX2_putIn_136 : decode cX2_putIn 136 = .ok (.iload_n 3, 1) := dk_29 (dk_at dksX2_putIn_5 19 rfl rfl)
theorem dX2_putIn_137 : decode cX2_putIn 137 = .ok (.ireturn, 1) := dk_172 (dk_at dksX2_putIn_5 20 rfl rfl)
def dkwX2_lines_2 : List UInt8 := [167, 255, 214, 29, 172]
abbrev dktX2_lines_2 : List UInt8 := dkwX2_lines_2 ++ []
def dkwX2_lines_1 : List UInt8 := [160, 0, 18, 42, 180, 0, 15, 21, 4, 46, 28, 160, 0, 7, 4, 167, 0, 4, 3, 96, 62, 132, 4, 1]
abbrev dktX2_lines_1 : List UInt8 := dkwX2_lines_1 ++ dktX2_lines_2
def dkwX2_lines_0 : List UInt8 := [3, 62, 3, 54, 4, 21, 4, 42, 180, 0, 54, 162, 0, 39, 29, 42, 180, 0, 9, 21, 4, 46, 27]
abbrev dktX2_lines_0 : List UInt8 := dkwX2_lines_0 ++ dktX2_lines_1
theorem dksX2_lines_0 : cX2_lines.data.toList.drop 0 = dktX2_lines_0 := by decide +kernel
theorem dksX2_lines_1 : cX2_lines.data.toList.drop 23 = dktX2_lines_1 := dk_seg dksX2_lines_0 23 rfl rfl
theorem dksX2_lines_2 : cX2_lines.data.toList.drop 47 = dktX2_lines_2 := dk_seg dksX2_lines_1 24 rfl rfl
theorem dX2_lines_0 : decode cX2_lines 0 = .ok (.iconst 0, 1) := dk_3 (dk_at dksX2_lines_0 0 rfl rfl)
theorem dX2_lines_1 : decode cX2_lines 1 = .ok (.istore_n 3, 1) := dk_62 (dk_at dksX2_lines_0 1 rfl rfl)
theorem dX2_lines_2 : decode cX2_lines 2 = .ok (.iconst 0, 1) := dk_3 (dk_at dksX2_lines_0 2 rfl rfl)
theorem dX2_lines_3 : decode cX2_lines 3 = .ok (.istore 4, 2) := dk_54 4 (dk_at dksX2_lines_0 3 rfl rfl)
theorem dX2_lines_5 : decode cX2_lines 5 = .ok (.iload 4, 2) := dk_21 4 (dk_at dksX2_lines_0 5 rfl rfl)
theorem dX2_lines_7 : decode cX2_lines 7 = .ok (.aload_n 0, 1) := dk_42 (dk_at dksX2_lines_0 7 rfl rfl)
theorem dX2_lines_8 : decode cX2_lines 8 = .ok (.getfield 54, 3) := dk_180 0 54 (dk_at dksX2_lines_0 8 rfl rfl)
theorem dX2_lines_11 : decode cX2_lines 11 = .ok (.if_icmp .ge 39, 3) := dk_162 0 39 (dk_at dksX2_lines_0 11 rfl rfl)
theorem dX2_lines_14 : decode cX2_lines 14 = .ok (.iload_n 3, 1) := dk_29 (dk_at dksX2_lines_0 14 rfl rfl)
theorem dX2_lines_15 : decode cX2_lines 15 = .ok (.aload_n 0, 1) := dk_42 (dk_at dksX2_lines_0 15 rfl rfl)
theorem dX2_lines_16 : decode cX2_lines 16 = .ok (.getfield 9, 3) := dk_180 0 9 (dk_at dksX2_lines_0 16 rfl rfl)
theorem dX2_lines_19 : decode cX2_lines 19 = .ok (.iload 4, 2) := dk_21 4 (dk_at dksX2_lines_0 19 rfl rfl)
theorem dX2_lines_21 : decode cX2_lines 21 = .ok (.iaload, 1) := dk_46 (dk_at dksX2_lines_0 21 rfl rfl)
theorem dX2_lines_22 : decode cX2_lines 22 = .ok (.iload_n 1, 1) := dk_27 (dk_at dksX2_lines_0 22 rfl rfl)
theorem dX2_lines_23 : decode cX2_lines 23 = .ok (.if_icmp .ne 18, 3) := dk_160 0 18 (dk_at dksX2_lines_1 0 rfl rfl)
theorem dX2_lines_26 : decode cX2_lines 26 = .ok (.aload_n 0, 1) := dk_42 (dk_at dksX2_lines_1 3 rfl rfl)
theorem dX2_lines_27 : decode cX2_lines 27 = .ok (.getfield 15, 3) := dk_180 0 15 (dk_at dksX2_lines_1 4 rfl rfl)
theorem dX2_lines_30 : decode cX2_lines 30 = .ok (.iload 4, 2) := dk_21 4 (dk_at dksX2_lines_1 7 rfl rfl)
theorem dX2_lines_32 : decode cX2_lines 32 = .ok (.iaload, 1) := dk_46 (dk_at dksX2_lines_1 9 rfl rfl)
theorem dX2_lines_33 : decode cX2_lines 33 = .ok (.iload_n 2, 1) := dk_28 (dk_at dksX2_lines_1 10 rfl rfl)
theorem dX2_lines_34 : decode cX2_lines 34 = .ok (.if_icmp .ne 7, 3) := dk_160 0 7 (dk_at dksX2_lines_1 11 rfl rfl)
theorem dX2_lines_37 : decode cX2_lines 37 = .ok (.iconst 1, 1) := dk_4 (dk_at dksX2_lines_1 14 rfl rfl)
theorem dX2_lines_38 : decode cX2_lines 38 = .ok (.goto 4, 3) := dk_167 0 4 (dk_at dksX2_lines_1 15 rfl rfl)
theorem dX2_lines_41 : decode cX2_lines 41 = .ok (.iconst 0, 1) := dk_3 (dk_at dksX2_lines_1 18 rfl rfl)
theorem dX2_lines_42 : decode cX2_lines 42 = .ok (.iadd, 1) := dk_96 (dk_at dksX2_lines_1 19 rfl rfl)
theorem dX2_lines_43 : decode cX2_lines 43 = .ok (.istore_n 3, 1) := dk_62 (dk_at dksX2_lines_1 20 rfl rfl)
theorem dX2_lines_44 : decode cX2_lines 44 = .ok (.iinc 4 1, 3) := dk_132 4 1 (dk_at dksX2_lines_1 21 rfl rfl)
theorem dX2_lines_47 : decode cX2_lines 47 = .ok (.goto (-42), 3) := dk_167 255 214 (dk_at dksX2_lines_2 0 rfl rfl)
theorem dX2_lines_50 : decode cX2_lines 50 = .ok (.iload_n 3, 1) := dk_29 (dk_at dksX2_lines_2 3 rfl rfl)
theorem dX2_lines_51 : decode cX2_lines 51 = .ok (.ireturn, 1) := dk_172 (dk_at dksX2_lines_2 4 rfl rfl)
def dkwX2_columns_4 : List UInt8 := [132, 2, 1, 167, 255, 165, 43, 176]
abbrev dktX2_columns_4 : List UInt8 := dkwX2_columns_4 ++ []
def dkwX2_columns_3 : List UInt8 := [108, 54, 5, 43, 28, 16, 46, 104, 29, 96, 21, 4, 21, 5, 184, 0, 102, 79, 132, 3, 1, 167, 255, 181]
abbrev dktX2_columns_3 : List UInt8 := dkwX2_columns_3 ++ dktX2_columns_4
def dkwX2_columns_2 : List UInt8 := [54, 4, 28, 154, 0, 7, 3, 167, 0, 18, 42, 3, 42, 28, 29, 4, 43, 182, 0, 144, 182, 0, 148, 5]
abbrev dktX2_columns_2 : List UInt8 := dkwX2_columns_2 ++ dktX2_columns_3
def dkwX2_columns_1 : List UInt8 := [46, 162, 0, 71, 29, 154, 0, 7, 3, 167, 0, 15, 43, 28, 16, 46, 104, 29, 96, 4, 100, 46, 4, 96]
abbrev dktX2_columns_1 : List UInt8 := dkwX2_columns_1 ++ dktX2_columns_2
def dkwX2_columns_0 : List UInt8 := [17, 4, 126, 188, 10, 76, 3, 61, 28, 42, 180, 0, 57, 162, 0, 89, 3, 62, 29, 42, 180, 0, 42, 28]
abbrev dktX2_columns_0 : List UInt8 := dkwX2_columns_0 ++ dktX2_columns_1
theorem dksX2_columns_0 : cX2_columns.data.toList.drop 0 = dktX2_columns_0 := by decide +kernel
theorem dksX2_columns_1 : cX2_columns.data.toList.drop 24 = dktX2_columns_1 := dk_seg dksX2_columns_0 24 rfl rfl
theorem dksX2_columns_2 : cX2_columns.data.toList.drop 48 = dktX2_columns_2 := dk_seg dksX2_columns_1 24 rfl rfl
theorem dksX2_columns_3 : cX2_columns.data.toList.drop 72 = dktX2_columns_3 := dk_seg dksX2_columns_2 24 rfl rfl
theorem dksX2_columns_4 : cX2_columns.data.toList.drop 96 = dktX2_columns_4 := dk_seg dksX2_columns_3 24 rfl rfl
theorem dX2_columns_0 : decode cX2_columns 0 = .ok (.sipush 1150, 3) := dk_17 4 126 (dk_at dksX2_columns_0 0 rfl rfl)
theorem dX2_columns_3 : decode cX2_columns 3 = .ok (.newarray .int, 2) := dk_188_10 (dk_at dksX2_columns_0 3 rfl rfl)
theorem dX2_columns_5 : decode cX2_columns 5 = .ok (.astore_n 1, 1) := dk_76 (dk_at dksX2_columns_0 5 rfl rfl)
theorem dX2_columns_6 : decode cX2_columns 6 = .ok (.iconst 0, 1) := dk_3 (dk_at dksX2_columns_0 6 rfl rfl)
theorem dX2_columns_7 : decode cX2_columns 7 = .ok (.istore_n 2, 1) := dk_61 (dk_at dksX2_columns_0 7 rfl rfl)
theorem dX2_columns_8 : decode cX2_columns 8 = .ok (.iload_n 2, 1) := dk_28 (dk_at dksX2_columns_0 8 rfl rfl)
theorem dX2_columns_9 : decode cX2_columns 9 = .ok (.aload_n 0, 1) := dk_42 (dk_at dksX2_columns_0 9 rfl rfl)
theorem dX2_columns_10 : decode cX2_columns 10 = .ok (.getfield 57, 3) := dk_180 0 57 (dk_at dksX2_columns_0 10 rfl rfl)
theorem dX2_columns_13 : decode cX2_columns 13 = .ok (.if_icmp .ge 89, 3) := dk_162 0 89 (dk_at dksX2_columns_0 13 rfl rfl)
theorem dX2_columns_16 : decode cX2_columns 16 = .ok (.iconst 0, 1) := dk_3 (dk_at dksX2_columns_0 16 rfl rfl)
theorem dX2_columns_17 : decode cX2_columns 17 = .ok (.istore_n 3, 1) := dk_62 (dk_at dksX2_columns_0 17 rfl rfl)
theorem dX2_columns_18 : decode cX2_columns 18 = .ok (.iload_n 3, 1) := dk_29 (dk_at dksX2_columns_0 18 rfl rfl)
theorem dX2_columns_19 : decode cX2_columns 19 = .ok (.aload_n 0, 1) := dk_42 (dk_at dksX2_columns_0 19 rfl rfl)
theorem dX2_columns_20 : decode cX2_columns 20 = .ok (.getfield 42, 3) := dk_180 0 42 (dk_at dksX2_columns_0 20 rfl rfl)
theorem dX2_columns_23 : decode cX2_columns 23 = .ok (.iload_n 2, 1) := dk_28 (dk_at dksX2_columns_0 23 rfl rfl)
theorem dX2_columns_24 : decode cX2_columns 24 = .ok (.iaload, 1) := dk_46 (dk_at dksX2_columns_1 0 rfl rfl)
theorem dX2_columns_25 : decode cX2_columns 25 = .ok (.if_icmp .ge 71, 3) := dk_162 0 71 (dk_at dksX2_columns_1 1 rfl rfl)
theorem dX2_columns_28 : decode cX2_columns 28 = .ok (.iload_n 3, 1) := dk_29 (dk_at dksX2_columns_1 4 rfl rfl)
theorem dX2_columns_29 : decode cX2_columns 29 = .ok (.ifCond .ne 7, 3) := dk_154 0 7 (dk_at dksX2_columns_1 5 rfl rfl)
theorem dX2_columns_32 : decode cX2_columns 32 = .ok (.iconst 0, 1) := dk_3 (dk_at dksX2_columns_1 8 rfl rfl)
theorem dX2_columns_33 : decode cX2_columns 33 = .ok (.goto 15, 3) := dk_167 0 15 (dk_at dksX2_columns_1 9 rfl rfl)
theorem dX2_columns_36 : decode cX2_columns 36 = .ok (.aload_n 1, 1) := dk_43 (dk_at dksX2_columns_1 12 rfl rfl)
theorem dX2_columns_37 : decode cX2_columns 37 = .ok (.iload_n 2, 1) := dk_28 (dk_at dksX2_columns_1 13 rfl rfl)
theorem dX2_columns_38 : decode cX2_columns 38 = .ok (.bipush 46, 2) := dk_16 46 (dk_at dksX2_columns_1 14 rfl rfl)
theorem dX2_columns_40 : decode cX2_columns 40 = .ok (.imul, 1) := dk_104 (dk_at dksX2_columns_1 16 rfl rfl)
theorem dX2_columns_41 : decode cX2_columns 41 = .ok (.iload_n 3, 1) := dk_29 (dk_at dksX2_columns_1 17 rfl rfl)
theorem dX2_columns_42 : decode cX2_columns 42 = .ok (.iadd, 1) := dk_96 (dk_at dksX2_columns_1 18 rfl rfl)
theorem dX2_columns_43 : decode cX2_columns 43 = .ok (.iconst 1, 1) := dk_4 (dk_at dksX2_columns_1 19 rfl rfl)
theorem dX2_columns_44 : decode cX2_columns 44 = .ok (.isub, 1) := dk_100 (dk_at dksX2_columns_1 20 rfl rfl)
theorem dX2_columns_45 : decode cX2_columns 45 = .ok (.iaload, 1) := dk_46 (dk_at dksX2_columns_1 21 rfl rfl)
theorem dX2_columns_46 : decode cX2_columns 46 = .ok (.iconst 1, 1) := dk_4 (dk_at dksX2_columns_1 22 rfl rfl)
theorem dX2_columns_47 : decode cX2_columns 47 = .ok (.iadd, 1) := dk_96 (dk_at dksX2_columns_1 23 rfl rfl)
theorem dX2_columns_48 : decode cX2_columns 48 = .ok (.istore 4, 2) := dk_54 4 (dk_at dksX2_columns_2 0 rfl rfl)
theorem dX2_columns_50 : decode cX2_columns 50 = .ok (.iload_n 2, 1) := dk_28 (dk_at dksX2_columns_2 2 rfl rfl)
theorem dX2_columns_51 : decode cX2_columns 51 = .ok (.ifCond .ne 7, 3) := dk_154 0 7 (dk_at dksX2_columns_2 3 rfl rfl)
theorem dX2_columns_54 : decode cX2_columns 54 = .ok (.iconst 0, 1) := dk_3 (dk_at dksX2_columns_2 6 rfl rfl)
theorem dX2_columns_55 : decode cX2_columns 55 = .ok (.goto 18, 3) := dk_167 0 18 (dk_at dksX2_columns_2 7 rfl rfl)
theorem dX2_columns_58 : decode cX2_columns 58 = .ok (.aload_n 0, 1) := dk_42 (dk_at dksX2_columns_2 10 rfl rfl)
theorem dX2_columns_59 : decode cX2_columns 59 = .ok (.iconst 0, 1) := dk_3 (dk_at dksX2_columns_2 11 rfl rfl)
theorem dX2_columns_60 : decode cX2_columns 60 = .ok (.aload_n 0, 1) := dk_42 (dk_at dksX2_columns_2 12 rfl rfl)
theorem dX2_columns_61 : decode cX2_columns 61 = .ok (.iload_n 2, 1) := dk_28 (dk_at dksX2_columns_2 13 rfl rfl)
theorem dX2_columns_62 : decode cX2_columns 62 = .ok (.iload_n 3, 1) := dk_29 (dk_at dksX2_columns_2 14 rfl rfl)
theorem dX2_columns_63 : decode cX2_columns 63 = .ok (.iconst 1, 1) := dk_4 (dk_at dksX2_columns_2 15 rfl rfl)
theorem dX2_columns_64 : decode cX2_columns 64 = .ok (.aload_n 1, 1) := dk_43 (dk_at dksX2_columns_2 16 rfl rfl)
theorem dX2_columns_65 : decode cX2_columns 65 = .ok (.invokevirtual 144, 3) := dk_182 0 144 (dk_at dksX2_columns_2 17 rfl rfl)
theorem dX2_columns_68 : decode cX2_columns 68 = .ok (.invokevirtual 148, 3) := dk_182 0 148 (dk_at dksX2_columns_2 20 rfl rfl)
theorem dX2_columns_71 : decode cX2_columns 71 = .ok (.iconst 2, 1) := dk_5 (dk_at dksX2_columns_2 23 rfl rfl)
theorem dX2_columns_72 : decode cX2_columns 72 = .ok (.idiv, 1) := dk_108 (dk_at dksX2_columns_3 0 rfl rfl)
theorem dX2_columns_73 : decode cX2_columns 73 = .ok (.istore 5, 2) := dk_54 5 (dk_at dksX2_columns_3 1 rfl rfl)
theorem dX2_columns_75 : decode cX2_columns 75 = .ok (.aload_n 1, 1) := dk_43 (dk_at dksX2_columns_3 3 rfl rfl)
theorem dX2_columns_76 : decode cX2_columns 76 = .ok (.iload_n 2, 1) := dk_28 (dk_at dksX2_columns_3 4 rfl rfl)
theorem dX2_columns_77 : decode cX2_columns 77 = .ok (.bipush 46, 2) := dk_16 46 (dk_at dksX2_columns_3 5 rfl rfl)
theorem dX2_columns_79 : decode cX2_columns 79 = .ok (.imul, 1) := dk_104 (dk_at dksX2_columns_3 7 rfl rfl)
theorem dX2_columns_80 : decode cX2_columns 80 = .ok (.iload_n 3, 1) := dk_29 (dk_at dksX2_columns_3 8 rfl rfl)
theorem dX2_columns_81 : decode cX2_columns 81 = .ok (.iadd, 1) := dk_96 (dk_at dksX2_columns_3 9 rfl rfl)
theorem dX2_columns_82 : decode cX2_columns 82 = .ok (.iload 4, 2) := dk_21 4 (dk_at dksX2_columns_3 10 rfl rfl)
theorem dX2_columns_84 : decode cX2_columns 84 = .ok (.iload 5, 2) := dk_21 5 (dk_at dksX2_columns_3 12 rfl rfl)
theorem dX2_columns_86 : decode cX2_columns 86 = .ok (.invokestatic 102, 3) := dk_184 0 102 (dk_at dksX2_columns_3 14 rfl rfl)
theorem dX2_columns_89 : decode cX2_columns 89 = .ok (.iastore, 1) := dk_79 (dk_at dksX2_columns_3 17 rfl rfl)
theorem dX2_columns_90 : decode cX2_columns 90 = .ok (.iinc 3 1, 3) := dk_132 3 1 (dk_at dksX2_columns_3 18 rfl rfl)
theorem dX2_columns_93 : decode cX2_columns 93 = .ok (.goto (-75), 3) := dk_167 255 181 (dk_at dksX2_columns_3 21 rfl rfl)
theorem dX2_columns_96 : decode cX2_columns 96 = .ok (.iinc 2 1, 3) := dk_132 2 1 (dk_at dksX2_columns_4 0 rfl rfl)
theorem dX2_columns_99 : decode cX2_columns 99 = .ok (.goto (-91), 3) := dk_167 255 165 (dk_at dksX2_columns_4 3 rfl rfl)
theorem dX2_columns_102 : decode cX2_columns 102 = .ok (.aload_n 1, 1) := dk_43 (dk_at dksX2_columns_4 6 rfl rfl)
theorem dX2_columns_103 : decode cX2_columns 103 = .ok (.areturn, 1) := dk_176 (dk_at dksX2_columns_4 7 rfl rfl)
def dkwX2_bendsBy_2 : List UInt8 := [44, 182, 0, 166, 160, 0, 7, 3, 167, 0, 4, 4, 96, 62, 132, 4, 1, 167, 255, 208, 29, 172]
abbrev dktX2_bendsBy_2 : List UInt8 := dkwX2_bendsBy_2 ++ []
def dkwX2_bendsBy_1 : List UInt8 := [180, 0, 30, 27, 46, 46, 162, 0, 38, 29, 42, 27, 21, 4, 4, 100, 44, 182, 0, 166, 42, 27, 21, 4]
abbrev dktX2_bendsBy_1 : List UInt8 := dkwX2_bendsBy_1 ++ dktX2_bendsBy_2
def dkwX2_bendsBy_0 : List UInt8 := [3, 62, 42, 180, 0, 36, 42, 180, 0, 27, 27, 46, 46, 4, 96, 54, 4, 21, 4, 42, 180, 0, 36, 42]
abbrev dktX2_bendsBy_0 : List UInt8 := dkwX2_bendsBy_0 ++ dktX2_bendsBy_1
theorem dksX2_bendsBy_0 : cX2_bendsBy.data.toList.drop 0 = dktX2_bendsBy_0 := by decide +kernel
theorem dksX2_bendsBy_1 : cX2_bendsBy.data.toList.drop 24 = dktX2_bendsBy_1 := dk_seg dksX2_bendsBy_0 24 rfl rfl
theorem dksX2_bendsBy_2 : cX2_bendsBy.data.toList.drop 48 = dktX2_bendsBy_2 := dk_seg dksX2_bendsBy_1 24 rfl rfl
theorem dX2_bendsBy_0 : decode cX2_bendsBy 0 = .ok (.iconst 0, 1) := dk_3 (dk_at dksX2_bendsBy_0 0 rfl rfl)
theorem dX2_bendsBy_1 : decode cX2_bendsBy 1 = .ok (.istore_n 3, 1) := dk_62 (dk_at dksX2_bendsBy_0 1 rfl rfl)
theorem dX2_bendsBy_2 : decode cX2_bendsBy 2 = .ok (.aload_n 0, 1) := dk_42 (dk_at dksX2_bendsBy_0 2 rfl rfl)
theorem dX2_bendsBy_3 : decode cX2_bendsBy 3 = .ok (.getfield 36, 3) := dk_180 0 36 (dk_at dksX2_bendsBy_0 3 rfl rfl)
theorem dX2_bendsBy_6 : decode cX2_bendsBy 6 = .ok (.aload_n 0, 1) := dk_42 (dk_at dksX2_bendsBy_0 6 rfl rfl)
theorem dX2_bendsBy_7 : decode cX2_bendsBy 7 = .ok (.getfield 27, 3) := dk_180 0 27 (dk_at dksX2_bendsBy_0 7 rfl rfl)
theorem dX2_bendsBy_10 : decode cX2_bendsBy 10 = .ok (.iload_n 1, 1) := dk_27 (dk_at dksX2_bendsBy_0 10 rfl rfl)
theorem dX2_bendsBy_11 : decode cX2_bendsBy 11 = .ok (.iaload, 1) := dk_46 (dk_at dksX2_bendsBy_0 11 rfl rfl)
theorem dX2_bendsBy_12 : decode cX2_bendsBy 12 = .ok (.iaload, 1) := dk_46 (dk_at dksX2_bendsBy_0 12 rfl rfl)
theorem dX2_bendsBy_13 : decode cX2_bendsBy 13 = .ok (.iconst 1, 1) := dk_4 (dk_at dksX2_bendsBy_0 13 rfl rfl)
theorem dX2_bendsBy_14 : decode cX2_bendsBy 14 = .ok (.iadd, 1) := dk_96 (dk_at dksX2_bendsBy_0 14 rfl rfl)
theorem dX2_bendsBy_15 : decode cX2_bendsBy 15 = .ok (.istore 4, 2) := dk_54 4 (dk_at dksX2_bendsBy_0 15 rfl rfl)
theorem dX2_bendsBy_17 : decode cX2_bendsBy 17 = .ok (.iload 4, 2) := dk_21 4 (dk_at dksX2_bendsBy_0 17 rfl rfl)
theorem dX2_bendsBy_19 : decode cX2_bendsBy 19 = .ok (.aload_n 0, 1) := dk_42 (dk_at dksX2_bendsBy_0 19 rfl rfl)
theorem dX2_bendsBy_20 : decode cX2_bendsBy 20 = .ok (.getfield 36, 3) := dk_180 0 36 (dk_at dksX2_bendsBy_0 20 rfl rfl)
theorem dX2_bendsBy_23 : decode cX2_bendsBy 23 = .ok (.aload_n 0, 1) := dk_42 (dk_at dksX2_bendsBy_0 23 rfl rfl)
theorem dX2_bendsBy_24 : decode cX2_bendsBy 24 = .ok (.getfield 30, 3) := dk_180 0 30 (dk_at dksX2_bendsBy_1 0 rfl rfl)
theorem dX2_bendsBy_27 : decode cX2_bendsBy 27 = .ok (.iload_n 1, 1) := dk_27 (dk_at dksX2_bendsBy_1 3 rfl rfl)
theorem dX2_bendsBy_28 : decode cX2_bendsBy 28 = .ok (.iaload, 1) := dk_46 (dk_at dksX2_bendsBy_1 4 rfl rfl)
theorem dX2_bendsBy_29 : decode cX2_bendsBy 29 = .ok (.iaload, 1) := dk_46 (dk_at dksX2_bendsBy_1 5 rfl rfl)
theorem dX2_bendsBy_30 : decode cX2_bendsBy 30 = .ok (.if_icmp .ge 38, 3) := dk_162 0 38 (dk_at dksX2_bendsBy_1 6 rfl rfl)
theorem dX2_bendsBy_33 : decode cX2_bendsBy 33 = .ok (.iload_n 3, 1) := dk_29 (dk_at dksX2_bendsBy_1 9 rfl rfl)
theorem dX2_bendsBy_34 : decode cX2_bendsBy 34 = .ok (.aload_n 0, 1) := dk_42 (dk_at dksX2_bendsBy_1 10 rfl rfl)
theorem dX2_bendsBy_35 : decode cX2_bendsBy 35 = .ok (.iload_n 1, 1) := dk_27 (dk_at dksX2_bendsBy_1 11 rfl rfl)
theorem dX2_bendsBy_36 : decode cX2_bendsBy 36 = .ok (.iload 4, 2) := dk_21 4 (dk_at dksX2_bendsBy_1 12 rfl rfl)
theorem dX2_bendsBy_38 : decode cX2_bendsBy 38 = .ok (.iconst 1, 1) := dk_4 (dk_at dksX2_bendsBy_1 14 rfl rfl)
theorem dX2_bendsBy_39 : decode cX2_bendsBy 39 = .ok (.isub, 1) := dk_100 (dk_at dksX2_bendsBy_1 15 rfl rfl)
theorem dX2_bendsBy_40 : decode cX2_bendsBy 40 = .ok (.aload_n 2, 1) := dk_44 (dk_at dksX2_bendsBy_1 16 rfl rfl)
theorem dX2_bendsBy_41 : decode cX2_bendsBy 41 = .ok (.invokevirtual 166, 3) := dk_182 0 166 (dk_at dksX2_bendsBy_1 17 rfl rfl)
theorem dX2_bendsBy_44 : decode cX2_bendsBy 44 = .ok (.aload_n 0, 1) := dk_42 (dk_at dksX2_bendsBy_1 20 rfl rfl)
theorem dX2_bendsBy_45 : decode cX2_bendsBy 45 = .ok (.iload_n 1, 1) := dk_27 (dk_at dksX2_bendsBy_1 21 rfl rfl)
theorem dX2_bendsBy_46 : decode cX2_bendsBy 46 = .ok (.iload 4, 2) := dk_21 4 (dk_at dksX2_bendsBy_1 22 rfl rfl)
theorem dX2_bendsBy_48 : decode cX2_bendsBy 48 = .ok (.aload_n 2, 1) := dk_44 (dk_at dksX2_bendsBy_2 0 rfl rfl)
theorem dX2_bendsBy_49 : decode cX2_bendsBy 49 = .ok (.invokevirtual 166, 3) := dk_182 0 166 (dk_at dksX2_bendsBy_2 1 rfl rfl)
theorem dX2_bendsBy_52 : decode cX2_bendsBy 52 = .ok (.if_icmp .ne 7, 3) := dk_160 0 7 (dk_at dksX2_bendsBy_2 4 rfl rfl)
theorem dX2_bendsBy_55 : decode cX2_bendsBy 55 = .ok (.iconst 0, 1) := dk_3 (dk_at dksX2_bendsBy_2 7 rfl rfl)
theorem dX2_bendsBy_56 : decode cX2_bendsBy 56 = .ok (.goto 4, 3) := dk_167 0 4 (dk_at dksX2_bendsBy_2 8 rfl rfl)
theorem dX2_bendsBy_59 : decode cX2_bendsBy 59 = .ok (.iconst 1, 1) := dk_4 (dk_at dksX2_bendsBy_2 11 rfl rfl)
theorem dX2_bendsBy_60 : decode cX2_bendsBy 60 = .ok (.iadd, 1) := dk_96 (dk_at dksX2_bendsBy_2 12 rfl rfl)
theorem dX2_bendsBy_61 : decode cX2_bendsBy 61 = .ok (.istore_n 3, 1) := dk_62 (dk_at dksX2_bendsBy_2 13 rfl rfl)
theorem dX2_bendsBy_62 : decode cX2_bendsBy 62 = .ok (.iinc 4 1, 3) := dk_132 4 1 (dk_at dksX2_bendsBy_2 14 rfl rfl)
theorem dX2_bendsBy_65 : decode cX2_bendsBy 65 = .ok (.goto (-48), 3) := dk_167 255 208 (dk_at dksX2_bendsBy_2 17 rfl rfl)
theorem dX2_bendsBy_68 : decode cX2_bendsBy 68 = .ok (.iload_n 3, 1) := dk_29 (dk_at dksX2_bendsBy_2 20 rfl rfl)
theorem dX2_bendsBy_69 : decode cX2_bendsBy 69 = .ok (.ireturn, 1) := dk_172 (dk_at dksX2_bendsBy_2 21 rfl rfl)
def dkwX2_growth_1 : List UInt8 := [28, 182, 0, 128, 96, 46, 100, 172]
abbrev dktX2_growth_1 : List UInt8 := dkwX2_growth_1 ++ []
def dkwX2_growth_0 : List UInt8 := [45, 28, 4, 96, 16, 46, 104, 42, 27, 28, 4, 96, 182, 0, 128, 96, 46, 45, 28, 16, 46, 104, 42, 27]
abbrev dktX2_growth_0 : List UInt8 := dkwX2_growth_0 ++ dktX2_growth_1
theorem dksX2_growth_0 : cX2_growth.data.toList.drop 0 = dktX2_growth_0 := by decide +kernel
theorem dksX2_growth_1 : cX2_growth.data.toList.drop 24 = dktX2_growth_1 := dk_seg dksX2_growth_0 24 rfl rfl
theorem dX2_growth_0 : decode cX2_growth 0 = .ok (.aload_n 3, 1) := dk_45 (dk_at dksX2_growth_0 0 rfl rfl)
theorem dX2_growth_1 : decode cX2_growth 1 = .ok (.iload_n 2, 1) := dk_28 (dk_at dksX2_growth_0 1 rfl rfl)
theorem dX2_growth_2 : decode cX2_growth 2 = .ok (.iconst 1, 1) := dk_4 (dk_at dksX2_growth_0 2 rfl rfl)
theorem dX2_growth_3 : decode cX2_growth 3 = .ok (.iadd, 1) := dk_96 (dk_at dksX2_growth_0 3 rfl rfl)
theorem dX2_growth_4 : decode cX2_growth 4 = .ok (.bipush 46, 2) := dk_16 46 (dk_at dksX2_growth_0 4 rfl rfl)
theorem dX2_growth_6 : decode cX2_growth 6 = .ok (.imul, 1) := dk_104 (dk_at dksX2_growth_0 6 rfl rfl)
theorem dX2_growth_7 : decode cX2_growth 7 = .ok (.aload_n 0, 1) := dk_42 (dk_at dksX2_growth_0 7 rfl rfl)
theorem dX2_growth_8 : decode cX2_growth 8 = .ok (.iload_n 1, 1) := dk_27 (dk_at dksX2_growth_0 8 rfl rfl)
theorem dX2_growth_9 : decode cX2_growth 9 = .ok (.iload_n 2, 1) := dk_28 (dk_at dksX2_growth_0 9 rfl rfl)
theorem dX2_growth_10 : decode cX2_growth 10 = .ok (.iconst 1, 1) := dk_4 (dk_at dksX2_growth_0 10 rfl rfl)
theorem dX2_growth_11 : decode cX2_growth 11 = .ok (.iadd, 1) := dk_96 (dk_at dksX2_growth_0 11 rfl rfl)
theorem dX2_growth_12 : decode cX2_growth 12 = .ok (.invokevirtual 128, 3) := dk_182 0 128 (dk_at dksX2_growth_0 12 rfl rfl)
theorem dX2_growth_15 : decode cX2_growth 15 = .ok (.iadd, 1) := dk_96 (dk_at dksX2_growth_0 15 rfl rfl)
theorem dX2_growth_16 : decode cX2_growth 16 = .ok (.iaload, 1) := dk_46 (dk_at dksX2_growth_0 16 rfl rfl)
theorem dX2_growth_17 : decode cX2_growth 17 = .ok (.aload_n 3, 1) := dk_45 (dk_at dksX2_growth_0 17 rfl rfl)
theorem dX2_growth_18 : decode cX2_growth 18 = .ok (.iload_n 2, 1) := dk_28 (dk_at dksX2_growth_0 18 rfl rfl)
theorem dX2_growth_19 : decode cX2_growth 19 = .ok (.bipush 46, 2) := dk_16 46 (dk_at dksX2_growth_0 19 rfl rfl)
theorem dX2_growth_21 : decode cX2_growth 21 = .ok (.imul, 1) := dk_104 (dk_at dksX2_growth_0 21 rfl rfl)
theorem dX2_growth_22 : decode cX2_growth 22 = .ok (.aload_n 0, 1) := dk_42 (dk_at dksX2_growth_0 22 rfl rfl)
theorem dX2_growth_23 : decode cX2_growth 23 = .ok (.iload_n 1, 1) := dk_27 (dk_at dksX2_growth_0 23 rfl rfl)
theorem dX2_growth_24 : decode cX2_growth 24 = .ok (.iload_n 2, 1) := dk_28 (dk_at dksX2_growth_1 0 rfl rfl)
theorem dX2_growth_25 : decode cX2_growth 25 = .ok (.invokevirtual 128, 3) := dk_182 0 128 (dk_at dksX2_growth_1 1 rfl rfl)
theorem dX2_growth_28 : decode cX2_growth 28 = .ok (.iadd, 1) := dk_96 (dk_at dksX2_growth_1 4 rfl rfl)
theorem dX2_growth_29 : decode cX2_growth 29 = .ok (.iaload, 1) := dk_46 (dk_at dksX2_growth_1 5 rfl rfl)
theorem dX2_growth_30 : decode cX2_growth 30 = .ok (.isub, 1) := dk_100 (dk_at dksX2_growth_1 6 rfl rfl)
theorem dX2_growth_31 : decode cX2_growth 31 = .ok (.ireturn, 1) := dk_172 (dk_at dksX2_growth_1 7 rfl rfl)
def dkwX2_straights_3 : List UInt8 := [167, 255, 191, 28, 172]
abbrev dktX2_straights_3 : List UInt8 := dkwX2_straights_3 ++ []
def dkwX2_straights_2 : List UInt8 := [182, 0, 166, 154, 0, 7, 4, 167, 0, 4, 3, 96, 61, 132, 4, 1, 167, 255, 218, 132, 3, 1]
abbrev dktX2_straights_2 : List UInt8 := dkwX2_straights_2 ++ dktX2_straights_3
def dkwX2_straights_1 : List UInt8 := [54, 4, 21, 4, 42, 180, 0, 36, 42, 180, 0, 30, 29, 46, 46, 162, 0, 28, 28, 42, 29, 21, 4, 43]
abbrev dktX2_straights_1 : List UInt8 := dkwX2_straights_1 ++ dktX2_straights_2
def dkwX2_straights_0 : List UInt8 := [3, 61, 3, 62, 29, 42, 180, 0, 54, 162, 0, 63, 42, 180, 0, 36, 42, 180, 0, 27, 29, 46, 46]
abbrev dktX2_straights_0 : List UInt8 := dkwX2_straights_0 ++ dktX2_straights_1
theorem dksX2_straights_0 : cX2_straights.data.toList.drop 0 = dktX2_straights_0 := by decide +kernel
theorem dksX2_straights_1 : cX2_straights.data.toList.drop 23 = dktX2_straights_1 := dk_seg dksX2_straights_0 23 rfl rfl
theorem dksX2_straights_2 : cX2_straights.data.toList.drop 47 = dktX2_straights_2 := dk_seg dksX2_straights_1 24 rfl rfl
theorem dksX2_straights_3 : cX2_straights.data.toList.drop 69 = dktX2_straights_3 := dk_seg dksX2_straights_2 22 rfl rfl
theorem dX2_straights_0 : decode cX2_straights 0 = .ok (.iconst 0, 1) := dk_3 (dk_at dksX2_straights_0 0 rfl rfl)
theorem dX2_straights_1 : decode cX2_straights 1 = .ok (.istore_n 2, 1) := dk_61 (dk_at dksX2_straights_0 1 rfl rfl)
theorem dX2_straights_2 : decode cX2_straights 2 = .ok (.iconst 0, 1) := dk_3 (dk_at dksX2_straights_0 2 rfl rfl)
theorem dX2_straights_3 : decode cX2_straights 3 = .ok (.istore_n 3, 1) := dk_62 (dk_at dksX2_straights_0 3 rfl rfl)
theorem dX2_straights_4 : decode cX2_straights 4 = .ok (.iload_n 3, 1) := dk_29 (dk_at dksX2_straights_0 4 rfl rfl)
theorem dX2_straights_5 : decode cX2_straights 5 = .ok (.aload_n 0, 1) := dk_42 (dk_at dksX2_straights_0 5 rfl rfl)
theorem dX2_straights_6 : decode cX2_straights 6 = .ok (.getfield 54, 3) := dk_180 0 54 (dk_at dksX2_straights_0 6 rfl rfl)
theorem dX2_straights_9 : decode cX2_straights 9 = .ok (.if_icmp .ge 63, 3) := dk_162 0 63 (dk_at dksX2_straights_0 9 rfl rfl)
theorem dX2_straights_12 : decode cX2_straights 12 = .ok (.aload_n 0, 1) := dk_42 (dk_at dksX2_straights_0 12 rfl rfl)
theorem dX2_straights_13 : decode cX2_straights 13 = .ok (.getfield 36, 3) := dk_180 0 36 (dk_at dksX2_straights_0 13 rfl rfl)
theorem dX2_straights_16 : decode cX2_straights 16 = .ok (.aload_n 0, 1) := dk_42 (dk_at dksX2_straights_0 16 rfl rfl)
theorem dX2_straights_17 : decode cX2_straights 17 = .ok (.getfield 27, 3) := dk_180 0 27 (dk_at dksX2_straights_0 17 rfl rfl)
theorem dX2_straights_20 : decode cX2_straights 20 = .ok (.iload_n 3, 1) := dk_29 (dk_at dksX2_straights_0 20 rfl rfl)
theorem dX2_straights_21 : decode cX2_straights 21 = .ok (.iaload, 1) := dk_46 (dk_at dksX2_straights_0 21 rfl rfl)
theorem dX2_straights_22 : decode cX2_straights 22 = .ok (.iaload, 1) := dk_46 (dk_at dksX2_straights_0 22 rfl rfl)
theorem dX2_straights_23 : decode cX2_straights 23 = .ok (.istore 4, 2) := dk_54 4 (dk_at dksX2_straights_1 0 rfl rfl)
theorem dX2_straights_25 : decode cX2_straights 25 = .ok (.iload 4, 2) := dk_21 4 (dk_at dksX2_straights_1 2 rfl rfl)
theorem dX2_straights_27 : decode cX2_straights 27 = .ok (.aload_n 0, 1) := dk_42 (dk_at dksX2_straights_1 4 rfl rfl)
theorem dX2_straights_28 : decode cX2_straights 28 = .ok (.getfield 36, 3) := dk_180 0 36 (dk_at dksX2_straights_1 5 rfl rfl)
theorem dX2_straights_31 : decode cX2_straights 31 = .ok (.aload_n 0, 1) := dk_42 (dk_at dksX2_straights_1 8 rfl rfl)
theorem dX2_straights_32 : decode cX2_straights 32 = .ok (.getfield 30, 3) := dk_180 0 30 (dk_at dksX2_straights_1 9 rfl rfl)
theorem dX2_straights_35 : decode cX2_straights 35 = .ok (.iload_n 3, 1) := dk_29 (dk_at dksX2_straights_1 12 rfl rfl)
theorem dX2_straights_36 : decode cX2_straights 36 = .ok (.iaload, 1) := dk_46 (dk_at dksX2_straights_1 13 rfl rfl)
theorem dX2_straights_37 : decode cX2_straights 37 = .ok (.iaload, 1) := dk_46 (dk_at dksX2_straights_1 14 rfl rfl)
theorem dX2_straights_38 : decode cX2_straights 38 = .ok (.if_icmp .ge 28, 3) := dk_162 0 28 (dk_at dksX2_straights_1 15 rfl rfl)
theorem dX2_straights_41 : decode cX2_straights 41 = .ok (.iload_n 2, 1) := dk_28 (dk_at dksX2_straights_1 18 rfl rfl)
theorem dX2_straights_42 : decode cX2_straights 42 = .ok (.aload_n 0, 1) := dk_42 (dk_at dksX2_straights_1 19 rfl rfl)
theorem dX2_straights_43 : decode cX2_straights 43 = .ok (.iload_n 3, 1) := dk_29 (dk_at dksX2_straights_1 20 rfl rfl)
theorem dX2_straights_44 : decode cX2_straights 44 = .ok (.iload 4, 2) := dk_21 4 (dk_at dksX2_straights_1 21 rfl rfl)
theorem dX2_straights_46 : decode cX2_straights 46 = .ok (.aload_n 1, 1) := dk_43 (dk_at dksX2_straights_1 23 rfl rfl)
theorem dX2_straights_47 : decode cX2_straights 47 = .ok (.invokevirtual 166, 3) := dk_182 0 166 (dk_at dksX2_straights_2 0 rfl rfl)
theorem dX2_straights_50 : decode cX2_straights 50 = .ok (.ifCond .ne 7, 3) := dk_154 0 7 (dk_at dksX2_straights_2 3 rfl rfl)
theorem dX2_straights_53 : decode cX2_straights 53 = .ok (.iconst 1, 1) := dk_4 (dk_at dksX2_straights_2 6 rfl rfl)
theorem dX2_straights_54 : decode cX2_straights 54 = .ok (.goto 4, 3) := dk_167 0 4 (dk_at dksX2_straights_2 7 rfl rfl)
theorem dX2_straights_57 : decode cX2_straights 57 = .ok (.iconst 0, 1) := dk_3 (dk_at dksX2_straights_2 10 rfl rfl)
theorem dX2_straights_58 : decode cX2_straights 58 = .ok (.iadd, 1) := dk_96 (dk_at dksX2_straights_2 11 rfl rfl)
theorem dX2_straights_59 : decode cX2_straights 59 = .ok (.istore_n 2, 1) := dk_61 (dk_at dksX2_straights_2 12 rfl rfl)
theorem dX2_straights_60 : decode cX2_straights 60 = .ok (.iinc 4 1, 3) := dk_132 4 1 (dk_at dksX2_straights_2 13 rfl rfl)
theorem dX2_straights_63 : decode cX2_straights 63 = .ok (.goto (-38), 3) := dk_167 255 218 (dk_at dksX2_straights_2 16 rfl rfl)
theorem dX2_straights_66 : decode cX2_straights 66 = .ok (.iinc 3 1, 3) := dk_132 3 1 (dk_at dksX2_straights_2 19 rfl rfl)
theorem dX2_straights_69 : decode cX2_straights 69 = .ok (.goto (-65), 3) := dk_167 255 191 (dk_at dksX2_straights_3 0 rfl rfl)
theorem dX2_straights_72 : decode cX2_straights 72 = .ok (.iload_n 2, 1) := dk_28 (dk_at dksX2_straights_3 3 rfl rfl)
theorem dX2_straights_73 : decode cX2_straights 73 = .ok (.ireturn, 1) := dk_172 (dk_at dksX2_straights_3 4 rfl rfl)
def dkwX2_slants_2 : List UInt8 := [182, 0, 166, 184, 0, 170, 96, 61, 132, 4, 1, 167, 255, 223, 132, 3, 1, 167, 255, 196, 28, 172]
abbrev dktX2_slants_2 : List UInt8 := dkwX2_slants_2 ++ []
def dkwX2_slants_1 : List UInt8 := [54, 4, 21, 4, 42, 180, 0, 36, 42, 180, 0, 30, 29, 46, 46, 162, 0, 23, 28, 42, 29, 21, 4, 43]
abbrev dktX2_slants_1 : List UInt8 := dkwX2_slants_1 ++ dktX2_slants_2
def dkwX2_slants_0 : List UInt8 := [3, 61, 3, 62, 29, 42, 180, 0, 54, 162, 0, 58, 42, 180, 0, 36, 42, 180, 0, 27, 29, 46, 46]
abbrev dktX2_slants_0 : List UInt8 := dkwX2_slants_0 ++ dktX2_slants_1
theorem dksX2_slants_0 : cX2_slants.data.toList.drop 0 = dktX2_slants_0 := by decide +kernel
theorem dksX2_slants_1 : cX2_slants.data.toList.drop 23 = dktX2_slants_1 := dk_seg dksX2_slants_0 23 rfl rfl
theorem dksX2_slants_2 : cX2_slants.data.toList.drop 47 = dktX2_slants_2 := dk_seg dksX2_slants_1 24 rfl rfl
theorem dX2_slants_0 : decode cX2_slants 0 = .ok (.iconst 0, 1) := dk_3 (dk_at dksX2_slants_0 0 rfl rfl)
theorem dX2_slants_1 : decode cX2_slants 1 = .ok (.istore_n 2, 1) := dk_61 (dk_at dksX2_slants_0 1 rfl rfl)
theorem dX2_slants_2 : decode cX2_slants 2 = .ok (.iconst 0, 1) := dk_3 (dk_at dksX2_slants_0 2 rfl rfl)
theorem dX2_slants_3 : decode cX2_slants 3 = .ok (.istore_n 3, 1) := dk_62 (dk_at dksX2_slants_0 3 rfl rfl)
theorem dX2_slants_4 : decode cX2_slants 4 = .ok (.iload_n 3, 1) := dk_29 (dk_at dksX2_slants_0 4 rfl rfl)
theorem dX2_slants_5 : decode cX2_slants 5 = .ok (.aload_n 0, 1) := dk_42 (dk_at dksX2_slants_0 5 rfl rfl)
theorem dX2_slants_6 : decode cX2_slants 6 = .ok (.getfield 54, 3) := dk_180 0 54 (dk_at dksX2_slants_0 6 rfl rfl)
theorem dX2_slants_9 : decode cX2_slants 9 = .ok (.if_icmp .ge 58, 3) := dk_162 0 58 (dk_at dksX2_slants_0 9 rfl rfl)
theorem dX2_slants_12 : decode cX2_slants 12 = .ok (.aload_n 0, 1) := dk_42 (dk_at dksX2_slants_0 12 rfl rfl)
theorem dX2_slants_13 : decode cX2_slants 13 = .ok (.getfield 36, 3) := dk_180 0 36 (dk_at dksX2_slants_0 13 rfl rfl)
theorem dX2_slants_16 : decode cX2_slants 16 = .ok (.aload_n 0, 1) := dk_42 (dk_at dksX2_slants_0 16 rfl rfl)
theorem dX2_slants_17 : decode cX2_slants 17 = .ok (.getfield 27, 3) := dk_180 0 27 (dk_at dksX2_slants_0 17 rfl rfl)
theorem dX2_slants_20 : decode cX2_slants 20 = .ok (.iload_n 3, 1) := dk_29 (dk_at dksX2_slants_0 20 rfl rfl)
theorem dX2_slants_21 : decode cX2_slants 21 = .ok (.iaload, 1) := dk_46 (dk_at dksX2_slants_0 21 rfl rfl)
theorem dX2_slants_22 : decode cX2_slants 22 = .ok (.iaload, 1) := dk_46 (dk_at dksX2_slants_0 22 rfl rfl)
theorem dX2_slants_23 : decode cX2_slants 23 = .ok (.istore 4, 2) := dk_54 4 (dk_at dksX2_slants_1 0 rfl rfl)
theorem dX2_slants_25 : decode cX2_slants 25 = .ok (.iload 4, 2) := dk_21 4 (dk_at dksX2_slants_1 2 rfl rfl)
theorem dX2_slants_27 : decode cX2_slants 27 = .ok (.aload_n 0, 1) := dk_42 (dk_at dksX2_slants_1 4 rfl rfl)
theorem dX2_slants_28 : decode cX2_slants 28 = .ok (.getfield 36, 3) := dk_180 0 36 (dk_at dksX2_slants_1 5 rfl rfl)
theorem dX2_slants_31 : decode cX2_slants 31 = .ok (.aload_n 0, 1) := dk_42 (dk_at dksX2_slants_1 8 rfl rfl)
theorem dX2_slants_32 : decode cX2_slants 32 = .ok (.getfield 30, 3) := dk_180 0 30 (dk_at dksX2_slants_1 9 rfl rfl)
theorem dX2_slants_35 : decode cX2_slants 35 = .ok (.iload_n 3, 1) := dk_29 (dk_at dksX2_slants_1 12 rfl rfl)
theorem dX2_slants_36 : decode cX2_slants 36 = .ok (.iaload, 1) := dk_46 (dk_at dksX2_slants_1 13 rfl rfl)
theorem dX2_slants_37 : decode cX2_slants 37 = .ok (.iaload, 1) := dk_46 (dk_at dksX2_slants_1 14 rfl rfl)
theorem dX2_slants_38 : decode cX2_slants 38 = .ok (.if_icmp .ge 23, 3) := dk_162 0 23 (dk_at dksX2_slants_1 15 rfl rfl)
theorem dX2_slants_41 : decode cX2_slants 41 = .ok (.iload_n 2, 1) := dk_28 (dk_at dksX2_slants_1 18 rfl rfl)
theorem dX2_slants_42 : decode cX2_slants 42 = .ok (.aload_n 0, 1) := dk_42 (dk_at dksX2_slants_1 19 rfl rfl)
theorem dX2_slants_43 : decode cX2_slants 43 = .ok (.iload_n 3, 1) := dk_29 (dk_at dksX2_slants_1 20 rfl rfl)
theorem dX2_slants_44 : decode cX2_slants 44 = .ok (.iload 4, 2) := dk_21 4 (dk_at dksX2_slants_1 21 rfl rfl)
theorem dX2_slants_46 : decode cX2_slants 46 = .ok (.aload_n 1, 1) := dk_43 (dk_at dksX2_slants_1 23 rfl rfl)
theorem dX2_slants_47 : decode cX2_slants 47 = .ok (.invokevirtual 166, 3) := dk_182 0 166 (dk_at dksX2_slants_2 0 rfl rfl)
theorem dX2_slants_50 : decode cX2_slants 50 = .ok (.invokestatic 170, 3) := dk_184 0 170 (dk_at dksX2_slants_2 3 rfl rfl)
theorem dX2_slants_53 : decode cX2_slants 53 = .ok (.iadd, 1) := dk_96 (dk_at dksX2_slants_2 6 rfl rfl)
theorem dX2_slants_54 : decode cX2_slants 54 = .ok (.istore_n 2, 1) := dk_61 (dk_at dksX2_slants_2 7 rfl rfl)
theorem dX2_slants_55 : decode cX2_slants 55 = .ok (.iinc 4 1, 3) := dk_132 4 1 (dk_at dksX2_slants_2 8 rfl rfl)
theorem dX2_slants_58 : decode cX2_slants 58 = .ok (.goto (-33), 3) := dk_167 255 223 (dk_at dksX2_slants_2 11 rfl rfl)
theorem dX2_slants_61 : decode cX2_slants 61 = .ok (.iinc 3 1, 3) := dk_132 3 1 (dk_at dksX2_slants_2 14 rfl rfl)
theorem dX2_slants_64 : decode cX2_slants 64 = .ok (.goto (-60), 3) := dk_167 255 196 (dk_at dksX2_slants_2 17 rfl rfl)
theorem dX2_slants_67 : decode cX2_slants 67 = .ok (.iload_n 2, 1) := dk_28 (dk_at dksX2_slants_2 20 rfl rfl)
theorem dX2_slants_68 : decode cX2_slants 68 = .ok (.ireturn, 1) := dk_172 (dk_at dksX2_slants_2 21 rfl rfl)
def dkwX2_heard_4 : List UInt8 := [132, 3, 1, 167, 255, 164, 44, 27, 46, 172]
abbrev dktX2_heard_4 : List UInt8 := dkwX2_heard_4 ++ []
def dkwX2_heard_3 : List UInt8 := [46, 46, 4, 42, 180, 0, 27, 21, 4, 46, 120, 128, 167, 0, 4, 3, 128, 79, 132, 4, 1, 167, 255, 181]
abbrev dktX2_heard_3 : List UInt8 := dkwX2_heard_3 ++ dktX2_heard_4
def dkwX2_heard_2 : List UInt8 := [54, 5, 44, 42, 180, 0, 30, 21, 4, 46, 92, 46, 21, 5, 153, 0, 25, 44, 42, 180, 0, 27, 21, 4]
abbrev dktX2_heard_2 : List UInt8 := dkwX2_heard_2 ++ dktX2_heard_3
def dkwX2_heard_1 : List UInt8 := [162, 0, 72, 42, 180, 0, 36, 42, 180, 0, 30, 21, 4, 46, 46, 29, 160, 0, 7, 4, 167, 0, 4, 3]
abbrev dktX2_heard_1 : List UInt8 := dkwX2_heard_1 ++ dktX2_heard_2
def dkwX2_heard_0 : List UInt8 := [16, 16, 188, 10, 77, 3, 62, 29, 42, 180, 0, 57, 162, 0, 90, 3, 54, 4, 21, 4, 42, 180, 0, 54]
abbrev dktX2_heard_0 : List UInt8 := dkwX2_heard_0 ++ dktX2_heard_1
theorem dksX2_heard_0 : cX2_heard.data.toList.drop 0 = dktX2_heard_0 := by decide +kernel
theorem dksX2_heard_1 : cX2_heard.data.toList.drop 24 = dktX2_heard_1 := dk_seg dksX2_heard_0 24 rfl rfl
theorem dksX2_heard_2 : cX2_heard.data.toList.drop 48 = dktX2_heard_2 := dk_seg dksX2_heard_1 24 rfl rfl
theorem dksX2_heard_3 : cX2_heard.data.toList.drop 72 = dktX2_heard_3 := dk_seg dksX2_heard_2 24 rfl rfl
theorem dksX2_heard_4 : cX2_heard.data.toList.drop 96 = dktX2_heard_4 := dk_seg dksX2_heard_3 24 rfl rfl
theorem dX2_heard_0 : decode cX2_heard 0 = .ok (.bipush 16, 2) := dk_16 16 (dk_at dksX2_heard_0 0 rfl rfl)
theorem dX2_heard_2 : decode cX2_heard 2 = .ok (.newarray .int, 2) := dk_188_10 (dk_at dksX2_heard_0 2 rfl rfl)
theorem dX2_heard_4 : decode cX2_heard 4 = .ok (.astore_n 2, 1) := dk_77 (dk_at dksX2_heard_0 4 rfl rfl)
theorem dX2_heard_5 : decode cX2_heard 5 = .ok (.iconst 0, 1) := dk_3 (dk_at dksX2_heard_0 5 rfl rfl)
theorem dX2_heard_6 : decode cX2_heard 6 = .ok (.istore_n 3, 1) := dk_62 (dk_at dksX2_heard_0 6 rfl rfl)
theorem dX2_heard_7 : decode cX2_heard 7 = .ok (.iload_n 3, 1) := dk_29 (dk_at dksX2_heard_0 7 rfl rfl)
theorem dX2_heard_8 : decode cX2_heard 8 = .ok (.aload_n 0, 1) := dk_42 (dk_at dksX2_heard_0 8 rfl rfl)
theorem dX2_heard_9 : decode cX2_heard 9 = .ok (.getfield 57, 3) := dk_180 0 57 (dk_at dksX2_heard_0 9 rfl rfl)
theorem dX2_heard_12 : decode cX2_heard 12 = .ok (.if_icmp .ge 90, 3) := dk_162 0 90 (dk_at dksX2_heard_0 12 rfl rfl)
theorem dX2_heard_15 : decode cX2_heard 15 = .ok (.iconst 0, 1) := dk_3 (dk_at dksX2_heard_0 15 rfl rfl)
theorem dX2_heard_16 : decode cX2_heard 16 = .ok (.istore 4, 2) := dk_54 4 (dk_at dksX2_heard_0 16 rfl rfl)
theorem dX2_heard_18 : decode cX2_heard 18 = .ok (.iload 4, 2) := dk_21 4 (dk_at dksX2_heard_0 18 rfl rfl)
theorem dX2_heard_20 : decode cX2_heard 20 = .ok (.aload_n 0, 1) := dk_42 (dk_at dksX2_heard_0 20 rfl rfl)
theorem dX2_heard_21 : decode cX2_heard 21 = .ok (.getfield 54, 3) := dk_180 0 54 (dk_at dksX2_heard_0 21 rfl rfl)
theorem dX2_heard_24 : decode cX2_heard 24 = .ok (.if_icmp .ge 72, 3) := dk_162 0 72 (dk_at dksX2_heard_1 0 rfl rfl)
theorem dX2_heard_27 : decode cX2_heard 27 = .ok (.aload_n 0, 1) := dk_42 (dk_at dksX2_heard_1 3 rfl rfl)
theorem dX2_heard_28 : decode cX2_heard 28 = .ok (.getfield 36, 3) := dk_180 0 36 (dk_at dksX2_heard_1 4 rfl rfl)
theorem dX2_heard_31 : decode cX2_heard 31 = .ok (.aload_n 0, 1) := dk_42 (dk_at dksX2_heard_1 7 rfl rfl)
theorem dX2_heard_32 : decode cX2_heard 32 = .ok (.getfield 30, 3) := dk_180 0 30 (dk_at dksX2_heard_1 8 rfl rfl)
theorem dX2_heard_35 : decode cX2_heard 35 = .ok (.iload 4, 2) := dk_21 4 (dk_at dksX2_heard_1 11 rfl rfl)
theorem dX2_heard_37 : decode cX2_heard 37 = .ok (.iaload, 1) := dk_46 (dk_at dksX2_heard_1 13 rfl rfl)
theorem dX2_heard_38 : decode cX2_heard 38 = .ok (.iaload, 1) := dk_46 (dk_at dksX2_heard_1 14 rfl rfl)
theorem dX2_heard_39 : decode cX2_heard 39 = .ok (.iload_n 3, 1) := dk_29 (dk_at dksX2_heard_1 15 rfl rfl)
theorem dX2_heard_40 : decode cX2_heard 40 = .ok (.if_icmp .ne 7, 3) := dk_160 0 7 (dk_at dksX2_heard_1 16 rfl rfl)
theorem dX2_heard_43 : decode cX2_heard 43 = .ok (.iconst 1, 1) := dk_4 (dk_at dksX2_heard_1 19 rfl rfl)
theorem dX2_heard_44 : decode cX2_heard 44 = .ok (.goto 4, 3) := dk_167 0 4 (dk_at dksX2_heard_1 20 rfl rfl)
theorem dX2_heard_47 : decode cX2_heard 47 = .ok (.iconst 0, 1) := dk_3 (dk_at dksX2_heard_1 23 rfl rfl)
theorem dX2_heard_48 : decode cX2_heard 48 = .ok (.istore 5, 2) := dk_54 5 (dk_at dksX2_heard_2 0 rfl rfl)
theorem dX2_heard_50 : decode cX2_heard 50 = .ok (.aload_n 2, 1) := dk_44 (dk_at dksX2_heard_2 2 rfl rfl)
theorem dX2_heard_51 : decode cX2_heard 51 = .ok (.aload_n 0, 1) := dk_42 (dk_at dksX2_heard_2 3 rfl rfl)
theorem dX2_heard_52 : decode cX2_heard 52 = .ok (.getfield 30, 3) := dk_180 0 30 (dk_at dksX2_heard_2 4 rfl rfl)
theorem dX2_heard_55 : decode cX2_heard 55 = .ok (.iload 4, 2) := dk_21 4 (dk_at dksX2_heard_2 7 rfl rfl)
theorem dX2_heard_57 : decode cX2_heard 57 = .ok (.iaload, 1) := dk_46 (dk_at dksX2_heard_2 9 rfl rfl)
theorem dX2_heard_58 : decode cX2_heard 58 = .ok (.dup2, 1) := dk_92 (dk_at dksX2_heard_2 10 rfl rfl)
theorem dX2_heard_59 : decode cX2_heard 59 = .ok (.iaload, 1) := dk_46 (dk_at dksX2_heard_2 11 rfl rfl)
theorem dX2_heard_60 : decode cX2_heard 60 = .ok (.iload 5, 2) := dk_21 5 (dk_at dksX2_heard_2 12 rfl rfl)
theorem dX2_heard_62 : decode cX2_heard 62 = .ok (.ifCond .eq 25, 3) := dk_153 0 25 (dk_at dksX2_heard_2 14 rfl rfl)
theorem dX2_heard_65 : decode cX2_heard 65 = .ok (.aload_n 2, 1) := dk_44 (dk_at dksX2_heard_2 17 rfl rfl)
theorem dX2_heard_66 : decode cX2_heard 66 = .ok (.aload_n 0, 1) := dk_42 (dk_at dksX2_heard_2 18 rfl rfl)
theorem dX2_heard_67 : decode cX2_heard 67 = .ok (.getfield 27, 3) := dk_180 0 27 (dk_at dksX2_heard_2 19 rfl rfl)
theorem dX2_heard_70 : decode cX2_heard 70 = .ok (.iload 4, 2) := dk_21 4 (dk_at dksX2_heard_2 22 rfl rfl)
theorem dX2_heard_72 : decode cX2_heard 72 = .ok (.iaload, 1) := dk_46 (dk_at dksX2_heard_3 0 rfl rfl)
theorem dX2_heard_73 : decode cX2_heard 73 = .ok (.iaload, 1) := dk_46 (dk_at dksX2_heard_3 1 rfl rfl)
theorem dX2_heard_74 : decode cX2_heard 74 = .ok (.iconst 1, 1) := dk_4 (dk_at dksX2_heard_3 2 rfl rfl)
theorem dX2_heard_75 : decode cX2_heard 75 = .ok (.aload_n 0, 1) := dk_42 (dk_at dksX2_heard_3 3 rfl rfl)
theorem dX2_heard_76 : decode cX2_heard 76 = .ok (.getfield 27, 3) := dk_180 0 27 (dk_at dksX2_heard_3 4 rfl rfl)
theorem dX2_heard_79 : decode cX2_heard 79 = .ok (.iload 4, 2) := dk_21 4 (dk_at dksX2_heard_3 7 rfl rfl)
theorem dX2_heard_81 : decode cX2_heard 81 = .ok (.iaload, 1) := dk_46 (dk_at dksX2_heard_3 9 rfl rfl)
theorem dX2_heard_82 : decode cX2_heard 82 = .ok (.ishl, 1) := dk_120 (dk_at dksX2_heard_3 10 rfl rfl)
theorem dX2_heard_83 : decode cX2_heard 83 = .ok (.ior, 1) := dk_128 (dk_at dksX2_heard_3 11 rfl rfl)
theorem dX2_heard_84 : decode cX2_heard 84 = .ok (.goto 4, 3) := dk_167 0 4 (dk_at dksX2_heard_3 12 rfl rfl)
theorem dX2_heard_87 : decode cX2_heard 87 = .ok (.iconst 0, 1) := dk_3 (dk_at dksX2_heard_3 15 rfl rfl)
theorem dX2_heard_88 : decode cX2_heard 88 = .ok (.ior, 1) := dk_128 (dk_at dksX2_heard_3 16 rfl rfl)
theorem dX2_heard_89 : decode cX2_heard 89 = .ok (.iastore, 1) := dk_79 (dk_at dksX2_heard_3 17 rfl rfl)
theorem dX2_heard_90 : decode cX2_heard 90 = .ok (.iinc 4 1, 3) := dk_132 4 1 (dk_at dksX2_heard_3 18 rfl rfl)
theorem dX2_heard_93 : decode cX2_heard 93 = .ok (.goto (-75), 3) := dk_167 255 181 (dk_at dksX2_heard_3 21 rfl rfl)
theorem dX2_heard_96 : decode cX2_heard 96 = .ok (.iinc 3 1, 3) := dk_132 3 1 (dk_at dksX2_heard_4 0 rfl rfl)
theorem dX2_heard_99 : decode cX2_heard 99 = .ok (.goto (-92), 3) := dk_167 255 164 (dk_at dksX2_heard_4 3 rfl rfl)
theorem dX2_heard_102 : decode cX2_heard 102 = .ok (.aload_n 2, 1) := dk_44 (dk_at dksX2_heard_4 6 rfl rfl)
theorem dX2_heard_103 : decode cX2_heard 103 = .ok (.iload_n 1, 1) := dk_27 (dk_at dksX2_heard_4 7 rfl rfl)
theorem dX2_heard_104 : decode cX2_heard 104 = .ok (.iaload, 1) := dk_46 (dk_at dksX2_heard_4 8 rfl rfl)
theorem dX2_heard_105 : decode cX2_heard 105 = .ok (.ireturn, 1) := dk_172 (dk_at dksX2_heard_4 9 rfl rfl)
def dkwX2_waysByLayers_3 : List UInt8 := [3, 96, 79, 132, 5, 1, 167, 255, 202, 132, 4, 1, 167, 255, 184, 45, 28, 46, 172]
abbrev dktX2_waysByLayers_3 : List UInt8 := dkwX2_waysByLayers_3 ++ []
def dkwX2_waysByLayers_2 : List UInt8 := [180, 0, 30, 21, 5, 46, 46, 21, 4, 160, 0, 15, 45, 42, 180, 0, 27, 21, 5, 46, 46, 167, 0, 4]
abbrev dktX2_waysByLayers_2 : List UInt8 := dkwX2_waysByLayers_2 ++ dktX2_waysByLayers_3
def dkwX2_waysByLayers_1 : List UInt8 := [21, 5, 42, 180, 0, 54, 162, 0, 51, 45, 42, 180, 0, 30, 21, 5, 46, 92, 46, 42, 180, 0, 36, 42]
abbrev dktX2_waysByLayers_1 : List UInt8 := dkwX2_waysByLayers_1 ++ dktX2_waysByLayers_2
def dkwX2_waysByLayers_0 : List UInt8 := [16, 16, 188, 10, 78, 45, 27, 4, 79, 3, 54, 4, 21, 4, 42, 180, 0, 57, 162, 0, 69, 3, 54, 5]
abbrev dktX2_waysByLayers_0 : List UInt8 := dkwX2_waysByLayers_0 ++ dktX2_waysByLayers_1
theorem dksX2_waysByLayers_0 : cX2_waysByLayers.data.toList.drop 0 = dktX2_waysByLayers_0 := by decide +kernel
theorem dksX2_waysByLayers_1 : cX2_waysByLayers.data.toList.drop 24 = dktX2_waysByLayers_1 := dk_seg dksX2_waysByLayers_0 24 rfl rfl
theorem dksX2_waysByLayers_2 : cX2_waysByLayers.data.toList.drop 48 = dktX2_waysByLayers_2 := dk_seg dksX2_waysByLayers_1 24 rfl rfl
theorem dksX2_waysByLayers_3 : cX2_waysByLayers.data.toList.drop 72 = dktX2_waysByLayers_3 := dk_seg dksX2_waysByLayers_2 24 rfl rfl
theorem dX2_waysByLayers_0 : decode cX2_waysByLayers 0 = .ok (.bipush 16, 2) := dk_16 16 (dk_at dksX2_waysByLayers_0 0 rfl rfl)
theorem dX2_waysByLayers_2 : decode cX2_waysByLayers 2 = .ok (.newarray .int, 2) := dk_188_10 (dk_at dksX2_waysByLayers_0 2 rfl rfl)
theorem dX2_waysByLayers_4 : decode cX2_waysByLayers 4 = .ok (.astore_n 3, 1) := dk_78 (dk_at dksX2_waysByLayers_0 4 rfl rfl)
theorem dX2_waysByLayers_5 : decode cX2_waysByLayers 5 = .ok (.aload_n 3, 1) := dk_45 (dk_at dksX2_waysByLayers_0 5 rfl rfl)
theorem dX2_waysByLayers_6 : decode cX2_waysByLayers 6 = .ok (.iload_n 1, 1) := dk_27 (dk_at dksX2_waysByLayers_0 6 rfl rfl)
theorem dX2_waysByLayers_7 : decode cX2_waysByLayers 7 = .ok (.iconst 1, 1) := dk_4 (dk_at dksX2_waysByLayers_0 7 rfl rfl)
theorem dX2_waysByLayers_8 : decode cX2_waysByLayers 8 = .ok (.iastore, 1) := dk_79 (dk_at dksX2_waysByLayers_0 8 rfl rfl)
theorem dX2_waysByLayers_9 : decode cX2_waysByLayers 9 = .ok (.iconst 0, 1) := dk_3 (dk_at dksX2_waysByLayers_0 9 rfl rfl)
theorem dX2_waysByLayers_10 : decode cX2_waysByLayers 10 = .ok (.istore 4, 2) := dk_54 4 (dk_at dksX2_waysByLayers_0 10 rfl rfl)
theorem dX2_waysByLayers_12 : decode cX2_waysByLayers 12 = .ok (.iload 4, 2) := dk_21 4 (dk_at dksX2_waysByLayers_0 12 rfl rfl)
theorem dX2_waysByLayers_14 : decode cX2_waysByLayers 14 = .ok (.aload_n 0, 1) := dk_42 (dk_at dksX2_waysByLayers_0 14 rfl rfl)
theorem dX2_waysByLayers_15 : decode cX2_waysByLayers 15 = .ok (.getfield 57, 3) := dk_180 0 57 (dk_at dksX2_waysByLayers_0 15 rfl rfl)
theorem dX2_waysByLayers_18 : decode cX2_waysByLayers 18 = .ok (.if_icmp .ge 69, 3) := dk_162 0 69 (dk_at dksX2_waysByLayers_0 18 rfl rfl)
theorem dX2_waysByLayers_21 : decode cX2_waysByLayers 21 = .ok (.iconst 0, 1) := dk_3 (dk_at dksX2_waysByLayers_0 21 rfl rfl)
theorem dX2_waysByLayers_22 : decode cX2_waysByLayers 22 = .ok (.istore 5, 2) := dk_54 5 (dk_at dksX2_waysByLayers_0 22 rfl rfl)
theorem dX2_waysByLayers_24 : decode cX2_waysByLayers 24 = .ok (.iload 5, 2) := dk_21 5 (dk_at dksX2_waysByLayers_1 0 rfl rfl)
theorem dX2_waysByLayers_26 : decode cX2_waysByLayers 26 = .ok (.aload_n 0, 1) := dk_42 (dk_at dksX2_waysByLayers_1 2 rfl rfl)
theorem dX2_waysByLayers_27 : decode cX2_waysByLayers 27 = .ok (.getfield 54, 3) := dk_180 0 54 (dk_at dksX2_waysByLayers_1 3 rfl rfl)
theorem dX2_waysByLayers_30 : decode cX2_waysByLayers 30 = .ok (.if_icmp .ge 51, 3) := dk_162 0 51 (dk_at dksX2_waysByLayers_1 6 rfl rfl)
theorem dX2_waysByLayers_33 : decode cX2_waysByLayers 33 = .ok (.aload_n 3, 1) := dk_45 (dk_at dksX2_waysByLayers_1 9 rfl rfl)
theorem dX2_waysByLayers_34 : decode cX2_waysByLayers 34 = .ok (.aload_n 0, 1) := dk_42 (dk_at dksX2_waysByLayers_1 10 rfl rfl)
theorem dX2_waysByLayers_35 : decode cX2_waysByLayers 35 = .ok (.getfield 30, 3) := dk_180 0 30 (dk_at dksX2_waysByLayers_1 11 rfl rfl)
theorem dX2_waysByLayers_38 : decode cX2_waysByLayers 38 = .ok (.iload 5, 2) := dk_21 5 (dk_at dksX2_waysByLayers_1 14 rfl rfl)
theorem dX2_waysByLayers_40 : decode cX2_waysByLayers 40 = .ok (.iaload, 1) := dk_46 (dk_at dksX2_waysByLayers_1 16 rfl rfl)
theorem dX2_waysByLayers_41 : decode cX2_waysByLayers 41 = .ok (.dup2, 1) := dk_92 (dk_at dksX2_waysByLayers_1 17 rfl rfl)
theorem dX2_waysByLayers_42 : decode cX2_waysByLayers 42 = .ok (.iaload, 1) := dk_46 (dk_at dksX2_waysByLayers_1 18 rfl rfl)
theorem dX2_waysByLayers_43 : decode cX2_waysByLayers 43 = .ok (.aload_n 0, 1) := dk_42 (dk_at dksX2_waysByLayers_1 19 rfl rfl)
theorem dX2_waysByLayers_44 : decode cX2_waysByLayers 44 = .ok (.getfield 36, 3) := dk_180 0 36 (dk_at dksX2_waysByLayers_1 20 rfl rfl)
theorem dX2_waysByLayers_47 : decode cX2_waysByLayers 47 = .ok (.aload_n 0, 1) := dk_42 (dk_at dksX2_waysByLayers_1 23 rfl rfl)
theorem dX2_waysByLayers_48 : decode cX2_waysByLayers 48 = .ok (.getfield 30, 3) := dk_180 0 30 (dk_at dksX2_waysByLayers_2 0 rfl rfl)
theorem dX2_waysByLayers_51 : decode cX2_waysByLayers 51 = .ok (.iload 5, 2) := dk_21 5 (dk_at dksX2_waysByLayers_2 3 rfl rfl)
theorem dX2_waysByLayers_53 : decode cX2_waysByLayers 53 = .ok (.iaload, 1) := dk_46 (dk_at dksX2_waysByLayers_2 5 rfl rfl)
theorem dX2_waysByLayers_54 : decode cX2_waysByLayers 54 = .ok (.iaload, 1) := dk_46 (dk_at dksX2_waysByLayers_2 6 rfl rfl)
theorem dX2_waysByLayers_55 : decode cX2_waysByLayers 55 = .ok (.iload 4, 2) := dk_21 4 (dk_at dksX2_waysByLayers_2 7 rfl rfl)
theorem dX2_waysByLayers_57 : decode cX2_waysByLayers 57 = .ok (.if_icmp .ne 15, 3) := dk_160 0 15 (dk_at dksX2_waysByLayers_2 9 rfl rfl)
theorem dX2_waysByLayers_60 : decode cX2_waysByLayers 60 = .ok (.aload_n 3, 1) := dk_45 (dk_at dksX2_waysByLayers_2 12 rfl rfl)
theorem dX2_waysByLayers_61 : decode cX2_waysByLayers 61 = .ok (.aload_n 0, 1) := dk_42 (dk_at dksX2_waysByLayers_2 13 rfl rfl)
theorem dX2_waysByLayers_62 : decode cX2_waysByLayers 62 = .ok (.getfield 27, 3) := dk_180 0 27 (dk_at dksX2_waysByLayers_2 14 rfl rfl)
theorem dX2_waysByLayers_65 : decode cX2_waysByLayers 65 = .ok (.iload 5, 2) := dk_21 5 (dk_at dksX2_waysByLayers_2 17 rfl rfl)
theorem dX2_waysByLayers_67 : decode cX2_waysByLayers 67 = .ok (.iaload, 1) := dk_46 (dk_at dksX2_waysByLayers_2 19 rfl rfl)
theorem dX2_waysByLayers_68 : decode cX2_waysByLayers 68 = .ok (.iaload, 1) := dk_46 (dk_at dksX2_waysByLayers_2 20 rfl rfl)
theorem dX2_waysByLayers_69 : decode cX2_waysByLayers 69 = .ok (.goto 4, 3) := dk_167 0 4 (dk_at dksX2_waysByLayers_2 21 rfl rfl)
theorem dX2_waysByLayers_72 : decode cX2_waysByLayers 72 = .ok (.iconst 0, 1) := dk_3 (dk_at dksX2_waysByLayers_3 0 rfl rfl)
theorem dX2_waysByLayers_73 : decode cX2_waysByLayers 73 = .ok (.iadd, 1) := dk_96 (dk_at dksX2_waysByLayers_3 1 rfl rfl)
theorem dX2_waysByLayers_74 : decode cX2_waysByLayers 74 = .ok (.iastore, 1) := dk_79 (dk_at dksX2_waysByLayers_3 2 rfl rfl)
theorem dX2_waysByLayers_75 : decode cX2_waysByLayers 75 = .ok (.iinc 5 1, 3) := dk_132 5 1 (dk_at dksX2_waysByLayers_3 3 rfl rfl)
theorem dX2_waysByLayers_78 : decode cX2_waysByLayers 78 = .ok (.goto (-54), 3) := dk_167 255 202 (dk_at dksX2_waysByLayers_3 6 rfl rfl)
theorem dX2_waysByLayers_81 : decode cX2_waysByLayers 81 = .ok (.iinc 4 1, 3) := dk_132 4 1 (dk_at dksX2_waysByLayers_3 9 rfl rfl)
theorem dX2_waysByLayers_84 : decode cX2_waysByLayers 84 = .ok (.goto (-72), 3) := dk_167 255 184 (dk_at dksX2_waysByLayers_3 12 rfl rfl)
theorem dX2_waysByLayers_87 : decode cX2_waysByLayers 87 = .ok (.aload_n 3, 1) := dk_45 (dk_at dksX2_waysByLayers_3 15 rfl rfl)
theorem dX2_waysByLayers_88 : decode cX2_waysByLayers 88 = .ok (.iload_n 2, 1) := dk_28 (dk_at dksX2_waysByLayers_3 16 rfl rfl)
theorem dX2_waysByLayers_89 : decode cX2_waysByLayers 89 = .ok (.iaload, 1) := dk_46 (dk_at dksX2_waysByLayers_3 17 rfl rfl)
theorem dX2_waysByLayers_90 : decode cX2_waysByLayers 90 = .ok (.ireturn, 1) := dk_172 (dk_at dksX2_waysByLayers_3 18 rfl rfl)
def dkwX2_waysBack_2 : List UInt8 := [167, 0, 4, 3, 96, 62, 132, 4, 1, 167, 255, 214, 29, 172]
abbrev dktX2_waysBack_2 : List UInt8 := dkwX2_waysBack_2 ++ []
def dkwX2_waysBack_1 : List UInt8 := [42, 180, 0, 30, 21, 4, 46, 28, 160, 0, 18, 42, 27, 42, 180, 0, 27, 21, 4, 46, 182, 0, 98]
abbrev dktX2_waysBack_1 : List UInt8 := dkwX2_waysBack_1 ++ dktX2_waysBack_2
def dkwX2_waysBack_0 : List UInt8 := [27, 28, 160, 0, 7, 4, 167, 0, 4, 3, 62, 3, 54, 4, 21, 4, 42, 180, 0, 54, 162, 0, 39, 29]
abbrev dktX2_waysBack_0 : List UInt8 := dkwX2_waysBack_0 ++ dktX2_waysBack_1
theorem dksX2_waysBack_0 : cX2_waysBack.data.toList.drop 0 = dktX2_waysBack_0 := by decide +kernel
theorem dksX2_waysBack_1 : cX2_waysBack.data.toList.drop 24 = dktX2_waysBack_1 := dk_seg dksX2_waysBack_0 24 rfl rfl
theorem dksX2_waysBack_2 : cX2_waysBack.data.toList.drop 47 = dktX2_waysBack_2 := dk_seg dksX2_waysBack_1 23 rfl rfl
theorem dX2_waysBack_0 : decode cX2_waysBack 0 = .ok (.iload_n 1, 1) := dk_27 (dk_at dksX2_waysBack_0 0 rfl rfl)
theorem dX2_waysBack_1 : decode cX2_waysBack 1 = .ok (.iload_n 2, 1) := dk_28 (dk_at dksX2_waysBack_0 1 rfl rfl)
theorem dX2_waysBack_2 : decode cX2_waysBack 2 = .ok (.if_icmp .ne 7, 3) := dk_160 0 7 (dk_at dksX2_waysBack_0 2 rfl rfl)
theorem dX2_waysBack_5 : decode cX2_waysBack 5 = .ok (.iconst 1, 1) := dk_4 (dk_at dksX2_waysBack_0 5 rfl rfl)
theorem dX2_waysBack_6 : decode cX2_waysBack 6 = .ok (.goto 4, 3) := dk_167 0 4 (dk_at dksX2_waysBack_0 6 rfl rfl)
theorem dX2_waysBack_9 : decode cX2_waysBack 9 = .ok (.iconst 0, 1) := dk_3 (dk_at dksX2_waysBack_0 9 rfl rfl)
theorem dX2_waysBack_10 : decode cX2_waysBack 10 = .ok (.istore_n 3, 1) := dk_62 (dk_at dksX2_waysBack_0 10 rfl rfl)
theorem dX2_waysBack_11 : decode cX2_waysBack 11 = .ok (.iconst 0, 1) := dk_3 (dk_at dksX2_waysBack_0 11 rfl rfl)
theorem dX2_waysBack_12 : decode cX2_waysBack 12 = .ok (.istore 4, 2) := dk_54 4 (dk_at dksX2_waysBack_0 12 rfl rfl)
theorem dX2_waysBack_14 : decode cX2_waysBack 14 = .ok (.iload 4, 2) := dk_21 4 (dk_at dksX2_waysBack_0 14 rfl rfl)
theorem dX2_waysBack_16 : decode cX2_waysBack 16 = .ok (.aload_n 0, 1) := dk_42 (dk_at dksX2_waysBack_0 16 rfl rfl)
theorem dX2_waysBack_17 : decode cX2_waysBack 17 = .ok (.getfield 54, 3) := dk_180 0 54 (dk_at dksX2_waysBack_0 17 rfl rfl)
theorem dX2_waysBack_20 : decode cX2_waysBack 20 = .ok (.if_icmp .ge 39, 3) := dk_162 0 39 (dk_at dksX2_waysBack_0 20 rfl rfl)
theorem dX2_waysBack_23 : decode cX2_waysBack 23 = .ok (.iload_n 3, 1) := dk_29 (dk_at dksX2_waysBack_0 23 rfl rfl)
theorem dX2_waysBack_24 : decode cX2_waysBack 24 = .ok (.aload_n 0, 1) := dk_42 (dk_at dksX2_waysBack_1 0 rfl rfl)
theorem dX2_waysBack_25 : decode cX2_waysBack 25 = .ok (.getfield 30, 3) := dk_180 0 30 (dk_at dksX2_waysBack_1 1 rfl rfl)
theorem dX2_waysBack_28 : decode cX2_waysBack 28 = .ok (.iload 4, 2) := dk_21 4 (dk_at dksX2_waysBack_1 4 rfl rfl)
theorem dX2_waysBack_30 : decode cX2_waysBack 30 = .ok (.iaload, 1) := dk_46 (dk_at dksX2_waysBack_1 6 rfl rfl)
theorem dX2_waysBack_31 : decode cX2_waysBack 31 = .ok (.iload_n 2, 1) := dk_28 (dk_at dksX2_waysBack_1 7 rfl rfl)
theorem dX2_waysBack_32 : decode cX2_waysBack 32 = .ok (.if_icmp .ne 18, 3) := dk_160 0 18 (dk_at dksX2_waysBack_1 8 rfl rfl)
theorem dX2_waysBack_35 : decode cX2_waysBack 35 = .ok (.aload_n 0, 1) := dk_42 (dk_at dksX2_waysBack_1 11 rfl rfl)
theorem dX2_waysBack_36 : decode cX2_waysBack 36 = .ok (.iload_n 1, 1) := dk_27 (dk_at dksX2_waysBack_1 12 rfl rfl)
theorem dX2_waysBack_37 : decode cX2_waysBack 37 = .ok (.aload_n 0, 1) := dk_42 (dk_at dksX2_waysBack_1 13 rfl rfl)
theorem dX2_waysBack_38 : decode cX2_waysBack 38 = .ok (.getfield 27, 3) := dk_180 0 27 (dk_at dksX2_waysBack_1 14 rfl rfl)
theorem dX2_waysBack_41 : decode cX2_waysBack 41 = .ok (.iload 4, 2) := dk_21 4 (dk_at dksX2_waysBack_1 17 rfl rfl)
theorem dX2_waysBack_43 : decode cX2_waysBack 43 = .ok (.iaload, 1) := dk_46 (dk_at dksX2_waysBack_1 19 rfl rfl)
theorem dX2_waysBack_44 : decode cX2_waysBack 44 = .ok (.invokevirtual 98, 3) := dk_182 0 98 (dk_at dksX2_waysBack_1 20 rfl rfl)
theorem dX2_waysBack_47 : decode cX2_waysBack 47 = .ok (.goto 4, 3) := dk_167 0 4 (dk_at dksX2_waysBack_2 0 rfl rfl)
theorem dX2_waysBack_50 : decode cX2_waysBack 50 = .ok (.iconst 0, 1) := dk_3 (dk_at dksX2_waysBack_2 3 rfl rfl)
theorem dX2_waysBack_51 : decode cX2_waysBack 51 = .ok (.iadd, 1) := dk_96 (dk_at dksX2_waysBack_2 4 rfl rfl)
theorem dX2_waysBack_52 : decode cX2_waysBack 52 = .ok (.istore_n 3, 1) := dk_62 (dk_at dksX2_waysBack_2 5 rfl rfl)
theorem dX2_waysBack_53 : decode cX2_waysBack 53 = .ok (.iinc 4 1, 3) := dk_132 4 1 (dk_at dksX2_waysBack_2 6 rfl rfl)
theorem dX2_waysBack_56 : decode cX2_waysBack 56 = .ok (.goto (-42), 3) := dk_167 255 214 (dk_at dksX2_waysBack_2 9 rfl rfl)
theorem dX2_waysBack_59 : decode cX2_waysBack 59 = .ok (.iload_n 3, 1) := dk_29 (dk_at dksX2_waysBack_2 12 rfl rfl)
theorem dX2_waysBack_60 : decode cX2_waysBack 60 = .ok (.ireturn, 1) := dk_172 (dk_at dksX2_waysBack_2 13 rfl rfl)
def dkwX2_arrowsOn_7 : List UInt8 := [46, 79, 132, 6, 1, 167, 255, 141, 132, 5, 1, 167, 255, 123, 25, 4, 28, 46, 172]
abbrev dktX2_arrowsOn_7 : List UInt8 := dkwX2_arrowsOn_7 ++ []
def dkwX2_arrowsOn_6 : List UInt8 := [167, 0, 4, 3, 54, 9, 25, 4, 21, 7, 21, 9, 153, 0, 8, 21, 8, 167, 0, 8, 25, 4, 21, 7]
abbrev dktX2_arrowsOn_6 : List UInt8 := dkwX2_arrowsOn_6 ++ dktX2_arrowsOn_7
def dkwX2_arrowsOn_5 : List UInt8 := [25, 4, 21, 7, 46, 162, 0, 20, 167, 0, 13, 21, 8, 25, 4, 21, 7, 46, 164, 0, 7, 4]
abbrev dktX2_arrowsOn_5 : List UInt8 := dkwX2_arrowsOn_5 ++ dktX2_arrowsOn_6
def dkwX2_arrowsOn_4 : List UInt8 := [160, 0, 48, 21, 8, 158, 0, 43, 25, 4, 21, 7, 46, 2, 159, 0, 30, 29, 153, 0, 16, 21, 8]
abbrev dktX2_arrowsOn_4 : List UInt8 := dkwX2_arrowsOn_4 ++ dktX2_arrowsOn_5
def dkwX2_arrowsOn_3 : List UInt8 := [25, 4, 42, 180, 0, 27, 21, 6, 46, 46, 4, 96, 54, 8, 42, 180, 0, 36, 21, 7, 46, 21, 5]
abbrev dktX2_arrowsOn_3 : List UInt8 := dkwX2_arrowsOn_3 ++ dktX2_arrowsOn_4
def dkwX2_arrowsOn_2 : List UInt8 := [162, 0, 130, 3, 54, 6, 21, 6, 42, 180, 0, 54, 162, 0, 112, 42, 180, 0, 30, 21, 6, 46, 54, 7]
abbrev dktX2_arrowsOn_2 : List UInt8 := dkwX2_arrowsOn_2 ++ dktX2_arrowsOn_3
def dkwX2_arrowsOn_1 : List UInt8 := [160, 0, 7, 3, 167, 0, 4, 2, 79, 132, 5, 1, 167, 255, 230, 3, 54, 5, 21, 5, 42, 180, 0, 57]
abbrev dktX2_arrowsOn_1 : List UInt8 := dkwX2_arrowsOn_1 ++ dktX2_arrowsOn_2
def dkwX2_arrowsOn_0 : List UInt8 := [16, 16, 188, 10, 58, 4, 3, 54, 5, 21, 5, 16, 16, 162, 0, 25, 25, 4, 21, 5, 21, 5, 27]
abbrev dktX2_arrowsOn_0 : List UInt8 := dkwX2_arrowsOn_0 ++ dktX2_arrowsOn_1
theorem dksX2_arrowsOn_0 : cX2_arrowsOn.data.toList.drop 0 = dktX2_arrowsOn_0 := by decide +kernel
theorem dksX2_arrowsOn_1 : cX2_arrowsOn.data.toList.drop 23 = dktX2_arrowsOn_1 := dk_seg dksX2_arrowsOn_0 23 rfl rfl
theorem dksX2_arrowsOn_2 : cX2_arrowsOn.data.toList.drop 47 = dktX2_arrowsOn_2 := dk_seg dksX2_arrowsOn_1 24 rfl rfl
theorem dksX2_arrowsOn_3 : cX2_arrowsOn.data.toList.drop 71 = dktX2_arrowsOn_3 := dk_seg dksX2_arrowsOn_2 24 rfl rfl
theorem dksX2_arrowsOn_4 : cX2_arrowsOn.data.toList.drop 94 = dktX2_arrowsOn_4 := dk_seg dksX2_arrowsOn_3 23 rfl rfl
theorem dksX2_arrowsOn_5 : cX2_arrowsOn.data.toList.drop 117 = dktX2_arrowsOn_5 := dk_seg dksX2_arrowsOn_4 23 rfl rfl
theorem dksX2_arrowsOn_6 : cX2_arrowsOn.data.toList.drop 139 = dktX2_arrowsOn_6 := dk_seg dksX2_arrowsOn_5 22 rfl rfl
theorem dksX2_arrowsOn_7 : cX2_arrowsOn.data.toList.drop 163 = dktX2_arrowsOn_7 := dk_seg dksX2_arrowsOn_6 24 rfl rfl
theorem dX2_arrowsOn_0 : decode cX2_arrowsOn 0 = .ok (.bipush 16, 2) := dk_16 16 (dk_at dksX2_arrowsOn_0 0 rfl rfl)
theorem dX2_arrowsOn_2 : decode cX2_arrowsOn 2 = .ok (.newarray .int, 2) := dk_188_10 (dk_at dksX2_arrowsOn_0 2 rfl rfl)
theorem dX2_arrowsOn_4 : decode cX2_arrowsOn 4 = .ok (.astore 4, 2) := dk_58 4 (dk_at dksX2_arrowsOn_0 4 rfl rfl)
theorem dX2_arrowsOn_6 : decode cX2_arrowsOn 6 = .ok (.iconst 0, 1) := dk_3 (dk_at dksX2_arrowsOn_0 6 rfl rfl)
theorem dX2_arrowsOn_7 : decode cX2_arrowsOn 7 = .ok (.istore 5, 2) := dk_54 5 (dk_at dksX2_arrowsOn_0 7 rfl rfl)
theorem dX2_arrowsOn_9 : decode cX2_arrowsOn 9 = .ok (.iload 5, 2) := dk_21 5 (dk_at dksX2_arrowsOn_0 9 rfl rfl)
theorem dX2_arrowsOn_11 : decode cX2_arrowsOn 11 = .ok (.bipush 16, 2) := dk_16 16 (dk_at dksX2_arrowsOn_0 11 rfl rfl)
theorem dX2_arrowsOn_13 : decode cX2_arrowsOn 13 = .ok (.if_icmp .ge 25, 3) := dk_162 0 25 (dk_at dksX2_arrowsOn_0 13 rfl rfl)
theorem dX2_arrowsOn_16 : decode cX2_arrowsOn 16 = .ok (.aload 4, 2) := dk_25 4 (dk_at dksX2_arrowsOn_0 16 rfl rfl)
theorem dX2_arrowsOn_18 : decode cX2_arrowsOn 18 = .ok (.iload 5, 2) := dk_21 5 (dk_at dksX2_arrowsOn_0 18 rfl rfl)
theorem dX2_arrowsOn_20 : decode cX2_arrowsOn 20 = .ok (.iload 5, 2) := dk_21 5 (dk_at dksX2_arrowsOn_0 20 rfl rfl)
theorem dX2_arrowsOn_22 : decode cX2_arrowsOn 22 = .ok (.iload_n 1, 1) := dk_27 (dk_at dksX2_arrowsOn_0 22 rfl rfl)
theorem dX2_arrowsOn_23 : decode cX2_arrowsOn 23 = .ok (.if_icmp .ne 7, 3) := dk_160 0 7 (dk_at dksX2_arrowsOn_1 0 rfl rfl)
theorem dX2_arrowsOn_26 : decode cX2_arrowsOn 26 = .ok (.iconst 0, 1) := dk_3 (dk_at dksX2_arrowsOn_1 3 rfl rfl)
theorem dX2_arrowsOn_27 : decode cX2_arrowsOn 27 = .ok (.goto 4, 3) := dk_167 0 4 (dk_at dksX2_arrowsOn_1 4 rfl rfl)
theorem dX2_arrowsOn_30 : decode cX2_arrowsOn 30 = .ok (.iconst (-1), 1) := dk_2 (dk_at dksX2_arrowsOn_1 7 rfl rfl)
theorem dX2_arrowsOn_31 : decode cX2_arrowsOn 31 = .ok (.iastore, 1) := dk_79 (dk_at dksX2_arrowsOn_1 8 rfl rfl)
theorem dX2_arrowsOn_32 : decode cX2_arrowsOn 32 = .ok (.iinc 5 1, 3) := dk_132 5 1 (dk_at dksX2_arrowsOn_1 9 rfl rfl)
theorem dX2_arrowsOn_35 : decode cX2_arrowsOn 35 = .ok (.goto (-26), 3) := dk_167 255 230 (dk_at dksX2_arrowsOn_1 12 rfl rfl)
theorem dX2_arrowsOn_38 : decode cX2_arrowsOn 38 = .ok (.iconst 0, 1) := dk_3 (dk_at dksX2_arrowsOn_1 15 rfl rfl)
theorem dX2_arrowsOn_39 : decode cX2_arrowsOn 39 = .ok (.istore 5, 2) := dk_54 5 (dk_at dksX2_arrowsOn_1 16 rfl rfl)
theorem dX2_arrowsOn_41 : decode cX2_arrowsOn 41 = .ok (.iload 5, 2) := dk_21 5 (dk_at dksX2_arrowsOn_1 18 rfl rfl)
theorem dX2_arrowsOn_43 : decode cX2_arrowsOn 43 = .ok (.aload_n 0, 1) := dk_42 (dk_at dksX2_arrowsOn_1 20 rfl rfl)
theorem dX2_arrowsOn_44 : decode cX2_arrowsOn 44 = .ok (.getfield 57, 3) := dk_180 0 57 (dk_at dksX2_arrowsOn_1 21 rfl rfl)
theorem dX2_arrowsOn_47 : decode cX2_arrowsOn 47 = .ok (.if_icmp .ge 130, 3) := dk_162 0 130 (dk_at dksX2_arrowsOn_2 0 rfl rfl)
theorem dX2_arrowsOn_50 : decode cX2_arrowsOn 50 = .ok (.iconst 0, 1) := dk_3 (dk_at dksX2_arrowsOn_2 3 rfl rfl)
theorem dX2_arrowsOn_51 : decode cX2_arrowsOn 51 = .ok (.istore 6, 2) := dk_54 6 (dk_at dksX2_arrowsOn_2 4 rfl rfl)
theorem dX2_arrowsOn_53 : decode cX2_arrowsOn 53 = .ok (.iload 6, 2) := dk_21 6 (dk_at dksX2_arrowsOn_2 6 rfl rfl)
theorem dX2_arrowsOn_55 : decode cX2_arrowsOn 55 = .ok (.aload_n 0, 1) := dk_42 (dk_at dksX2_arrowsOn_2 8 rfl rfl)
theorem dX2_arrowsOn_56 : decode cX2_arrowsOn 56 = .ok (.getfield 54, 3) := dk_180 0 54 (dk_at dksX2_arrowsOn_2 9 rfl rfl)
theorem dX2_arrowsOn_59 : decode cX2_arrowsOn 59 = .ok (.if_icmp .ge 112, 3) := dk_162 0 112 (dk_at dksX2_arrowsOn_2 12 rfl rfl)
theorem dX2_arrowsOn_62 : decode cX2_arrowsOn 62 = .ok (.aload_n 0, 1) := dk_42 (dk_at dksX2_arrowsOn_2 15 rfl rfl)
theorem dX2_arrowsOn_63 : decode cX2_arrowsOn 63 = .ok (.getfield 30, 3) := dk_180 0 30 (dk_at dksX2_arrowsOn_2 16 rfl rfl)
theorem dX2_arrowsOn_66 : decode cX2_arrowsOn 66 = .ok (.iload 6, 2) := dk_21 6 (dk_at dksX2_arrowsOn_2 19 rfl rfl)
theorem dX2_arrowsOn_68 : decode cX2_arrowsOn 68 = .ok (.iaload, 1) := dk_46 (dk_at dksX2_arrowsOn_2 21 rfl rfl)
theorem dX2_arrowsOn_69 : decode cX2_arrowsOn 69 = .ok (.istore 7, 2) := dk_54 7 (dk_at dksX2_arrowsOn_2 22 rfl rfl)
theorem dX2_arrowsOn_71 : decode cX2_arrowsOn 71 = .ok (.aload 4, 2) := dk_25 4 (dk_at dksX2_arrowsOn_3 0 rfl rfl)
theorem dX2_arrowsOn_73 : decode cX2_arrowsOn 73 = .ok (.aload_n 0, 1) := dk_42 (dk_at dksX2_arrowsOn_3 2 rfl rfl)
theorem dX2_arrowsOn_74 : decode cX2_arrowsOn 74 = .ok (.getfield 27, 3) := dk_180 0 27 (dk_at dksX2_arrowsOn_3 3 rfl rfl)
theorem dX2_arrowsOn_77 : decode cX2_arrowsOn 77 = .ok (.iload 6, 2) := dk_21 6 (dk_at dksX2_arrowsOn_3 6 rfl rfl)
theorem dX2_arrowsOn_79 : decode cX2_arrowsOn 79 = .ok (.iaload, 1) := dk_46 (dk_at dksX2_arrowsOn_3 8 rfl rfl)
theorem dX2_arrowsOn_80 : decode cX2_arrowsOn 80 = .ok (.iaload, 1) := dk_46 (dk_at dksX2_arrowsOn_3 9 rfl rfl)
theorem dX2_arrowsOn_81 : decode cX2_arrowsOn 81 = .ok (.iconst 1, 1) := dk_4 (dk_at dksX2_arrowsOn_3 10 rfl rfl)
theorem dX2_arrowsOn_82 : decode cX2_arrowsOn 82 = .ok (.iadd, 1) := dk_96 (dk_at dksX2_arrowsOn_3 11 rfl rfl)
theorem dX2_arrowsOn_83 : decode cX2_arrowsOn 83 = .ok (.istore 8, 2) := dk_54 8 (dk_at dksX2_arrowsOn_3 12 rfl rfl)
theorem dX2_arrowsOn_85 : decode cX2_arrowsOn 85 = .ok (.aload_n 0, 1) := dk_42 (dk_at dksX2_arrowsOn_3 14 rfl rfl)
theorem dX2_arrowsOn_86 : decode cX2_arrowsOn 86 = .ok (.getfield 36, 3) := dk_180 0 36 (dk_at dksX2_arrowsOn_3 15 rfl rfl)
theorem dX2_arrowsOn_89 : decode cX2_arrowsOn 89 = .ok (.iload 7, 2) := dk_21 7 (dk_at dksX2_arrowsOn_3 18 rfl rfl)
theorem dX2_arrowsOn_91 : decode cX2_arrowsOn 91 = .ok (.iaload, 1) := dk_46 (dk_at dksX2_arrowsOn_3 20 rfl rfl)
theorem dX2_arrowsOn_92 : decode cX2_arrowsOn 92 = .ok (.iload 5, 2) := dk_21 5 (dk_at dksX2_arrowsOn_3 21 rfl rfl)
theorem dX2_arrowsOn_94 : decode cX2_arrowsOn 94 = .ok (.if_icmp .ne 48, 3) := dk_160 0 48 (dk_at dksX2_arrowsOn_4 0 rfl rfl)
theorem dX2_arrowsOn_97 : decode cX2_arrowsOn 97 = .ok (.iload 8, 2) := dk_21 8 (dk_at dksX2_arrowsOn_4 3 rfl rfl)
theorem dX2_arrowsOn_99 : decode cX2_arrowsOn 99 = .ok (.ifCond .le 43, 3) := dk_158 0 43 (dk_at dksX2_arrowsOn_4 5 rfl rfl)
theorem dX2_arrowsOn_102 : decode cX2_arrowsOn 102 = .ok (.aload 4, 2) := dk_25 4 (dk_at dksX2_arrowsOn_4 8 rfl rfl)
theorem dX2_arrowsOn_104 : decode cX2_arrowsOn 104 = .ok (.iload 7, 2) := dk_21 7 (dk_at dksX2_arrowsOn_4 10 rfl rfl)
theorem dX2_arrowsOn_106 : decode cX2_arrowsOn 106 = .ok (.iaload, 1) := dk_46 (dk_at dksX2_arrowsOn_4 12 rfl rfl)
theorem dX2_arrowsOn_107 : decode cX2_arrowsOn 107 = .ok (.iconst (-1), 1) := dk_2 (dk_at dksX2_arrowsOn_4 13 rfl rfl)
theorem dX2_arrowsOn_108 : decode cX2_arrowsOn 108 = .ok (.if_icmp .eq 30, 3) := dk_159 0 30 (dk_at dksX2_arrowsOn_4 14 rfl rfl)
theorem dX2_arrowsOn_111 : decode cX2_arrowsOn 111 = .ok (.iload_n 3, 1) := dk_29 (dk_at dksX2_arrowsOn_4 17 rfl rfl)
theorem dX2_arrowsOn_112 : decode cX2_arrowsOn 112 = .ok (.ifCond .eq 16, 3) := dk_153 0 16 (dk_at dksX2_arrowsOn_4 18 rfl rfl)
theorem dX2_arrowsOn_115 : decode cX2_arrowsOn 115 = .ok (.iload 8, 2) := dk_21 8 (dk_at dksX2_arrowsOn_4 21 rfl rfl)
theorem dX2_arrowsOn_117 : decode cX2_arrowsOn 117 = .ok (.aload 4, 2) := dk_25 4 (dk_at dksX2_arrowsOn_5 0 rfl rfl)
theorem dX2_arrowsOn_119 : decode cX2_arrowsOn 119 = .ok (.iload 7, 2) := dk_21 7 (dk_at dksX2_arrowsOn_5 2 rfl rfl)
theorem dX2_arrowsOn_121 : decode cX2_arrowsOn 121 = .ok (.iaload, 1) := dk_46 (dk_at dksX2_arrowsOn_5 4 rfl rfl)
theorem dX2_arrowsOn_122 : decode cX2_arrowsOn 122 = .ok (.if_icmp .ge 20, 3) := dk_162 0 20 (dk_at dksX2_arrowsOn_5 5 rfl rfl)
theorem dX2_arrowsOn_125 : decode cX2_arrowsOn 125 = .ok (.goto 13, 3) := dk_167 0 13 (dk_at dksX2_arrowsOn_5 8 rfl rfl)
theorem dX2_arrowsOn_128 : decode cX2_arrowsOn 128 = .ok (.iload 8, 2) := dk_21 8 (dk_at dksX2_arrowsOn_5 11 rfl rfl)
theorem dX2_arrowsOn_130 : decode cX2_arrowsOn 130 = .ok (.aload 4, 2) := dk_25 4 (dk_at dksX2_arrowsOn_5 13 rfl rfl)
theorem dX2_arrowsOn_132 : decode cX2_arrowsOn 132 = .ok (.iload 7, 2) := dk_21 7 (dk_at dksX2_arrowsOn_5 15 rfl rfl)
theorem dX2_arrowsOn_134 : decode cX2_arrowsOn 134 = .ok (.iaload, 1) := dk_46 (dk_at dksX2_arrowsOn_5 17 rfl rfl)
theorem dX2_arrowsOn_135 : decode cX2_arrowsOn 135 = .ok (.if_icmp .le 7, 3) := dk_164 0 7 (dk_at dksX2_arrowsOn_5 18 rfl rfl)
theorem dX2_arrowsOn_138 : decode cX2_arrowsOn 138 = .ok (.iconst 1, 1) := dk_4 (dk_at dksX2_arrowsOn_5 21 rfl rfl)
theorem dX2_arrowsOn_139 : decode cX2_arrowsOn 139 = .ok (.goto 4, 3) := dk_167 0 4 (dk_at dksX2_arrowsOn_6 0 rfl rfl)
theorem dX2_arrowsOn_142 : decode cX2_arrowsOn 142 = .ok (.iconst 0, 1) := dk_3 (dk_at dksX2_arrowsOn_6 3 rfl rfl)
theorem dX2_arrowsOn_143 : decode cX2_arrowsOn 143 = .ok (.istore 9, 2) := dk_54 9 (dk_at dksX2_arrowsOn_6 4 rfl rfl)
theorem dX2_arrowsOn_145 : decode cX2_arrowsOn 145 = .ok (.aload 4, 2) := dk_25 4 (dk_at dksX2_arrowsOn_6 6 rfl rfl)
theorem dX2_arrowsOn_147 : decode cX2_arrowsOn 147 = .ok (.iload 7, 2) := dk_21 7 (dk_at dksX2_arrowsOn_6 8 rfl rfl)
theorem dX2_arrowsOn_149 : decode cX2_arrowsOn 149 = .ok (.iload 9, 2) := dk_21 9 (dk_at dksX2_arrowsOn_6 10 rfl rfl)
theorem dX2_arrowsOn_151 : decode cX2_arrowsOn 151 = .ok (.ifCond .eq 8, 3) := dk_153 0 8 (dk_at dksX2_arrowsOn_6 12 rfl rfl)
theorem dX2_arrowsOn_154 : decode cX2_arrowsOn 154 = .ok (.iload 8, 2) := dk_21 8 (dk_at dksX2_arrowsOn_6 15 rfl rfl)
theorem dX2_arrowsOn_156 : decode cX2_arrowsOn 156 = .ok (.goto 8, 3) := dk_167 0 8 (dk_at dksX2_arrowsOn_6 17 rfl rfl)
theorem dX2_arrowsOn_159 : decode cX2_arrowsOn 159 = .ok (.aload 4, 2) := dk_25 4 (dk_at dksX2_arrowsOn_6 20 rfl rfl)
theorem dX2_arrowsOn_161 : decode cX2_arrowsOn 161 = .ok (.iload 7, 2) := dk_21 7 (dk_at dksX2_arrowsOn_6 22 rfl rfl)
theorem dX2_arrowsOn_163 : decode cX2_arrowsOn 163 = .ok (.iaload, 1) := dk_46 (dk_at dksX2_arrowsOn_7 0 rfl rfl)
theorem dX2_arrowsOn_164 : decode cX2_arrowsOn 164 = .ok (.iastore, 1) := dk_79 (dk_at dksX2_arrowsOn_7 1 rfl rfl)
theorem dX2_arrowsOn_165 : decode cX2_arrowsOn 165 = .ok (.iinc 6 1, 3) := dk_132 6 1 (dk_at dksX2_arrowsOn_7 2 rfl rfl)
theorem dX2_arrowsOn_168 : decode cX2_arrowsOn 168 = .ok (.goto (-115), 3) := dk_167 255 141 (dk_at dksX2_arrowsOn_7 5 rfl rfl)
theorem dX2_arrowsOn_171 : decode cX2_arrowsOn 171 = .ok (.iinc 5 1, 3) := dk_132 5 1 (dk_at dksX2_arrowsOn_7 8 rfl rfl)
theorem dX2_arrowsOn_174 : decode cX2_arrowsOn 174 = .ok (.goto (-133), 3) := dk_167 255 123 (dk_at dksX2_arrowsOn_7 11 rfl rfl)
theorem dX2_arrowsOn_177 : decode cX2_arrowsOn 177 = .ok (.aload 4, 2) := dk_25 4 (dk_at dksX2_arrowsOn_7 14 rfl rfl)
theorem dX2_arrowsOn_179 : decode cX2_arrowsOn 179 = .ok (.iload_n 2, 1) := dk_28 (dk_at dksX2_arrowsOn_7 16 rfl rfl)
theorem dX2_arrowsOn_180 : decode cX2_arrowsOn 180 = .ok (.iaload, 1) := dk_46 (dk_at dksX2_arrowsOn_7 17 rfl rfl)
theorem dX2_arrowsOn_181 : decode cX2_arrowsOn 181 = .ok (.ireturn, 1) := dk_172 (dk_at dksX2_arrowsOn_7 18 rfl rfl)
def dkwX2_back_2 : List UInt8 := [132, 3, 1, 167, 255, 214, 28, 172]
abbrev dktX2_back_2 : List UInt8 := dkwX2_back_2 ++ []
def dkwX2_back_1 : List UInt8 := [160, 0, 22, 28, 42, 42, 180, 0, 27, 29, 46, 182, 0, 111, 4, 96, 184, 0, 102, 167, 0, 4, 28, 61]
abbrev dktX2_back_1 : List UInt8 := dkwX2_back_1 ++ dktX2_back_2
def dkwX2_back_0 : List UInt8 := [42, 180, 0, 33, 27, 46, 61, 3, 62, 29, 42, 180, 0, 54, 162, 0, 40, 42, 180, 0, 30, 29, 46, 27]
abbrev dktX2_back_0 : List UInt8 := dkwX2_back_0 ++ dktX2_back_1
theorem dksX2_back_0 : cX2_back.data.toList.drop 0 = dktX2_back_0 := by decide +kernel
theorem dksX2_back_1 : cX2_back.data.toList.drop 24 = dktX2_back_1 := dk_seg dksX2_back_0 24 rfl rfl
theorem dksX2_back_2 : cX2_back.data.toList.drop 48 = dktX2_back_2 := dk_seg dksX2_back_1 24 rfl rfl
theorem dX2_back_0 : decode cX2_back 0 = .ok (.aload_n 0, 1) := dk_42 (dk_at dksX2_back_0 0 rfl rfl)
theorem dX2_back_1 : decode cX2_back 1 = .ok (.getfield 33, 3) := dk_180 0 33 (dk_at dksX2_back_0 1 rfl rfl)
theorem dX2_back_4 : decode cX2_back 4 = .ok (.iload_n 1, 1) := dk_27 (dk_at dksX2_back_0 4 rfl rfl)
theorem dX2_back_5 : decode cX2_back 5 = .ok (.iaload, 1) := dk_46 (dk_at dksX2_back_0 5 rfl rfl)
theorem dX2_back_6 : decode cX2_back 6 = .ok (.istore_n 2, 1) := dk_61 (dk_at dksX2_back_0 6 rfl rfl)
theorem dX2_back_7 : decode cX2_back 7 = .ok (.iconst 0, 1) := dk_3 (dk_at dksX2_back_0 7 rfl rfl)
theorem dX2_back_8 : decode cX2_back 8 = .ok (.istore_n 3, 1) := dk_62 (dk_at dksX2_back_0 8 rfl rfl)
theorem dX2_back_9 : decode cX2_back 9 = .ok (.iload_n 3, 1) := dk_29 (dk_at dksX2_back_0 9 rfl rfl)
theorem dX2_back_10 : decode cX2_back 10 = .ok (.aload_n 0, 1) := dk_42 (dk_at dksX2_back_0 10 rfl rfl)
theorem dX2_back_11 : decode cX2_back 11 = .ok (.getfield 54, 3) := dk_180 0 54 (dk_at dksX2_back_0 11 rfl rfl)
theorem dX2_back_14 : decode cX2_back 14 = .ok (.if_icmp .ge 40, 3) := dk_162 0 40 (dk_at dksX2_back_0 14 rfl rfl)
theorem dX2_back_17 : decode cX2_back 17 = .ok (.aload_n 0, 1) := dk_42 (dk_at dksX2_back_0 17 rfl rfl)
theorem dX2_back_18 : decode cX2_back 18 = .ok (.getfield 30, 3) := dk_180 0 30 (dk_at dksX2_back_0 18 rfl rfl)
theorem dX2_back_21 : decode cX2_back 21 = .ok (.iload_n 3, 1) := dk_29 (dk_at dksX2_back_0 21 rfl rfl)
theorem dX2_back_22 : decode cX2_back 22 = .ok (.iaload, 1) := dk_46 (dk_at dksX2_back_0 22 rfl rfl)
theorem dX2_back_23 : decode cX2_back 23 = .ok (.iload_n 1, 1) := dk_27 (dk_at dksX2_back_0 23 rfl rfl)
theorem dX2_back_24 : decode cX2_back 24 = .ok (.if_icmp .ne 22, 3) := dk_160 0 22 (dk_at dksX2_back_1 0 rfl rfl)
theorem dX2_back_27 : decode cX2_back 27 = .ok (.iload_n 2, 1) := dk_28 (dk_at dksX2_back_1 3 rfl rfl)
theorem dX2_back_28 : decode cX2_back 28 = .ok (.aload_n 0, 1) := dk_42 (dk_at dksX2_back_1 4 rfl rfl)
theorem dX2_back_29 : decode cX2_back 29 = .ok (.aload_n 0, 1) := dk_42 (dk_at dksX2_back_1 5 rfl rfl)
theorem dX2_back_30 : decode cX2_back 30 = .ok (.getfield 27, 3) := dk_180 0 27 (dk_at dksX2_back_1 6 rfl rfl)
theorem dX2_back_33 : decode cX2_back 33 = .ok (.iload_n 3, 1) := dk_29 (dk_at dksX2_back_1 9 rfl rfl)
theorem dX2_back_34 : decode cX2_back 34 = .ok (.iaload, 1) := dk_46 (dk_at dksX2_back_1 10 rfl rfl)
theorem dX2_back_35 : decode cX2_back 35 = .ok (.invokevirtual 111, 3) := dk_182 0 111 (dk_at dksX2_back_1 11 rfl rfl)
theorem dX2_back_38 : decode cX2_back 38 = .ok (.iconst 1, 1) := dk_4 (dk_at dksX2_back_1 14 rfl rfl)
theorem dX2_back_39 : decode cX2_back 39 = .ok (.iadd, 1) := dk_96 (dk_at dksX2_back_1 15 rfl rfl)
theorem dX2_back_40 : decode cX2_back 40 = .ok (.invokestatic 102, 3) := dk_184 0 102 (dk_at dksX2_back_1 16 rfl rfl)
theorem dX2_back_43 : decode cX2_back 43 = .ok (.goto 4, 3) := dk_167 0 4 (dk_at dksX2_back_1 19 rfl rfl)
theorem dX2_back_46 : decode cX2_back 46 = .ok (.iload_n 2, 1) := dk_28 (dk_at dksX2_back_1 22 rfl rfl)
theorem dX2_back_47 : decode cX2_back 47 = .ok (.istore_n 2, 1) := dk_61 (dk_at dksX2_back_1 23 rfl rfl)
theorem dX2_back_48 : decode cX2_back 48 = .ok (.iinc 3 1, 3) := dk_132 3 1 (dk_at dksX2_back_2 0 rfl rfl)
theorem dX2_back_51 : decode cX2_back 51 = .ok (.goto (-42), 3) := dk_167 255 214 (dk_at dksX2_back_2 3 rfl rfl)
theorem dX2_back_54 : decode cX2_back 54 = .ok (.iload_n 2, 1) := dk_28 (dk_at dksX2_back_2 6 rfl rfl)
theorem dX2_back_55 : decode cX2_back 55 = .ok (.ireturn, 1) := dk_172 (dk_at dksX2_back_2 7 rfl rfl)
def dkwX2_crossingsBy_3 : List UInt8 := [132, 3, 1, 167, 255, 197, 28, 172]
abbrev dktX2_crossingsBy_3 : List UInt8 := dkwX2_crossingsBy_3 ++ []
def dkwX2_crossingsBy_2 : List UInt8 := [27, 21, 4, 182, 0, 135, 153, 0, 7, 4, 167, 0, 4, 3, 96, 61, 132, 4, 1, 167, 255, 226]
abbrev dktX2_crossingsBy_2 : List UInt8 := dkwX2_crossingsBy_2 ++ dktX2_crossingsBy_3
def dkwX2_crossingsBy_1 : List UInt8 := [46, 46, 162, 0, 50, 42, 29, 182, 0, 131, 3, 54, 4, 21, 4, 42, 180, 0, 54, 162, 0, 27, 28, 42]
abbrev dktX2_crossingsBy_1 : List UInt8 := dkwX2_crossingsBy_1 ++ dktX2_crossingsBy_2
def dkwX2_crossingsBy_0 : List UInt8 := [3, 61, 42, 180, 0, 36, 42, 180, 0, 27, 27, 46, 46, 62, 29, 42, 180, 0, 36, 42, 180, 0, 30, 27]
abbrev dktX2_crossingsBy_0 : List UInt8 := dkwX2_crossingsBy_0 ++ dktX2_crossingsBy_1
theorem dksX2_crossingsBy_0 : cX2_crossingsBy.data.toList.drop 0 = dktX2_crossingsBy_0 := by decide +kernel
theorem dksX2_crossingsBy_1 : cX2_crossingsBy.data.toList.drop 24 = dktX2_crossingsBy_1 := dk_seg dksX2_crossingsBy_0 24 rfl rfl
theorem dksX2_crossingsBy_2 : cX2_crossingsBy.data.toList.drop 48 = dktX2_crossingsBy_2 := dk_seg dksX2_crossingsBy_1 24 rfl rfl
theorem dksX2_crossingsBy_3 : cX2_crossingsBy.data.toList.drop 70 = dktX2_crossingsBy_3 := dk_seg dksX2_crossingsBy_2 22 rfl rfl
theorem dX2_crossingsBy_0 : decode cX2_crossingsBy 0 = .ok (.iconst 0, 1) := dk_3 (dk_at dksX2_crossingsBy_0 0 rfl rfl)
theorem dX2_crossingsBy_1 : decode cX2_crossingsBy 1 = .ok (.istore_n 2, 1) := dk_61 (dk_at dksX2_crossingsBy_0 1 rfl rfl)
theorem dX2_crossingsBy_2 : decode cX2_crossingsBy 2 = .ok (.aload_n 0, 1) := dk_42 (dk_at dksX2_crossingsBy_0 2 rfl rfl)
theorem dX2_crossingsBy_3 : decode cX2_crossingsBy 3 = .ok (.getfield 36, 3) := dk_180 0 36 (dk_at dksX2_crossingsBy_0 3 rfl rfl)
theorem dX2_crossingsBy_6 : decode cX2_crossingsBy 6 = .ok (.aload_n 0, 1) := dk_42 (dk_at dksX2_crossingsBy_0 6 rfl rfl)
theorem dX2_crossingsBy_7 : decode cX2_crossingsBy 7 = .ok (.getfield 27, 3) := dk_180 0 27 (dk_at dksX2_crossingsBy_0 7 rfl rfl)
theorem dX2_crossingsBy_10 : decode cX2_crossingsBy 10 = .ok (.iload_n 1, 1) := dk_27 (dk_at dksX2_crossingsBy_0 10 rfl rfl)
theorem dX2_crossingsBy_11 : decode cX2_crossingsBy 11 = .ok (.iaload, 1) := dk_46 (dk_at dksX2_crossingsBy_0 11 rfl rfl)
theorem dX2_crossingsBy_12 : decode cX2_crossingsBy 12 = .ok (.iaload, 1) := dk_46 (dk_at dksX2_crossingsBy_0 12 rfl rfl)
theorem dX2_crossingsBy_13 : decode cX2_crossingsBy 13 = .ok (.istore_n 3, 1) := dk_62 (dk_at dksX2_crossingsBy_0 13 rfl rfl)
theorem dX2_crossingsBy_14 : decode cX2_crossingsBy 14 = .ok (.iload_n 3, 1) := dk_29 (dk_at dksX2_crossingsBy_0 14 rfl rfl)
theorem dX2_crossingsBy_15 : decode cX2_crossingsBy 15 = .ok (.aload_n 0, 1) := dk_42 (dk_at dksX2_crossingsBy_0 15 rfl rfl)
theorem dX2_crossingsBy_16 : decode cX2_crossingsBy 16 = .ok (.getfield 36, 3) := dk_180 0 36 (dk_at dksX2_crossingsBy_0 16 rfl rfl)
theorem dX2_crossingsBy_19 : decode cX2_crossingsBy 19 = .ok (.aload_n 0, 1) := dk_42 (dk_at dksX2_crossingsBy_0 19 rfl rfl)
theorem dX2_crossingsBy_20 : decode cX2_crossingsBy 20 = .ok (.getfield 30, 3) := dk_180 0 30 (dk_at dksX2_crossingsBy_0 20 rfl rfl)
theorem dX2_crossingsBy_23 : decode cX2_crossingsBy 23 = .ok (.iload_n 1, 1) := dk_27 (dk_at dksX2_crossingsBy_0 23 rfl rfl)
theorem dX2_crossingsBy_24 : decode cX2_crossingsBy 24 = .ok (.iaload, 1) := dk_46 (dk_at dksX2_crossingsBy_1 0 rfl rfl)
theorem dX2_crossingsBy_25 : decode cX2_crossingsBy 25 = .ok (.iaload, 1) := dk_46 (dk_at dksX2_crossingsBy_1 1 rfl rfl)
theorem dX2_crossingsBy_26 : decode cX2_crossingsBy 26 = .ok (.if_icmp .ge 50, 3) := dk_162 0 50 (dk_at dksX2_crossingsBy_1 2 rfl rfl)
theorem dX2_crossingsBy_29 : decode cX2_crossingsBy 29 = .ok (.aload_n 0, 1) := dk_42 (dk_at dksX2_crossingsBy_1 5 rfl rfl)
theorem dX2_crossingsBy_30 : decode cX2_crossingsBy 30 = .ok (.iload_n 3, 1) := dk_29 (dk_at dksX2_crossingsBy_1 6 rfl rfl)
theorem dX2_crossingsBy_31 : decode cX2_crossingsBy 31 = .ok (.invokevirtual 131, 3) := dk_182 0 131 (dk_at dksX2_crossingsBy_1 7 rfl rfl)
theorem dX2_crossingsBy_34 : decode cX2_crossingsBy 34 = .ok (.iconst 0, 1) := dk_3 (dk_at dksX2_crossingsBy_1 10 rfl rfl)
theorem dX2_crossingsBy_35 : decode cX2_crossingsBy 35 = .ok (.istore 4, 2) := dk_54 4 (dk_at dksX2_crossingsBy_1 11 rfl rfl)
theorem dX2_crossingsBy_37 : decode cX2_crossingsBy 37 = .ok (.iload 4, 2) := dk_21 4 (dk_at dksX2_crossingsBy_1 13 rfl rfl)
theorem dX2_crossingsBy_39 : decode cX2_crossingsBy 39 = .ok (.aload_n 0, 1) := dk_42 (dk_at dksX2_crossingsBy_1 15 rfl rfl)
theorem dX2_crossingsBy_40 : decode cX2_crossingsBy 40 = .ok (.getfield 54, 3) := dk_180 0 54 (dk_at dksX2_crossingsBy_1 16 rfl rfl)
theorem dX2_crossingsBy_43 : decode cX2_crossingsBy 43 = .ok (.if_icmp .ge 27, 3) := dk_162 0 27 (dk_at dksX2_crossingsBy_1 19 rfl rfl)
theorem dX2_crossingsBy_46 : decode cX2_crossingsBy 46 = .ok (.iload_n 2, 1) := dk_28 (dk_at dksX2_crossingsBy_1 22 rfl rfl)
theorem dX2_crossingsBy_47 : decode cX2_crossingsBy 47 = .ok (.aload_n 0, 1) := dk_42 (dk_at dksX2_crossingsBy_1 23 rfl rfl)
theorem dX2_crossingsBy_48 : decode cX2_crossingsBy 48 = .ok (.iload_n 1, 1) := dk_27 (dk_at dksX2_crossingsBy_2 0 rfl rfl)
theorem dX2_crossingsBy_49 : decode cX2_crossingsBy 49 = .ok (.iload 4, 2) := dk_21 4 (dk_at dksX2_crossingsBy_2 1 rfl rfl)
theorem dX2_crossingsBy_51 : decode cX2_crossingsBy 51 = .ok (.invokevirtual 135, 3) := dk_182 0 135 (dk_at dksX2_crossingsBy_2 3 rfl rfl)
theorem dX2_crossingsBy_54 : decode cX2_crossingsBy 54 = .ok (.ifCond .eq 7, 3) := dk_153 0 7 (dk_at dksX2_crossingsBy_2 6 rfl rfl)
theorem dX2_crossingsBy_57 : decode cX2_crossingsBy 57 = .ok (.iconst 1, 1) := dk_4 (dk_at dksX2_crossingsBy_2 9 rfl rfl)
theorem dX2_crossingsBy_58 : decode cX2_crossingsBy 58 = .ok (.goto 4, 3) := dk_167 0 4 (dk_at dksX2_crossingsBy_2 10 rfl rfl)
theorem dX2_crossingsBy_61 : decode cX2_crossingsBy 61 = .ok (.iconst 0, 1) := dk_3 (dk_at dksX2_crossingsBy_2 13 rfl rfl)
theorem dX2_crossingsBy_62 : decode cX2_crossingsBy 62 = .ok (.iadd, 1) := dk_96 (dk_at dksX2_crossingsBy_2 14 rfl rfl)
theorem dX2_crossingsBy_63 : decode cX2_crossingsBy 63 = .ok (.istore_n 2, 1) := dk_61 (dk_at dksX2_crossingsBy_2 15 rfl rfl)
theorem dX2_crossingsBy_64 : decode cX2_crossingsBy 64 = .ok (.iinc 4 1, 3) := dk_132 4 1 (dk_at dksX2_crossingsBy_2 16 rfl rfl)
theorem dX2_crossingsBy_67 : decode cX2_crossingsBy 67 = .ok (.goto (-30), 3) := dk_167 255 226 (dk_at dksX2_crossingsBy_2 19 rfl rfl)
theorem dX2_crossingsBy_70 : decode cX2_crossingsBy 70 = .ok (.iinc 3 1, 3) := dk_132 3 1 (dk_at dksX2_crossingsBy_3 0 rfl rfl)
theorem dX2_crossingsBy_73 : decode cX2_crossingsBy 73 = .ok (.goto (-59), 3) := dk_167 255 197 (dk_at dksX2_crossingsBy_3 3 rfl rfl)
theorem dX2_crossingsBy_76 : decode cX2_crossingsBy 76 = .ok (.iload_n 2, 1) := dk_28 (dk_at dksX2_crossingsBy_3 6 rfl rfl)
theorem dX2_crossingsBy_77 : decode cX2_crossingsBy 77 = .ok (.ireturn, 1) := dk_172 (dk_at dksX2_crossingsBy_3 7 rfl rfl)
theorem e_X2_init (d : Nat) (x0 : Nat) (h : a_H) : a_call (d + 1) MX2_init [.ref x0] h = a_run d MX2_init 0 [some (.ref x0)] [] h := a_call_run rfl (Nat.le_of_ble_eq_true rfl) rfl
theorem w_X2_init_0 (d : Nat) (x : Nat) (st : List Value) (h : a_H) : a_run d MX2_init 0 [some (.ref x)] st h = a_run d MX2_init 1 [some (.ref x)] (.ref x :: st) h := w_ldAn dX2_init_0 rfl
theorem w_X2_init_1 (d : Nat) (L : a_L) (i : Nat) (st : List Value) (h : a_H) (hi : 1024 ≤ i) (hc : a_cat st ≤ 8) : a_run d MX2_init 1 L (.ref i :: st) h = a_run d MX2_init 4 L st h := w_obj dX2_init_1 rfl hi hc
theorem w_X2_init_4 (d : Nat) (x : Nat) (st : List Value) (h : a_H) : a_run d MX2_init 4 [some (.ref x)] st h = a_run d MX2_init 5 [some (.ref x)] (.ref x :: st) h := w_ldAn dX2_init_4 rfl
theorem w_X2_init_5 (d : Nat) (L : a_L) (st : List Value) (h : a_H) : a_run d MX2_init 5 L st h = a_run d MX2_init 7 L (.int (nI 30) :: st) h := w_bipush dX2_init_5 rfl
theorem w_X2_init_7 (d : Nat) (L : a_L) (x : Int32) (st : List Value) (h : a_H) : a_run d MX2_init 7 L (.int x :: st) h = (a_newa h (newarray.typeOf .int) x).bind fun q => a_run d MX2_init 9 L (.ref q.1 :: st) q.2 := w_newa dX2_init_7
theorem w_X2_init_9 (d : Nat) (L : a_L) (x : Nat) (i : Nat) (st : List Value) (h : a_H) : a_run d MX2_init 9 L (.ref x :: .ref i :: st) h = (a_pf h i 6 [1] (.ref x)).bind fun h' => a_run d MX2_init 12 L st h' := w_putf dX2_init_9 rfl rfl (Or.inr ⟨rfl, rfl⟩) rfl rfl
theorem w_X2_init_9N (d : Nat) (L : a_L) (i : Nat) (st : List Value) (h : a_H) : a_run d MX2_init 9 L (.null :: .ref i :: st) h = (a_pf h i 6 [1] (.null)).bind fun h' => a_run d MX2_init 12 L st h' := w_putf dX2_init_9 rfl rfl (Or.inr ⟨rfl, rfl⟩) rfl rfl
theorem w_X2_init_12 (d : Nat) (x : Nat) (st : List Value) (h : a_H) : a_run d MX2_init 12 [some (.ref x)] st h = a_run d MX2_init 13 [some (.ref x)] (.ref x :: st) h := w_ldAn dX2_init_12 rfl
theorem w_X2_init_13 (d : Nat) (L : a_L) (st : List Value) (h : a_H) : a_run d MX2_init 13 L st h = a_run d MX2_init 15 L (.int (nI 30) :: st) h := w_bipush dX2_init_13 rfl
theorem w_X2_init_15 (d : Nat) (L : a_L) (x : Int32) (st : List Value) (h : a_H) : a_run d MX2_init 15 L (.int x :: st) h = (a_newa h (newarray.typeOf .int) x).bind fun q => a_run d MX2_init 17 L (.ref q.1 :: st) q.2 := w_newa dX2_init_15
theorem w_X2_init_17 (d : Nat) (L : a_L) (x : Nat) (i : Nat) (st : List Value) (h : a_H) : a_run d MX2_init 17 L (.ref x :: .ref i :: st) h = (a_pf h i 7 [1] (.ref x)).bind fun h' => a_run d MX2_init 20 L st h' := w_putf dX2_init_17 rfl rfl (Or.inr ⟨rfl, rfl⟩) rfl rfl
theorem w_X2_init_17N (d : Nat) (L : a_L) (i : Nat) (st : List Value) (h : a_H) : a_run d MX2_init 17 L (.null :: .ref i :: st) h = (a_pf h i 7 [1] (.null)).bind fun h' => a_run d MX2_init 20 L st h' := w_putf dX2_init_17 rfl rfl (Or.inr ⟨rfl, rfl⟩) rfl rfl
theorem w_X2_init_20 (d : Nat) (x : Nat) (st : List Value) (h : a_H) : a_run d MX2_init 20 [some (.ref x)] st h = a_run d MX2_init 21 [some (.ref x)] (.ref x :: st) h := w_ldAn dX2_init_20 rfl
theorem w_X2_init_21 (d : Nat) (L : a_L) (st : List Value) (h : a_H) : a_run d MX2_init 21 L st h = a_run d MX2_init 23 L (.int (nI 30) :: st) h := w_bipush dX2_init_21 rfl
theorem w_X2_init_23 (d : Nat) (L : a_L) (x : Int32) (st : List Value) (h : a_H) : a_run d MX2_init 23 L (.int x :: st) h = (a_newa h (newarray.typeOf .int) x).bind fun q => a_run d MX2_init 25 L (.ref q.1 :: st) q.2 := w_newa dX2_init_23
theorem w_X2_init_25 (d : Nat) (L : a_L) (x : Nat) (i : Nat) (st : List Value) (h : a_H) : a_run d MX2_init 25 L (.ref x :: .ref i :: st) h = (a_pf h i 8 [1] (.ref x)).bind fun h' => a_run d MX2_init 28 L st h' := w_putf dX2_init_25 rfl rfl (Or.inr ⟨rfl, rfl⟩) rfl rfl
theorem w_X2_init_25N (d : Nat) (L : a_L) (i : Nat) (st : List Value) (h : a_H) : a_run d MX2_init 25 L (.null :: .ref i :: st) h = (a_pf h i 8 [1] (.null)).bind fun h' => a_run d MX2_init 28 L st h' := w_putf dX2_init_25 rfl rfl (Or.inr ⟨rfl, rfl⟩) rfl rfl
theorem w_X2_init_28 (d : Nat) (x : Nat) (st : List Value) (h : a_H) : a_run d MX2_init 28 [some (.ref x)] st h = a_run d MX2_init 29 [some (.ref x)] (.ref x :: st) h := w_ldAn dX2_init_28 rfl
theorem w_X2_init_29 (d : Nat) (L : a_L) (st : List Value) (h : a_H) : a_run d MX2_init 29 L st h = a_run d MX2_init 31 L (.int (nI 46) :: st) h := w_bipush dX2_init_29 rfl
theorem w_X2_init_31 (d : Nat) (L : a_L) (x : Int32) (st : List Value) (h : a_H) : a_run d MX2_init 31 L (.int x :: st) h = (a_newa h (newarray.typeOf .int) x).bind fun q => a_run d MX2_init 33 L (.ref q.1 :: st) q.2 := w_newa dX2_init_31
theorem w_X2_init_33 (d : Nat) (L : a_L) (x : Nat) (i : Nat) (st : List Value) (h : a_H) : a_run d MX2_init 33 L (.ref x :: .ref i :: st) h = (a_pf h i 9 [1] (.ref x)).bind fun h' => a_run d MX2_init 36 L st h' := w_putf dX2_init_33 rfl rfl (Or.inr ⟨rfl, rfl⟩) rfl rfl
theorem w_X2_init_33N (d : Nat) (L : a_L) (i : Nat) (st : List Value) (h : a_H) : a_run d MX2_init 33 L (.null :: .ref i :: st) h = (a_pf h i 9 [1] (.null)).bind fun h' => a_run d MX2_init 36 L st h' := w_putf dX2_init_33 rfl rfl (Or.inr ⟨rfl, rfl⟩) rfl rfl
theorem w_X2_init_36 (d : Nat) (x : Nat) (st : List Value) (h : a_H) : a_run d MX2_init 36 [some (.ref x)] st h = a_run d MX2_init 37 [some (.ref x)] (.ref x :: st) h := w_ldAn dX2_init_36 rfl
theorem w_X2_init_37 (d : Nat) (L : a_L) (st : List Value) (h : a_H) : a_run d MX2_init 37 L st h = a_run d MX2_init 39 L (.int (nI 46) :: st) h := w_bipush dX2_init_37 rfl
theorem w_X2_init_39 (d : Nat) (L : a_L) (x : Int32) (st : List Value) (h : a_H) : a_run d MX2_init 39 L (.int x :: st) h = (a_newa h (newarray.typeOf .int) x).bind fun q => a_run d MX2_init 41 L (.ref q.1 :: st) q.2 := w_newa dX2_init_39
theorem w_X2_init_41 (d : Nat) (L : a_L) (x : Nat) (i : Nat) (st : List Value) (h : a_H) : a_run d MX2_init 41 L (.ref x :: .ref i :: st) h = (a_pf h i 10 [1] (.ref x)).bind fun h' => a_run d MX2_init 44 L st h' := w_putf dX2_init_41 rfl rfl (Or.inr ⟨rfl, rfl⟩) rfl rfl
theorem w_X2_init_41N (d : Nat) (L : a_L) (i : Nat) (st : List Value) (h : a_H) : a_run d MX2_init 41 L (.null :: .ref i :: st) h = (a_pf h i 10 [1] (.null)).bind fun h' => a_run d MX2_init 44 L st h' := w_putf dX2_init_41 rfl rfl (Or.inr ⟨rfl, rfl⟩) rfl rfl
theorem w_X2_init_44 (d : Nat) (x : Nat) (st : List Value) (h : a_H) : a_run d MX2_init 44 [some (.ref x)] st h = a_run d MX2_init 45 [some (.ref x)] (.ref x :: st) h := w_ldAn dX2_init_44 rfl
theorem w_X2_init_45 (d : Nat) (L : a_L) (st : List Value) (h : a_H) : a_run d MX2_init 45 L st h = a_run d MX2_init 47 L (.int (nI 30) :: st) h := w_bipush dX2_init_45 rfl
theorem w_X2_init_47 (d : Nat) (L : a_L) (x : Int32) (st : List Value) (h : a_H) : a_run d MX2_init 47 L (.int x :: st) h = (a_newa h (newarray.typeOf .int) x).bind fun q => a_run d MX2_init 49 L (.ref q.1 :: st) q.2 := w_newa dX2_init_47
theorem w_X2_init_49 (d : Nat) (L : a_L) (x : Nat) (i : Nat) (st : List Value) (h : a_H) : a_run d MX2_init 49 L (.ref x :: .ref i :: st) h = (a_pf h i 0 [1] (.ref x)).bind fun h' => a_run d MX2_init 52 L st h' := w_putf dX2_init_49 rfl rfl (Or.inr ⟨rfl, rfl⟩) rfl rfl
theorem w_X2_init_49N (d : Nat) (L : a_L) (i : Nat) (st : List Value) (h : a_H) : a_run d MX2_init 49 L (.null :: .ref i :: st) h = (a_pf h i 0 [1] (.null)).bind fun h' => a_run d MX2_init 52 L st h' := w_putf dX2_init_49 rfl rfl (Or.inr ⟨rfl, rfl⟩) rfl rfl
theorem w_X2_init_52 (d : Nat) (x : Nat) (st : List Value) (h : a_H) : a_run d MX2_init 52 [some (.ref x)] st h = a_run d MX2_init 53 [some (.ref x)] (.ref x :: st) h := w_ldAn dX2_init_52 rfl
theorem w_X2_init_53 (d : Nat) (L : a_L) (st : List Value) (h : a_H) : a_run d MX2_init 53 L st h = a_run d MX2_init 55 L (.int (nI 30) :: st) h := w_bipush dX2_init_53 rfl
theorem w_X2_init_55 (d : Nat) (L : a_L) (x : Int32) (st : List Value) (h : a_H) : a_run d MX2_init 55 L (.int x :: st) h = (a_newa h (newarray.typeOf .int) x).bind fun q => a_run d MX2_init 57 L (.ref q.1 :: st) q.2 := w_newa dX2_init_55
theorem w_X2_init_57 (d : Nat) (L : a_L) (x : Nat) (i : Nat) (st : List Value) (h : a_H) : a_run d MX2_init 57 L (.ref x :: .ref i :: st) h = (a_pf h i 1 [1] (.ref x)).bind fun h' => a_run d MX2_init 60 L st h' := w_putf dX2_init_57 rfl rfl (Or.inr ⟨rfl, rfl⟩) rfl rfl
theorem w_X2_init_57N (d : Nat) (L : a_L) (i : Nat) (st : List Value) (h : a_H) : a_run d MX2_init 57 L (.null :: .ref i :: st) h = (a_pf h i 1 [1] (.null)).bind fun h' => a_run d MX2_init 60 L st h' := w_putf dX2_init_57 rfl rfl (Or.inr ⟨rfl, rfl⟩) rfl rfl
theorem w_X2_init_60 (d : Nat) (x : Nat) (st : List Value) (h : a_H) : a_run d MX2_init 60 [some (.ref x)] st h = a_run d MX2_init 61 [some (.ref x)] (.ref x :: st) h := w_ldAn dX2_init_60 rfl
theorem w_X2_init_61 (d : Nat) (L : a_L) (st : List Value) (h : a_H) : a_run d MX2_init 61 L st h = a_run d MX2_init 63 L (.int (nI 16) :: st) h := w_bipush dX2_init_61 rfl
theorem w_X2_init_63 (d : Nat) (L : a_L) (x : Int32) (st : List Value) (h : a_H) : a_run d MX2_init 63 L (.int x :: st) h = (a_newa h (newarray.typeOf .int) x).bind fun q => a_run d MX2_init 65 L (.ref q.1 :: st) q.2 := w_newa dX2_init_63
theorem w_X2_init_65 (d : Nat) (L : a_L) (x : Nat) (i : Nat) (st : List Value) (h : a_H) : a_run d MX2_init 65 L (.ref x :: .ref i :: st) h = (a_pf h i 2 [1] (.ref x)).bind fun h' => a_run d MX2_init 68 L st h' := w_putf dX2_init_65 rfl rfl (Or.inr ⟨rfl, rfl⟩) rfl rfl
theorem w_X2_init_65N (d : Nat) (L : a_L) (i : Nat) (st : List Value) (h : a_H) : a_run d MX2_init 65 L (.null :: .ref i :: st) h = (a_pf h i 2 [1] (.null)).bind fun h' => a_run d MX2_init 68 L st h' := w_putf dX2_init_65 rfl rfl (Or.inr ⟨rfl, rfl⟩) rfl rfl
theorem w_X2_init_68 (d : Nat) (x : Nat) (st : List Value) (h : a_H) : a_run d MX2_init 68 [some (.ref x)] st h = a_run d MX2_init 69 [some (.ref x)] (.ref x :: st) h := w_ldAn dX2_init_68 rfl
theorem w_X2_init_69 (d : Nat) (L : a_L) (st : List Value) (h : a_H) : a_run d MX2_init 69 L st h = a_run d MX2_init 71 L (.int (nI 16) :: st) h := w_bipush dX2_init_69 rfl
theorem w_X2_init_71 (d : Nat) (L : a_L) (x : Int32) (st : List Value) (h : a_H) : a_run d MX2_init 71 L (.int x :: st) h = (a_newa h (newarray.typeOf .int) x).bind fun q => a_run d MX2_init 73 L (.ref q.1 :: st) q.2 := w_newa dX2_init_71
theorem w_X2_init_73 (d : Nat) (L : a_L) (x : Nat) (i : Nat) (st : List Value) (h : a_H) : a_run d MX2_init 73 L (.ref x :: .ref i :: st) h = (a_pf h i 3 [1] (.ref x)).bind fun h' => a_run d MX2_init 76 L st h' := w_putf dX2_init_73 rfl rfl (Or.inr ⟨rfl, rfl⟩) rfl rfl
theorem w_X2_init_73N (d : Nat) (L : a_L) (i : Nat) (st : List Value) (h : a_H) : a_run d MX2_init 73 L (.null :: .ref i :: st) h = (a_pf h i 3 [1] (.null)).bind fun h' => a_run d MX2_init 76 L st h' := w_putf dX2_init_73 rfl rfl (Or.inr ⟨rfl, rfl⟩) rfl rfl
theorem w_X2_init_76 (d : Nat) (x : Nat) (st : List Value) (h : a_H) : a_run d MX2_init 76 [some (.ref x)] st h = a_run d MX2_init 77 [some (.ref x)] (.ref x :: st) h := w_ldAn dX2_init_76 rfl
theorem w_X2_init_77 (d : Nat) (L : a_L) (st : List Value) (h : a_H) : a_run d MX2_init 77 L st h = a_run d MX2_init 80 L (.int (nI 1150) :: st) h := w_sipush dX2_init_77 rfl
theorem w_X2_init_80 (d : Nat) (L : a_L) (x : Int32) (st : List Value) (h : a_H) : a_run d MX2_init 80 L (.int x :: st) h = (a_newa h (newarray.typeOf .int) x).bind fun q => a_run d MX2_init 82 L (.ref q.1 :: st) q.2 := w_newa dX2_init_80
theorem w_X2_init_82 (d : Nat) (L : a_L) (x : Nat) (i : Nat) (st : List Value) (h : a_H) : a_run d MX2_init 82 L (.ref x :: .ref i :: st) h = (a_pf h i 4 [1] (.ref x)).bind fun h' => a_run d MX2_init 85 L st h' := w_putf dX2_init_82 rfl rfl (Or.inr ⟨rfl, rfl⟩) rfl rfl
theorem w_X2_init_82N (d : Nat) (L : a_L) (i : Nat) (st : List Value) (h : a_H) : a_run d MX2_init 82 L (.null :: .ref i :: st) h = (a_pf h i 4 [1] (.null)).bind fun h' => a_run d MX2_init 85 L st h' := w_putf dX2_init_82 rfl rfl (Or.inr ⟨rfl, rfl⟩) rfl rfl
theorem w_X2_init_85 (d : Nat) (x : Nat) (st : List Value) (h : a_H) : a_run d MX2_init 85 [some (.ref x)] st h = a_run d MX2_init 86 [some (.ref x)] (.ref x :: st) h := w_ldAn dX2_init_85 rfl
theorem w_X2_init_86 (d : Nat) (L : a_L) (st : List Value) (h : a_H) : a_run d MX2_init 86 L st h = a_run d MX2_init 88 L (.int (nI 25) :: st) h := w_bipush dX2_init_86 rfl
theorem w_X2_init_88 (d : Nat) (L : a_L) (x : Int32) (st : List Value) (h : a_H) : a_run d MX2_init 88 L (.int x :: st) h = (a_newa h (newarray.typeOf .int) x).bind fun q => a_run d MX2_init 90 L (.ref q.1 :: st) q.2 := w_newa dX2_init_88
theorem w_X2_init_90 (d : Nat) (L : a_L) (x : Nat) (i : Nat) (st : List Value) (h : a_H) : a_run d MX2_init 90 L (.ref x :: .ref i :: st) h = (a_pf h i 5 [1] (.ref x)).bind fun h' => a_run d MX2_init 93 L st h' := w_putf dX2_init_90 rfl rfl (Or.inr ⟨rfl, rfl⟩) rfl rfl
theorem w_X2_init_90N (d : Nat) (L : a_L) (i : Nat) (st : List Value) (h : a_H) : a_run d MX2_init 90 L (.null :: .ref i :: st) h = (a_pf h i 5 [1] (.null)).bind fun h' => a_run d MX2_init 93 L st h' := w_putf dX2_init_90 rfl rfl (Or.inr ⟨rfl, rfl⟩) rfl rfl
theorem w_X2_init_93 (d : Nat) (L : a_L) (h : a_H) : a_run d MX2_init 93 L [] h = some (.inl none, h) := w_vret dX2_init_93 rfl
theorem e_X2_init_2 (d : Nat) (x0 : Nat) (x1 : Nat) (h : a_H) : a_call (d + 1) MX2_init_2 [.ref x0, .ref x1] h = a_run d MX2_init_2 0 [some (.ref x0), some (.ref x1)] [] h := a_call_run rfl (Nat.le_of_ble_eq_true rfl) rfl
theorem w_X2_init_2_0 (d : Nat) (a1 : Option Value) (x : Nat) (st : List Value) (h : a_H) : a_run d MX2_init_2 0 [some (.ref x), a1] st h = a_run d MX2_init_2 1 [some (.ref x), a1] (.ref x :: st) h := w_ldAn dX2_init_2_0 rfl
theorem w_X2_init_2_1 (d : Nat) (L : a_L) (i : Nat) (st : List Value) (h : a_H) (hi : 1024 ≤ i) (hc : a_cat st ≤ 8) : a_run d MX2_init_2 1 L (.ref i :: st) h = a_run d MX2_init_2 4 L st h := w_obj dX2_init_2_1 rfl hi hc
theorem w_X2_init_2_4 (d : Nat) (a1 : Option Value) (x : Nat) (st : List Value) (h : a_H) : a_run d MX2_init_2 4 [some (.ref x), a1] st h = a_run d MX2_init_2 5 [some (.ref x), a1] (.ref x :: st) h := w_ldAn dX2_init_2_4 rfl
theorem w_X2_init_2_5 (d : Nat) (L : a_L) (st : List Value) (h : a_H) : a_run d MX2_init_2 5 L st h = a_run d MX2_init_2 7 L (.int (nI 30) :: st) h := w_bipush dX2_init_2_5 rfl
theorem w_X2_init_2_7 (d : Nat) (L : a_L) (x : Int32) (st : List Value) (h : a_H) : a_run d MX2_init_2 7 L (.int x :: st) h = (a_newa h (newarray.typeOf .int) x).bind fun q => a_run d MX2_init_2 9 L (.ref q.1 :: st) q.2 := w_newa dX2_init_2_7
theorem w_X2_init_2_9 (d : Nat) (L : a_L) (x : Nat) (i : Nat) (st : List Value) (h : a_H) : a_run d MX2_init_2 9 L (.ref x :: .ref i :: st) h = (a_pf h i 6 [1] (.ref x)).bind fun h' => a_run d MX2_init_2 12 L st h' := w_putf dX2_init_2_9 rfl rfl (Or.inr ⟨rfl, rfl⟩) rfl rfl
theorem w_X2_init_2_9N (d : Nat) (L : a_L) (i : Nat) (st : List Value) (h : a_H) : a_run d MX2_init_2 9 L (.null :: .ref i :: st) h = (a_pf h i 6 [1] (.null)).bind fun h' => a_run d MX2_init_2 12 L st h' := w_putf dX2_init_2_9 rfl rfl (Or.inr ⟨rfl, rfl⟩) rfl rfl
theorem w_X2_init_2_12 (d : Nat) (a1 : Option Value) (x : Nat) (st : List Value) (h : a_H) : a_run d MX2_init_2 12 [some (.ref x), a1] st h = a_run d MX2_init_2 13 [some (.ref x), a1] (.ref x :: st) h := w_ldAn dX2_init_2_12 rfl
theorem w_X2_init_2_13 (d : Nat) (L : a_L) (st : List Value) (h : a_H) : a_run d MX2_init_2 13 L st h = a_run d MX2_init_2 15 L (.int (nI 30) :: st) h := w_bipush dX2_init_2_13 rfl
theorem w_X2_init_2_15 (d : Nat) (L : a_L) (x : Int32) (st : List Value) (h : a_H) : a_run d MX2_init_2 15 L (.int x :: st) h = (a_newa h (newarray.typeOf .int) x).bind fun q => a_run d MX2_init_2 17 L (.ref q.1 :: st) q.2 := w_newa dX2_init_2_15
theorem w_X2_init_2_17 (d : Nat) (L : a_L) (x : Nat) (i : Nat) (st : List Value) (h : a_H) : a_run d MX2_init_2 17 L (.ref x :: .ref i :: st) h = (a_pf h i 7 [1] (.ref x)).bind fun h' => a_run d MX2_init_2 20 L st h' := w_putf dX2_init_2_17 rfl rfl (Or.inr ⟨rfl, rfl⟩) rfl rfl
theorem w_X2_init_2_17N (d : Nat) (L : a_L) (i : Nat) (st : List Value) (h : a_H) : a_run d MX2_init_2 17 L (.null :: .ref i :: st) h = (a_pf h i 7 [1] (.null)).bind fun h' => a_run d MX2_init_2 20 L st h' := w_putf dX2_init_2_17 rfl rfl (Or.inr ⟨rfl, rfl⟩) rfl rfl
theorem w_X2_init_2_20 (d : Nat) (a1 : Option Value) (x : Nat) (st : List Value) (h : a_H) : a_run d MX2_init_2 20 [some (.ref x), a1] st h = a_run d MX2_init_2 21 [some (.ref x), a1] (.ref x :: st) h := w_ldAn dX2_init_2_20 rfl
theorem w_X2_init_2_21 (d : Nat) (L : a_L) (st : List Value) (h : a_H) : a_run d MX2_init_2 21 L st h = a_run d MX2_init_2 23 L (.int (nI 30) :: st) h := w_bipush dX2_init_2_21 rfl
theorem w_X2_init_2_23 (d : Nat) (L : a_L) (x : Int32) (st : List Value) (h : a_H) : a_run d MX2_init_2 23 L (.int x :: st) h = (a_newa h (newarray.typeOf .int) x).bind fun q => a_run d MX2_init_2 25 L (.ref q.1 :: st) q.2 := w_newa dX2_init_2_23
theorem w_X2_init_2_25 (d : Nat) (L : a_L) (x : Nat) (i : Nat) (st : List Value) (h : a_H) : a_run d MX2_init_2 25 L (.ref x :: .ref i :: st) h = (a_pf h i 8 [1] (.ref x)).bind fun h' => a_run d MX2_init_2 28 L st h' := w_putf dX2_init_2_25 rfl rfl (Or.inr ⟨rfl, rfl⟩) rfl rfl
theorem w_X2_init_2_25N (d : Nat) (L : a_L) (i : Nat) (st : List Value) (h : a_H) : a_run d MX2_init_2 25 L (.null :: .ref i :: st) h = (a_pf h i 8 [1] (.null)).bind fun h' => a_run d MX2_init_2 28 L st h' := w_putf dX2_init_2_25 rfl rfl (Or.inr ⟨rfl, rfl⟩) rfl rfl
theorem w_X2_init_2_28 (d : Nat) (a1 : Option Value) (x : Nat) (st : List Value) (h : a_H) : a_run d MX2_init_2 28 [some (.ref x), a1] st h = a_run d MX2_init_2 29 [some (.ref x), a1] (.ref x :: st) h := w_ldAn dX2_init_2_28 rfl
theorem w_X2_init_2_29 (d : Nat) (L : a_L) (st : List Value) (h : a_H) : a_run d MX2_init_2 29 L st h = a_run d MX2_init_2 31 L (.int (nI 46) :: st) h := w_bipush dX2_init_2_29 rfl
theorem w_X2_init_2_31 (d : Nat) (L : a_L) (x : Int32) (st : List Value) (h : a_H) : a_run d MX2_init_2 31 L (.int x :: st) h = (a_newa h (newarray.typeOf .int) x).bind fun q => a_run d MX2_init_2 33 L (.ref q.1 :: st) q.2 := w_newa dX2_init_2_31
theorem w_X2_init_2_33 (d : Nat) (L : a_L) (x : Nat) (i : Nat) (st : List Value) (h : a_H) : a_run d MX2_init_2 33 L (.ref x :: .ref i :: st) h = (a_pf h i 9 [1] (.ref x)).bind fun h' => a_run d MX2_init_2 36 L st h' := w_putf dX2_init_2_33 rfl rfl (Or.inr ⟨rfl, rfl⟩) rfl rfl
theorem w_X2_init_2_33N (d : Nat) (L : a_L) (i : Nat) (st : List Value) (h : a_H) : a_run d MX2_init_2 33 L (.null :: .ref i :: st) h = (a_pf h i 9 [1] (.null)).bind fun h' => a_run d MX2_init_2 36 L st h' := w_putf dX2_init_2_33 rfl rfl (Or.inr ⟨rfl, rfl⟩) rfl rfl
theorem w_X2_init_2_36 (d : Nat) (a1 : Option Value) (x : Nat) (st : List Value) (h : a_H) : a_run d MX2_init_2 36 [some (.ref x), a1] st h = a_run d MX2_init_2 37 [some (.ref x), a1] (.ref x :: st) h := w_ldAn dX2_init_2_36 rfl
theorem w_X2_init_2_37 (d : Nat) (L : a_L) (st : List Value) (h : a_H) : a_run d MX2_init_2 37 L st h = a_run d MX2_init_2 39 L (.int (nI 46) :: st) h := w_bipush dX2_init_2_37 rfl
theorem w_X2_init_2_39 (d : Nat) (L : a_L) (x : Int32) (st : List Value) (h : a_H) : a_run d MX2_init_2 39 L (.int x :: st) h = (a_newa h (newarray.typeOf .int) x).bind fun q => a_run d MX2_init_2 41 L (.ref q.1 :: st) q.2 := w_newa dX2_init_2_39
theorem w_X2_init_2_41 (d : Nat) (L : a_L) (x : Nat) (i : Nat) (st : List Value) (h : a_H) : a_run d MX2_init_2 41 L (.ref x :: .ref i :: st) h = (a_pf h i 10 [1] (.ref x)).bind fun h' => a_run d MX2_init_2 44 L st h' := w_putf dX2_init_2_41 rfl rfl (Or.inr ⟨rfl, rfl⟩) rfl rfl
theorem w_X2_init_2_41N (d : Nat) (L : a_L) (i : Nat) (st : List Value) (h : a_H) : a_run d MX2_init_2 41 L (.null :: .ref i :: st) h = (a_pf h i 10 [1] (.null)).bind fun h' => a_run d MX2_init_2 44 L st h' := w_putf dX2_init_2_41 rfl rfl (Or.inr ⟨rfl, rfl⟩) rfl rfl
theorem w_X2_init_2_44 (d : Nat) (a1 : Option Value) (x : Nat) (st : List Value) (h : a_H) : a_run d MX2_init_2 44 [some (.ref x), a1] st h = a_run d MX2_init_2 45 [some (.ref x), a1] (.ref x :: st) h := w_ldAn dX2_init_2_44 rfl
theorem w_X2_init_2_45 (d : Nat) (a0 : Option Value) (x : Nat) (st : List Value) (h : a_H) : a_run d MX2_init_2 45 [a0, some (.ref x)] st h = a_run d MX2_init_2 46 [a0, some (.ref x)] (.ref x :: st) h := w_ldAn dX2_init_2_45 rfl
theorem w_X2_init_2_45N (d : Nat) (a0 : Option Value) (st : List Value) (h : a_H) : a_run d MX2_init_2 45 [a0, some .null] st h = a_run d MX2_init_2 46 [a0, some .null] (.null :: st) h := w_ldNn dX2_init_2_45 rfl
theorem w_X2_init_2_46 (d : Nat) (L : a_L) (i : Nat) (st : List Value) (h : a_H) : a_run d MX2_init_2 46 L (.ref i :: st) h = (a_gf h i 0 [1]).bind fun v => a_run d MX2_init_2 49 L (v :: st) h := w_getf dX2_init_2_46 rfl
theorem w_X2_init_2_49 (d : Nat) (L : a_L) (i m : Nat) (f : Nat → Int32) (st : List Value) (h : a_H) (hi : 1024 ≤ i) (hc : a_cat st ≤ 8) (he : h.2.2 i = .inl (.int, m, .inl f)) : a_run d MX2_init_2 49 L (.ref i :: st) h = a_run d MX2_init_2 52 L (.ref h.1 :: st) (a_add h (.inl (.int, m, .inl f)) m) := w_cln dX2_init_2_49 rfl hi hc he
theorem w_X2_init_2_52 (d : Nat) (L : a_L) (i : Nat) (st : List Value) (h : a_H) (hk : a_isArr h i = true) : a_run d MX2_init_2 52 L (.ref i :: st) h = a_run d MX2_init_2 55 L (.ref i :: st) h := w_castA dX2_init_2_52 rfl rfl rfl hk
theorem w_X2_init_2_55 (d : Nat) (L : a_L) (x : Nat) (i : Nat) (st : List Value) (h : a_H) : a_run d MX2_init_2 55 L (.ref x :: .ref i :: st) h = (a_pf h i 0 [1] (.ref x)).bind fun h' => a_run d MX2_init_2 58 L st h' := w_putf dX2_init_2_55 rfl rfl (Or.inr ⟨rfl, rfl⟩) rfl rfl
theorem w_X2_init_2_55N (d : Nat) (L : a_L) (i : Nat) (st : List Value) (h : a_H) : a_run d MX2_init_2 55 L (.null :: .ref i :: st) h = (a_pf h i 0 [1] (.null)).bind fun h' => a_run d MX2_init_2 58 L st h' := w_putf dX2_init_2_55 rfl rfl (Or.inr ⟨rfl, rfl⟩) rfl rfl
theorem w_X2_init_2_58 (d : Nat) (a1 : Option Value) (x : Nat) (st : List Value) (h : a_H) : a_run d MX2_init_2 58 [some (.ref x), a1] st h = a_run d MX2_init_2 59 [some (.ref x), a1] (.ref x :: st) h := w_ldAn dX2_init_2_58 rfl
theorem w_X2_init_2_59 (d : Nat) (a0 : Option Value) (x : Nat) (st : List Value) (h : a_H) : a_run d MX2_init_2 59 [a0, some (.ref x)] st h = a_run d MX2_init_2 60 [a0, some (.ref x)] (.ref x :: st) h := w_ldAn dX2_init_2_59 rfl
theorem w_X2_init_2_59N (d : Nat) (a0 : Option Value) (st : List Value) (h : a_H) : a_run d MX2_init_2 59 [a0, some .null] st h = a_run d MX2_init_2 60 [a0, some .null] (.null :: st) h := w_ldNn dX2_init_2_59 rfl
theorem w_X2_init_2_60 (d : Nat) (L : a_L) (i : Nat) (st : List Value) (h : a_H) : a_run d MX2_init_2 60 L (.ref i :: st) h = (a_gf h i 1 [1]).bind fun v => a_run d MX2_init_2 63 L (v :: st) h := w_getf dX2_init_2_60 rfl
theorem w_X2_init_2_63 (d : Nat) (L : a_L) (i m : Nat) (f : Nat → Int32) (st : List Value) (h : a_H) (hi : 1024 ≤ i) (hc : a_cat st ≤ 8) (he : h.2.2 i = .inl (.int, m, .inl f)) : a_run d MX2_init_2 63 L (.ref i :: st) h = a_run d MX2_init_2 66 L (.ref h.1 :: st) (a_add h (.inl (.int, m, .inl f)) m) := w_cln dX2_init_2_63 rfl hi hc he
theorem w_X2_init_2_66 (d : Nat) (L : a_L) (i : Nat) (st : List Value) (h : a_H) (hk : a_isArr h i = true) : a_run d MX2_init_2 66 L (.ref i :: st) h = a_run d MX2_init_2 69 L (.ref i :: st) h := w_castA dX2_init_2_66 rfl rfl rfl hk
theorem w_X2_init_2_69 (d : Nat) (L : a_L) (x : Nat) (i : Nat) (st : List Value) (h : a_H) : a_run d MX2_init_2 69 L (.ref x :: .ref i :: st) h = (a_pf h i 1 [1] (.ref x)).bind fun h' => a_run d MX2_init_2 72 L st h' := w_putf dX2_init_2_69 rfl rfl (Or.inr ⟨rfl, rfl⟩) rfl rfl
theorem w_X2_init_2_69N (d : Nat) (L : a_L) (i : Nat) (st : List Value) (h : a_H) : a_run d MX2_init_2 69 L (.null :: .ref i :: st) h = (a_pf h i 1 [1] (.null)).bind fun h' => a_run d MX2_init_2 72 L st h' := w_putf dX2_init_2_69 rfl rfl (Or.inr ⟨rfl, rfl⟩) rfl rfl
theorem w_X2_init_2_72 (d : Nat) (a1 : Option Value) (x : Nat) (st : List Value) (h : a_H) : a_run d MX2_init_2 72 [some (.ref x), a1] st h = a_run d MX2_init_2 73 [some (.ref x), a1] (.ref x :: st) h := w_ldAn dX2_init_2_72 rfl
theorem w_X2_init_2_73 (d : Nat) (a0 : Option Value) (x : Nat) (st : List Value) (h : a_H) : a_run d MX2_init_2 73 [a0, some (.ref x)] st h = a_run d MX2_init_2 74 [a0, some (.ref x)] (.ref x :: st) h := w_ldAn dX2_init_2_73 rfl
theorem w_X2_init_2_73N (d : Nat) (a0 : Option Value) (st : List Value) (h : a_H) : a_run d MX2_init_2 73 [a0, some .null] st h = a_run d MX2_init_2 74 [a0, some .null] (.null :: st) h := w_ldNn dX2_init_2_73 rfl
theorem w_X2_init_2_74 (d : Nat) (L : a_L) (i : Nat) (st : List Value) (h : a_H) : a_run d MX2_init_2 74 L (.ref i :: st) h = (a_gf h i 2 [1]).bind fun v => a_run d MX2_init_2 77 L (v :: st) h := w_getf dX2_init_2_74 rfl
theorem w_X2_init_2_77 (d : Nat) (L : a_L) (i m : Nat) (f : Nat → Int32) (st : List Value) (h : a_H) (hi : 1024 ≤ i) (hc : a_cat st ≤ 8) (he : h.2.2 i = .inl (.int, m, .inl f)) : a_run d MX2_init_2 77 L (.ref i :: st) h = a_run d MX2_init_2 80 L (.ref h.1 :: st) (a_add h (.inl (.int, m, .inl f)) m) := w_cln dX2_init_2_77 rfl hi hc he
theorem w_X2_init_2_80 (d : Nat) (L : a_L) (i : Nat) (st : List Value) (h : a_H) (hk : a_isArr h i = true) : a_run d MX2_init_2 80 L (.ref i :: st) h = a_run d MX2_init_2 83 L (.ref i :: st) h := w_castA dX2_init_2_80 rfl rfl rfl hk
theorem w_X2_init_2_83 (d : Nat) (L : a_L) (x : Nat) (i : Nat) (st : List Value) (h : a_H) : a_run d MX2_init_2 83 L (.ref x :: .ref i :: st) h = (a_pf h i 2 [1] (.ref x)).bind fun h' => a_run d MX2_init_2 86 L st h' := w_putf dX2_init_2_83 rfl rfl (Or.inr ⟨rfl, rfl⟩) rfl rfl
theorem w_X2_init_2_83N (d : Nat) (L : a_L) (i : Nat) (st : List Value) (h : a_H) : a_run d MX2_init_2 83 L (.null :: .ref i :: st) h = (a_pf h i 2 [1] (.null)).bind fun h' => a_run d MX2_init_2 86 L st h' := w_putf dX2_init_2_83 rfl rfl (Or.inr ⟨rfl, rfl⟩) rfl rfl
theorem w_X2_init_2_86 (d : Nat) (a1 : Option Value) (x : Nat) (st : List Value) (h : a_H) : a_run d MX2_init_2 86 [some (.ref x), a1] st h = a_run d MX2_init_2 87 [some (.ref x), a1] (.ref x :: st) h := w_ldAn dX2_init_2_86 rfl
theorem w_X2_init_2_87 (d : Nat) (a0 : Option Value) (x : Nat) (st : List Value) (h : a_H) : a_run d MX2_init_2 87 [a0, some (.ref x)] st h = a_run d MX2_init_2 88 [a0, some (.ref x)] (.ref x :: st) h := w_ldAn dX2_init_2_87 rfl
theorem w_X2_init_2_87N (d : Nat) (a0 : Option Value) (st : List Value) (h : a_H) : a_run d MX2_init_2 87 [a0, some .null] st h = a_run d MX2_init_2 88 [a0, some .null] (.null :: st) h := w_ldNn dX2_init_2_87 rfl
theorem w_X2_init_2_88 (d : Nat) (L : a_L) (i : Nat) (st : List Value) (h : a_H) : a_run d MX2_init_2 88 L (.ref i :: st) h = (a_gf h i 3 [1]).bind fun v => a_run d MX2_init_2 91 L (v :: st) h := w_getf dX2_init_2_88 rfl
theorem w_X2_init_2_91 (d : Nat) (L : a_L) (i m : Nat) (f : Nat → Int32) (st : List Value) (h : a_H) (hi : 1024 ≤ i) (hc : a_cat st ≤ 8) (he : h.2.2 i = .inl (.int, m, .inl f)) : a_run d MX2_init_2 91 L (.ref i :: st) h = a_run d MX2_init_2 94 L (.ref h.1 :: st) (a_add h (.inl (.int, m, .inl f)) m) := w_cln dX2_init_2_91 rfl hi hc he
theorem w_X2_init_2_94 (d : Nat) (L : a_L) (i : Nat) (st : List Value) (h : a_H) (hk : a_isArr h i = true) : a_run d MX2_init_2 94 L (.ref i :: st) h = a_run d MX2_init_2 97 L (.ref i :: st) h := w_castA dX2_init_2_94 rfl rfl rfl hk
theorem w_X2_init_2_97 (d : Nat) (L : a_L) (x : Nat) (i : Nat) (st : List Value) (h : a_H) : a_run d MX2_init_2 97 L (.ref x :: .ref i :: st) h = (a_pf h i 3 [1] (.ref x)).bind fun h' => a_run d MX2_init_2 100 L st h' := w_putf dX2_init_2_97 rfl rfl (Or.inr ⟨rfl, rfl⟩) rfl rfl
theorem w_X2_init_2_97N (d : Nat) (L : a_L) (i : Nat) (st : List Value) (h : a_H) : a_run d MX2_init_2 97 L (.null :: .ref i :: st) h = (a_pf h i 3 [1] (.null)).bind fun h' => a_run d MX2_init_2 100 L st h' := w_putf dX2_init_2_97 rfl rfl (Or.inr ⟨rfl, rfl⟩) rfl rfl
theorem w_X2_init_2_100 (d : Nat) (a1 : Option Value) (x : Nat) (st : List Value) (h : a_H) : a_run d MX2_init_2 100 [some (.ref x), a1] st h = a_run d MX2_init_2 101 [some (.ref x), a1] (.ref x :: st) h := w_ldAn dX2_init_2_100 rfl
theorem w_X2_init_2_101 (d : Nat) (a0 : Option Value) (x : Nat) (st : List Value) (h : a_H) : a_run d MX2_init_2 101 [a0, some (.ref x)] st h = a_run d MX2_init_2 102 [a0, some (.ref x)] (.ref x :: st) h := w_ldAn dX2_init_2_101 rfl
theorem w_X2_init_2_101N (d : Nat) (a0 : Option Value) (st : List Value) (h : a_H) : a_run d MX2_init_2 101 [a0, some .null] st h = a_run d MX2_init_2 102 [a0, some .null] (.null :: st) h := w_ldNn dX2_init_2_101 rfl
theorem w_X2_init_2_102 (d : Nat) (L : a_L) (i : Nat) (st : List Value) (h : a_H) : a_run d MX2_init_2 102 L (.ref i :: st) h = (a_gf h i 4 [1]).bind fun v => a_run d MX2_init_2 105 L (v :: st) h := w_getf dX2_init_2_102 rfl
theorem w_X2_init_2_105 (d : Nat) (L : a_L) (i m : Nat) (f : Nat → Int32) (st : List Value) (h : a_H) (hi : 1024 ≤ i) (hc : a_cat st ≤ 8) (he : h.2.2 i = .inl (.int, m, .inl f)) : a_run d MX2_init_2 105 L (.ref i :: st) h = a_run d MX2_init_2 108 L (.ref h.1 :: st) (a_add h (.inl (.int, m, .inl f)) m) := w_cln dX2_init_2_105 rfl hi hc he
theorem w_X2_init_2_108 (d : Nat) (L : a_L) (i : Nat) (st : List Value) (h : a_H) (hk : a_isArr h i = true) : a_run d MX2_init_2 108 L (.ref i :: st) h = a_run d MX2_init_2 111 L (.ref i :: st) h := w_castA dX2_init_2_108 rfl rfl rfl hk
theorem w_X2_init_2_111 (d : Nat) (L : a_L) (x : Nat) (i : Nat) (st : List Value) (h : a_H) : a_run d MX2_init_2 111 L (.ref x :: .ref i :: st) h = (a_pf h i 4 [1] (.ref x)).bind fun h' => a_run d MX2_init_2 114 L st h' := w_putf dX2_init_2_111 rfl rfl (Or.inr ⟨rfl, rfl⟩) rfl rfl
theorem w_X2_init_2_111N (d : Nat) (L : a_L) (i : Nat) (st : List Value) (h : a_H) : a_run d MX2_init_2 111 L (.null :: .ref i :: st) h = (a_pf h i 4 [1] (.null)).bind fun h' => a_run d MX2_init_2 114 L st h' := w_putf dX2_init_2_111 rfl rfl (Or.inr ⟨rfl, rfl⟩) rfl rfl
theorem w_X2_init_2_114 (d : Nat) (a1 : Option Value) (x : Nat) (st : List Value) (h : a_H) : a_run d MX2_init_2 114 [some (.ref x), a1] st h = a_run d MX2_init_2 115 [some (.ref x), a1] (.ref x :: st) h := w_ldAn dX2_init_2_114 rfl
theorem w_X2_init_2_115 (d : Nat) (a0 : Option Value) (x : Nat) (st : List Value) (h : a_H) : a_run d MX2_init_2 115 [a0, some (.ref x)] st h = a_run d MX2_init_2 116 [a0, some (.ref x)] (.ref x :: st) h := w_ldAn dX2_init_2_115 rfl
theorem w_X2_init_2_115N (d : Nat) (a0 : Option Value) (st : List Value) (h : a_H) : a_run d MX2_init_2 115 [a0, some .null] st h = a_run d MX2_init_2 116 [a0, some .null] (.null :: st) h := w_ldNn dX2_init_2_115 rfl
theorem w_X2_init_2_116 (d : Nat) (L : a_L) (i : Nat) (st : List Value) (h : a_H) : a_run d MX2_init_2 116 L (.ref i :: st) h = (a_gf h i 5 [1]).bind fun v => a_run d MX2_init_2 119 L (v :: st) h := w_getf dX2_init_2_116 rfl
theorem w_X2_init_2_119 (d : Nat) (L : a_L) (i m : Nat) (f : Nat → Int32) (st : List Value) (h : a_H) (hi : 1024 ≤ i) (hc : a_cat st ≤ 8) (he : h.2.2 i = .inl (.int, m, .inl f)) : a_run d MX2_init_2 119 L (.ref i :: st) h = a_run d MX2_init_2 122 L (.ref h.1 :: st) (a_add h (.inl (.int, m, .inl f)) m) := w_cln dX2_init_2_119 rfl hi hc he
theorem w_X2_init_2_122 (d : Nat) (L : a_L) (i : Nat) (st : List Value) (h : a_H) (hk : a_isArr h i = true) : a_run d MX2_init_2 122 L (.ref i :: st) h = a_run d MX2_init_2 125 L (.ref i :: st) h := w_castA dX2_init_2_122 rfl rfl rfl hk
theorem w_X2_init_2_125 (d : Nat) (L : a_L) (x : Nat) (i : Nat) (st : List Value) (h : a_H) : a_run d MX2_init_2 125 L (.ref x :: .ref i :: st) h = (a_pf h i 5 [1] (.ref x)).bind fun h' => a_run d MX2_init_2 128 L st h' := w_putf dX2_init_2_125 rfl rfl (Or.inr ⟨rfl, rfl⟩) rfl rfl
theorem w_X2_init_2_125N (d : Nat) (L : a_L) (i : Nat) (st : List Value) (h : a_H) : a_run d MX2_init_2 125 L (.null :: .ref i :: st) h = (a_pf h i 5 [1] (.null)).bind fun h' => a_run d MX2_init_2 128 L st h' := w_putf dX2_init_2_125 rfl rfl (Or.inr ⟨rfl, rfl⟩) rfl rfl
theorem w_X2_init_2_128 (d : Nat) (a1 : Option Value) (x : Nat) (st : List Value) (h : a_H) : a_run d MX2_init_2 128 [some (.ref x), a1] st h = a_run d MX2_init_2 129 [some (.ref x), a1] (.ref x :: st) h := w_ldAn dX2_init_2_128 rfl
theorem w_X2_init_2_129 (d : Nat) (a0 : Option Value) (x : Nat) (st : List Value) (h : a_H) : a_run d MX2_init_2 129 [a0, some (.ref x)] st h = a_run d MX2_init_2 130 [a0, some (.ref x)] (.ref x :: st) h := w_ldAn dX2_init_2_129 rfl
theorem w_X2_init_2_129N (d : Nat) (a0 : Option Value) (st : List Value) (h : a_H) : a_run d MX2_init_2 129 [a0, some .null] st h = a_run d MX2_init_2 130 [a0, some .null] (.null :: st) h := w_ldNn dX2_init_2_129 rfl
theorem w_X2_init_2_130 (d : Nat) (L : a_L) (i : Nat) (st : List Value) (h : a_H) : a_run d MX2_init_2 130 L (.ref i :: st) h = (a_gf h i 11 [1]).bind fun v => a_run d MX2_init_2 133 L (v :: st) h := w_getf dX2_init_2_130 rfl
theorem w_X2_init_2_133 (d : Nat) (L : a_L) (x : Int32) (i : Nat) (st : List Value) (h : a_H) : a_run d MX2_init_2 133 L (.int x :: .ref i :: st) h = (a_pf h i 11 [1] (.int x)).bind fun h' => a_run d MX2_init_2 136 L st h' := w_putf dX2_init_2_133 rfl rfl (Or.inl rfl) rfl rfl
theorem w_X2_init_2_136 (d : Nat) (a1 : Option Value) (x : Nat) (st : List Value) (h : a_H) : a_run d MX2_init_2 136 [some (.ref x), a1] st h = a_run d MX2_init_2 137 [some (.ref x), a1] (.ref x :: st) h := w_ldAn dX2_init_2_136 rfl
theorem w_X2_init_2_137 (d : Nat) (a0 : Option Value) (x : Nat) (st : List Value) (h : a_H) : a_run d MX2_init_2 137 [a0, some (.ref x)] st h = a_run d MX2_init_2 138 [a0, some (.ref x)] (.ref x :: st) h := w_ldAn dX2_init_2_137 rfl
theorem w_X2_init_2_137N (d : Nat) (a0 : Option Value) (st : List Value) (h : a_H) : a_run d MX2_init_2 137 [a0, some .null] st h = a_run d MX2_init_2 138 [a0, some .null] (.null :: st) h := w_ldNn dX2_init_2_137 rfl
theorem w_X2_init_2_138 (d : Nat) (L : a_L) (i : Nat) (st : List Value) (h : a_H) : a_run d MX2_init_2 138 L (.ref i :: st) h = (a_gf h i 12 [1]).bind fun v => a_run d MX2_init_2 141 L (v :: st) h := w_getf dX2_init_2_138 rfl
theorem w_X2_init_2_141 (d : Nat) (L : a_L) (x : Int32) (i : Nat) (st : List Value) (h : a_H) : a_run d MX2_init_2 141 L (.int x :: .ref i :: st) h = (a_pf h i 12 [1] (.int x)).bind fun h' => a_run d MX2_init_2 144 L st h' := w_putf dX2_init_2_141 rfl rfl (Or.inl rfl) rfl rfl
theorem w_X2_init_2_144 (d : Nat) (a1 : Option Value) (x : Nat) (st : List Value) (h : a_H) : a_run d MX2_init_2 144 [some (.ref x), a1] st h = a_run d MX2_init_2 145 [some (.ref x), a1] (.ref x :: st) h := w_ldAn dX2_init_2_144 rfl
theorem w_X2_init_2_145 (d : Nat) (a0 : Option Value) (x : Nat) (st : List Value) (h : a_H) : a_run d MX2_init_2 145 [a0, some (.ref x)] st h = a_run d MX2_init_2 146 [a0, some (.ref x)] (.ref x :: st) h := w_ldAn dX2_init_2_145 rfl
theorem w_X2_init_2_145N (d : Nat) (a0 : Option Value) (st : List Value) (h : a_H) : a_run d MX2_init_2 145 [a0, some .null] st h = a_run d MX2_init_2 146 [a0, some .null] (.null :: st) h := w_ldNn dX2_init_2_145 rfl
theorem w_X2_init_2_146 (d : Nat) (L : a_L) (i : Nat) (st : List Value) (h : a_H) : a_run d MX2_init_2 146 L (.ref i :: st) h = (a_gf h i 13 [1]).bind fun v => a_run d MX2_init_2 149 L (v :: st) h := w_getf dX2_init_2_146 rfl
theorem w_X2_init_2_149 (d : Nat) (L : a_L) (x : Int32) (i : Nat) (st : List Value) (h : a_H) : a_run d MX2_init_2 149 L (.int x :: .ref i :: st) h = (a_pf h i 13 [1] (.int x)).bind fun h' => a_run d MX2_init_2 152 L st h' := w_putf dX2_init_2_149 rfl rfl (Or.inl rfl) rfl rfl
theorem w_X2_init_2_152 (d : Nat) (a1 : Option Value) (x : Nat) (st : List Value) (h : a_H) : a_run d MX2_init_2 152 [some (.ref x), a1] st h = a_run d MX2_init_2 153 [some (.ref x), a1] (.ref x :: st) h := w_ldAn dX2_init_2_152 rfl
theorem w_X2_init_2_153 (d : Nat) (a0 : Option Value) (x : Nat) (st : List Value) (h : a_H) : a_run d MX2_init_2 153 [a0, some (.ref x)] st h = a_run d MX2_init_2 154 [a0, some (.ref x)] (.ref x :: st) h := w_ldAn dX2_init_2_153 rfl
theorem w_X2_init_2_153N (d : Nat) (a0 : Option Value) (st : List Value) (h : a_H) : a_run d MX2_init_2 153 [a0, some .null] st h = a_run d MX2_init_2 154 [a0, some .null] (.null :: st) h := w_ldNn dX2_init_2_153 rfl
theorem w_X2_init_2_154 (d : Nat) (L : a_L) (i : Nat) (st : List Value) (h : a_H) : a_run d MX2_init_2 154 L (.ref i :: st) h = (a_gf h i 14 [1]).bind fun v => a_run d MX2_init_2 157 L (v :: st) h := w_getf dX2_init_2_154 rfl
theorem w_X2_init_2_157 (d : Nat) (L : a_L) (x : Int32) (i : Nat) (st : List Value) (h : a_H) : a_run d MX2_init_2 157 L (.int x :: .ref i :: st) h = (a_pf h i 14 [1] (.int x)).bind fun h' => a_run d MX2_init_2 160 L st h' := w_putf dX2_init_2_157 rfl rfl (Or.inl rfl) rfl rfl
theorem w_X2_init_2_160 (d : Nat) (a1 : Option Value) (x : Nat) (st : List Value) (h : a_H) : a_run d MX2_init_2 160 [some (.ref x), a1] st h = a_run d MX2_init_2 161 [some (.ref x), a1] (.ref x :: st) h := w_ldAn dX2_init_2_160 rfl
theorem w_X2_init_2_161 (d : Nat) (a0 : Option Value) (x : Nat) (st : List Value) (h : a_H) : a_run d MX2_init_2 161 [a0, some (.ref x)] st h = a_run d MX2_init_2 162 [a0, some (.ref x)] (.ref x :: st) h := w_ldAn dX2_init_2_161 rfl
theorem w_X2_init_2_161N (d : Nat) (a0 : Option Value) (st : List Value) (h : a_H) : a_run d MX2_init_2 161 [a0, some .null] st h = a_run d MX2_init_2 162 [a0, some .null] (.null :: st) h := w_ldNn dX2_init_2_161 rfl
theorem w_X2_init_2_162 (d : Nat) (L : a_L) (i : Nat) (st : List Value) (h : a_H) : a_run d MX2_init_2 162 L (.ref i :: st) h = (a_gf h i 15 [1]).bind fun v => a_run d MX2_init_2 165 L (v :: st) h := w_getf dX2_init_2_162 rfl
theorem w_X2_init_2_165 (d : Nat) (L : a_L) (x : Int32) (i : Nat) (st : List Value) (h : a_H) : a_run d MX2_init_2 165 L (.int x :: .ref i :: st) h = (a_pf h i 15 [1] (.int x)).bind fun h' => a_run d MX2_init_2 168 L st h' := w_putf dX2_init_2_165 rfl rfl (Or.inl rfl) rfl rfl
theorem w_X2_init_2_168 (d : Nat) (L : a_L) (h : a_H) : a_run d MX2_init_2 168 L [] h = some (.inl none, h) := w_vret dX2_init_2_168 rfl
theorem e_X2_getsBox (d : Nat) (x0 : Nat) (h : a_H) : a_call (d + 1) MX2_getsBox [.ref x0] h = a_run d MX2_getsBox 0 [some (.ref x0)] [] h := a_call_run rfl (Nat.le_of_ble_eq_true rfl) rfl
theorem w_X2_getsBox_0 (d : Nat) (x : Nat) (st : List Value) (h : a_H) : a_run d MX2_getsBox 0 [some (.ref x)] st h = a_run d MX2_getsBox 1 [some (.ref x)] (.ref x :: st) h := w_ldAn dX2_getsBox_0 rfl
theorem w_X2_getsBox_1 (d : Nat) (L : a_L) (i : Nat) (st : List Value) (h : a_H) : a_run d MX2_getsBox 1 L (.ref i :: st) h = (a_gf h i 11 [1]).bind fun v => a_run d MX2_getsBox 4 L (v :: st) h := w_getf dX2_getsBox_1 rfl
theorem w_X2_getsBox_4 (d : Nat) (L : a_L) (st : List Value) (h : a_H) : a_run d MX2_getsBox 4 L st h = a_run d MX2_getsBox 6 L (.int (nI 16) :: st) h := w_bipush dX2_getsBox_4 rfl
theorem w_X2_getsBox_6 (d : Nat) (L : a_L) (x y : Int32) (st : List Value) (h : a_H) : a_run d MX2_getsBox 6 L (.int y :: .int x :: st) h = if x < y then a_run d MX2_getsBox 9 L st h else a_run d MX2_getsBox 13 L st h := w_icmp_ge dX2_getsBox_6 rfl
theorem w_X2_getsBox_9 (d : Nat) (L : a_L) (st : List Value) (h : a_H) : a_run d MX2_getsBox 9 L st h = a_run d MX2_getsBox 10 L (.int (nI 1) :: st) h := w_iconst dX2_getsBox_9 rfl
theorem w_X2_getsBox_10 (d : Nat) (L : a_L) (st : List Value) (h : a_H) : a_run d MX2_getsBox 10 L st h = a_run d MX2_getsBox 14 L st h := w_goto dX2_getsBox_10 rfl
theorem w_X2_getsBox_13 (d : Nat) (L : a_L) (st : List Value) (h : a_H) : a_run d MX2_getsBox 13 L st h = a_run d MX2_getsBox 14 L (.int (nI 0) :: st) h := w_iconst dX2_getsBox_13 rfl
theorem w_X2_getsBox_14 (d : Nat) (L : a_L) (st : List Value) (h : a_H) : a_run d MX2_getsBox 14 L st h = a_run d MX2_getsBox 15 L (.int (nI 2) :: st) h := w_iconst dX2_getsBox_14 rfl
theorem w_X2_getsBox_15 (d : Nat) (L : a_L) (v0 v1 : Value) (st : List Value) (h : a_H) (hc : a_cat st ≤ 8) : a_run d MX2_getsBox 15 L (v1 :: v0 :: st) h = a_cont d MX2_getsBox (a_bk MX2_getsBox 15 L st (a_call d MX1_need [v0, v1] h)) := w_callS (as := [v0, v1]) dX2_getsBox_15 rfl rfl rfl hc
theorem w_X2_getsBox_18 (d : Nat) (x : Nat) (st : List Value) (h : a_H) : a_run d MX2_getsBox 18 [some (.ref x)] st h = a_run d MX2_getsBox 19 [some (.ref x)] (.ref x :: st) h := w_ldAn dX2_getsBox_18 rfl
theorem w_X2_getsBox_19 (d : Nat) (L : a_L) (i : Nat) (st : List Value) (h : a_H) : a_run d MX2_getsBox 19 L (.ref i :: st) h = (a_gf h i 2 [1]).bind fun v => a_run d MX2_getsBox 22 L (v :: st) h := w_getf dX2_getsBox_19 rfl
theorem w_X2_getsBox_22 (d : Nat) (x : Nat) (st : List Value) (h : a_H) : a_run d MX2_getsBox 22 [some (.ref x)] st h = a_run d MX2_getsBox 23 [some (.ref x)] (.ref x :: st) h := w_ldAn dX2_getsBox_22 rfl
theorem w_X2_getsBox_23 (d : Nat) (L : a_L) (i : Nat) (st : List Value) (h : a_H) : a_run d MX2_getsBox 23 L (.ref i :: st) h = (a_gf h i 11 [1]).bind fun v => a_run d MX2_getsBox 26 L (v :: st) h := w_getf dX2_getsBox_23 rfl
theorem w_X2_getsBox_26 (d : Nat) (L : a_L) (st : List Value) (h : a_H) : a_run d MX2_getsBox 26 L st h = a_run d MX2_getsBox 27 L (.int (nI 0) :: st) h := w_iconst dX2_getsBox_26 rfl
theorem w_X2_getsBox_27 (d : Nat) (L : a_L) (x y : Int32) (i : Nat) (st : List Value) (h : a_H) : a_run d MX2_getsBox 27 L (.int y :: .int x :: .ref i :: st) h = (a_wri h i a_int x y).bind fun h' => a_run d MX2_getsBox 28 L st h' := w_iast dX2_getsBox_27
theorem w_X2_getsBox_28 (d : Nat) (x : Nat) (st : List Value) (h : a_H) : a_run d MX2_getsBox 28 [some (.ref x)] st h = a_run d MX2_getsBox 29 [some (.ref x)] (.ref x :: st) h := w_ldAn dX2_getsBox_28 rfl
theorem w_X2_getsBox_29 (d : Nat) (L : a_L) (x : Nat) (st : List Value) (h : a_H) : a_run d MX2_getsBox 29 L (.ref x :: st) h = a_run d MX2_getsBox 30 L (.ref x :: .ref x :: st) h := w_dup dX2_getsBox_29
theorem w_X2_getsBox_29I (d : Nat) (L : a_L) (x : Int32) (st : List Value) (h : a_H) : a_run d MX2_getsBox 29 L (.int x :: st) h = a_run d MX2_getsBox 30 L (.int x :: .int x :: st) h := w_dupI dX2_getsBox_29
theorem w_X2_getsBox_30 (d : Nat) (L : a_L) (i : Nat) (st : List Value) (h : a_H) : a_run d MX2_getsBox 30 L (.ref i :: st) h = (a_gf h i 11 [1]).bind fun v => a_run d MX2_getsBox 33 L (v :: st) h := w_getf dX2_getsBox_30 rfl
theorem w_X2_getsBox_33 (d : Nat) (L : a_L) (st : List Value) (h : a_H) : a_run d MX2_getsBox 33 L st h = a_run d MX2_getsBox 34 L (.int (nI 1) :: st) h := w_iconst dX2_getsBox_33 rfl
theorem w_X2_getsBox_34 (d : Nat) (L : a_L) (x y : Int32) (st : List Value) (h : a_H) : a_run d MX2_getsBox 34 L (.int y :: .int x :: st) h = a_run d MX2_getsBox 35 L (.int (x + y) :: st) h := w_iadd dX2_getsBox_34
theorem w_X2_getsBox_35 (d : Nat) (L : a_L) (x : Int32) (i : Nat) (st : List Value) (h : a_H) : a_run d MX2_getsBox 35 L (.int x :: .ref i :: st) h = (a_pf h i 11 [1] (.int x)).bind fun h' => a_run d MX2_getsBox 38 L st h' := w_putf dX2_getsBox_35 rfl rfl (Or.inl rfl) rfl rfl
theorem w_X2_getsBox_38 (d : Nat) (x : Nat) (st : List Value) (h : a_H) : a_run d MX2_getsBox 38 [some (.ref x)] st h = a_run d MX2_getsBox 39 [some (.ref x)] (.ref x :: st) h := w_ldAn dX2_getsBox_38 rfl
theorem w_X2_getsBox_39 (d : Nat) (L : a_L) (i : Nat) (st : List Value) (h : a_H) (hk : a_kls h i = some 1) (hc : a_cat st ≤ 8) : a_run d MX2_getsBox 39 L (.ref i :: st) h = a_cont d MX2_getsBox (a_bk MX2_getsBox 39 L st (a_call d MX2_lays [.ref i] h)) := w_callV (as := [.ref i]) dX2_getsBox_39 rfl rfl rfl hc (a_rcv_of hk rfl)
theorem w_X2_getsBox_42 (d : Nat) (x : Nat) (st : List Value) (h : a_H) : a_run d MX2_getsBox 42 [some (.ref x)] st h = a_run d MX2_getsBox 43 [some (.ref x)] (.ref x :: st) h := w_ldAn dX2_getsBox_42 rfl
theorem w_X2_getsBox_43 (d : Nat) (L : a_L) (i : Nat) (st : List Value) (h : a_H) : a_run d MX2_getsBox 43 L (.ref i :: st) h = (a_gf h i 11 [1]).bind fun v => a_run d MX2_getsBox 46 L (v :: st) h := w_getf dX2_getsBox_43 rfl
theorem w_X2_getsBox_46 (d : Nat) (L : a_L) (st : List Value) (h : a_H) : a_run d MX2_getsBox 46 L st h = a_run d MX2_getsBox 47 L (.int (nI 1) :: st) h := w_iconst dX2_getsBox_46 rfl
theorem w_X2_getsBox_47 (d : Nat) (L : a_L) (x y : Int32) (st : List Value) (h : a_H) : a_run d MX2_getsBox 47 L (.int y :: .int x :: st) h = a_run d MX2_getsBox 48 L (.int (x - y) :: st) h := w_isub dX2_getsBox_47
theorem w_X2_getsBox_48 (d : Nat) (L : a_L) (x : Int32) (h : a_H) : a_run d MX2_getsBox 48 L [.int x] h = some (.inl (some (.int x)), h) := w_iret dX2_getsBox_48 (w_retI rfl)
theorem e_X2_lays (d : Nat) (x0 : Nat) (h : a_H) : a_call (d + 1) MX2_lays [.ref x0] h = a_run d MX2_lays 0 [some (.ref x0), none, none, none] [] h := a_call_run rfl (Nat.le_of_ble_eq_true rfl) rfl
theorem w_X2_lays_0 (d : Nat) (L : a_L) (st : List Value) (h : a_H) : a_run d MX2_lays 0 L st h = a_run d MX2_lays 1 L (.int (nI 0) :: st) h := w_iconst dX2_lays_0 rfl
theorem w_X2_lays_1 (d : Nat) (a0 a1 a2 a3 : Option Value) (x : Int32) (st : List Value) (h : a_H) : a_run d MX2_lays 1 [a0, a1, a2, a3] (.int x :: st) h = a_run d MX2_lays 2 [a0, some (.int x), a2, a3] st h := w_stIn dX2_lays_1 (Nat.le_of_ble_eq_true rfl) rfl
theorem w_X2_lays_2 (d : Nat) (a0 a2 a3 : Option Value) (x : Int32) (st : List Value) (h : a_H) : a_run d MX2_lays 2 [a0, some (.int x), a2, a3] st h = a_run d MX2_lays 3 [a0, some (.int x), a2, a3] (.int x :: st) h := w_ldIn dX2_lays_2 rfl
theorem w_X2_lays_3 (d : Nat) (L : a_L) (st : List Value) (h : a_H) : a_run d MX2_lays 3 L st h = a_run d MX2_lays 5 L (.int (nI 16) :: st) h := w_bipush dX2_lays_3 rfl
theorem w_X2_lays_5 (d : Nat) (L : a_L) (x y : Int32) (st : List Value) (h : a_H) : a_run d MX2_lays 5 L (.int y :: .int x :: st) h = if x < y then a_run d MX2_lays 8 L st h else a_run d MX2_lays 38 L st h := w_icmp_ge dX2_lays_5 rfl
theorem w_X2_lays_8 (d : Nat) (a1 a2 a3 : Option Value) (x : Nat) (st : List Value) (h : a_H) : a_run d MX2_lays 8 [some (.ref x), a1, a2, a3] st h = a_run d MX2_lays 9 [some (.ref x), a1, a2, a3] (.ref x :: st) h := w_ldAn dX2_lays_8 rfl
theorem w_X2_lays_9 (d : Nat) (L : a_L) (i : Nat) (st : List Value) (h : a_H) : a_run d MX2_lays 9 L (.ref i :: st) h = (a_gf h i 3 [1]).bind fun v => a_run d MX2_lays 12 L (v :: st) h := w_getf dX2_lays_9 rfl
theorem w_X2_lays_12 (d : Nat) (a0 a2 a3 : Option Value) (x : Int32) (st : List Value) (h : a_H) : a_run d MX2_lays 12 [a0, some (.int x), a2, a3] st h = a_run d MX2_lays 13 [a0, some (.int x), a2, a3] (.int x :: st) h := w_ldIn dX2_lays_12 rfl
theorem w_X2_lays_13 (d : Nat) (a0 a2 a3 : Option Value) (x : Int32) (st : List Value) (h : a_H) : a_run d MX2_lays 13 [a0, some (.int x), a2, a3] st h = a_run d MX2_lays 14 [a0, some (.int x), a2, a3] (.int x :: st) h := w_ldIn dX2_lays_13 rfl
theorem w_X2_lays_14 (d : Nat) (a1 a2 a3 : Option Value) (x : Nat) (st : List Value) (h : a_H) : a_run d MX2_lays 14 [some (.ref x), a1, a2, a3] st h = a_run d MX2_lays 15 [some (.ref x), a1, a2, a3] (.ref x :: st) h := w_ldAn dX2_lays_14 rfl
theorem w_X2_lays_15 (d : Nat) (L : a_L) (i : Nat) (st : List Value) (h : a_H) : a_run d MX2_lays 15 L (.ref i :: st) h = (a_gf h i 11 [1]).bind fun v => a_run d MX2_lays 18 L (v :: st) h := w_getf dX2_lays_15 rfl
theorem w_X2_lays_18 (d : Nat) (L : a_L) (x y : Int32) (st : List Value) (h : a_H) : a_run d MX2_lays 18 L (.int y :: .int x :: st) h = if x < y then a_run d MX2_lays 21 L st h else a_run d MX2_lays 30 L st h := w_icmp_ge dX2_lays_18 rfl
theorem w_X2_lays_21 (d : Nat) (a1 a2 a3 : Option Value) (x : Nat) (st : List Value) (h : a_H) : a_run d MX2_lays 21 [some (.ref x), a1, a2, a3] st h = a_run d MX2_lays 22 [some (.ref x), a1, a2, a3] (.ref x :: st) h := w_ldAn dX2_lays_21 rfl
theorem w_X2_lays_22 (d : Nat) (L : a_L) (i : Nat) (st : List Value) (h : a_H) : a_run d MX2_lays 22 L (.ref i :: st) h = (a_gf h i 2 [1]).bind fun v => a_run d MX2_lays 25 L (v :: st) h := w_getf dX2_lays_22 rfl
theorem w_X2_lays_25 (d : Nat) (a0 a2 a3 : Option Value) (x : Int32) (st : List Value) (h : a_H) : a_run d MX2_lays 25 [a0, some (.int x), a2, a3] st h = a_run d MX2_lays 26 [a0, some (.int x), a2, a3] (.int x :: st) h := w_ldIn dX2_lays_25 rfl
theorem w_X2_lays_26 (d : Nat) (L : a_L) (x : Int32) (i : Nat) (st : List Value) (h : a_H) : a_run d MX2_lays 26 L (.int x :: .ref i :: st) h = (a_rdi h i a_int x).bind fun v => a_run d MX2_lays 27 L (v :: st) h := w_iald dX2_lays_26
theorem w_X2_lays_27 (d : Nat) (L : a_L) (st : List Value) (h : a_H) : a_run d MX2_lays 27 L st h = a_run d MX2_lays 31 L st h := w_goto dX2_lays_27 rfl
theorem w_X2_lays_30 (d : Nat) (L : a_L) (st : List Value) (h : a_H) : a_run d MX2_lays 30 L st h = a_run d MX2_lays 31 L (.int (nI 0) :: st) h := w_iconst dX2_lays_30 rfl
theorem w_X2_lays_31 (d : Nat) (L : a_L) (x y : Int32) (i : Nat) (st : List Value) (h : a_H) : a_run d MX2_lays 31 L (.int y :: .int x :: .ref i :: st) h = (a_wri h i a_int x y).bind fun h' => a_run d MX2_lays 32 L st h' := w_iast dX2_lays_31
theorem w_X2_lays_32 (d : Nat) (a0 a2 a3 : Option Value) (x : Int32) (st : List Value) (h : a_H) : a_run d MX2_lays 32 [a0, some (.int x), a2, a3] st h = a_run d MX2_lays 35 [a0, some (.int (x + nI 1)), a2, a3] st h := w_incL dX2_lays_32 rfl rfl rfl
theorem w_X2_lays_35 (d : Nat) (L : a_L) (st : List Value) (h : a_H) : a_run d MX2_lays 35 L st h = a_run d MX2_lays 2 L st h := w_goto dX2_lays_35 rfl
theorem w_X2_lays_38 (d : Nat) (L : a_L) (st : List Value) (h : a_H) : a_run d MX2_lays 38 L st h = a_run d MX2_lays 39 L (.int (nI 1) :: st) h := w_iconst dX2_lays_38 rfl
theorem w_X2_lays_39 (d : Nat) (a0 a1 a2 a3 : Option Value) (x : Int32) (st : List Value) (h : a_H) : a_run d MX2_lays 39 [a0, a1, a2, a3] (.int x :: st) h = a_run d MX2_lays 40 [a0, some (.int x), a2, a3] st h := w_stIn dX2_lays_39 (Nat.le_of_ble_eq_true rfl) rfl
theorem w_X2_lays_40 (d : Nat) (a0 a2 a3 : Option Value) (x : Int32) (st : List Value) (h : a_H) : a_run d MX2_lays 40 [a0, some (.int x), a2, a3] st h = a_run d MX2_lays 41 [a0, some (.int x), a2, a3] (.int x :: st) h := w_ldIn dX2_lays_40 rfl
theorem w_X2_lays_41 (d : Nat) (L : a_L) (x : Int32) (st : List Value) (h : a_H) : a_run d MX2_lays 41 L (.int x :: st) h = if x = 0 then a_run d MX2_lays 142 L st h else a_run d MX2_lays 44 L st h := w_if_eq dX2_lays_41 rfl
theorem w_X2_lays_44 (d : Nat) (L : a_L) (st : List Value) (h : a_H) : a_run d MX2_lays 44 L st h = a_run d MX2_lays 45 L (.int (nI 0) :: st) h := w_iconst dX2_lays_44 rfl
theorem w_X2_lays_45 (d : Nat) (a0 a1 a2 a3 : Option Value) (x : Int32) (st : List Value) (h : a_H) : a_run d MX2_lays 45 [a0, a1, a2, a3] (.int x :: st) h = a_run d MX2_lays 46 [a0, some (.int x), a2, a3] st h := w_stIn dX2_lays_45 (Nat.le_of_ble_eq_true rfl) rfl
theorem w_X2_lays_46 (d : Nat) (L : a_L) (st : List Value) (h : a_H) : a_run d MX2_lays 46 L st h = a_run d MX2_lays 47 L (.int (nI 0) :: st) h := w_iconst dX2_lays_46 rfl
theorem w_X2_lays_47 (d : Nat) (a0 a1 a2 a3 : Option Value) (x : Int32) (st : List Value) (h : a_H) : a_run d MX2_lays 47 [a0, a1, a2, a3] (.int x :: st) h = a_run d MX2_lays 48 [a0, a1, some (.int x), a3] st h := w_stIn dX2_lays_47 (Nat.le_of_ble_eq_true rfl) rfl
theorem w_X2_lays_48 (d : Nat) (a0 a1 a3 : Option Value) (x : Int32) (st : List Value) (h : a_H) : a_run d MX2_lays 48 [a0, a1, some (.int x), a3] st h = a_run d MX2_lays 49 [a0, a1, some (.int x), a3] (.int x :: st) h := w_ldIn dX2_lays_48 rfl
theorem w_X2_lays_49 (d : Nat) (a1 a2 a3 : Option Value) (x : Nat) (st : List Value) (h : a_H) : a_run d MX2_lays 49 [some (.ref x), a1, a2, a3] st h = a_run d MX2_lays 50 [some (.ref x), a1, a2, a3] (.ref x :: st) h := w_ldAn dX2_lays_49 rfl
theorem w_X2_lays_50 (d : Nat) (L : a_L) (i : Nat) (st : List Value) (h : a_H) : a_run d MX2_lays 50 L (.ref i :: st) h = (a_gf h i 12 [1]).bind fun v => a_run d MX2_lays 53 L (v :: st) h := w_getf dX2_lays_50 rfl
theorem w_X2_lays_53 (d : Nat) (L : a_L) (x y : Int32) (st : List Value) (h : a_H) : a_run d MX2_lays 53 L (.int y :: .int x :: st) h = if x < y then a_run d MX2_lays 56 L st h else a_run d MX2_lays 139 L st h := w_icmp_ge dX2_lays_53 rfl
theorem w_X2_lays_56 (d : Nat) (a1 a2 a3 : Option Value) (x : Nat) (st : List Value) (h : a_H) : a_run d MX2_lays 56 [some (.ref x), a1, a2, a3] st h = a_run d MX2_lays 57 [some (.ref x), a1, a2, a3] (.ref x :: st) h := w_ldAn dX2_lays_56 rfl
theorem w_X2_lays_57 (d : Nat) (L : a_L) (i : Nat) (st : List Value) (h : a_H) : a_run d MX2_lays 57 L (.ref i :: st) h = (a_gf h i 3 [1]).bind fun v => a_run d MX2_lays 60 L (v :: st) h := w_getf dX2_lays_57 rfl
theorem w_X2_lays_60 (d : Nat) (a1 a2 a3 : Option Value) (x : Nat) (st : List Value) (h : a_H) : a_run d MX2_lays 60 [some (.ref x), a1, a2, a3] st h = a_run d MX2_lays 61 [some (.ref x), a1, a2, a3] (.ref x :: st) h := w_ldAn dX2_lays_60 rfl
theorem w_X2_lays_61 (d : Nat) (L : a_L) (i : Nat) (st : List Value) (h : a_H) : a_run d MX2_lays 61 L (.ref i :: st) h = (a_gf h i 1 [1]).bind fun v => a_run d MX2_lays 64 L (v :: st) h := w_getf dX2_lays_61 rfl
theorem w_X2_lays_64 (d : Nat) (a0 a1 a3 : Option Value) (x : Int32) (st : List Value) (h : a_H) : a_run d MX2_lays 64 [a0, a1, some (.int x), a3] st h = a_run d MX2_lays 65 [a0, a1, some (.int x), a3] (.int x :: st) h := w_ldIn dX2_lays_64 rfl
theorem w_X2_lays_65 (d : Nat) (L : a_L) (x : Int32) (i : Nat) (st : List Value) (h : a_H) : a_run d MX2_lays 65 L (.int x :: .ref i :: st) h = (a_rdi h i a_int x).bind fun v => a_run d MX2_lays 66 L (v :: st) h := w_iald dX2_lays_65
theorem w_X2_lays_66 (d : Nat) (L : a_L) (x : Int32) (i : Nat) (st : List Value) (h : a_H) : a_run d MX2_lays 66 L (.int x :: .ref i :: st) h = (a_rdi h i a_int x).bind fun v => a_run d MX2_lays 67 L (v :: st) h := w_iald dX2_lays_66
theorem w_X2_lays_67 (d : Nat) (a1 a2 a3 : Option Value) (x : Nat) (st : List Value) (h : a_H) : a_run d MX2_lays 67 [some (.ref x), a1, a2, a3] st h = a_run d MX2_lays 68 [some (.ref x), a1, a2, a3] (.ref x :: st) h := w_ldAn dX2_lays_67 rfl
theorem w_X2_lays_68 (d : Nat) (L : a_L) (i : Nat) (st : List Value) (h : a_H) : a_run d MX2_lays 68 L (.ref i :: st) h = (a_gf h i 3 [1]).bind fun v => a_run d MX2_lays 71 L (v :: st) h := w_getf dX2_lays_68 rfl
theorem w_X2_lays_71 (d : Nat) (a1 a2 a3 : Option Value) (x : Nat) (st : List Value) (h : a_H) : a_run d MX2_lays 71 [some (.ref x), a1, a2, a3] st h = a_run d MX2_lays 72 [some (.ref x), a1, a2, a3] (.ref x :: st) h := w_ldAn dX2_lays_71 rfl
theorem w_X2_lays_72 (d : Nat) (L : a_L) (i : Nat) (st : List Value) (h : a_H) : a_run d MX2_lays 72 L (.ref i :: st) h = (a_gf h i 0 [1]).bind fun v => a_run d MX2_lays 75 L (v :: st) h := w_getf dX2_lays_72 rfl
theorem w_X2_lays_75 (d : Nat) (a0 a1 a3 : Option Value) (x : Int32) (st : List Value) (h : a_H) : a_run d MX2_lays 75 [a0, a1, some (.int x), a3] st h = a_run d MX2_lays 76 [a0, a1, some (.int x), a3] (.int x :: st) h := w_ldIn dX2_lays_75 rfl
theorem w_X2_lays_76 (d : Nat) (L : a_L) (x : Int32) (i : Nat) (st : List Value) (h : a_H) : a_run d MX2_lays 76 L (.int x :: .ref i :: st) h = (a_rdi h i a_int x).bind fun v => a_run d MX2_lays 77 L (v :: st) h := w_iald dX2_lays_76
theorem w_X2_lays_77 (d : Nat) (L : a_L) (x : Int32) (i : Nat) (st : List Value) (h : a_H) : a_run d MX2_lays 77 L (.int x :: .ref i :: st) h = (a_rdi h i a_int x).bind fun v => a_run d MX2_lays 78 L (v :: st) h := w_iald dX2_lays_77
theorem w_X2_lays_78 (d : Nat) (L : a_L) (x y : Int32) (st : List Value) (h : a_H) : a_run d MX2_lays 78 L (.int y :: .int x :: st) h = if y < x then a_run d MX2_lays 85 L st h else a_run d MX2_lays 81 L st h := w_icmp_gt dX2_lays_78 rfl
theorem w_X2_lays_81 (d : Nat) (L : a_L) (st : List Value) (h : a_H) : a_run d MX2_lays 81 L st h = a_run d MX2_lays 82 L (.int (nI 1) :: st) h := w_iconst dX2_lays_81 rfl
theorem w_X2_lays_82 (d : Nat) (L : a_L) (st : List Value) (h : a_H) : a_run d MX2_lays 82 L st h = a_run d MX2_lays 86 L st h := w_goto dX2_lays_82 rfl
theorem w_X2_lays_85 (d : Nat) (L : a_L) (st : List Value) (h : a_H) : a_run d MX2_lays 85 L st h = a_run d MX2_lays 86 L (.int (nI 0) :: st) h := w_iconst dX2_lays_85 rfl
theorem w_X2_lays_86 (d : Nat) (a0 a1 a2 a3 : Option Value) (x : Int32) (st : List Value) (h : a_H) : a_run d MX2_lays 86 [a0, a1, a2, a3] (.int x :: st) h = a_run d MX2_lays 87 [a0, a1, a2, some (.int x)] st h := w_stIn dX2_lays_86 (Nat.le_of_ble_eq_true rfl) rfl
theorem w_X2_lays_87 (d : Nat) (a1 a2 a3 : Option Value) (x : Nat) (st : List Value) (h : a_H) : a_run d MX2_lays 87 [some (.ref x), a1, a2, a3] st h = a_run d MX2_lays 88 [some (.ref x), a1, a2, a3] (.ref x :: st) h := w_ldAn dX2_lays_87 rfl
theorem w_X2_lays_88 (d : Nat) (L : a_L) (i : Nat) (st : List Value) (h : a_H) : a_run d MX2_lays 88 L (.ref i :: st) h = (a_gf h i 3 [1]).bind fun v => a_run d MX2_lays 91 L (v :: st) h := w_getf dX2_lays_88 rfl
theorem w_X2_lays_91 (d : Nat) (a1 a2 a3 : Option Value) (x : Nat) (st : List Value) (h : a_H) : a_run d MX2_lays 91 [some (.ref x), a1, a2, a3] st h = a_run d MX2_lays 92 [some (.ref x), a1, a2, a3] (.ref x :: st) h := w_ldAn dX2_lays_91 rfl
theorem w_X2_lays_92 (d : Nat) (L : a_L) (i : Nat) (st : List Value) (h : a_H) : a_run d MX2_lays 92 L (.ref i :: st) h = (a_gf h i 1 [1]).bind fun v => a_run d MX2_lays 95 L (v :: st) h := w_getf dX2_lays_92 rfl
theorem w_X2_lays_95 (d : Nat) (a0 a1 a3 : Option Value) (x : Int32) (st : List Value) (h : a_H) : a_run d MX2_lays 95 [a0, a1, some (.int x), a3] st h = a_run d MX2_lays 96 [a0, a1, some (.int x), a3] (.int x :: st) h := w_ldIn dX2_lays_95 rfl
theorem w_X2_lays_96 (d : Nat) (L : a_L) (x : Int32) (i : Nat) (st : List Value) (h : a_H) : a_run d MX2_lays 96 L (.int x :: .ref i :: st) h = (a_rdi h i a_int x).bind fun v => a_run d MX2_lays 97 L (v :: st) h := w_iald dX2_lays_96
theorem w_X2_lays_97 (d : Nat) (a0 a1 a2 : Option Value) (x : Int32) (st : List Value) (h : a_H) : a_run d MX2_lays 97 [a0, a1, a2, some (.int x)] st h = a_run d MX2_lays 98 [a0, a1, a2, some (.int x)] (.int x :: st) h := w_ldIn dX2_lays_97 rfl
theorem w_X2_lays_98 (d : Nat) (L : a_L) (x : Int32) (st : List Value) (h : a_H) : a_run d MX2_lays 98 L (.int x :: st) h = if x = 0 then a_run d MX2_lays 117 L st h else a_run d MX2_lays 101 L st h := w_if_eq dX2_lays_98 rfl
theorem w_X2_lays_101 (d : Nat) (a1 a2 a3 : Option Value) (x : Nat) (st : List Value) (h : a_H) : a_run d MX2_lays 101 [some (.ref x), a1, a2, a3] st h = a_run d MX2_lays 102 [some (.ref x), a1, a2, a3] (.ref x :: st) h := w_ldAn dX2_lays_101 rfl
theorem w_X2_lays_102 (d : Nat) (L : a_L) (i : Nat) (st : List Value) (h : a_H) : a_run d MX2_lays 102 L (.ref i :: st) h = (a_gf h i 3 [1]).bind fun v => a_run d MX2_lays 105 L (v :: st) h := w_getf dX2_lays_102 rfl
theorem w_X2_lays_105 (d : Nat) (a1 a2 a3 : Option Value) (x : Nat) (st : List Value) (h : a_H) : a_run d MX2_lays 105 [some (.ref x), a1, a2, a3] st h = a_run d MX2_lays 106 [some (.ref x), a1, a2, a3] (.ref x :: st) h := w_ldAn dX2_lays_105 rfl
theorem w_X2_lays_106 (d : Nat) (L : a_L) (i : Nat) (st : List Value) (h : a_H) : a_run d MX2_lays 106 L (.ref i :: st) h = (a_gf h i 0 [1]).bind fun v => a_run d MX2_lays 109 L (v :: st) h := w_getf dX2_lays_106 rfl
theorem w_X2_lays_109 (d : Nat) (a0 a1 a3 : Option Value) (x : Int32) (st : List Value) (h : a_H) : a_run d MX2_lays 109 [a0, a1, some (.int x), a3] st h = a_run d MX2_lays 110 [a0, a1, some (.int x), a3] (.int x :: st) h := w_ldIn dX2_lays_109 rfl
theorem w_X2_lays_110 (d : Nat) (L : a_L) (x : Int32) (i : Nat) (st : List Value) (h : a_H) : a_run d MX2_lays 110 L (.int x :: .ref i :: st) h = (a_rdi h i a_int x).bind fun v => a_run d MX2_lays 111 L (v :: st) h := w_iald dX2_lays_110
theorem w_X2_lays_111 (d : Nat) (L : a_L) (x : Int32) (i : Nat) (st : List Value) (h : a_H) : a_run d MX2_lays 111 L (.int x :: .ref i :: st) h = (a_rdi h i a_int x).bind fun v => a_run d MX2_lays 112 L (v :: st) h := w_iald dX2_lays_111
theorem w_X2_lays_112 (d : Nat) (L : a_L) (st : List Value) (h : a_H) : a_run d MX2_lays 112 L st h = a_run d MX2_lays 113 L (.int (nI 1) :: st) h := w_iconst dX2_lays_112 rfl
theorem w_X2_lays_113 (d : Nat) (L : a_L) (x y : Int32) (st : List Value) (h : a_H) : a_run d MX2_lays 113 L (.int y :: .int x :: st) h = a_run d MX2_lays 114 L (.int (x + y) :: st) h := w_iadd dX2_lays_113
theorem w_X2_lays_114 (d : Nat) (L : a_L) (st : List Value) (h : a_H) : a_run d MX2_lays 114 L st h = a_run d MX2_lays 128 L st h := w_goto dX2_lays_114 rfl
theorem w_X2_lays_117 (d : Nat) (a1 a2 a3 : Option Value) (x : Nat) (st : List Value) (h : a_H) : a_run d MX2_lays 117 [some (.ref x), a1, a2, a3] st h = a_run d MX2_lays 118 [some (.ref x), a1, a2, a3] (.ref x :: st) h := w_ldAn dX2_lays_117 rfl
theorem w_X2_lays_118 (d : Nat) (L : a_L) (i : Nat) (st : List Value) (h : a_H) : a_run d MX2_lays 118 L (.ref i :: st) h = (a_gf h i 3 [1]).bind fun v => a_run d MX2_lays 121 L (v :: st) h := w_getf dX2_lays_118 rfl
theorem w_X2_lays_121 (d : Nat) (a1 a2 a3 : Option Value) (x : Nat) (st : List Value) (h : a_H) : a_run d MX2_lays 121 [some (.ref x), a1, a2, a3] st h = a_run d MX2_lays 122 [some (.ref x), a1, a2, a3] (.ref x :: st) h := w_ldAn dX2_lays_121 rfl
theorem w_X2_lays_122 (d : Nat) (L : a_L) (i : Nat) (st : List Value) (h : a_H) : a_run d MX2_lays 122 L (.ref i :: st) h = (a_gf h i 1 [1]).bind fun v => a_run d MX2_lays 125 L (v :: st) h := w_getf dX2_lays_122 rfl
theorem w_X2_lays_125 (d : Nat) (a0 a1 a3 : Option Value) (x : Int32) (st : List Value) (h : a_H) : a_run d MX2_lays 125 [a0, a1, some (.int x), a3] st h = a_run d MX2_lays 126 [a0, a1, some (.int x), a3] (.int x :: st) h := w_ldIn dX2_lays_125 rfl
theorem w_X2_lays_126 (d : Nat) (L : a_L) (x : Int32) (i : Nat) (st : List Value) (h : a_H) : a_run d MX2_lays 126 L (.int x :: .ref i :: st) h = (a_rdi h i a_int x).bind fun v => a_run d MX2_lays 127 L (v :: st) h := w_iald dX2_lays_126
theorem w_X2_lays_127 (d : Nat) (L : a_L) (x : Int32) (i : Nat) (st : List Value) (h : a_H) : a_run d MX2_lays 127 L (.int x :: .ref i :: st) h = (a_rdi h i a_int x).bind fun v => a_run d MX2_lays 128 L (v :: st) h := w_iald dX2_lays_127
theorem w_X2_lays_128 (d : Nat) (L : a_L) (x y : Int32) (i : Nat) (st : List Value) (h : a_H) : a_run d MX2_lays 128 L (.int y :: .int x :: .ref i :: st) h = (a_wri h i a_int x y).bind fun h' => a_run d MX2_lays 129 L st h' := w_iast dX2_lays_128
theorem w_X2_lays_129 (d : Nat) (a0 a2 a3 : Option Value) (x : Int32) (st : List Value) (h : a_H) : a_run d MX2_lays 129 [a0, some (.int x), a2, a3] st h = a_run d MX2_lays 130 [a0, some (.int x), a2, a3] (.int x :: st) h := w_ldIn dX2_lays_129 rfl
theorem w_X2_lays_130 (d : Nat) (a0 a1 a2 : Option Value) (x : Int32) (st : List Value) (h : a_H) : a_run d MX2_lays 130 [a0, a1, a2, some (.int x)] st h = a_run d MX2_lays 131 [a0, a1, a2, some (.int x)] (.int x :: st) h := w_ldIn dX2_lays_130 rfl
theorem w_X2_lays_131 (d : Nat) (L : a_L) (x y : Int32) (st : List Value) (h : a_H) : a_run d MX2_lays 131 L (.int y :: .int x :: st) h = a_run d MX2_lays 132 L (.int (x ||| y) :: st) h := w_ior dX2_lays_131
theorem w_X2_lays_132 (d : Nat) (a0 a1 a2 a3 : Option Value) (x : Int32) (st : List Value) (h : a_H) : a_run d MX2_lays 132 [a0, a1, a2, a3] (.int x :: st) h = a_run d MX2_lays 133 [a0, some (.int x), a2, a3] st h := w_stIn dX2_lays_132 (Nat.le_of_ble_eq_true rfl) rfl
theorem w_X2_lays_133 (d : Nat) (a0 a1 a3 : Option Value) (x : Int32) (st : List Value) (h : a_H) : a_run d MX2_lays 133 [a0, a1, some (.int x), a3] st h = a_run d MX2_lays 136 [a0, a1, some (.int (x + nI 1)), a3] st h := w_incL dX2_lays_133 rfl rfl rfl
theorem w_X2_lays_136 (d : Nat) (L : a_L) (st : List Value) (h : a_H) : a_run d MX2_lays 136 L st h = a_run d MX2_lays 48 L st h := w_goto dX2_lays_136 rfl
theorem w_X2_lays_139 (d : Nat) (L : a_L) (st : List Value) (h : a_H) : a_run d MX2_lays 139 L st h = a_run d MX2_lays 40 L st h := w_goto dX2_lays_139 rfl
theorem w_X2_lays_142 (d : Nat) (a1 a2 a3 : Option Value) (x : Nat) (st : List Value) (h : a_H) : a_run d MX2_lays 142 [some (.ref x), a1, a2, a3] st h = a_run d MX2_lays 143 [some (.ref x), a1, a2, a3] (.ref x :: st) h := w_ldAn dX2_lays_142 rfl
theorem w_X2_lays_143 (d : Nat) (L : a_L) (st : List Value) (h : a_H) : a_run d MX2_lays 143 L st h = a_run d MX2_lays 144 L (.int (nI 0) :: st) h := w_iconst dX2_lays_143 rfl
theorem w_X2_lays_144 (d : Nat) (L : a_L) (x : Int32) (i : Nat) (st : List Value) (h : a_H) : a_run d MX2_lays 144 L (.int x :: .ref i :: st) h = (a_pf h i 13 [1] (.int x)).bind fun h' => a_run d MX2_lays 147 L st h' := w_putf dX2_lays_144 rfl rfl (Or.inl rfl) rfl rfl
theorem w_X2_lays_147 (d : Nat) (L : a_L) (st : List Value) (h : a_H) : a_run d MX2_lays 147 L st h = a_run d MX2_lays 148 L (.int (nI 0) :: st) h := w_iconst dX2_lays_147 rfl
theorem w_X2_lays_148 (d : Nat) (a0 a1 a2 a3 : Option Value) (x : Int32) (st : List Value) (h : a_H) : a_run d MX2_lays 148 [a0, a1, a2, a3] (.int x :: st) h = a_run d MX2_lays 149 [a0, a1, some (.int x), a3] st h := w_stIn dX2_lays_148 (Nat.le_of_ble_eq_true rfl) rfl
theorem w_X2_lays_149 (d : Nat) (a0 a1 a3 : Option Value) (x : Int32) (st : List Value) (h : a_H) : a_run d MX2_lays 149 [a0, a1, some (.int x), a3] st h = a_run d MX2_lays 150 [a0, a1, some (.int x), a3] (.int x :: st) h := w_ldIn dX2_lays_149 rfl
theorem w_X2_lays_150 (d : Nat) (a1 a2 a3 : Option Value) (x : Nat) (st : List Value) (h : a_H) : a_run d MX2_lays 150 [some (.ref x), a1, a2, a3] st h = a_run d MX2_lays 151 [some (.ref x), a1, a2, a3] (.ref x :: st) h := w_ldAn dX2_lays_150 rfl
theorem w_X2_lays_151 (d : Nat) (L : a_L) (i : Nat) (st : List Value) (h : a_H) : a_run d MX2_lays 151 L (.ref i :: st) h = (a_gf h i 11 [1]).bind fun v => a_run d MX2_lays 154 L (v :: st) h := w_getf dX2_lays_151 rfl
theorem w_X2_lays_154 (d : Nat) (L : a_L) (x y : Int32) (st : List Value) (h : a_H) : a_run d MX2_lays 154 L (.int y :: .int x :: st) h = if x < y then a_run d MX2_lays 157 L st h else a_run d MX2_lays 182 L st h := w_icmp_ge dX2_lays_154 rfl
theorem w_X2_lays_157 (d : Nat) (a1 a2 a3 : Option Value) (x : Nat) (st : List Value) (h : a_H) : a_run d MX2_lays 157 [some (.ref x), a1, a2, a3] st h = a_run d MX2_lays 158 [some (.ref x), a1, a2, a3] (.ref x :: st) h := w_ldAn dX2_lays_157 rfl
theorem w_X2_lays_158 (d : Nat) (a1 a2 a3 : Option Value) (x : Nat) (st : List Value) (h : a_H) : a_run d MX2_lays 158 [some (.ref x), a1, a2, a3] st h = a_run d MX2_lays 159 [some (.ref x), a1, a2, a3] (.ref x :: st) h := w_ldAn dX2_lays_158 rfl
theorem w_X2_lays_159 (d : Nat) (L : a_L) (i : Nat) (st : List Value) (h : a_H) : a_run d MX2_lays 159 L (.ref i :: st) h = (a_gf h i 13 [1]).bind fun v => a_run d MX2_lays 162 L (v :: st) h := w_getf dX2_lays_159 rfl
theorem w_X2_lays_162 (d : Nat) (a1 a2 a3 : Option Value) (x : Nat) (st : List Value) (h : a_H) : a_run d MX2_lays 162 [some (.ref x), a1, a2, a3] st h = a_run d MX2_lays 163 [some (.ref x), a1, a2, a3] (.ref x :: st) h := w_ldAn dX2_lays_162 rfl
theorem w_X2_lays_163 (d : Nat) (L : a_L) (i : Nat) (st : List Value) (h : a_H) : a_run d MX2_lays 163 L (.ref i :: st) h = (a_gf h i 3 [1]).bind fun v => a_run d MX2_lays 166 L (v :: st) h := w_getf dX2_lays_163 rfl
theorem w_X2_lays_166 (d : Nat) (a0 a1 a3 : Option Value) (x : Int32) (st : List Value) (h : a_H) : a_run d MX2_lays 166 [a0, a1, some (.int x), a3] st h = a_run d MX2_lays 167 [a0, a1, some (.int x), a3] (.int x :: st) h := w_ldIn dX2_lays_166 rfl
theorem w_X2_lays_167 (d : Nat) (L : a_L) (x : Int32) (i : Nat) (st : List Value) (h : a_H) : a_run d MX2_lays 167 L (.int x :: .ref i :: st) h = (a_rdi h i a_int x).bind fun v => a_run d MX2_lays 168 L (v :: st) h := w_iald dX2_lays_167
theorem w_X2_lays_168 (d : Nat) (L : a_L) (st : List Value) (h : a_H) : a_run d MX2_lays 168 L st h = a_run d MX2_lays 169 L (.int (nI 1) :: st) h := w_iconst dX2_lays_168 rfl
theorem w_X2_lays_169 (d : Nat) (L : a_L) (x y : Int32) (st : List Value) (h : a_H) : a_run d MX2_lays 169 L (.int y :: .int x :: st) h = a_run d MX2_lays 170 L (.int (x + y) :: st) h := w_iadd dX2_lays_169
theorem w_X2_lays_170 (d : Nat) (L : a_L) (x y : Int32) (st : List Value) (h : a_H) (hc : a_cat st ≤ 8) : a_run d MX2_lays 170 L (.int y :: .int x :: st) h = a_run d MX2_lays 173 L (.int (if x < y then y else x) :: st) h := w_max dX2_lays_170 rfl hc
theorem w_X2_lays_173 (d : Nat) (L : a_L) (x : Int32) (i : Nat) (st : List Value) (h : a_H) : a_run d MX2_lays 173 L (.int x :: .ref i :: st) h = (a_pf h i 13 [1] (.int x)).bind fun h' => a_run d MX2_lays 176 L st h' := w_putf dX2_lays_173 rfl rfl (Or.inl rfl) rfl rfl
theorem w_X2_lays_176 (d : Nat) (a0 a1 a3 : Option Value) (x : Int32) (st : List Value) (h : a_H) : a_run d MX2_lays 176 [a0, a1, some (.int x), a3] st h = a_run d MX2_lays 179 [a0, a1, some (.int (x + nI 1)), a3] st h := w_incL dX2_lays_176 rfl rfl rfl
theorem w_X2_lays_179 (d : Nat) (L : a_L) (st : List Value) (h : a_H) : a_run d MX2_lays 179 L st h = a_run d MX2_lays 149 L st h := w_goto dX2_lays_179 rfl
theorem w_X2_lays_182 (d : Nat) (L : a_L) (st : List Value) (h : a_H) : a_run d MX2_lays 182 L st h = a_run d MX2_lays 183 L (.int (nI 0) :: st) h := w_iconst dX2_lays_182 rfl
theorem w_X2_lays_183 (d : Nat) (a0 a1 a2 a3 : Option Value) (x : Int32) (st : List Value) (h : a_H) : a_run d MX2_lays 183 [a0, a1, a2, a3] (.int x :: st) h = a_run d MX2_lays 184 [a0, a1, some (.int x), a3] st h := w_stIn dX2_lays_183 (Nat.le_of_ble_eq_true rfl) rfl
theorem w_X2_lays_184 (d : Nat) (a0 a1 a3 : Option Value) (x : Int32) (st : List Value) (h : a_H) : a_run d MX2_lays 184 [a0, a1, some (.int x), a3] st h = a_run d MX2_lays 185 [a0, a1, some (.int x), a3] (.int x :: st) h := w_ldIn dX2_lays_184 rfl
theorem w_X2_lays_185 (d : Nat) (L : a_L) (st : List Value) (h : a_H) : a_run d MX2_lays 185 L st h = a_run d MX2_lays 187 L (.int (nI 25) :: st) h := w_bipush dX2_lays_185 rfl
theorem w_X2_lays_187 (d : Nat) (L : a_L) (x y : Int32) (st : List Value) (h : a_H) : a_run d MX2_lays 187 L (.int y :: .int x :: st) h = if x < y then a_run d MX2_lays 190 L st h else a_run d MX2_lays 203 L st h := w_icmp_ge dX2_lays_187 rfl
theorem w_X2_lays_190 (d : Nat) (a1 a2 a3 : Option Value) (x : Nat) (st : List Value) (h : a_H) : a_run d MX2_lays 190 [some (.ref x), a1, a2, a3] st h = a_run d MX2_lays 191 [some (.ref x), a1, a2, a3] (.ref x :: st) h := w_ldAn dX2_lays_190 rfl
theorem w_X2_lays_191 (d : Nat) (L : a_L) (i : Nat) (st : List Value) (h : a_H) : a_run d MX2_lays 191 L (.ref i :: st) h = (a_gf h i 5 [1]).bind fun v => a_run d MX2_lays 194 L (v :: st) h := w_getf dX2_lays_191 rfl
theorem w_X2_lays_194 (d : Nat) (a0 a1 a3 : Option Value) (x : Int32) (st : List Value) (h : a_H) : a_run d MX2_lays 194 [a0, a1, some (.int x), a3] st h = a_run d MX2_lays 195 [a0, a1, some (.int x), a3] (.int x :: st) h := w_ldIn dX2_lays_194 rfl
theorem w_X2_lays_195 (d : Nat) (L : a_L) (st : List Value) (h : a_H) : a_run d MX2_lays 195 L st h = a_run d MX2_lays 196 L (.int (nI 0) :: st) h := w_iconst dX2_lays_195 rfl
theorem w_X2_lays_196 (d : Nat) (L : a_L) (x y : Int32) (i : Nat) (st : List Value) (h : a_H) : a_run d MX2_lays 196 L (.int y :: .int x :: .ref i :: st) h = (a_wri h i a_int x y).bind fun h' => a_run d MX2_lays 197 L st h' := w_iast dX2_lays_196
theorem w_X2_lays_197 (d : Nat) (a0 a1 a3 : Option Value) (x : Int32) (st : List Value) (h : a_H) : a_run d MX2_lays 197 [a0, a1, some (.int x), a3] st h = a_run d MX2_lays 200 [a0, a1, some (.int (x + nI 1)), a3] st h := w_incL dX2_lays_197 rfl rfl rfl
theorem w_X2_lays_200 (d : Nat) (L : a_L) (st : List Value) (h : a_H) : a_run d MX2_lays 200 L st h = a_run d MX2_lays 184 L st h := w_goto dX2_lays_200 rfl
theorem w_X2_lays_203 (d : Nat) (L : a_L) (st : List Value) (h : a_H) : a_run d MX2_lays 203 L st h = a_run d MX2_lays 204 L (.int (nI 0) :: st) h := w_iconst dX2_lays_203 rfl
theorem w_X2_lays_204 (d : Nat) (a0 a1 a2 a3 : Option Value) (x : Int32) (st : List Value) (h : a_H) : a_run d MX2_lays 204 [a0, a1, a2, a3] (.int x :: st) h = a_run d MX2_lays 205 [a0, a1, some (.int x), a3] st h := w_stIn dX2_lays_204 (Nat.le_of_ble_eq_true rfl) rfl
theorem w_X2_lays_205 (d : Nat) (a0 a1 a3 : Option Value) (x : Int32) (st : List Value) (h : a_H) : a_run d MX2_lays 205 [a0, a1, some (.int x), a3] st h = a_run d MX2_lays 206 [a0, a1, some (.int x), a3] (.int x :: st) h := w_ldIn dX2_lays_205 rfl
theorem w_X2_lays_206 (d : Nat) (a1 a2 a3 : Option Value) (x : Nat) (st : List Value) (h : a_H) : a_run d MX2_lays 206 [some (.ref x), a1, a2, a3] st h = a_run d MX2_lays 207 [some (.ref x), a1, a2, a3] (.ref x :: st) h := w_ldAn dX2_lays_206 rfl
theorem w_X2_lays_207 (d : Nat) (L : a_L) (i : Nat) (st : List Value) (h : a_H) : a_run d MX2_lays 207 L (.ref i :: st) h = (a_gf h i 11 [1]).bind fun v => a_run d MX2_lays 210 L (v :: st) h := w_getf dX2_lays_207 rfl
theorem w_X2_lays_210 (d : Nat) (L : a_L) (x y : Int32) (st : List Value) (h : a_H) : a_run d MX2_lays 210 L (.int y :: .int x :: st) h = if x < y then a_run d MX2_lays 213 L st h else a_run d MX2_lays 230 L st h := w_icmp_ge dX2_lays_210 rfl
theorem w_X2_lays_213 (d : Nat) (a1 a2 a3 : Option Value) (x : Nat) (st : List Value) (h : a_H) : a_run d MX2_lays 213 [some (.ref x), a1, a2, a3] st h = a_run d MX2_lays 214 [some (.ref x), a1, a2, a3] (.ref x :: st) h := w_ldAn dX2_lays_213 rfl
theorem w_X2_lays_214 (d : Nat) (a1 a2 a3 : Option Value) (x : Nat) (st : List Value) (h : a_H) : a_run d MX2_lays 214 [some (.ref x), a1, a2, a3] st h = a_run d MX2_lays 215 [some (.ref x), a1, a2, a3] (.ref x :: st) h := w_ldAn dX2_lays_214 rfl
theorem w_X2_lays_215 (d : Nat) (L : a_L) (i : Nat) (st : List Value) (h : a_H) : a_run d MX2_lays 215 L (.ref i :: st) h = (a_gf h i 3 [1]).bind fun v => a_run d MX2_lays 218 L (v :: st) h := w_getf dX2_lays_215 rfl
theorem w_X2_lays_218 (d : Nat) (a0 a1 a3 : Option Value) (x : Int32) (st : List Value) (h : a_H) : a_run d MX2_lays 218 [a0, a1, some (.int x), a3] st h = a_run d MX2_lays 219 [a0, a1, some (.int x), a3] (.int x :: st) h := w_ldIn dX2_lays_218 rfl
theorem w_X2_lays_219 (d : Nat) (L : a_L) (x : Int32) (i : Nat) (st : List Value) (h : a_H) : a_run d MX2_lays 219 L (.int x :: .ref i :: st) h = (a_rdi h i a_int x).bind fun v => a_run d MX2_lays 220 L (v :: st) h := w_iald dX2_lays_219
theorem w_X2_lays_220 (d : Nat) (a0 a1 a3 : Option Value) (x : Int32) (st : List Value) (h : a_H) : a_run d MX2_lays 220 [a0, a1, some (.int x), a3] st h = a_run d MX2_lays 221 [a0, a1, some (.int x), a3] (.int x :: st) h := w_ldIn dX2_lays_220 rfl
theorem w_X2_lays_221 (d : Nat) (L : a_L) (i : Nat) (v1 v2 : Value) (st : List Value) (h : a_H) (hk : a_kls h i = some 1) (hc : a_cat st ≤ 8) : a_run d MX2_lays 221 L (v2 :: v1 :: .ref i :: st) h = a_cont d MX2_lays (a_bk MX2_lays 221 L st (a_call d MX2_puts [.ref i, v1, v2] h)) := w_callV (as := [.ref i, v1, v2]) dX2_lays_221 rfl rfl rfl hc (a_rcv_of hk rfl)
theorem w_X2_lays_224 (d : Nat) (a0 a1 a3 : Option Value) (x : Int32) (st : List Value) (h : a_H) : a_run d MX2_lays 224 [a0, a1, some (.int x), a3] st h = a_run d MX2_lays 227 [a0, a1, some (.int (x + nI 1)), a3] st h := w_incL dX2_lays_224 rfl rfl rfl
theorem w_X2_lays_227 (d : Nat) (L : a_L) (st : List Value) (h : a_H) : a_run d MX2_lays 227 L st h = a_run d MX2_lays 205 L st h := w_goto dX2_lays_227 rfl
theorem w_X2_lays_230 (d : Nat) (L : a_L) (st : List Value) (h : a_H) : a_run d MX2_lays 230 L st h = a_run d MX2_lays 231 L (.int (nI 0) :: st) h := w_iconst dX2_lays_230 rfl
theorem w_X2_lays_231 (d : Nat) (a0 a1 a2 a3 : Option Value) (x : Int32) (st : List Value) (h : a_H) : a_run d MX2_lays 231 [a0, a1, a2, a3] (.int x :: st) h = a_run d MX2_lays 232 [a0, a1, some (.int x), a3] st h := w_stIn dX2_lays_231 (Nat.le_of_ble_eq_true rfl) rfl
theorem w_X2_lays_232 (d : Nat) (a0 a1 a3 : Option Value) (x : Int32) (st : List Value) (h : a_H) : a_run d MX2_lays 232 [a0, a1, some (.int x), a3] st h = a_run d MX2_lays 233 [a0, a1, some (.int x), a3] (.int x :: st) h := w_ldIn dX2_lays_232 rfl
theorem w_X2_lays_233 (d : Nat) (a1 a2 a3 : Option Value) (x : Nat) (st : List Value) (h : a_H) : a_run d MX2_lays 233 [some (.ref x), a1, a2, a3] st h = a_run d MX2_lays 234 [some (.ref x), a1, a2, a3] (.ref x :: st) h := w_ldAn dX2_lays_233 rfl
theorem w_X2_lays_234 (d : Nat) (L : a_L) (i : Nat) (st : List Value) (h : a_H) : a_run d MX2_lays 234 L (.ref i :: st) h = (a_gf h i 12 [1]).bind fun v => a_run d MX2_lays 237 L (v :: st) h := w_getf dX2_lays_234 rfl
theorem w_X2_lays_237 (d : Nat) (L : a_L) (x y : Int32) (st : List Value) (h : a_H) : a_run d MX2_lays 237 L (.int y :: .int x :: st) h = if x < y then a_run d MX2_lays 240 L st h else a_run d MX2_lays 290 L st h := w_icmp_ge dX2_lays_237 rfl
theorem w_X2_lays_240 (d : Nat) (a1 a2 a3 : Option Value) (x : Nat) (st : List Value) (h : a_H) : a_run d MX2_lays 240 [some (.ref x), a1, a2, a3] st h = a_run d MX2_lays 241 [some (.ref x), a1, a2, a3] (.ref x :: st) h := w_ldAn dX2_lays_240 rfl
theorem w_X2_lays_241 (d : Nat) (L : a_L) (i : Nat) (st : List Value) (h : a_H) : a_run d MX2_lays 241 L (.ref i :: st) h = (a_gf h i 3 [1]).bind fun v => a_run d MX2_lays 244 L (v :: st) h := w_getf dX2_lays_241 rfl
theorem w_X2_lays_244 (d : Nat) (a1 a2 a3 : Option Value) (x : Nat) (st : List Value) (h : a_H) : a_run d MX2_lays 244 [some (.ref x), a1, a2, a3] st h = a_run d MX2_lays 245 [some (.ref x), a1, a2, a3] (.ref x :: st) h := w_ldAn dX2_lays_244 rfl
theorem w_X2_lays_245 (d : Nat) (L : a_L) (i : Nat) (st : List Value) (h : a_H) : a_run d MX2_lays 245 L (.ref i :: st) h = (a_gf h i 0 [1]).bind fun v => a_run d MX2_lays 248 L (v :: st) h := w_getf dX2_lays_245 rfl
theorem w_X2_lays_248 (d : Nat) (a0 a1 a3 : Option Value) (x : Int32) (st : List Value) (h : a_H) : a_run d MX2_lays 248 [a0, a1, some (.int x), a3] st h = a_run d MX2_lays 249 [a0, a1, some (.int x), a3] (.int x :: st) h := w_ldIn dX2_lays_248 rfl
theorem w_X2_lays_249 (d : Nat) (L : a_L) (x : Int32) (i : Nat) (st : List Value) (h : a_H) : a_run d MX2_lays 249 L (.int x :: .ref i :: st) h = (a_rdi h i a_int x).bind fun v => a_run d MX2_lays 250 L (v :: st) h := w_iald dX2_lays_249
theorem w_X2_lays_250 (d : Nat) (L : a_L) (x : Int32) (i : Nat) (st : List Value) (h : a_H) : a_run d MX2_lays 250 L (.int x :: .ref i :: st) h = (a_rdi h i a_int x).bind fun v => a_run d MX2_lays 251 L (v :: st) h := w_iald dX2_lays_250
theorem w_X2_lays_251 (d : Nat) (L : a_L) (st : List Value) (h : a_H) : a_run d MX2_lays 251 L st h = a_run d MX2_lays 252 L (.int (nI 1) :: st) h := w_iconst dX2_lays_251 rfl
theorem w_X2_lays_252 (d : Nat) (L : a_L) (x y : Int32) (st : List Value) (h : a_H) : a_run d MX2_lays 252 L (.int y :: .int x :: st) h = a_run d MX2_lays 253 L (.int (x + y) :: st) h := w_iadd dX2_lays_252
theorem w_X2_lays_253 (d : Nat) (a0 a1 a2 a3 : Option Value) (x : Int32) (st : List Value) (h : a_H) : a_run d MX2_lays 253 [a0, a1, a2, a3] (.int x :: st) h = a_run d MX2_lays 254 [a0, a1, a2, some (.int x)] st h := w_stIn dX2_lays_253 (Nat.le_of_ble_eq_true rfl) rfl
theorem w_X2_lays_254 (d : Nat) (a0 a1 a2 : Option Value) (x : Int32) (st : List Value) (h : a_H) : a_run d MX2_lays 254 [a0, a1, a2, some (.int x)] st h = a_run d MX2_lays 255 [a0, a1, a2, some (.int x)] (.int x :: st) h := w_ldIn dX2_lays_254 rfl
theorem w_X2_lays_255 (d : Nat) (a1 a2 a3 : Option Value) (x : Nat) (st : List Value) (h : a_H) : a_run d MX2_lays 255 [some (.ref x), a1, a2, a3] st h = a_run d MX2_lays 256 [some (.ref x), a1, a2, a3] (.ref x :: st) h := w_ldAn dX2_lays_255 rfl
theorem w_X2_lays_256 (d : Nat) (L : a_L) (i : Nat) (st : List Value) (h : a_H) : a_run d MX2_lays 256 L (.ref i :: st) h = (a_gf h i 3 [1]).bind fun v => a_run d MX2_lays 259 L (v :: st) h := w_getf dX2_lays_256 rfl
theorem w_X2_lays_259 (d : Nat) (a1 a2 a3 : Option Value) (x : Nat) (st : List Value) (h : a_H) : a_run d MX2_lays 259 [some (.ref x), a1, a2, a3] st h = a_run d MX2_lays 260 [some (.ref x), a1, a2, a3] (.ref x :: st) h := w_ldAn dX2_lays_259 rfl
theorem w_X2_lays_260 (d : Nat) (L : a_L) (i : Nat) (st : List Value) (h : a_H) : a_run d MX2_lays 260 L (.ref i :: st) h = (a_gf h i 1 [1]).bind fun v => a_run d MX2_lays 263 L (v :: st) h := w_getf dX2_lays_260 rfl
theorem w_X2_lays_263 (d : Nat) (a0 a1 a3 : Option Value) (x : Int32) (st : List Value) (h : a_H) : a_run d MX2_lays 263 [a0, a1, some (.int x), a3] st h = a_run d MX2_lays 264 [a0, a1, some (.int x), a3] (.int x :: st) h := w_ldIn dX2_lays_263 rfl
theorem w_X2_lays_264 (d : Nat) (L : a_L) (x : Int32) (i : Nat) (st : List Value) (h : a_H) : a_run d MX2_lays 264 L (.int x :: .ref i :: st) h = (a_rdi h i a_int x).bind fun v => a_run d MX2_lays 265 L (v :: st) h := w_iald dX2_lays_264
theorem w_X2_lays_265 (d : Nat) (L : a_L) (x : Int32) (i : Nat) (st : List Value) (h : a_H) : a_run d MX2_lays 265 L (.int x :: .ref i :: st) h = (a_rdi h i a_int x).bind fun v => a_run d MX2_lays 266 L (v :: st) h := w_iald dX2_lays_265
theorem w_X2_lays_266 (d : Nat) (L : a_L) (x y : Int32) (st : List Value) (h : a_H) : a_run d MX2_lays 266 L (.int y :: .int x :: st) h = if x < y then a_run d MX2_lays 269 L st h else a_run d MX2_lays 284 L st h := w_icmp_ge dX2_lays_266 rfl
theorem w_X2_lays_269 (d : Nat) (a1 a2 a3 : Option Value) (x : Nat) (st : List Value) (h : a_H) : a_run d MX2_lays 269 [some (.ref x), a1, a2, a3] st h = a_run d MX2_lays 270 [some (.ref x), a1, a2, a3] (.ref x :: st) h := w_ldAn dX2_lays_269 rfl
theorem w_X2_lays_270 (d : Nat) (a0 a1 a2 : Option Value) (x : Int32) (st : List Value) (h : a_H) : a_run d MX2_lays 270 [a0, a1, a2, some (.int x)] st h = a_run d MX2_lays 271 [a0, a1, a2, some (.int x)] (.int x :: st) h := w_ldIn dX2_lays_270 rfl
theorem w_X2_lays_271 (d : Nat) (L : a_L) (st : List Value) (h : a_H) : a_run d MX2_lays 271 L st h = a_run d MX2_lays 273 L (.int (nI 100) :: st) h := w_bipush dX2_lays_271 rfl
theorem w_X2_lays_273 (d : Nat) (a0 a1 a3 : Option Value) (x : Int32) (st : List Value) (h : a_H) : a_run d MX2_lays 273 [a0, a1, some (.int x), a3] st h = a_run d MX2_lays 274 [a0, a1, some (.int x), a3] (.int x :: st) h := w_ldIn dX2_lays_273 rfl
theorem w_X2_lays_274 (d : Nat) (L : a_L) (x y : Int32) (st : List Value) (h : a_H) : a_run d MX2_lays 274 L (.int y :: .int x :: st) h = a_run d MX2_lays 275 L (.int (x + y) :: st) h := w_iadd dX2_lays_274
theorem w_X2_lays_275 (d : Nat) (L : a_L) (i : Nat) (v1 v2 : Value) (st : List Value) (h : a_H) (hk : a_kls h i = some 1) (hc : a_cat st ≤ 8) : a_run d MX2_lays 275 L (v2 :: v1 :: .ref i :: st) h = a_cont d MX2_lays (a_bk MX2_lays 275 L st (a_call d MX2_puts [.ref i, v1, v2] h)) := w_callV (as := [.ref i, v1, v2]) dX2_lays_275 rfl rfl rfl hc (a_rcv_of hk rfl)
theorem w_X2_lays_278 (d : Nat) (a0 a1 a2 : Option Value) (x : Int32) (st : List Value) (h : a_H) : a_run d MX2_lays 278 [a0, a1, a2, some (.int x)] st h = a_run d MX2_lays 281 [a0, a1, a2, some (.int (x + nI 1))] st h := w_incL dX2_lays_278 rfl rfl rfl
theorem w_X2_lays_281 (d : Nat) (L : a_L) (st : List Value) (h : a_H) : a_run d MX2_lays 281 L st h = a_run d MX2_lays 254 L st h := w_goto dX2_lays_281 rfl
theorem w_X2_lays_284 (d : Nat) (a0 a1 a3 : Option Value) (x : Int32) (st : List Value) (h : a_H) : a_run d MX2_lays 284 [a0, a1, some (.int x), a3] st h = a_run d MX2_lays 287 [a0, a1, some (.int (x + nI 1)), a3] st h := w_incL dX2_lays_284 rfl rfl rfl
theorem w_X2_lays_287 (d : Nat) (L : a_L) (st : List Value) (h : a_H) : a_run d MX2_lays 287 L st h = a_run d MX2_lays 232 L st h := w_goto dX2_lays_287 rfl
theorem w_X2_lays_290 (d : Nat) (L : a_L) (h : a_H) : a_run d MX2_lays 290 L [] h = some (.inl none, h) := w_vret dX2_lays_290 rfl
theorem e_X2_puts (d : Nat) (x0 : Nat) (x1 : Int32) (x2 : Int32) (h : a_H) : a_call (d + 1) MX2_puts [.ref x0, .int x1, .int x2] h = a_run d MX2_puts 0 [some (.ref x0), some (.int x1), some (.int x2)] [] h := a_call_run rfl (Nat.le_of_ble_eq_true rfl) rfl
theorem w_X2_puts_0 (d : Nat) (a1 a2 : Option Value) (x : Nat) (st : List Value) (h : a_H) : a_run d MX2_puts 0 [some (.ref x), a1, a2] st h = a_run d MX2_puts 1 [some (.ref x), a1, a2] (.ref x :: st) h := w_ldAn dX2_puts_0 rfl
theorem w_X2_puts_1 (d : Nat) (L : a_L) (i : Nat) (st : List Value) (h : a_H) : a_run d MX2_puts 1 L (.ref i :: st) h = (a_gf h i 4 [1]).bind fun v => a_run d MX2_puts 4 L (v :: st) h := w_getf dX2_puts_1 rfl
theorem w_X2_puts_4 (d : Nat) (a0 a2 : Option Value) (x : Int32) (st : List Value) (h : a_H) : a_run d MX2_puts 4 [a0, some (.int x), a2] st h = a_run d MX2_puts 5 [a0, some (.int x), a2] (.int x :: st) h := w_ldIn dX2_puts_4 rfl
theorem w_X2_puts_5 (d : Nat) (L : a_L) (st : List Value) (h : a_H) : a_run d MX2_puts 5 L st h = a_run d MX2_puts 7 L (.int (nI 46) :: st) h := w_bipush dX2_puts_5 rfl
theorem w_X2_puts_7 (d : Nat) (L : a_L) (x y : Int32) (st : List Value) (h : a_H) : a_run d MX2_puts 7 L (.int y :: .int x :: st) h = a_run d MX2_puts 8 L (.int (x * y) :: st) h := w_imul dX2_puts_7
theorem w_X2_puts_8 (d : Nat) (a1 a2 : Option Value) (x : Nat) (st : List Value) (h : a_H) : a_run d MX2_puts 8 [some (.ref x), a1, a2] st h = a_run d MX2_puts 9 [some (.ref x), a1, a2] (.ref x :: st) h := w_ldAn dX2_puts_8 rfl
theorem w_X2_puts_9 (d : Nat) (L : a_L) (i : Nat) (st : List Value) (h : a_H) : a_run d MX2_puts 9 L (.ref i :: st) h = (a_gf h i 5 [1]).bind fun v => a_run d MX2_puts 12 L (v :: st) h := w_getf dX2_puts_9 rfl
theorem w_X2_puts_12 (d : Nat) (a0 a2 : Option Value) (x : Int32) (st : List Value) (h : a_H) : a_run d MX2_puts 12 [a0, some (.int x), a2] st h = a_run d MX2_puts 13 [a0, some (.int x), a2] (.int x :: st) h := w_ldIn dX2_puts_12 rfl
theorem w_X2_puts_13 (d : Nat) (L : a_L) (x : Int32) (i : Nat) (st : List Value) (h : a_H) : a_run d MX2_puts 13 L (.int x :: .ref i :: st) h = (a_rdi h i a_int x).bind fun v => a_run d MX2_puts 14 L (v :: st) h := w_iald dX2_puts_13
theorem w_X2_puts_14 (d : Nat) (L : a_L) (x y : Int32) (st : List Value) (h : a_H) : a_run d MX2_puts 14 L (.int y :: .int x :: st) h = a_run d MX2_puts 15 L (.int (x + y) :: st) h := w_iadd dX2_puts_14
theorem w_X2_puts_15 (d : Nat) (a0 a1 : Option Value) (x : Int32) (st : List Value) (h : a_H) : a_run d MX2_puts 15 [a0, a1, some (.int x)] st h = a_run d MX2_puts 16 [a0, a1, some (.int x)] (.int x :: st) h := w_ldIn dX2_puts_15 rfl
theorem w_X2_puts_16 (d : Nat) (L : a_L) (x y : Int32) (i : Nat) (st : List Value) (h : a_H) : a_run d MX2_puts 16 L (.int y :: .int x :: .ref i :: st) h = (a_wri h i a_int x y).bind fun h' => a_run d MX2_puts 17 L st h' := w_iast dX2_puts_16
theorem w_X2_puts_17 (d : Nat) (a1 a2 : Option Value) (x : Nat) (st : List Value) (h : a_H) : a_run d MX2_puts 17 [some (.ref x), a1, a2] st h = a_run d MX2_puts 18 [some (.ref x), a1, a2] (.ref x :: st) h := w_ldAn dX2_puts_17 rfl
theorem w_X2_puts_18 (d : Nat) (L : a_L) (i : Nat) (st : List Value) (h : a_H) : a_run d MX2_puts 18 L (.ref i :: st) h = (a_gf h i 5 [1]).bind fun v => a_run d MX2_puts 21 L (v :: st) h := w_getf dX2_puts_18 rfl
theorem w_X2_puts_21 (d : Nat) (a0 a2 : Option Value) (x : Int32) (st : List Value) (h : a_H) : a_run d MX2_puts 21 [a0, some (.int x), a2] st h = a_run d MX2_puts 22 [a0, some (.int x), a2] (.int x :: st) h := w_ldIn dX2_puts_21 rfl
theorem w_X2_puts_22 (d : Nat) (L : a_L) (x : Int32) (y : Nat) (st : List Value) (h : a_H) : a_run d MX2_puts 22 L (.int x :: .ref y :: st) h = a_run d MX2_puts 23 L (.int x :: .ref y :: .int x :: .ref y :: st) h := w_dup2 dX2_puts_22
theorem w_X2_puts_23 (d : Nat) (L : a_L) (x : Int32) (i : Nat) (st : List Value) (h : a_H) : a_run d MX2_puts 23 L (.int x :: .ref i :: st) h = (a_rdi h i a_int x).bind fun v => a_run d MX2_puts 24 L (v :: st) h := w_iald dX2_puts_23
theorem w_X2_puts_24 (d : Nat) (L : a_L) (st : List Value) (h : a_H) : a_run d MX2_puts 24 L st h = a_run d MX2_puts 25 L (.int (nI 1) :: st) h := w_iconst dX2_puts_24 rfl
theorem w_X2_puts_25 (d : Nat) (L : a_L) (x y : Int32) (st : List Value) (h : a_H) : a_run d MX2_puts 25 L (.int y :: .int x :: st) h = a_run d MX2_puts 26 L (.int (x + y) :: st) h := w_iadd dX2_puts_25
theorem w_X2_puts_26 (d : Nat) (L : a_L) (x y : Int32) (i : Nat) (st : List Value) (h : a_H) : a_run d MX2_puts 26 L (.int y :: .int x :: .ref i :: st) h = (a_wri h i a_int x y).bind fun h' => a_run d MX2_puts 27 L st h' := w_iast dX2_puts_26
theorem w_X2_puts_27 (d : Nat) (L : a_L) (h : a_H) : a_run d MX2_puts 27 L [] h = some (.inl none, h) := w_vret dX2_puts_27 rfl
theorem e_X2_getsArrow (d : Nat) (x0 : Nat) (x1 : Int32) (x2 : Int32) (h : a_H) : a_call (d + 1) MX2_getsArrow [.ref x0, .int x1, .int x2] h = a_run d MX2_getsArrow 0 [some (.ref x0), some (.int x1), some (.int x2)] [] h := a_call_run rfl (Nat.le_of_ble_eq_true rfl) rfl
theorem w_X2_getsArrow_0 (d : Nat) (a1 a2 : Option Value) (x : Nat) (st : List Value) (h : a_H) : a_run d MX2_getsArrow 0 [some (.ref x), a1, a2] st h = a_run d MX2_getsArrow 1 [some (.ref x), a1, a2] (.ref x :: st) h := w_ldAn dX2_getsArrow_0 rfl
theorem w_X2_getsArrow_1 (d : Nat) (a0 a2 : Option Value) (x : Int32) (st : List Value) (h : a_H) : a_run d MX2_getsArrow 1 [a0, some (.int x), a2] st h = a_run d MX2_getsArrow 2 [a0, some (.int x), a2] (.int x :: st) h := w_ldIn dX2_getsArrow_1 rfl
theorem w_X2_getsArrow_2 (d : Nat) (L : a_L) (i : Nat) (v1 : Value) (st : List Value) (h : a_H) (hk : a_kls h i = some 1) (hc : a_cat st ≤ 8) : a_run d MX2_getsArrow 2 L (v1 :: .ref i :: st) h = a_cont d MX2_getsArrow (a_bk MX2_getsArrow 2 L st (a_call d MX2_needBox [.ref i, v1] h)) := w_callV (as := [.ref i, v1]) dX2_getsArrow_2 rfl rfl rfl hc (a_rcv_of hk rfl)
theorem w_X2_getsArrow_5 (d : Nat) (a1 a2 : Option Value) (x : Nat) (st : List Value) (h : a_H) : a_run d MX2_getsArrow 5 [some (.ref x), a1, a2] st h = a_run d MX2_getsArrow 6 [some (.ref x), a1, a2] (.ref x :: st) h := w_ldAn dX2_getsArrow_5 rfl
theorem w_X2_getsArrow_6 (d : Nat) (a0 a1 : Option Value) (x : Int32) (st : List Value) (h : a_H) : a_run d MX2_getsArrow 6 [a0, a1, some (.int x)] st h = a_run d MX2_getsArrow 7 [a0, a1, some (.int x)] (.int x :: st) h := w_ldIn dX2_getsArrow_6 rfl
theorem w_X2_getsArrow_7 (d : Nat) (L : a_L) (i : Nat) (v1 : Value) (st : List Value) (h : a_H) (hk : a_kls h i = some 1) (hc : a_cat st ≤ 8) : a_run d MX2_getsArrow 7 L (v1 :: .ref i :: st) h = a_cont d MX2_getsArrow (a_bk MX2_getsArrow 7 L st (a_call d MX2_needBox [.ref i, v1] h)) := w_callV (as := [.ref i, v1]) dX2_getsArrow_7 rfl rfl rfl hc (a_rcv_of hk rfl)
theorem w_X2_getsArrow_10 (d : Nat) (a0 a2 : Option Value) (x : Int32) (st : List Value) (h : a_H) : a_run d MX2_getsArrow 10 [a0, some (.int x), a2] st h = a_run d MX2_getsArrow 11 [a0, some (.int x), a2] (.int x :: st) h := w_ldIn dX2_getsArrow_10 rfl
theorem w_X2_getsArrow_11 (d : Nat) (a0 a1 : Option Value) (x : Int32) (st : List Value) (h : a_H) : a_run d MX2_getsArrow 11 [a0, a1, some (.int x)] st h = a_run d MX2_getsArrow 12 [a0, a1, some (.int x)] (.int x :: st) h := w_ldIn dX2_getsArrow_11 rfl
theorem w_X2_getsArrow_12 (d : Nat) (L : a_L) (x y : Int32) (st : List Value) (h : a_H) : a_run d MX2_getsArrow 12 L (.int y :: .int x :: st) h = if x = y then a_run d MX2_getsArrow 19 L st h else a_run d MX2_getsArrow 15 L st h := w_icmp_eq dX2_getsArrow_12 rfl
theorem w_X2_getsArrow_15 (d : Nat) (L : a_L) (st : List Value) (h : a_H) : a_run d MX2_getsArrow 15 L st h = a_run d MX2_getsArrow 16 L (.int (nI 1) :: st) h := w_iconst dX2_getsArrow_15 rfl
theorem w_X2_getsArrow_16 (d : Nat) (L : a_L) (st : List Value) (h : a_H) : a_run d MX2_getsArrow 16 L st h = a_run d MX2_getsArrow 20 L st h := w_goto dX2_getsArrow_16 rfl
theorem w_X2_getsArrow_19 (d : Nat) (L : a_L) (st : List Value) (h : a_H) : a_run d MX2_getsArrow 19 L st h = a_run d MX2_getsArrow 20 L (.int (nI 0) :: st) h := w_iconst dX2_getsArrow_19 rfl
theorem w_X2_getsArrow_20 (d : Nat) (L : a_L) (st : List Value) (h : a_H) : a_run d MX2_getsArrow 20 L st h = a_run d MX2_getsArrow 21 L (.int (nI 1) :: st) h := w_iconst dX2_getsArrow_20 rfl
theorem w_X2_getsArrow_21 (d : Nat) (L : a_L) (v0 v1 : Value) (st : List Value) (h : a_H) (hc : a_cat st ≤ 8) : a_run d MX2_getsArrow 21 L (v1 :: v0 :: st) h = a_cont d MX2_getsArrow (a_bk MX2_getsArrow 21 L st (a_call d MX1_needReason [v0, v1] h)) := w_callS (as := [v0, v1]) dX2_getsArrow_21 rfl rfl rfl hc
theorem w_X2_getsArrow_24 (d : Nat) (a1 a2 : Option Value) (x : Nat) (st : List Value) (h : a_H) : a_run d MX2_getsArrow 24 [some (.ref x), a1, a2] st h = a_run d MX2_getsArrow 25 [some (.ref x), a1, a2] (.ref x :: st) h := w_ldAn dX2_getsArrow_24 rfl
theorem w_X2_getsArrow_25 (d : Nat) (L : a_L) (i : Nat) (st : List Value) (h : a_H) : a_run d MX2_getsArrow 25 L (.ref i :: st) h = (a_gf h i 12 [1]).bind fun v => a_run d MX2_getsArrow 28 L (v :: st) h := w_getf dX2_getsArrow_25 rfl
theorem w_X2_getsArrow_28 (d : Nat) (L : a_L) (st : List Value) (h : a_H) : a_run d MX2_getsArrow 28 L st h = a_run d MX2_getsArrow 30 L (.int (nI 30) :: st) h := w_bipush dX2_getsArrow_28 rfl
theorem w_X2_getsArrow_30 (d : Nat) (L : a_L) (x y : Int32) (st : List Value) (h : a_H) : a_run d MX2_getsArrow 30 L (.int y :: .int x :: st) h = if x < y then a_run d MX2_getsArrow 33 L st h else a_run d MX2_getsArrow 37 L st h := w_icmp_ge dX2_getsArrow_30 rfl
theorem w_X2_getsArrow_33 (d : Nat) (L : a_L) (st : List Value) (h : a_H) : a_run d MX2_getsArrow 33 L st h = a_run d MX2_getsArrow 34 L (.int (nI 1) :: st) h := w_iconst dX2_getsArrow_33 rfl
theorem w_X2_getsArrow_34 (d : Nat) (L : a_L) (st : List Value) (h : a_H) : a_run d MX2_getsArrow 34 L st h = a_run d MX2_getsArrow 38 L st h := w_goto dX2_getsArrow_34 rfl
theorem w_X2_getsArrow_37 (d : Nat) (L : a_L) (st : List Value) (h : a_H) : a_run d MX2_getsArrow 37 L st h = a_run d MX2_getsArrow 38 L (.int (nI 0) :: st) h := w_iconst dX2_getsArrow_37 rfl
theorem w_X2_getsArrow_38 (d : Nat) (L : a_L) (st : List Value) (h : a_H) : a_run d MX2_getsArrow 38 L st h = a_run d MX2_getsArrow 39 L (.int (nI 2) :: st) h := w_iconst dX2_getsArrow_38 rfl
theorem w_X2_getsArrow_39 (d : Nat) (L : a_L) (v0 v1 : Value) (st : List Value) (h : a_H) (hc : a_cat st ≤ 8) : a_run d MX2_getsArrow 39 L (v1 :: v0 :: st) h = a_cont d MX2_getsArrow (a_bk MX2_getsArrow 39 L st (a_call d MX1_needReason [v0, v1] h)) := w_callS (as := [v0, v1]) dX2_getsArrow_39 rfl rfl rfl hc
theorem w_X2_getsArrow_42 (d : Nat) (a1 a2 : Option Value) (x : Nat) (st : List Value) (h : a_H) : a_run d MX2_getsArrow 42 [some (.ref x), a1, a2] st h = a_run d MX2_getsArrow 43 [some (.ref x), a1, a2] (.ref x :: st) h := w_ldAn dX2_getsArrow_42 rfl
theorem w_X2_getsArrow_43 (d : Nat) (a0 a2 : Option Value) (x : Int32) (st : List Value) (h : a_H) : a_run d MX2_getsArrow 43 [a0, some (.int x), a2] st h = a_run d MX2_getsArrow 44 [a0, some (.int x), a2] (.int x :: st) h := w_ldIn dX2_getsArrow_43 rfl
theorem w_X2_getsArrow_44 (d : Nat) (a0 a1 : Option Value) (x : Int32) (st : List Value) (h : a_H) : a_run d MX2_getsArrow 44 [a0, a1, some (.int x)] st h = a_run d MX2_getsArrow 45 [a0, a1, some (.int x)] (.int x :: st) h := w_ldIn dX2_getsArrow_44 rfl
theorem w_X2_getsArrow_45 (d : Nat) (L : a_L) (i : Nat) (v1 v2 : Value) (st : List Value) (h : a_H) (hk : a_kls h i = some 1) (hc : a_cat st ≤ 8) : a_run d MX2_getsArrow 45 L (v2 :: v1 :: .ref i :: st) h = a_cont d MX2_getsArrow (a_bk MX2_getsArrow 45 L st (a_call d MX2_isThere [.ref i, v1, v2] h)) := w_callV (as := [.ref i, v1, v2]) dX2_getsArrow_45 rfl rfl rfl hc (a_rcv_of hk rfl)
theorem w_X2_getsArrow_48 (d : Nat) (L : a_L) (x : Int32) (st : List Value) (h : a_H) : a_run d MX2_getsArrow 48 L (.int x :: st) h = if x = 0 then a_run d MX2_getsArrow 51 L st h else a_run d MX2_getsArrow 55 L st h := w_if_ne dX2_getsArrow_48 rfl
theorem w_X2_getsArrow_51 (d : Nat) (L : a_L) (st : List Value) (h : a_H) : a_run d MX2_getsArrow 51 L st h = a_run d MX2_getsArrow 52 L (.int (nI 1) :: st) h := w_iconst dX2_getsArrow_51 rfl
theorem w_X2_getsArrow_52 (d : Nat) (L : a_L) (st : List Value) (h : a_H) : a_run d MX2_getsArrow 52 L st h = a_run d MX2_getsArrow 56 L st h := w_goto dX2_getsArrow_52 rfl
theorem w_X2_getsArrow_55 (d : Nat) (L : a_L) (st : List Value) (h : a_H) : a_run d MX2_getsArrow 55 L st h = a_run d MX2_getsArrow 56 L (.int (nI 0) :: st) h := w_iconst dX2_getsArrow_55 rfl
theorem w_X2_getsArrow_56 (d : Nat) (L : a_L) (st : List Value) (h : a_H) : a_run d MX2_getsArrow 56 L st h = a_run d MX2_getsArrow 57 L (.int (nI 3) :: st) h := w_iconst dX2_getsArrow_56 rfl
theorem w_X2_getsArrow_57 (d : Nat) (L : a_L) (v0 v1 : Value) (st : List Value) (h : a_H) (hc : a_cat st ≤ 8) : a_run d MX2_getsArrow 57 L (v1 :: v0 :: st) h = a_cont d MX2_getsArrow (a_bk MX2_getsArrow 57 L st (a_call d MX1_needReason [v0, v1] h)) := w_callS (as := [v0, v1]) dX2_getsArrow_57 rfl rfl rfl hc
theorem w_X2_getsArrow_60 (d : Nat) (a1 a2 : Option Value) (x : Nat) (st : List Value) (h : a_H) : a_run d MX2_getsArrow 60 [some (.ref x), a1, a2] st h = a_run d MX2_getsArrow 61 [some (.ref x), a1, a2] (.ref x :: st) h := w_ldAn dX2_getsArrow_60 rfl
theorem w_X2_getsArrow_61 (d : Nat) (a0 a2 : Option Value) (x : Int32) (st : List Value) (h : a_H) : a_run d MX2_getsArrow 61 [a0, some (.int x), a2] st h = a_run d MX2_getsArrow 62 [a0, some (.int x), a2] (.int x :: st) h := w_ldIn dX2_getsArrow_61 rfl
theorem w_X2_getsArrow_62 (d : Nat) (a0 a1 : Option Value) (x : Int32) (st : List Value) (h : a_H) : a_run d MX2_getsArrow 62 [a0, a1, some (.int x)] st h = a_run d MX2_getsArrow 63 [a0, a1, some (.int x)] (.int x :: st) h := w_ldIn dX2_getsArrow_62 rfl
theorem w_X2_getsArrow_63 (d : Nat) (L : a_L) (st : List Value) (h : a_H) : a_run d MX2_getsArrow 63 L st h = a_run d MX2_getsArrow 64 L (.int ((-1)) :: st) h := w_iconst dX2_getsArrow_63 rfl
theorem w_X2_getsArrow_64 (d : Nat) (L : a_L) (i : Nat) (v1 v2 v3 : Value) (st : List Value) (h : a_H) (hk : a_kls h i = some 1) (hc : a_cat st ≤ 8) : a_run d MX2_getsArrow 64 L (v3 :: v2 :: v1 :: .ref i :: st) h = a_cont d MX2_getsArrow (a_bk MX2_getsArrow 64 L st (a_call d MX2_listens [.ref i, v1, v2, v3] h)) := w_callV (as := [.ref i, v1, v2, v3]) dX2_getsArrow_64 rfl rfl rfl hc (a_rcv_of hk rfl)
theorem w_X2_getsArrow_67 (d : Nat) (L : a_L) (x : Int32) (st : List Value) (h : a_H) : a_run d MX2_getsArrow 67 L (.int x :: st) h = if x = 0 then a_run d MX2_getsArrow 70 L st h else a_run d MX2_getsArrow 74 L st h := w_if_ne dX2_getsArrow_67 rfl
theorem w_X2_getsArrow_70 (d : Nat) (L : a_L) (st : List Value) (h : a_H) : a_run d MX2_getsArrow 70 L st h = a_run d MX2_getsArrow 71 L (.int (nI 1) :: st) h := w_iconst dX2_getsArrow_70 rfl
theorem w_X2_getsArrow_71 (d : Nat) (L : a_L) (st : List Value) (h : a_H) : a_run d MX2_getsArrow 71 L st h = a_run d MX2_getsArrow 75 L st h := w_goto dX2_getsArrow_71 rfl
theorem w_X2_getsArrow_74 (d : Nat) (L : a_L) (st : List Value) (h : a_H) : a_run d MX2_getsArrow 74 L st h = a_run d MX2_getsArrow 75 L (.int (nI 0) :: st) h := w_iconst dX2_getsArrow_74 rfl
theorem w_X2_getsArrow_75 (d : Nat) (L : a_L) (st : List Value) (h : a_H) : a_run d MX2_getsArrow 75 L st h = a_run d MX2_getsArrow 76 L (.int (nI 4) :: st) h := w_iconst dX2_getsArrow_75 rfl
theorem w_X2_getsArrow_76 (d : Nat) (L : a_L) (v0 v1 : Value) (st : List Value) (h : a_H) (hc : a_cat st ≤ 8) : a_run d MX2_getsArrow 76 L (v1 :: v0 :: st) h = a_cont d MX2_getsArrow (a_bk MX2_getsArrow 76 L st (a_call d MX1_needReason [v0, v1] h)) := w_callS (as := [v0, v1]) dX2_getsArrow_76 rfl rfl rfl hc
theorem w_X2_getsArrow_79 (d : Nat) (a1 a2 : Option Value) (x : Nat) (st : List Value) (h : a_H) : a_run d MX2_getsArrow 79 [some (.ref x), a1, a2] st h = a_run d MX2_getsArrow 80 [some (.ref x), a1, a2] (.ref x :: st) h := w_ldAn dX2_getsArrow_79 rfl
theorem w_X2_getsArrow_80 (d : Nat) (L : a_L) (i : Nat) (st : List Value) (h : a_H) : a_run d MX2_getsArrow 80 L (.ref i :: st) h = (a_gf h i 0 [1]).bind fun v => a_run d MX2_getsArrow 83 L (v :: st) h := w_getf dX2_getsArrow_80 rfl
theorem w_X2_getsArrow_83 (d : Nat) (a1 a2 : Option Value) (x : Nat) (st : List Value) (h : a_H) : a_run d MX2_getsArrow 83 [some (.ref x), a1, a2] st h = a_run d MX2_getsArrow 84 [some (.ref x), a1, a2] (.ref x :: st) h := w_ldAn dX2_getsArrow_83 rfl
theorem w_X2_getsArrow_84 (d : Nat) (L : a_L) (i : Nat) (st : List Value) (h : a_H) : a_run d MX2_getsArrow 84 L (.ref i :: st) h = (a_gf h i 12 [1]).bind fun v => a_run d MX2_getsArrow 87 L (v :: st) h := w_getf dX2_getsArrow_84 rfl
theorem w_X2_getsArrow_87 (d : Nat) (a0 a2 : Option Value) (x : Int32) (st : List Value) (h : a_H) : a_run d MX2_getsArrow 87 [a0, some (.int x), a2] st h = a_run d MX2_getsArrow 88 [a0, some (.int x), a2] (.int x :: st) h := w_ldIn dX2_getsArrow_87 rfl
theorem w_X2_getsArrow_88 (d : Nat) (L : a_L) (x y : Int32) (i : Nat) (st : List Value) (h : a_H) : a_run d MX2_getsArrow 88 L (.int y :: .int x :: .ref i :: st) h = (a_wri h i a_int x y).bind fun h' => a_run d MX2_getsArrow 89 L st h' := w_iast dX2_getsArrow_88
theorem w_X2_getsArrow_89 (d : Nat) (a1 a2 : Option Value) (x : Nat) (st : List Value) (h : a_H) : a_run d MX2_getsArrow 89 [some (.ref x), a1, a2] st h = a_run d MX2_getsArrow 90 [some (.ref x), a1, a2] (.ref x :: st) h := w_ldAn dX2_getsArrow_89 rfl
theorem w_X2_getsArrow_90 (d : Nat) (L : a_L) (i : Nat) (st : List Value) (h : a_H) : a_run d MX2_getsArrow 90 L (.ref i :: st) h = (a_gf h i 1 [1]).bind fun v => a_run d MX2_getsArrow 93 L (v :: st) h := w_getf dX2_getsArrow_90 rfl
theorem w_X2_getsArrow_93 (d : Nat) (a1 a2 : Option Value) (x : Nat) (st : List Value) (h : a_H) : a_run d MX2_getsArrow 93 [some (.ref x), a1, a2] st h = a_run d MX2_getsArrow 94 [some (.ref x), a1, a2] (.ref x :: st) h := w_ldAn dX2_getsArrow_93 rfl
theorem w_X2_getsArrow_94 (d : Nat) (L : a_L) (i : Nat) (st : List Value) (h : a_H) : a_run d MX2_getsArrow 94 L (.ref i :: st) h = (a_gf h i 12 [1]).bind fun v => a_run d MX2_getsArrow 97 L (v :: st) h := w_getf dX2_getsArrow_94 rfl
theorem w_X2_getsArrow_97 (d : Nat) (a0 a1 : Option Value) (x : Int32) (st : List Value) (h : a_H) : a_run d MX2_getsArrow 97 [a0, a1, some (.int x)] st h = a_run d MX2_getsArrow 98 [a0, a1, some (.int x)] (.int x :: st) h := w_ldIn dX2_getsArrow_97 rfl
theorem w_X2_getsArrow_98 (d : Nat) (L : a_L) (x y : Int32) (i : Nat) (st : List Value) (h : a_H) : a_run d MX2_getsArrow 98 L (.int y :: .int x :: .ref i :: st) h = (a_wri h i a_int x y).bind fun h' => a_run d MX2_getsArrow 99 L st h' := w_iast dX2_getsArrow_98
theorem w_X2_getsArrow_99 (d : Nat) (a1 a2 : Option Value) (x : Nat) (st : List Value) (h : a_H) : a_run d MX2_getsArrow 99 [some (.ref x), a1, a2] st h = a_run d MX2_getsArrow 100 [some (.ref x), a1, a2] (.ref x :: st) h := w_ldAn dX2_getsArrow_99 rfl
theorem w_X2_getsArrow_100 (d : Nat) (L : a_L) (x : Nat) (st : List Value) (h : a_H) : a_run d MX2_getsArrow 100 L (.ref x :: st) h = a_run d MX2_getsArrow 101 L (.ref x :: .ref x :: st) h := w_dup dX2_getsArrow_100
theorem w_X2_getsArrow_100I (d : Nat) (L : a_L) (x : Int32) (st : List Value) (h : a_H) : a_run d MX2_getsArrow 100 L (.int x :: st) h = a_run d MX2_getsArrow 101 L (.int x :: .int x :: st) h := w_dupI dX2_getsArrow_100
theorem w_X2_getsArrow_101 (d : Nat) (L : a_L) (i : Nat) (st : List Value) (h : a_H) : a_run d MX2_getsArrow 101 L (.ref i :: st) h = (a_gf h i 12 [1]).bind fun v => a_run d MX2_getsArrow 104 L (v :: st) h := w_getf dX2_getsArrow_101 rfl
theorem w_X2_getsArrow_104 (d : Nat) (L : a_L) (st : List Value) (h : a_H) : a_run d MX2_getsArrow 104 L st h = a_run d MX2_getsArrow 105 L (.int (nI 1) :: st) h := w_iconst dX2_getsArrow_104 rfl
theorem w_X2_getsArrow_105 (d : Nat) (L : a_L) (x y : Int32) (st : List Value) (h : a_H) : a_run d MX2_getsArrow 105 L (.int y :: .int x :: st) h = a_run d MX2_getsArrow 106 L (.int (x + y) :: st) h := w_iadd dX2_getsArrow_105
theorem w_X2_getsArrow_106 (d : Nat) (L : a_L) (x : Int32) (i : Nat) (st : List Value) (h : a_H) : a_run d MX2_getsArrow 106 L (.int x :: .ref i :: st) h = (a_pf h i 12 [1] (.int x)).bind fun h' => a_run d MX2_getsArrow 109 L st h' := w_putf dX2_getsArrow_106 rfl rfl (Or.inl rfl) rfl rfl
theorem w_X2_getsArrow_109 (d : Nat) (a1 a2 : Option Value) (x : Nat) (st : List Value) (h : a_H) : a_run d MX2_getsArrow 109 [some (.ref x), a1, a2] st h = a_run d MX2_getsArrow 110 [some (.ref x), a1, a2] (.ref x :: st) h := w_ldAn dX2_getsArrow_109 rfl
theorem w_X2_getsArrow_110 (d : Nat) (L : a_L) (x : Nat) (st : List Value) (h : a_H) : a_run d MX2_getsArrow 110 L (.ref x :: st) h = a_run d MX2_getsArrow 111 L (.ref x :: .ref x :: st) h := w_dup dX2_getsArrow_110
theorem w_X2_getsArrow_110I (d : Nat) (L : a_L) (x : Int32) (st : List Value) (h : a_H) : a_run d MX2_getsArrow 110 L (.int x :: st) h = a_run d MX2_getsArrow 111 L (.int x :: .int x :: st) h := w_dupI dX2_getsArrow_110
theorem w_X2_getsArrow_111 (d : Nat) (L : a_L) (i : Nat) (st : List Value) (h : a_H) : a_run d MX2_getsArrow 111 L (.ref i :: st) h = (a_gf h i 15 [1]).bind fun v => a_run d MX2_getsArrow 114 L (v :: st) h := w_getf dX2_getsArrow_111 rfl
theorem w_X2_getsArrow_114 (d : Nat) (L : a_L) (st : List Value) (h : a_H) : a_run d MX2_getsArrow 114 L st h = a_run d MX2_getsArrow 115 L (.int (nI 1) :: st) h := w_iconst dX2_getsArrow_114 rfl
theorem w_X2_getsArrow_115 (d : Nat) (L : a_L) (x y : Int32) (st : List Value) (h : a_H) : a_run d MX2_getsArrow 115 L (.int y :: .int x :: st) h = a_run d MX2_getsArrow 116 L (.int (x + y) :: st) h := w_iadd dX2_getsArrow_115
theorem w_X2_getsArrow_116 (d : Nat) (L : a_L) (x : Int32) (i : Nat) (st : List Value) (h : a_H) : a_run d MX2_getsArrow 116 L (.int x :: .ref i :: st) h = (a_pf h i 15 [1] (.int x)).bind fun h' => a_run d MX2_getsArrow 119 L st h' := w_putf dX2_getsArrow_116 rfl rfl (Or.inl rfl) rfl rfl
theorem w_X2_getsArrow_119 (d : Nat) (a1 a2 : Option Value) (x : Nat) (st : List Value) (h : a_H) : a_run d MX2_getsArrow 119 [some (.ref x), a1, a2] st h = a_run d MX2_getsArrow 120 [some (.ref x), a1, a2] (.ref x :: st) h := w_ldAn dX2_getsArrow_119 rfl
theorem w_X2_getsArrow_120 (d : Nat) (L : a_L) (i : Nat) (st : List Value) (h : a_H) (hk : a_kls h i = some 1) (hc : a_cat st ≤ 8) : a_run d MX2_getsArrow 120 L (.ref i :: st) h = a_cont d MX2_getsArrow (a_bk MX2_getsArrow 120 L st (a_call d MX2_lays [.ref i] h)) := w_callV (as := [.ref i]) dX2_getsArrow_120 rfl rfl rfl hc (a_rcv_of hk rfl)
theorem w_X2_getsArrow_123 (d : Nat) (a1 a2 : Option Value) (x : Nat) (st : List Value) (h : a_H) : a_run d MX2_getsArrow 123 [some (.ref x), a1, a2] st h = a_run d MX2_getsArrow 124 [some (.ref x), a1, a2] (.ref x :: st) h := w_ldAn dX2_getsArrow_123 rfl
theorem w_X2_getsArrow_124 (d : Nat) (L : a_L) (i : Nat) (st : List Value) (h : a_H) : a_run d MX2_getsArrow 124 L (.ref i :: st) h = (a_gf h i 12 [1]).bind fun v => a_run d MX2_getsArrow 127 L (v :: st) h := w_getf dX2_getsArrow_124 rfl
theorem w_X2_getsArrow_127 (d : Nat) (L : a_L) (st : List Value) (h : a_H) : a_run d MX2_getsArrow 127 L st h = a_run d MX2_getsArrow 128 L (.int (nI 1) :: st) h := w_iconst dX2_getsArrow_127 rfl
theorem w_X2_getsArrow_128 (d : Nat) (L : a_L) (x y : Int32) (st : List Value) (h : a_H) : a_run d MX2_getsArrow 128 L (.int y :: .int x :: st) h = a_run d MX2_getsArrow 129 L (.int (x - y) :: st) h := w_isub dX2_getsArrow_128
theorem w_X2_getsArrow_129 (d : Nat) (L : a_L) (x : Int32) (h : a_H) : a_run d MX2_getsArrow 129 L [.int x] h = some (.inl (some (.int x)), h) := w_iret dX2_getsArrow_129 (w_retI rfl)
theorem e_X2_needBox (d : Nat) (x0 : Nat) (x1 : Int32) (h : a_H) : a_call (d + 1) MX2_needBox [.ref x0, .int x1] h = a_run d MX2_needBox 0 [some (.ref x0), some (.int x1)] [] h := a_call_run rfl (Nat.le_of_ble_eq_true rfl) rfl
theorem w_X2_needBox_0 (d : Nat) (a1 : Option Value) (x : Nat) (st : List Value) (h : a_H) : a_run d MX2_needBox 0 [some (.ref x), a1] st h = a_run d MX2_needBox 1 [some (.ref x), a1] (.ref x :: st) h := w_ldAn dX2_needBox_0 rfl
theorem w_X2_needBox_1 (d : Nat) (a0 : Option Value) (x : Int32) (st : List Value) (h : a_H) : a_run d MX2_needBox 1 [a0, some (.int x)] st h = a_run d MX2_needBox 2 [a0, some (.int x)] (.int x :: st) h := w_ldIn dX2_needBox_1 rfl
theorem w_X2_needBox_2 (d : Nat) (L : a_L) (i : Nat) (v1 : Value) (st : List Value) (h : a_H) (hk : a_kls h i = some 1) (hc : a_cat st ≤ 8) : a_run d MX2_needBox 2 L (v1 :: .ref i :: st) h = a_cont d MX2_needBox (a_bk MX2_needBox 2 L st (a_call d MX2_isBox [.ref i, v1] h)) := w_callV (as := [.ref i, v1]) dX2_needBox_2 rfl rfl rfl hc (a_rcv_of hk rfl)
theorem w_X2_needBox_5 (d : Nat) (L : a_L) (st : List Value) (h : a_H) : a_run d MX2_needBox 5 L st h = a_run d MX2_needBox 6 L (.int (nI 1) :: st) h := w_iconst dX2_needBox_5 rfl
theorem w_X2_needBox_6 (d : Nat) (L : a_L) (v0 v1 : Value) (st : List Value) (h : a_H) (hc : a_cat st ≤ 8) : a_run d MX2_needBox 6 L (v1 :: v0 :: st) h = a_cont d MX2_needBox (a_bk MX2_needBox 6 L st (a_call d MX1_need [v0, v1] h)) := w_callS (as := [v0, v1]) dX2_needBox_6 rfl rfl rfl hc
theorem w_X2_needBox_9 (d : Nat) (L : a_L) (h : a_H) : a_run d MX2_needBox 9 L [] h = some (.inl none, h) := w_vret dX2_needBox_9 rfl
theorem e_X2_isBox (d : Nat) (x0 : Nat) (x1 : Int32) (h : a_H) : a_call (d + 1) MX2_isBox [.ref x0, .int x1] h = a_run d MX2_isBox 0 [some (.ref x0), some (.int x1)] [] h := a_call_run rfl (Nat.le_of_ble_eq_true rfl) rfl
theorem w_X2_isBox_0 (d : Nat) (a0 : Option Value) (x : Int32) (st : List Value) (h : a_H) : a_run d MX2_isBox 0 [a0, some (.int x)] st h = a_run d MX2_isBox 1 [a0, some (.int x)] (.int x :: st) h := w_ldIn dX2_isBox_0 rfl
theorem w_X2_isBox_1 (d : Nat) (L : a_L) (x : Int32) (st : List Value) (h : a_H) : a_run d MX2_isBox 1 L (.int x :: st) h = a_run d MX2_isBox 2 L (.long x.toInt64 :: st) h := w_i2l dX2_isBox_1
theorem w_X2_isBox_2 (d : Nat) (L : a_L) (st : List Value) (h : a_H) : a_run d MX2_isBox 2 L st h = a_run d MX2_isBox 3 L (.long (lN 0) :: st) h := (w_lconst dX2_isBox_2).trans rfl
theorem w_X2_isBox_3 (d : Nat) (a1 : Option Value) (x : Nat) (st : List Value) (h : a_H) : a_run d MX2_isBox 3 [some (.ref x), a1] st h = a_run d MX2_isBox 4 [some (.ref x), a1] (.ref x :: st) h := w_ldAn dX2_isBox_3 rfl
theorem w_X2_isBox_4 (d : Nat) (L : a_L) (i : Nat) (st : List Value) (h : a_H) : a_run d MX2_isBox 4 L (.ref i :: st) h = (a_gf h i 11 [1]).bind fun v => a_run d MX2_isBox 7 L (v :: st) h := w_getf dX2_isBox_4 rfl
theorem w_X2_isBox_7 (d : Nat) (L : a_L) (st : List Value) (h : a_H) : a_run d MX2_isBox 7 L st h = a_run d MX2_isBox 8 L (.int (nI 1) :: st) h := w_iconst dX2_isBox_7 rfl
theorem w_X2_isBox_8 (d : Nat) (L : a_L) (x y : Int32) (st : List Value) (h : a_H) : a_run d MX2_isBox 8 L (.int y :: .int x :: st) h = a_run d MX2_isBox 9 L (.int (x - y) :: st) h := w_isub dX2_isBox_8
theorem w_X2_isBox_9 (d : Nat) (L : a_L) (x : Int32) (st : List Value) (h : a_H) : a_run d MX2_isBox 9 L (.int x :: st) h = a_run d MX2_isBox 10 L (.long x.toInt64 :: st) h := w_i2l dX2_isBox_9
theorem w_X2_isBox_10 (d : Nat) (L : a_L) (v0 v1 v2 : Value) (st : List Value) (h : a_H) (hc : a_cat st ≤ 8) : a_run d MX2_isBox 10 L (v2 :: v1 :: v0 :: st) h = a_cont d MX2_isBox (a_bk MX2_isBox 10 L st (a_call d MX1_isBetween [v0, v1, v2] h)) := w_callS (as := [v0, v1, v2]) dX2_isBox_10 rfl rfl rfl hc
theorem w_X2_isBox_13 (d : Nat) (L : a_L) (x : Int32) (h : a_H) (hx : x = 0 ∨ x = 1) : a_run d MX2_isBox 13 L [.int x] h = some (.inl (some (.int x)), h) := w_iret dX2_isBox_13 (w_retZ rfl hx)
theorem e_X2_isThere (d : Nat) (x0 : Nat) (x1 : Int32) (x2 : Int32) (h : a_H) : a_call (d + 1) MX2_isThere [.ref x0, .int x1, .int x2] h = a_run d MX2_isThere 0 [some (.ref x0), some (.int x1), some (.int x2), none, none] [] h := a_call_run rfl (Nat.le_of_ble_eq_true rfl) rfl
theorem w_X2_isThere_0 (d : Nat) (L : a_L) (st : List Value) (h : a_H) : a_run d MX2_isThere 0 L st h = a_run d MX2_isThere 1 L (.int (nI 0) :: st) h := w_iconst dX2_isThere_0 rfl
theorem w_X2_isThere_1 (d : Nat) (a0 a1 a2 a3 a4 : Option Value) (x : Int32) (st : List Value) (h : a_H) : a_run d MX2_isThere 1 [a0, a1, a2, a3, a4] (.int x :: st) h = a_run d MX2_isThere 2 [a0, a1, a2, some (.int x), a4] st h := w_stIn dX2_isThere_1 (Nat.le_of_ble_eq_true rfl) rfl
theorem w_X2_isThere_2 (d : Nat) (L : a_L) (st : List Value) (h : a_H) : a_run d MX2_isThere 2 L st h = a_run d MX2_isThere 3 L (.int (nI 0) :: st) h := w_iconst dX2_isThere_2 rfl
theorem w_X2_isThere_3 (d : Nat) (a0 a1 a2 a3 a4 : Option Value) (x : Int32) (st : List Value) (h : a_H) : a_run d MX2_isThere 3 [a0, a1, a2, a3, a4] (.int x :: st) h = a_run d MX2_isThere 5 [a0, a1, a2, a3, some (.int x)] st h := w_stI dX2_isThere_3 (Nat.le_of_ble_eq_true rfl) rfl
theorem w_X2_isThere_5 (d : Nat) (a0 a1 a2 a3 : Option Value) (x : Int32) (st : List Value) (h : a_H) : a_run d MX2_isThere 5 [a0, a1, a2, a3, some (.int x)] st h = a_run d MX2_isThere 7 [a0, a1, a2, a3, some (.int x)] (.int x :: st) h := w_ldI dX2_isThere_5 rfl
theorem w_X2_isThere_7 (d : Nat) (a1 a2 a3 a4 : Option Value) (x : Nat) (st : List Value) (h : a_H) : a_run d MX2_isThere 7 [some (.ref x), a1, a2, a3, a4] st h = a_run d MX2_isThere 8 [some (.ref x), a1, a2, a3, a4] (.ref x :: st) h := w_ldAn dX2_isThere_7 rfl
theorem w_X2_isThere_8 (d : Nat) (L : a_L) (i : Nat) (st : List Value) (h : a_H) : a_run d MX2_isThere 8 L (.ref i :: st) h = (a_gf h i 12 [1]).bind fun v => a_run d MX2_isThere 11 L (v :: st) h := w_getf dX2_isThere_8 rfl
theorem w_X2_isThere_11 (d : Nat) (L : a_L) (x y : Int32) (st : List Value) (h : a_H) : a_run d MX2_isThere 11 L (.int y :: .int x :: st) h = if x < y then a_run d MX2_isThere 14 L st h else a_run d MX2_isThere 50 L st h := w_icmp_ge dX2_isThere_11 rfl
theorem w_X2_isThere_14 (d : Nat) (a0 a1 a2 a4 : Option Value) (x : Int32) (st : List Value) (h : a_H) : a_run d MX2_isThere 14 [a0, a1, a2, some (.int x), a4] st h = a_run d MX2_isThere 15 [a0, a1, a2, some (.int x), a4] (.int x :: st) h := w_ldIn dX2_isThere_14 rfl
theorem w_X2_isThere_15 (d : Nat) (a1 a2 a3 a4 : Option Value) (x : Nat) (st : List Value) (h : a_H) : a_run d MX2_isThere 15 [some (.ref x), a1, a2, a3, a4] st h = a_run d MX2_isThere 16 [some (.ref x), a1, a2, a3, a4] (.ref x :: st) h := w_ldAn dX2_isThere_15 rfl
theorem w_X2_isThere_16 (d : Nat) (L : a_L) (i : Nat) (st : List Value) (h : a_H) : a_run d MX2_isThere 16 L (.ref i :: st) h = (a_gf h i 0 [1]).bind fun v => a_run d MX2_isThere 19 L (v :: st) h := w_getf dX2_isThere_16 rfl
theorem w_X2_isThere_19 (d : Nat) (a0 a1 a2 a3 : Option Value) (x : Int32) (st : List Value) (h : a_H) : a_run d MX2_isThere 19 [a0, a1, a2, a3, some (.int x)] st h = a_run d MX2_isThere 21 [a0, a1, a2, a3, some (.int x)] (.int x :: st) h := w_ldI dX2_isThere_19 rfl
theorem w_X2_isThere_21 (d : Nat) (L : a_L) (x : Int32) (i : Nat) (st : List Value) (h : a_H) : a_run d MX2_isThere 21 L (.int x :: .ref i :: st) h = (a_rdi h i a_int x).bind fun v => a_run d MX2_isThere 22 L (v :: st) h := w_iald dX2_isThere_21
theorem w_X2_isThere_22 (d : Nat) (a0 a2 a3 a4 : Option Value) (x : Int32) (st : List Value) (h : a_H) : a_run d MX2_isThere 22 [a0, some (.int x), a2, a3, a4] st h = a_run d MX2_isThere 23 [a0, some (.int x), a2, a3, a4] (.int x :: st) h := w_ldIn dX2_isThere_22 rfl
theorem w_X2_isThere_23 (d : Nat) (L : a_L) (x y : Int32) (st : List Value) (h : a_H) : a_run d MX2_isThere 23 L (.int y :: .int x :: st) h = if x = y then a_run d MX2_isThere 26 L st h else a_run d MX2_isThere 41 L st h := w_icmp_ne dX2_isThere_23 rfl
theorem w_X2_isThere_26 (d : Nat) (a1 a2 a3 a4 : Option Value) (x : Nat) (st : List Value) (h : a_H) : a_run d MX2_isThere 26 [some (.ref x), a1, a2, a3, a4] st h = a_run d MX2_isThere 27 [some (.ref x), a1, a2, a3, a4] (.ref x :: st) h := w_ldAn dX2_isThere_26 rfl
theorem w_X2_isThere_27 (d : Nat) (L : a_L) (i : Nat) (st : List Value) (h : a_H) : a_run d MX2_isThere 27 L (.ref i :: st) h = (a_gf h i 1 [1]).bind fun v => a_run d MX2_isThere 30 L (v :: st) h := w_getf dX2_isThere_27 rfl
theorem w_X2_isThere_30 (d : Nat) (a0 a1 a2 a3 : Option Value) (x : Int32) (st : List Value) (h : a_H) : a_run d MX2_isThere 30 [a0, a1, a2, a3, some (.int x)] st h = a_run d MX2_isThere 32 [a0, a1, a2, a3, some (.int x)] (.int x :: st) h := w_ldI dX2_isThere_30 rfl
theorem w_X2_isThere_32 (d : Nat) (L : a_L) (x : Int32) (i : Nat) (st : List Value) (h : a_H) : a_run d MX2_isThere 32 L (.int x :: .ref i :: st) h = (a_rdi h i a_int x).bind fun v => a_run d MX2_isThere 33 L (v :: st) h := w_iald dX2_isThere_32
theorem w_X2_isThere_33 (d : Nat) (a0 a1 a3 a4 : Option Value) (x : Int32) (st : List Value) (h : a_H) : a_run d MX2_isThere 33 [a0, a1, some (.int x), a3, a4] st h = a_run d MX2_isThere 34 [a0, a1, some (.int x), a3, a4] (.int x :: st) h := w_ldIn dX2_isThere_33 rfl
theorem w_X2_isThere_34 (d : Nat) (L : a_L) (x y : Int32) (st : List Value) (h : a_H) : a_run d MX2_isThere 34 L (.int y :: .int x :: st) h = if x = y then a_run d MX2_isThere 37 L st h else a_run d MX2_isThere 41 L st h := w_icmp_ne dX2_isThere_34 rfl
theorem w_X2_isThere_37 (d : Nat) (L : a_L) (st : List Value) (h : a_H) : a_run d MX2_isThere 37 L st h = a_run d MX2_isThere 38 L (.int (nI 1) :: st) h := w_iconst dX2_isThere_37 rfl
theorem w_X2_isThere_38 (d : Nat) (L : a_L) (st : List Value) (h : a_H) : a_run d MX2_isThere 38 L st h = a_run d MX2_isThere 42 L st h := w_goto dX2_isThere_38 rfl
theorem w_X2_isThere_41 (d : Nat) (L : a_L) (st : List Value) (h : a_H) : a_run d MX2_isThere 41 L st h = a_run d MX2_isThere 42 L (.int (nI 0) :: st) h := w_iconst dX2_isThere_41 rfl
theorem w_X2_isThere_42 (d : Nat) (L : a_L) (x y : Int32) (st : List Value) (h : a_H) : a_run d MX2_isThere 42 L (.int y :: .int x :: st) h = a_run d MX2_isThere 43 L (.int (x ||| y) :: st) h := w_ior dX2_isThere_42
theorem w_X2_isThere_43 (d : Nat) (a0 a1 a2 a3 a4 : Option Value) (x : Int32) (st : List Value) (h : a_H) : a_run d MX2_isThere 43 [a0, a1, a2, a3, a4] (.int x :: st) h = a_run d MX2_isThere 44 [a0, a1, a2, some (.int x), a4] st h := w_stIn dX2_isThere_43 (Nat.le_of_ble_eq_true rfl) rfl
theorem w_X2_isThere_44 (d : Nat) (a0 a1 a2 a3 : Option Value) (x : Int32) (st : List Value) (h : a_H) : a_run d MX2_isThere 44 [a0, a1, a2, a3, some (.int x)] st h = a_run d MX2_isThere 47 [a0, a1, a2, a3, some (.int (x + nI 1))] st h := w_incL dX2_isThere_44 rfl rfl rfl
theorem w_X2_isThere_47 (d : Nat) (L : a_L) (st : List Value) (h : a_H) : a_run d MX2_isThere 47 L st h = a_run d MX2_isThere 5 L st h := w_goto dX2_isThere_47 rfl
theorem w_X2_isThere_50 (d : Nat) (a0 a1 a2 a4 : Option Value) (x : Int32) (st : List Value) (h : a_H) : a_run d MX2_isThere 50 [a0, a1, a2, some (.int x), a4] st h = a_run d MX2_isThere 51 [a0, a1, a2, some (.int x), a4] (.int x :: st) h := w_ldIn dX2_isThere_50 rfl
theorem w_X2_isThere_51 (d : Nat) (L : a_L) (x : Int32) (h : a_H) (hx : x = 0 ∨ x = 1) : a_run d MX2_isThere 51 L [.int x] h = some (.inl (some (.int x)), h) := w_iret dX2_isThere_51 (w_retZ rfl hx)
theorem e_X2_listens (d : Nat) (x0 : Nat) (x1 : Int32) (x2 : Int32) (x3 : Int32) (h : a_H) : a_call (d + 1) MX2_listens [.ref x0, .int x1, .int x2, .int x3] h = a_run d MX2_listens 0 [some (.ref x0), some (.int x1), some (.int x2), some (.int x3), none, none, none, none, none] [] h := a_call_run rfl (Nat.le_of_ble_eq_true rfl) rfl
theorem w_X2_listens_0 (d : Nat) (L : a_L) (st : List Value) (h : a_H) : a_run d MX2_listens 0 L st h = a_run d MX2_listens 3 L (.ref h.1 :: st) (a_add h (.inr (7, [.null, .int 0, .int 0])) 3) := w_new dX2_listens_0 rfl rfl
theorem w_X2_listens_3 (d : Nat) (L : a_L) (x : Nat) (st : List Value) (h : a_H) : a_run d MX2_listens 3 L (.ref x :: st) h = a_run d MX2_listens 4 L (.ref x :: .ref x :: st) h := w_dup dX2_listens_3
theorem w_X2_listens_3I (d : Nat) (L : a_L) (x : Int32) (st : List Value) (h : a_H) : a_run d MX2_listens 3 L (.int x :: st) h = a_run d MX2_listens 4 L (.int x :: .int x :: st) h := w_dupI dX2_listens_3
theorem w_X2_listens_4 (d : Nat) (L : a_L) (i : Nat) (st : List Value) (h : a_H) (hi : 1024 ≤ i) (hc : a_cat st ≤ 8) : a_run d MX2_listens 4 L (.ref i :: st) h = a_cont d MX2_listens (a_bk MX2_listens 4 L st (a_call d MJ1_init [.ref i] h)) := w_callI (as := [.ref i]) dX2_listens_4 rfl rfl rfl hc (a_new0_of hi)
theorem w_X2_listens_7 (d : Nat) (a0 a1 a2 a3 a4 a5 a6 a7 a8 : Option Value) (x : Nat) (st : List Value) (h : a_H) : a_run d MX2_listens 7 [a0, a1, a2, a3, a4, a5, a6, a7, a8] (.ref x :: st) h = a_run d MX2_listens 9 [a0, a1, a2, a3, some (.ref x), a5, a6, a7, a8] st h := w_stA dX2_listens_7 (Nat.le_of_ble_eq_true rfl) rfl
theorem w_X2_listens_7N (d : Nat) (a0 a1 a2 a3 a4 a5 a6 a7 a8 : Option Value) (st : List Value) (h : a_H) : a_run d MX2_listens 7 [a0, a1, a2, a3, a4, a5, a6, a7, a8] (.null :: st) h = a_run d MX2_listens 9 [a0, a1, a2, a3, some .null, a5, a6, a7, a8] st h := w_stN dX2_listens_7 (Nat.le_of_ble_eq_true rfl) rfl
theorem w_X2_listens_9 (d : Nat) (L : a_L) (st : List Value) (h : a_H) : a_run d MX2_listens 9 L st h = a_run d MX2_listens 11 L (.int (nI 16) :: st) h := w_bipush dX2_listens_9 rfl
theorem w_X2_listens_11 (d : Nat) (L : a_L) (x : Int32) (st : List Value) (h : a_H) : a_run d MX2_listens 11 L (.int x :: st) h = (a_newa h (newarray.typeOf .boolean) x).bind fun q => a_run d MX2_listens 13 L (.ref q.1 :: st) q.2 := w_newa dX2_listens_11
theorem w_X2_listens_13 (d : Nat) (a0 a1 a2 a3 a4 a5 a6 a7 a8 : Option Value) (x : Nat) (st : List Value) (h : a_H) : a_run d MX2_listens 13 [a0, a1, a2, a3, a4, a5, a6, a7, a8] (.ref x :: st) h = a_run d MX2_listens 15 [a0, a1, a2, a3, a4, some (.ref x), a6, a7, a8] st h := w_stA dX2_listens_13 (Nat.le_of_ble_eq_true rfl) rfl
theorem w_X2_listens_13N (d : Nat) (a0 a1 a2 a3 a4 a5 a6 a7 a8 : Option Value) (st : List Value) (h : a_H) : a_run d MX2_listens 13 [a0, a1, a2, a3, a4, a5, a6, a7, a8] (.null :: st) h = a_run d MX2_listens 15 [a0, a1, a2, a3, a4, some .null, a6, a7, a8] st h := w_stN dX2_listens_13 (Nat.le_of_ble_eq_true rfl) rfl
theorem w_X2_listens_15 (d : Nat) (a0 a1 a2 a3 a5 a6 a7 a8 : Option Value) (x : Nat) (st : List Value) (h : a_H) : a_run d MX2_listens 15 [a0, a1, a2, a3, some (.ref x), a5, a6, a7, a8] st h = a_run d MX2_listens 17 [a0, a1, a2, a3, some (.ref x), a5, a6, a7, a8] (.ref x :: st) h := w_ldA dX2_listens_15 rfl
theorem w_X2_listens_15N (d : Nat) (a0 a1 a2 a3 a5 a6 a7 a8 : Option Value) (st : List Value) (h : a_H) : a_run d MX2_listens 15 [a0, a1, a2, a3, some .null, a5, a6, a7, a8] st h = a_run d MX2_listens 17 [a0, a1, a2, a3, some .null, a5, a6, a7, a8] (.null :: st) h := w_ldN dX2_listens_15 rfl
theorem w_X2_listens_17 (d : Nat) (a0 a2 a3 a4 a5 a6 a7 a8 : Option Value) (x : Int32) (st : List Value) (h : a_H) : a_run d MX2_listens 17 [a0, some (.int x), a2, a3, a4, a5, a6, a7, a8] st h = a_run d MX2_listens 18 [a0, some (.int x), a2, a3, a4, a5, a6, a7, a8] (.int x :: st) h := w_ldIn dX2_listens_17 rfl
theorem w_X2_listens_18 (d : Nat) (L : a_L) (v0 : Value) (st : List Value) (h : a_H) (hc : a_cat st ≤ 8) : a_run d MX2_listens 18 L (v0 :: st) h = a_cont d MX2_listens (a_bk MX2_listens 18 L st (a_call d MJ10_valueOf [v0] h)) := w_callS (as := [v0]) dX2_listens_18 rfl rfl rfl hc
theorem w_X2_listens_21 (d : Nat) (L : a_L) (i : Nat) (v1 : Value) (st : List Value) (h : a_H) (hk : a_kls h i = some 7) (hc : a_cat st ≤ 8) : a_run d MX2_listens 21 L (v1 :: .ref i :: st) h = a_cont d MX2_listens (a_bk MX2_listens 21 L st (a_call d MJ1_addLast [.ref i, v1] h)) := w_callV (as := [.ref i, v1]) dX2_listens_21 rfl rfl rfl hc (a_rcv_of hk rfl)
theorem w_X2_listens_24 (d : Nat) (a0 a1 a2 a3 a5 a6 a7 a8 : Option Value) (x : Nat) (st : List Value) (h : a_H) : a_run d MX2_listens 24 [a0, a1, a2, a3, some (.ref x), a5, a6, a7, a8] st h = a_run d MX2_listens 26 [a0, a1, a2, a3, some (.ref x), a5, a6, a7, a8] (.ref x :: st) h := w_ldA dX2_listens_24 rfl
theorem w_X2_listens_24N (d : Nat) (a0 a1 a2 a3 a5 a6 a7 a8 : Option Value) (st : List Value) (h : a_H) : a_run d MX2_listens 24 [a0, a1, a2, a3, some .null, a5, a6, a7, a8] st h = a_run d MX2_listens 26 [a0, a1, a2, a3, some .null, a5, a6, a7, a8] (.null :: st) h := w_ldN dX2_listens_24 rfl
theorem w_X2_listens_26 (d : Nat) (L : a_L) (i : Nat) (st : List Value) (h : a_H) (hk : a_kls h i = some 7) (hc : a_cat st ≤ 8) : a_run d MX2_listens 26 L (.ref i :: st) h = a_cont d MX2_listens (a_bk MX2_listens 26 L st (a_call d MJ1_isEmpty [.ref i] h)) := w_callV (as := [.ref i]) dX2_listens_26 rfl rfl rfl hc (a_rcv_of hk rfl)
theorem w_X2_listens_29 (d : Nat) (L : a_L) (x : Int32) (st : List Value) (h : a_H) : a_run d MX2_listens 29 L (.int x :: st) h = if x = 0 then a_run d MX2_listens 32 L st h else a_run d MX2_listens 135 L st h := w_if_ne dX2_listens_29 rfl
theorem w_X2_listens_32 (d : Nat) (a0 a1 a2 a3 a5 a6 a7 a8 : Option Value) (x : Nat) (st : List Value) (h : a_H) : a_run d MX2_listens 32 [a0, a1, a2, a3, some (.ref x), a5, a6, a7, a8] st h = a_run d MX2_listens 34 [a0, a1, a2, a3, some (.ref x), a5, a6, a7, a8] (.ref x :: st) h := w_ldA dX2_listens_32 rfl
theorem w_X2_listens_32N (d : Nat) (a0 a1 a2 a3 a5 a6 a7 a8 : Option Value) (st : List Value) (h : a_H) : a_run d MX2_listens 32 [a0, a1, a2, a3, some .null, a5, a6, a7, a8] st h = a_run d MX2_listens 34 [a0, a1, a2, a3, some .null, a5, a6, a7, a8] (.null :: st) h := w_ldN dX2_listens_32 rfl
theorem w_X2_listens_34 (d : Nat) (L : a_L) (i : Nat) (st : List Value) (h : a_H) (hk : a_kls h i = some 7) (hc : a_cat st ≤ 8) : a_run d MX2_listens 34 L (.ref i :: st) h = a_cont d MX2_listens (a_bk MX2_listens 34 L st (a_call d MJ1_removeFirst [.ref i] h)) := w_callV (as := [.ref i]) dX2_listens_34 rfl rfl rfl hc (a_rcv_of hk rfl)
theorem w_X2_listens_37 (d : Nat) (L : a_L) (i c : Nat) (st : List Value) (h : a_H) (hk : a_kls h i = some c) (hc : k_cast c 21 = some true) : a_run d MX2_listens 37 L (.ref i :: st) h = a_run d MX2_listens 40 L (.ref i :: st) h := w_cast dX2_listens_37 rfl hk hc
theorem w_X2_listens_37N (d : Nat) (L : a_L) (st : List Value) (h : a_H) : a_run d MX2_listens 37 L (.null :: st) h = a_run d MX2_listens 40 L (.null :: st) h := w_castN dX2_listens_37 rfl
theorem w_X2_listens_40 (d : Nat) (L : a_L) (i : Nat) (st : List Value) (h : a_H) (hk : a_kls h i = some 21) (hc : a_cat st ≤ 8) : a_run d MX2_listens 40 L (.ref i :: st) h = a_cont d MX2_listens (a_bk MX2_listens 40 L st (a_call d MJ10_intValue [.ref i] h)) := w_callV (as := [.ref i]) dX2_listens_40 rfl rfl rfl hc (a_rcv_of hk rfl)
theorem w_X2_listens_43 (d : Nat) (a0 a1 a2 a3 a4 a5 a6 a7 a8 : Option Value) (x : Int32) (st : List Value) (h : a_H) : a_run d MX2_listens 43 [a0, a1, a2, a3, a4, a5, a6, a7, a8] (.int x :: st) h = a_run d MX2_listens 45 [a0, a1, a2, a3, a4, a5, some (.int x), a7, a8] st h := w_stI dX2_listens_43 (Nat.le_of_ble_eq_true rfl) rfl
theorem w_X2_listens_45 (d : Nat) (L : a_L) (st : List Value) (h : a_H) : a_run d MX2_listens 45 L st h = a_run d MX2_listens 46 L (.int (nI 0) :: st) h := w_iconst dX2_listens_45 rfl
theorem w_X2_listens_46 (d : Nat) (a0 a1 a2 a3 a4 a5 a6 a7 a8 : Option Value) (x : Int32) (st : List Value) (h : a_H) : a_run d MX2_listens 46 [a0, a1, a2, a3, a4, a5, a6, a7, a8] (.int x :: st) h = a_run d MX2_listens 48 [a0, a1, a2, a3, a4, a5, a6, some (.int x), a8] st h := w_stI dX2_listens_46 (Nat.le_of_ble_eq_true rfl) rfl
theorem w_X2_listens_48 (d : Nat) (a0 a1 a2 a3 a4 a5 a6 a8 : Option Value) (x : Int32) (st : List Value) (h : a_H) : a_run d MX2_listens 48 [a0, a1, a2, a3, a4, a5, a6, some (.int x), a8] st h = a_run d MX2_listens 50 [a0, a1, a2, a3, a4, a5, a6, some (.int x), a8] (.int x :: st) h := w_ldI dX2_listens_48 rfl
theorem w_X2_listens_50 (d : Nat) (a1 a2 a3 a4 a5 a6 a7 a8 : Option Value) (x : Nat) (st : List Value) (h : a_H) : a_run d MX2_listens 50 [some (.ref x), a1, a2, a3, a4, a5, a6, a7, a8] st h = a_run d MX2_listens 51 [some (.ref x), a1, a2, a3, a4, a5, a6, a7, a8] (.ref x :: st) h := w_ldAn dX2_listens_50 rfl
theorem w_X2_listens_51 (d : Nat) (L : a_L) (i : Nat) (st : List Value) (h : a_H) : a_run d MX2_listens 51 L (.ref i :: st) h = (a_gf h i 12 [1]).bind fun v => a_run d MX2_listens 54 L (v :: st) h := w_getf dX2_listens_51 rfl
theorem w_X2_listens_54 (d : Nat) (L : a_L) (x y : Int32) (st : List Value) (h : a_H) : a_run d MX2_listens 54 L (.int y :: .int x :: st) h = if x < y then a_run d MX2_listens 57 L st h else a_run d MX2_listens 132 L st h := w_icmp_ge dX2_listens_54 rfl
theorem w_X2_listens_57 (d : Nat) (a0 a1 a2 a3 a4 a5 a6 a8 : Option Value) (x : Int32) (st : List Value) (h : a_H) : a_run d MX2_listens 57 [a0, a1, a2, a3, a4, a5, a6, some (.int x), a8] st h = a_run d MX2_listens 59 [a0, a1, a2, a3, a4, a5, a6, some (.int x), a8] (.int x :: st) h := w_ldI dX2_listens_57 rfl
theorem w_X2_listens_59 (d : Nat) (a0 a1 a2 a4 a5 a6 a7 a8 : Option Value) (x : Int32) (st : List Value) (h : a_H) : a_run d MX2_listens 59 [a0, a1, a2, some (.int x), a4, a5, a6, a7, a8] st h = a_run d MX2_listens 60 [a0, a1, a2, some (.int x), a4, a5, a6, a7, a8] (.int x :: st) h := w_ldIn dX2_listens_59 rfl
theorem w_X2_listens_60 (d : Nat) (L : a_L) (x y : Int32) (st : List Value) (h : a_H) : a_run d MX2_listens 60 L (.int y :: .int x :: st) h = if x = y then a_run d MX2_listens 92 L st h else a_run d MX2_listens 63 L st h := w_icmp_eq dX2_listens_60 rfl
theorem w_X2_listens_63 (d : Nat) (a1 a2 a3 a4 a5 a6 a7 a8 : Option Value) (x : Nat) (st : List Value) (h : a_H) : a_run d MX2_listens 63 [some (.ref x), a1, a2, a3, a4, a5, a6, a7, a8] st h = a_run d MX2_listens 64 [some (.ref x), a1, a2, a3, a4, a5, a6, a7, a8] (.ref x :: st) h := w_ldAn dX2_listens_63 rfl
theorem w_X2_listens_64 (d : Nat) (L : a_L) (i : Nat) (st : List Value) (h : a_H) : a_run d MX2_listens 64 L (.ref i :: st) h = (a_gf h i 1 [1]).bind fun v => a_run d MX2_listens 67 L (v :: st) h := w_getf dX2_listens_64 rfl
theorem w_X2_listens_67 (d : Nat) (a0 a1 a2 a3 a4 a5 a6 a8 : Option Value) (x : Int32) (st : List Value) (h : a_H) : a_run d MX2_listens 67 [a0, a1, a2, a3, a4, a5, a6, some (.int x), a8] st h = a_run d MX2_listens 69 [a0, a1, a2, a3, a4, a5, a6, some (.int x), a8] (.int x :: st) h := w_ldI dX2_listens_67 rfl
theorem w_X2_listens_69 (d : Nat) (L : a_L) (x : Int32) (i : Nat) (st : List Value) (h : a_H) : a_run d MX2_listens 69 L (.int x :: .ref i :: st) h = (a_rdi h i a_int x).bind fun v => a_run d MX2_listens 70 L (v :: st) h := w_iald dX2_listens_69
theorem w_X2_listens_70 (d : Nat) (a0 a1 a2 a3 a4 a5 a7 a8 : Option Value) (x : Int32) (st : List Value) (h : a_H) : a_run d MX2_listens 70 [a0, a1, a2, a3, a4, a5, some (.int x), a7, a8] st h = a_run d MX2_listens 72 [a0, a1, a2, a3, a4, a5, some (.int x), a7, a8] (.int x :: st) h := w_ldI dX2_listens_70 rfl
theorem w_X2_listens_72 (d : Nat) (L : a_L) (x y : Int32) (st : List Value) (h : a_H) : a_run d MX2_listens 72 L (.int y :: .int x :: st) h = if x = y then a_run d MX2_listens 75 L st h else a_run d MX2_listens 92 L st h := w_icmp_ne dX2_listens_72 rfl
theorem w_X2_listens_75 (d : Nat) (a0 a1 a2 a3 a4 a6 a7 a8 : Option Value) (x : Nat) (st : List Value) (h : a_H) : a_run d MX2_listens 75 [a0, a1, a2, a3, a4, some (.ref x), a6, a7, a8] st h = a_run d MX2_listens 77 [a0, a1, a2, a3, a4, some (.ref x), a6, a7, a8] (.ref x :: st) h := w_ldA dX2_listens_75 rfl
theorem w_X2_listens_75N (d : Nat) (a0 a1 a2 a3 a4 a6 a7 a8 : Option Value) (st : List Value) (h : a_H) : a_run d MX2_listens 75 [a0, a1, a2, a3, a4, some .null, a6, a7, a8] st h = a_run d MX2_listens 77 [a0, a1, a2, a3, a4, some .null, a6, a7, a8] (.null :: st) h := w_ldN dX2_listens_75 rfl
theorem w_X2_listens_77 (d : Nat) (a1 a2 a3 a4 a5 a6 a7 a8 : Option Value) (x : Nat) (st : List Value) (h : a_H) : a_run d MX2_listens 77 [some (.ref x), a1, a2, a3, a4, a5, a6, a7, a8] st h = a_run d MX2_listens 78 [some (.ref x), a1, a2, a3, a4, a5, a6, a7, a8] (.ref x :: st) h := w_ldAn dX2_listens_77 rfl
theorem w_X2_listens_78 (d : Nat) (L : a_L) (i : Nat) (st : List Value) (h : a_H) : a_run d MX2_listens 78 L (.ref i :: st) h = (a_gf h i 0 [1]).bind fun v => a_run d MX2_listens 81 L (v :: st) h := w_getf dX2_listens_78 rfl
theorem w_X2_listens_81 (d : Nat) (a0 a1 a2 a3 a4 a5 a6 a8 : Option Value) (x : Int32) (st : List Value) (h : a_H) : a_run d MX2_listens 81 [a0, a1, a2, a3, a4, a5, a6, some (.int x), a8] st h = a_run d MX2_listens 83 [a0, a1, a2, a3, a4, a5, a6, some (.int x), a8] (.int x :: st) h := w_ldI dX2_listens_81 rfl
theorem w_X2_listens_83 (d : Nat) (L : a_L) (x : Int32) (i : Nat) (st : List Value) (h : a_H) : a_run d MX2_listens 83 L (.int x :: .ref i :: st) h = (a_rdi h i a_int x).bind fun v => a_run d MX2_listens 84 L (v :: st) h := w_iald dX2_listens_83
theorem w_X2_listens_84 (d : Nat) (L : a_L) (x : Int32) (i : Nat) (st : List Value) (h : a_H) : a_run d MX2_listens 84 L (.int x :: .ref i :: st) h = (a_rdi h i a_bz x).bind fun v => a_run d MX2_listens 85 L (v :: st) h := w_bald dX2_listens_84
theorem w_X2_listens_85 (d : Nat) (L : a_L) (x : Int32) (st : List Value) (h : a_H) : a_run d MX2_listens 85 L (.int x :: st) h = if x = 0 then a_run d MX2_listens 88 L st h else a_run d MX2_listens 92 L st h := w_if_ne dX2_listens_85 rfl
theorem w_X2_listens_88 (d : Nat) (L : a_L) (st : List Value) (h : a_H) : a_run d MX2_listens 88 L st h = a_run d MX2_listens 89 L (.int (nI 1) :: st) h := w_iconst dX2_listens_88 rfl
theorem w_X2_listens_89 (d : Nat) (L : a_L) (st : List Value) (h : a_H) : a_run d MX2_listens 89 L st h = a_run d MX2_listens 93 L st h := w_goto dX2_listens_89 rfl
theorem w_X2_listens_92 (d : Nat) (L : a_L) (st : List Value) (h : a_H) : a_run d MX2_listens 92 L st h = a_run d MX2_listens 93 L (.int (nI 0) :: st) h := w_iconst dX2_listens_92 rfl
theorem w_X2_listens_93 (d : Nat) (a0 a1 a2 a3 a4 a5 a6 a7 a8 : Option Value) (x : Int32) (st : List Value) (h : a_H) : a_run d MX2_listens 93 [a0, a1, a2, a3, a4, a5, a6, a7, a8] (.int x :: st) h = a_run d MX2_listens 95 [a0, a1, a2, a3, a4, a5, a6, a7, some (.int x)] st h := w_stI dX2_listens_93 (Nat.le_of_ble_eq_true rfl) rfl
theorem w_X2_listens_95 (d : Nat) (a0 a1 a2 a3 a4 a5 a6 a7 : Option Value) (x : Int32) (st : List Value) (h : a_H) : a_run d MX2_listens 95 [a0, a1, a2, a3, a4, a5, a6, a7, some (.int x)] st h = a_run d MX2_listens 97 [a0, a1, a2, a3, a4, a5, a6, a7, some (.int x)] (.int x :: st) h := w_ldI dX2_listens_95 rfl
theorem w_X2_listens_97 (d : Nat) (L : a_L) (x : Int32) (st : List Value) (h : a_H) : a_run d MX2_listens 97 L (.int x :: st) h = if x = 0 then a_run d MX2_listens 126 L st h else a_run d MX2_listens 100 L st h := w_if_eq dX2_listens_97 rfl
theorem w_X2_listens_100 (d : Nat) (a0 a1 a2 a3 a4 a6 a7 a8 : Option Value) (x : Nat) (st : List Value) (h : a_H) : a_run d MX2_listens 100 [a0, a1, a2, a3, a4, some (.ref x), a6, a7, a8] st h = a_run d MX2_listens 102 [a0, a1, a2, a3, a4, some (.ref x), a6, a7, a8] (.ref x :: st) h := w_ldA dX2_listens_100 rfl
theorem w_X2_listens_100N (d : Nat) (a0 a1 a2 a3 a4 a6 a7 a8 : Option Value) (st : List Value) (h : a_H) : a_run d MX2_listens 100 [a0, a1, a2, a3, a4, some .null, a6, a7, a8] st h = a_run d MX2_listens 102 [a0, a1, a2, a3, a4, some .null, a6, a7, a8] (.null :: st) h := w_ldN dX2_listens_100 rfl
theorem w_X2_listens_102 (d : Nat) (a1 a2 a3 a4 a5 a6 a7 a8 : Option Value) (x : Nat) (st : List Value) (h : a_H) : a_run d MX2_listens 102 [some (.ref x), a1, a2, a3, a4, a5, a6, a7, a8] st h = a_run d MX2_listens 103 [some (.ref x), a1, a2, a3, a4, a5, a6, a7, a8] (.ref x :: st) h := w_ldAn dX2_listens_102 rfl
theorem w_X2_listens_103 (d : Nat) (L : a_L) (i : Nat) (st : List Value) (h : a_H) : a_run d MX2_listens 103 L (.ref i :: st) h = (a_gf h i 0 [1]).bind fun v => a_run d MX2_listens 106 L (v :: st) h := w_getf dX2_listens_103 rfl
theorem w_X2_listens_106 (d : Nat) (a0 a1 a2 a3 a4 a5 a6 a8 : Option Value) (x : Int32) (st : List Value) (h : a_H) : a_run d MX2_listens 106 [a0, a1, a2, a3, a4, a5, a6, some (.int x), a8] st h = a_run d MX2_listens 108 [a0, a1, a2, a3, a4, a5, a6, some (.int x), a8] (.int x :: st) h := w_ldI dX2_listens_106 rfl
theorem w_X2_listens_108 (d : Nat) (L : a_L) (x : Int32) (i : Nat) (st : List Value) (h : a_H) : a_run d MX2_listens 108 L (.int x :: .ref i :: st) h = (a_rdi h i a_int x).bind fun v => a_run d MX2_listens 109 L (v :: st) h := w_iald dX2_listens_108
theorem w_X2_listens_109 (d : Nat) (L : a_L) (st : List Value) (h : a_H) : a_run d MX2_listens 109 L st h = a_run d MX2_listens 110 L (.int (nI 1) :: st) h := w_iconst dX2_listens_109 rfl
theorem w_X2_listens_110 (d : Nat) (L : a_L) (x y : Int32) (i : Nat) (st : List Value) (h : a_H) : a_run d MX2_listens 110 L (.int y :: .int x :: .ref i :: st) h = (a_wri h i a_bz x y).bind fun h' => a_run d MX2_listens 111 L st h' := w_bast dX2_listens_110
theorem w_X2_listens_111 (d : Nat) (a0 a1 a2 a3 a5 a6 a7 a8 : Option Value) (x : Nat) (st : List Value) (h : a_H) : a_run d MX2_listens 111 [a0, a1, a2, a3, some (.ref x), a5, a6, a7, a8] st h = a_run d MX2_listens 113 [a0, a1, a2, a3, some (.ref x), a5, a6, a7, a8] (.ref x :: st) h := w_ldA dX2_listens_111 rfl
theorem w_X2_listens_111N (d : Nat) (a0 a1 a2 a3 a5 a6 a7 a8 : Option Value) (st : List Value) (h : a_H) : a_run d MX2_listens 111 [a0, a1, a2, a3, some .null, a5, a6, a7, a8] st h = a_run d MX2_listens 113 [a0, a1, a2, a3, some .null, a5, a6, a7, a8] (.null :: st) h := w_ldN dX2_listens_111 rfl
theorem w_X2_listens_113 (d : Nat) (a1 a2 a3 a4 a5 a6 a7 a8 : Option Value) (x : Nat) (st : List Value) (h : a_H) : a_run d MX2_listens 113 [some (.ref x), a1, a2, a3, a4, a5, a6, a7, a8] st h = a_run d MX2_listens 114 [some (.ref x), a1, a2, a3, a4, a5, a6, a7, a8] (.ref x :: st) h := w_ldAn dX2_listens_113 rfl
theorem w_X2_listens_114 (d : Nat) (L : a_L) (i : Nat) (st : List Value) (h : a_H) : a_run d MX2_listens 114 L (.ref i :: st) h = (a_gf h i 0 [1]).bind fun v => a_run d MX2_listens 117 L (v :: st) h := w_getf dX2_listens_114 rfl
theorem w_X2_listens_117 (d : Nat) (a0 a1 a2 a3 a4 a5 a6 a8 : Option Value) (x : Int32) (st : List Value) (h : a_H) : a_run d MX2_listens 117 [a0, a1, a2, a3, a4, a5, a6, some (.int x), a8] st h = a_run d MX2_listens 119 [a0, a1, a2, a3, a4, a5, a6, some (.int x), a8] (.int x :: st) h := w_ldI dX2_listens_117 rfl
theorem w_X2_listens_119 (d : Nat) (L : a_L) (x : Int32) (i : Nat) (st : List Value) (h : a_H) : a_run d MX2_listens 119 L (.int x :: .ref i :: st) h = (a_rdi h i a_int x).bind fun v => a_run d MX2_listens 120 L (v :: st) h := w_iald dX2_listens_119
theorem w_X2_listens_120 (d : Nat) (L : a_L) (v0 : Value) (st : List Value) (h : a_H) (hc : a_cat st ≤ 8) : a_run d MX2_listens 120 L (v0 :: st) h = a_cont d MX2_listens (a_bk MX2_listens 120 L st (a_call d MJ10_valueOf [v0] h)) := w_callS (as := [v0]) dX2_listens_120 rfl rfl rfl hc
theorem w_X2_listens_123 (d : Nat) (L : a_L) (i : Nat) (v1 : Value) (st : List Value) (h : a_H) (hk : a_kls h i = some 7) (hc : a_cat st ≤ 8) : a_run d MX2_listens 123 L (v1 :: .ref i :: st) h = a_cont d MX2_listens (a_bk MX2_listens 123 L st (a_call d MJ1_addLast [.ref i, v1] h)) := w_callV (as := [.ref i, v1]) dX2_listens_123 rfl rfl rfl hc (a_rcv_of hk rfl)
theorem w_X2_listens_126 (d : Nat) (a0 a1 a2 a3 a4 a5 a6 a8 : Option Value) (x : Int32) (st : List Value) (h : a_H) : a_run d MX2_listens 126 [a0, a1, a2, a3, a4, a5, a6, some (.int x), a8] st h = a_run d MX2_listens 129 [a0, a1, a2, a3, a4, a5, a6, some (.int (x + nI 1)), a8] st h := w_incL dX2_listens_126 rfl rfl rfl
theorem w_X2_listens_129 (d : Nat) (L : a_L) (st : List Value) (h : a_H) : a_run d MX2_listens 129 L st h = a_run d MX2_listens 48 L st h := w_goto dX2_listens_129 rfl
theorem w_X2_listens_132 (d : Nat) (L : a_L) (st : List Value) (h : a_H) : a_run d MX2_listens 132 L st h = a_run d MX2_listens 24 L st h := w_goto dX2_listens_132 rfl
theorem w_X2_listens_135 (d : Nat) (a0 a1 a2 a3 a4 a6 a7 a8 : Option Value) (x : Nat) (st : List Value) (h : a_H) : a_run d MX2_listens 135 [a0, a1, a2, a3, a4, some (.ref x), a6, a7, a8] st h = a_run d MX2_listens 137 [a0, a1, a2, a3, a4, some (.ref x), a6, a7, a8] (.ref x :: st) h := w_ldA dX2_listens_135 rfl
theorem w_X2_listens_135N (d : Nat) (a0 a1 a2 a3 a4 a6 a7 a8 : Option Value) (st : List Value) (h : a_H) : a_run d MX2_listens 135 [a0, a1, a2, a3, a4, some .null, a6, a7, a8] st h = a_run d MX2_listens 137 [a0, a1, a2, a3, a4, some .null, a6, a7, a8] (.null :: st) h := w_ldN dX2_listens_135 rfl
theorem w_X2_listens_137 (d : Nat) (a0 a1 a3 a4 a5 a6 a7 a8 : Option Value) (x : Int32) (st : List Value) (h : a_H) : a_run d MX2_listens 137 [a0, a1, some (.int x), a3, a4, a5, a6, a7, a8] st h = a_run d MX2_listens 138 [a0, a1, some (.int x), a3, a4, a5, a6, a7, a8] (.int x :: st) h := w_ldIn dX2_listens_137 rfl
theorem w_X2_listens_138 (d : Nat) (L : a_L) (x : Int32) (i : Nat) (st : List Value) (h : a_H) : a_run d MX2_listens 138 L (.int x :: .ref i :: st) h = (a_rdi h i a_bz x).bind fun v => a_run d MX2_listens 139 L (v :: st) h := w_bald dX2_listens_138
theorem w_X2_listens_139 (d : Nat) (L : a_L) (x : Int32) (h : a_H) (hx : x = 0 ∨ x = 1) : a_run d MX2_listens 139 L [.int x] h = some (.inl (some (.int x)), h) := w_iret dX2_listens_139 (w_retZ rfl hx)
theorem e_X2_getsChain (d : Nat) (x0 : Nat) (x1 : Int32) (x2 : Int32) (x3 : Int32) (h : a_H) : a_call (d + 1) MX2_getsChain [.ref x0, .int x1, .int x2, .int x3] h = a_run d MX2_getsChain 0 [some (.ref x0), some (.int x1), some (.int x2), some (.int x3), none] [] h := a_call_run rfl (Nat.le_of_ble_eq_true rfl) rfl
theorem w_X2_getsChain_0 (d : Nat) (a1 a2 a3 a4 : Option Value) (x : Nat) (st : List Value) (h : a_H) : a_run d MX2_getsChain 0 [some (.ref x), a1, a2, a3, a4] st h = a_run d MX2_getsChain 1 [some (.ref x), a1, a2, a3, a4] (.ref x :: st) h := w_ldAn dX2_getsChain_0 rfl
theorem w_X2_getsChain_1 (d : Nat) (a0 a2 a3 a4 : Option Value) (x : Int32) (st : List Value) (h : a_H) : a_run d MX2_getsChain 1 [a0, some (.int x), a2, a3, a4] st h = a_run d MX2_getsChain 2 [a0, some (.int x), a2, a3, a4] (.int x :: st) h := w_ldIn dX2_getsChain_1 rfl
theorem w_X2_getsChain_2 (d : Nat) (L : a_L) (i : Nat) (v1 : Value) (st : List Value) (h : a_H) (hk : a_kls h i = some 1) (hc : a_cat st ≤ 8) : a_run d MX2_getsChain 2 L (v1 :: .ref i :: st) h = a_cont d MX2_getsChain (a_bk MX2_getsChain 2 L st (a_call d MX2_needBox [.ref i, v1] h)) := w_callV (as := [.ref i, v1]) dX2_getsChain_2 rfl rfl rfl hc (a_rcv_of hk rfl)
theorem w_X2_getsChain_5 (d : Nat) (a1 a2 a3 a4 : Option Value) (x : Nat) (st : List Value) (h : a_H) : a_run d MX2_getsChain 5 [some (.ref x), a1, a2, a3, a4] st h = a_run d MX2_getsChain 6 [some (.ref x), a1, a2, a3, a4] (.ref x :: st) h := w_ldAn dX2_getsChain_5 rfl
theorem w_X2_getsChain_6 (d : Nat) (a0 a1 a3 a4 : Option Value) (x : Int32) (st : List Value) (h : a_H) : a_run d MX2_getsChain 6 [a0, a1, some (.int x), a3, a4] st h = a_run d MX2_getsChain 7 [a0, a1, some (.int x), a3, a4] (.int x :: st) h := w_ldIn dX2_getsChain_6 rfl
theorem w_X2_getsChain_7 (d : Nat) (L : a_L) (i : Nat) (v1 : Value) (st : List Value) (h : a_H) (hk : a_kls h i = some 1) (hc : a_cat st ≤ 8) : a_run d MX2_getsChain 7 L (v1 :: .ref i :: st) h = a_cont d MX2_getsChain (a_bk MX2_getsChain 7 L st (a_call d MX2_needBox [.ref i, v1] h)) := w_callV (as := [.ref i, v1]) dX2_getsChain_7 rfl rfl rfl hc (a_rcv_of hk rfl)
theorem w_X2_getsChain_10 (d : Nat) (a1 a2 a3 a4 : Option Value) (x : Nat) (st : List Value) (h : a_H) : a_run d MX2_getsChain 10 [some (.ref x), a1, a2, a3, a4] st h = a_run d MX2_getsChain 11 [some (.ref x), a1, a2, a3, a4] (.ref x :: st) h := w_ldAn dX2_getsChain_10 rfl
theorem w_X2_getsChain_11 (d : Nat) (a0 a1 a2 a4 : Option Value) (x : Int32) (st : List Value) (h : a_H) : a_run d MX2_getsChain 11 [a0, a1, a2, some (.int x), a4] st h = a_run d MX2_getsChain 12 [a0, a1, a2, some (.int x), a4] (.int x :: st) h := w_ldIn dX2_getsChain_11 rfl
theorem w_X2_getsChain_12 (d : Nat) (L : a_L) (i : Nat) (v1 : Value) (st : List Value) (h : a_H) (hk : a_kls h i = some 1) (hc : a_cat st ≤ 8) : a_run d MX2_getsChain 12 L (v1 :: .ref i :: st) h = a_cont d MX2_getsChain (a_bk MX2_getsChain 12 L st (a_call d MX2_needBox [.ref i, v1] h)) := w_callV (as := [.ref i, v1]) dX2_getsChain_12 rfl rfl rfl hc (a_rcv_of hk rfl)
theorem w_X2_getsChain_15 (d : Nat) (a1 a2 a3 a4 : Option Value) (x : Nat) (st : List Value) (h : a_H) : a_run d MX2_getsChain 15 [some (.ref x), a1, a2, a3, a4] st h = a_run d MX2_getsChain 16 [some (.ref x), a1, a2, a3, a4] (.ref x :: st) h := w_ldAn dX2_getsChain_15 rfl
theorem w_X2_getsChain_16 (d : Nat) (L : a_L) (st : List Value) (h : a_H) : a_run d MX2_getsChain 16 L st h = a_run d MX2_getsChain 17 L (.int (nI 1) :: st) h := w_iconst dX2_getsChain_16 rfl
theorem w_X2_getsChain_17 (d : Nat) (a0 a2 a3 a4 : Option Value) (x : Int32) (st : List Value) (h : a_H) : a_run d MX2_getsChain 17 [a0, some (.int x), a2, a3, a4] st h = a_run d MX2_getsChain 18 [a0, some (.int x), a2, a3, a4] (.int x :: st) h := w_ldIn dX2_getsChain_17 rfl
theorem w_X2_getsChain_18 (d : Nat) (a0 a1 a3 a4 : Option Value) (x : Int32) (st : List Value) (h : a_H) : a_run d MX2_getsChain 18 [a0, a1, some (.int x), a3, a4] st h = a_run d MX2_getsChain 19 [a0, a1, some (.int x), a3, a4] (.int x :: st) h := w_ldIn dX2_getsChain_18 rfl
theorem w_X2_getsChain_19 (d : Nat) (L : a_L) (i : Nat) (v1 v2 v3 : Value) (st : List Value) (h : a_H) (hk : a_kls h i = some 1) (hc : a_cat st ≤ 8) : a_run d MX2_getsChain 19 L (v3 :: v2 :: v1 :: .ref i :: st) h = a_cont d MX2_getsChain (a_bk MX2_getsChain 19 L st (a_call d MX2_step [.ref i, v1, v2, v3] h)) := w_callV (as := [.ref i, v1, v2, v3]) dX2_getsChain_19 rfl rfl rfl hc (a_rcv_of hk rfl)
theorem w_X2_getsChain_22 (d : Nat) (a0 a1 a2 a3 a4 : Option Value) (x : Int32) (st : List Value) (h : a_H) : a_run d MX2_getsChain 22 [a0, a1, a2, a3, a4] (.int x :: st) h = a_run d MX2_getsChain 24 [a0, a1, a2, a3, some (.int x)] st h := w_stI dX2_getsChain_22 (Nat.le_of_ble_eq_true rfl) rfl
theorem w_X2_getsChain_24 (d : Nat) (a1 a2 a3 a4 : Option Value) (x : Nat) (st : List Value) (h : a_H) : a_run d MX2_getsChain 24 [some (.ref x), a1, a2, a3, a4] st h = a_run d MX2_getsChain 25 [some (.ref x), a1, a2, a3, a4] (.ref x :: st) h := w_ldAn dX2_getsChain_24 rfl
theorem w_X2_getsChain_25 (d : Nat) (L : a_L) (st : List Value) (h : a_H) : a_run d MX2_getsChain 25 L st h = a_run d MX2_getsChain 26 L (.int (nI 2) :: st) h := w_iconst dX2_getsChain_25 rfl
theorem w_X2_getsChain_26 (d : Nat) (a0 a1 a3 a4 : Option Value) (x : Int32) (st : List Value) (h : a_H) : a_run d MX2_getsChain 26 [a0, a1, some (.int x), a3, a4] st h = a_run d MX2_getsChain 27 [a0, a1, some (.int x), a3, a4] (.int x :: st) h := w_ldIn dX2_getsChain_26 rfl
theorem w_X2_getsChain_27 (d : Nat) (a0 a1 a2 a4 : Option Value) (x : Int32) (st : List Value) (h : a_H) : a_run d MX2_getsChain 27 [a0, a1, a2, some (.int x), a4] st h = a_run d MX2_getsChain 28 [a0, a1, a2, some (.int x), a4] (.int x :: st) h := w_ldIn dX2_getsChain_27 rfl
theorem w_X2_getsChain_28 (d : Nat) (L : a_L) (i : Nat) (v1 v2 v3 : Value) (st : List Value) (h : a_H) (hk : a_kls h i = some 1) (hc : a_cat st ≤ 8) : a_run d MX2_getsChain 28 L (v3 :: v2 :: v1 :: .ref i :: st) h = a_cont d MX2_getsChain (a_bk MX2_getsChain 28 L st (a_call d MX2_step [.ref i, v1, v2, v3] h)) := w_callV (as := [.ref i, v1, v2, v3]) dX2_getsChain_28 rfl rfl rfl hc (a_rcv_of hk rfl)
theorem w_X2_getsChain_31 (d : Nat) (L : a_L) (x : Int32) (h : a_H) : a_run d MX2_getsChain 31 L [.int x] h = some (.inl (some (.int x)), h) := w_iret dX2_getsChain_31 (w_retI rfl)
theorem e_X2_step (d : Nat) (x0 : Nat) (x1 : Int32) (x2 : Int32) (x3 : Int32) (h : a_H) : a_call (d + 1) MX2_step [.ref x0, .int x1, .int x2, .int x3] h = a_run d MX2_step 0 [some (.ref x0), some (.int x1), some (.int x2), some (.int x3), none] [] h := a_call_run rfl (Nat.le_of_ble_eq_true rfl) rfl
theorem w_X2_step_0 (d : Nat) (a1 a2 a3 a4 : Option Value) (x : Nat) (st : List Value) (h : a_H) : a_run d MX2_step 0 [some (.ref x), a1, a2, a3, a4] st h = a_run d MX2_step 1 [some (.ref x), a1, a2, a3, a4] (.ref x :: st) h := w_ldAn dX2_step_0 rfl
theorem w_X2_step_1 (d : Nat) (a0 a1 a3 a4 : Option Value) (x : Int32) (st : List Value) (h : a_H) : a_run d MX2_step 1 [a0, a1, some (.int x), a3, a4] st h = a_run d MX2_step 2 [a0, a1, some (.int x), a3, a4] (.int x :: st) h := w_ldIn dX2_step_1 rfl
theorem w_X2_step_2 (d : Nat) (a0 a1 a2 a4 : Option Value) (x : Int32) (st : List Value) (h : a_H) : a_run d MX2_step 2 [a0, a1, a2, some (.int x), a4] st h = a_run d MX2_step 3 [a0, a1, a2, some (.int x), a4] (.int x :: st) h := w_ldIn dX2_step_2 rfl
theorem w_X2_step_3 (d : Nat) (L : a_L) (i : Nat) (v1 v2 : Value) (st : List Value) (h : a_H) (hk : a_kls h i = some 1) (hc : a_cat st ≤ 8) : a_run d MX2_step 3 L (v2 :: v1 :: .ref i :: st) h = a_cont d MX2_step (a_bk MX2_step 3 L st (a_call d MX2_getsArrow [.ref i, v1, v2] h)) := w_callV (as := [.ref i, v1, v2]) dX2_step_3 rfl rfl rfl hc (a_rcv_of hk rfl)
theorem w_X2_step_6 (d : Nat) (L : a_L) (x : Int32) (h : a_H) : a_run d MX2_step 6 L [.int x] h = some (.inl (some (.int x)), h) := w_iret dX2_step_6 (w_retI rfl)
theorem w_X2_step_7 (d : Nat) (a0 a1 a2 a3 a4 : Option Value) (x : Nat) (st : List Value) (h : a_H) : a_run d MX2_step 7 [a0, a1, a2, a3, a4] (.ref x :: st) h = a_run d MX2_step 9 [a0, a1, a2, a3, some (.ref x)] st h := w_stA dX2_step_7 (Nat.le_of_ble_eq_true rfl) rfl
theorem w_X2_step_7N (d : Nat) (a0 a1 a2 a3 a4 : Option Value) (st : List Value) (h : a_H) : a_run d MX2_step 7 [a0, a1, a2, a3, a4] (.null :: st) h = a_run d MX2_step 9 [a0, a1, a2, a3, some .null] st h := w_stN dX2_step_7 (Nat.le_of_ble_eq_true rfl) rfl
theorem w_X2_step_9 (d : Nat) (L : a_L) (st : List Value) (h : a_H) : a_run d MX2_step 9 L st h = a_run d MX2_step 12 L (.ref h.1 :: st) (a_add h (.inr (3, [.null, .null, .null, .null, .null, .int 0, .int 0])) 7) := w_new dX2_step_9 rfl rfl
theorem w_X2_step_12 (d : Nat) (L : a_L) (x : Nat) (st : List Value) (h : a_H) : a_run d MX2_step 12 L (.ref x :: st) h = a_run d MX2_step 13 L (.ref x :: .ref x :: st) h := w_dup dX2_step_12
theorem w_X2_step_12I (d : Nat) (L : a_L) (x : Int32) (st : List Value) (h : a_H) : a_run d MX2_step 12 L (.int x :: st) h = a_run d MX2_step 13 L (.int x :: .int x :: st) h := w_dupI dX2_step_12
theorem w_X2_step_13 (d : Nat) (a0 a1 a2 a3 : Option Value) (x : Nat) (st : List Value) (h : a_H) : a_run d MX2_step 13 [a0, a1, a2, a3, some (.ref x)] st h = a_run d MX2_step 15 [a0, a1, a2, a3, some (.ref x)] (.ref x :: st) h := w_ldA dX2_step_13 rfl
theorem w_X2_step_13N (d : Nat) (a0 a1 a2 a3 : Option Value) (st : List Value) (h : a_H) : a_run d MX2_step 13 [a0, a1, a2, a3, some .null] st h = a_run d MX2_step 15 [a0, a1, a2, a3, some .null] (.null :: st) h := w_ldN dX2_step_13 rfl
theorem w_X2_step_15 (d : Nat) (L : a_L) (i : Nat) (st : List Value) (h : a_H) : a_run d MX2_step 15 L (.ref i :: st) h = (a_gf h i 6 [3]).bind fun v => a_run d MX2_step 18 L (v :: st) h := w_getf dX2_step_15 rfl
theorem w_X2_step_18 (d : Nat) (L : a_L) (st : List Value) (h : a_H) : a_run d MX2_step 18 L st h = a_run d MX2_step 21 L (.ref h.1 :: st) (a_add h (.inr (5, [.null, .null, .null, .null, .null, .int 0, .int 0])) 7) := w_new dX2_step_18 rfl rfl
theorem w_X2_step_21 (d : Nat) (L : a_L) (x : Nat) (st : List Value) (h : a_H) : a_run d MX2_step 21 L (.ref x :: st) h = a_run d MX2_step 22 L (.ref x :: .ref x :: st) h := w_dup dX2_step_21
theorem w_X2_step_21I (d : Nat) (L : a_L) (x : Int32) (st : List Value) (h : a_H) : a_run d MX2_step 21 L (.int x :: st) h = a_run d MX2_step 22 L (.int x :: .int x :: st) h := w_dupI dX2_step_21
theorem w_X2_step_22 (d : Nat) (a0 a2 a3 a4 : Option Value) (x : Int32) (st : List Value) (h : a_H) : a_run d MX2_step 22 [a0, some (.int x), a2, a3, a4] st h = a_run d MX2_step 23 [a0, some (.int x), a2, a3, a4] (.int x :: st) h := w_ldIn dX2_step_22 rfl
theorem w_X2_step_23 (d : Nat) (a0 a1 a2 a3 : Option Value) (x : Nat) (st : List Value) (h : a_H) : a_run d MX2_step 23 [a0, a1, a2, a3, some (.ref x)] st h = a_run d MX2_step 25 [a0, a1, a2, a3, some (.ref x)] (.ref x :: st) h := w_ldA dX2_step_23 rfl
theorem w_X2_step_23N (d : Nat) (a0 a1 a2 a3 : Option Value) (st : List Value) (h : a_H) : a_run d MX2_step 23 [a0, a1, a2, a3, some .null] st h = a_run d MX2_step 25 [a0, a1, a2, a3, some .null] (.null :: st) h := w_ldN dX2_step_23 rfl
theorem w_X2_step_25 (d : Nat) (L : a_L) (i : Nat) (v1 v2 : Value) (st : List Value) (h : a_H) (hi : 1024 ≤ i) (hc : a_cat st ≤ 8) : a_run d MX2_step 25 L (v2 :: v1 :: .ref i :: st) h = a_cont d MX2_step (a_bk MX2_step 25 L st (a_call d MX6_init [.ref i, v1, v2] h)) := w_callI (as := [.ref i, v1, v2]) dX2_step_25 rfl rfl rfl hc (a_new0_of hi)
theorem w_X2_step_28 (d : Nat) (L : a_L) (i : Nat) (v1 v2 : Value) (st : List Value) (h : a_H) (hi : 1024 ≤ i) (hc : a_cat st ≤ 8) : a_run d MX2_step 28 L (v2 :: v1 :: .ref i :: st) h = a_cont d MX2_step (a_bk MX2_step 28 L st (a_call d MX4_init_2 [.ref i, v1, v2] h)) := w_callI (as := [.ref i, v1, v2]) dX2_step_28 rfl rfl rfl hc (a_new0_of hi)
theorem w_X2_step_31 (d : Nat) (L : a_L) (x : Nat) (st : List Value) (h : a_H) : a_run d MX2_step 31 L (.ref x :: st) h = a_cont d MX2_step (a_thr MX2_step 31 L x h) := w_athrow dX2_step_31
theorem e_X2_losesArrow (d : Nat) (x0 : Nat) (x1 : Int32) (h : a_H) : a_call (d + 1) MX2_losesArrow [.ref x0, .int x1] h = a_run d MX2_losesArrow 0 [some (.ref x0), some (.int x1), none] [] h := a_call_run rfl (Nat.le_of_ble_eq_true rfl) rfl
theorem w_X2_losesArrow_0 (d : Nat) (a1 a2 : Option Value) (x : Nat) (st : List Value) (h : a_H) : a_run d MX2_losesArrow 0 [some (.ref x), a1, a2] st h = a_run d MX2_losesArrow 1 [some (.ref x), a1, a2] (.ref x :: st) h := w_ldAn dX2_losesArrow_0 rfl
theorem w_X2_losesArrow_1 (d : Nat) (a0 a2 : Option Value) (x : Int32) (st : List Value) (h : a_H) : a_run d MX2_losesArrow 1 [a0, some (.int x), a2] st h = a_run d MX2_losesArrow 2 [a0, some (.int x), a2] (.int x :: st) h := w_ldIn dX2_losesArrow_1 rfl
theorem w_X2_losesArrow_2 (d : Nat) (L : a_L) (i : Nat) (v1 : Value) (st : List Value) (h : a_H) (hk : a_kls h i = some 1) (hc : a_cat st ≤ 8) : a_run d MX2_losesArrow 2 L (v1 :: .ref i :: st) h = a_cont d MX2_losesArrow (a_bk MX2_losesArrow 2 L st (a_call d MX2_isArrow [.ref i, v1] h)) := w_callV (as := [.ref i, v1]) dX2_losesArrow_2 rfl rfl rfl hc (a_rcv_of hk rfl)
theorem w_X2_losesArrow_5 (d : Nat) (L : a_L) (st : List Value) (h : a_H) : a_run d MX2_losesArrow 5 L st h = a_run d MX2_losesArrow 6 L (.int (nI 1) :: st) h := w_iconst dX2_losesArrow_5 rfl
theorem w_X2_losesArrow_6 (d : Nat) (L : a_L) (v0 v1 : Value) (st : List Value) (h : a_H) (hc : a_cat st ≤ 8) : a_run d MX2_losesArrow 6 L (v1 :: v0 :: st) h = a_cont d MX2_losesArrow (a_bk MX2_losesArrow 6 L st (a_call d MX1_need [v0, v1] h)) := w_callS (as := [v0, v1]) dX2_losesArrow_6 rfl rfl rfl hc
theorem w_X2_losesArrow_9 (d : Nat) (a1 a2 : Option Value) (x : Nat) (st : List Value) (h : a_H) : a_run d MX2_losesArrow 9 [some (.ref x), a1, a2] st h = a_run d MX2_losesArrow 10 [some (.ref x), a1, a2] (.ref x :: st) h := w_ldAn dX2_losesArrow_9 rfl
theorem w_X2_losesArrow_10 (d : Nat) (L : a_L) (x : Nat) (st : List Value) (h : a_H) : a_run d MX2_losesArrow 10 L (.ref x :: st) h = a_run d MX2_losesArrow 11 L (.ref x :: .ref x :: st) h := w_dup dX2_losesArrow_10
theorem w_X2_losesArrow_10I (d : Nat) (L : a_L) (x : Int32) (st : List Value) (h : a_H) : a_run d MX2_losesArrow 10 L (.int x :: st) h = a_run d MX2_losesArrow 11 L (.int x :: .int x :: st) h := w_dupI dX2_losesArrow_10
theorem w_X2_losesArrow_11 (d : Nat) (L : a_L) (i : Nat) (st : List Value) (h : a_H) : a_run d MX2_losesArrow 11 L (.ref i :: st) h = (a_gf h i 12 [1]).bind fun v => a_run d MX2_losesArrow 14 L (v :: st) h := w_getf dX2_losesArrow_11 rfl
theorem w_X2_losesArrow_14 (d : Nat) (L : a_L) (st : List Value) (h : a_H) : a_run d MX2_losesArrow 14 L st h = a_run d MX2_losesArrow 15 L (.int (nI 1) :: st) h := w_iconst dX2_losesArrow_14 rfl
theorem w_X2_losesArrow_15 (d : Nat) (L : a_L) (x y : Int32) (st : List Value) (h : a_H) : a_run d MX2_losesArrow 15 L (.int y :: .int x :: st) h = a_run d MX2_losesArrow 16 L (.int (x - y) :: st) h := w_isub dX2_losesArrow_15
theorem w_X2_losesArrow_16 (d : Nat) (L : a_L) (x : Int32) (i : Nat) (st : List Value) (h : a_H) : a_run d MX2_losesArrow 16 L (.int x :: .ref i :: st) h = (a_pf h i 12 [1] (.int x)).bind fun h' => a_run d MX2_losesArrow 19 L st h' := w_putf dX2_losesArrow_16 rfl rfl (Or.inl rfl) rfl rfl
theorem w_X2_losesArrow_19 (d : Nat) (a0 a2 : Option Value) (x : Int32) (st : List Value) (h : a_H) : a_run d MX2_losesArrow 19 [a0, some (.int x), a2] st h = a_run d MX2_losesArrow 20 [a0, some (.int x), a2] (.int x :: st) h := w_ldIn dX2_losesArrow_19 rfl
theorem w_X2_losesArrow_20 (d : Nat) (a0 a1 a2 : Option Value) (x : Int32) (st : List Value) (h : a_H) : a_run d MX2_losesArrow 20 [a0, a1, a2] (.int x :: st) h = a_run d MX2_losesArrow 21 [a0, a1, some (.int x)] st h := w_stIn dX2_losesArrow_20 (Nat.le_of_ble_eq_true rfl) rfl
theorem w_X2_losesArrow_21 (d : Nat) (a0 a1 : Option Value) (x : Int32) (st : List Value) (h : a_H) : a_run d MX2_losesArrow 21 [a0, a1, some (.int x)] st h = a_run d MX2_losesArrow 22 [a0, a1, some (.int x)] (.int x :: st) h := w_ldIn dX2_losesArrow_21 rfl
theorem w_X2_losesArrow_22 (d : Nat) (a1 a2 : Option Value) (x : Nat) (st : List Value) (h : a_H) : a_run d MX2_losesArrow 22 [some (.ref x), a1, a2] st h = a_run d MX2_losesArrow 23 [some (.ref x), a1, a2] (.ref x :: st) h := w_ldAn dX2_losesArrow_22 rfl
theorem w_X2_losesArrow_23 (d : Nat) (L : a_L) (i : Nat) (st : List Value) (h : a_H) : a_run d MX2_losesArrow 23 L (.ref i :: st) h = (a_gf h i 12 [1]).bind fun v => a_run d MX2_losesArrow 26 L (v :: st) h := w_getf dX2_losesArrow_23 rfl
theorem w_X2_losesArrow_26 (d : Nat) (L : a_L) (x y : Int32) (st : List Value) (h : a_H) : a_run d MX2_losesArrow 26 L (.int y :: .int x :: st) h = if x < y then a_run d MX2_losesArrow 29 L st h else a_run d MX2_losesArrow 63 L st h := w_icmp_ge dX2_losesArrow_26 rfl
theorem w_X2_losesArrow_29 (d : Nat) (a1 a2 : Option Value) (x : Nat) (st : List Value) (h : a_H) : a_run d MX2_losesArrow 29 [some (.ref x), a1, a2] st h = a_run d MX2_losesArrow 30 [some (.ref x), a1, a2] (.ref x :: st) h := w_ldAn dX2_losesArrow_29 rfl
theorem w_X2_losesArrow_30 (d : Nat) (L : a_L) (i : Nat) (st : List Value) (h : a_H) : a_run d MX2_losesArrow 30 L (.ref i :: st) h = (a_gf h i 0 [1]).bind fun v => a_run d MX2_losesArrow 33 L (v :: st) h := w_getf dX2_losesArrow_30 rfl
theorem w_X2_losesArrow_33 (d : Nat) (a0 a1 : Option Value) (x : Int32) (st : List Value) (h : a_H) : a_run d MX2_losesArrow 33 [a0, a1, some (.int x)] st h = a_run d MX2_losesArrow 34 [a0, a1, some (.int x)] (.int x :: st) h := w_ldIn dX2_losesArrow_33 rfl
theorem w_X2_losesArrow_34 (d : Nat) (a1 a2 : Option Value) (x : Nat) (st : List Value) (h : a_H) : a_run d MX2_losesArrow 34 [some (.ref x), a1, a2] st h = a_run d MX2_losesArrow 35 [some (.ref x), a1, a2] (.ref x :: st) h := w_ldAn dX2_losesArrow_34 rfl
theorem w_X2_losesArrow_35 (d : Nat) (L : a_L) (i : Nat) (st : List Value) (h : a_H) : a_run d MX2_losesArrow 35 L (.ref i :: st) h = (a_gf h i 0 [1]).bind fun v => a_run d MX2_losesArrow 38 L (v :: st) h := w_getf dX2_losesArrow_35 rfl
theorem w_X2_losesArrow_38 (d : Nat) (a0 a1 : Option Value) (x : Int32) (st : List Value) (h : a_H) : a_run d MX2_losesArrow 38 [a0, a1, some (.int x)] st h = a_run d MX2_losesArrow 39 [a0, a1, some (.int x)] (.int x :: st) h := w_ldIn dX2_losesArrow_38 rfl
theorem w_X2_losesArrow_39 (d : Nat) (L : a_L) (st : List Value) (h : a_H) : a_run d MX2_losesArrow 39 L st h = a_run d MX2_losesArrow 40 L (.int (nI 1) :: st) h := w_iconst dX2_losesArrow_39 rfl
theorem w_X2_losesArrow_40 (d : Nat) (L : a_L) (x y : Int32) (st : List Value) (h : a_H) : a_run d MX2_losesArrow 40 L (.int y :: .int x :: st) h = a_run d MX2_losesArrow 41 L (.int (x + y) :: st) h := w_iadd dX2_losesArrow_40
theorem w_X2_losesArrow_41 (d : Nat) (L : a_L) (x : Int32) (i : Nat) (st : List Value) (h : a_H) : a_run d MX2_losesArrow 41 L (.int x :: .ref i :: st) h = (a_rdi h i a_int x).bind fun v => a_run d MX2_losesArrow 42 L (v :: st) h := w_iald dX2_losesArrow_41
theorem w_X2_losesArrow_42 (d : Nat) (L : a_L) (x y : Int32) (i : Nat) (st : List Value) (h : a_H) : a_run d MX2_losesArrow 42 L (.int y :: .int x :: .ref i :: st) h = (a_wri h i a_int x y).bind fun h' => a_run d MX2_losesArrow 43 L st h' := w_iast dX2_losesArrow_42
theorem w_X2_losesArrow_43 (d : Nat) (a1 a2 : Option Value) (x : Nat) (st : List Value) (h : a_H) : a_run d MX2_losesArrow 43 [some (.ref x), a1, a2] st h = a_run d MX2_losesArrow 44 [some (.ref x), a1, a2] (.ref x :: st) h := w_ldAn dX2_losesArrow_43 rfl
theorem w_X2_losesArrow_44 (d : Nat) (L : a_L) (i : Nat) (st : List Value) (h : a_H) : a_run d MX2_losesArrow 44 L (.ref i :: st) h = (a_gf h i 1 [1]).bind fun v => a_run d MX2_losesArrow 47 L (v :: st) h := w_getf dX2_losesArrow_44 rfl
theorem w_X2_losesArrow_47 (d : Nat) (a0 a1 : Option Value) (x : Int32) (st : List Value) (h : a_H) : a_run d MX2_losesArrow 47 [a0, a1, some (.int x)] st h = a_run d MX2_losesArrow 48 [a0, a1, some (.int x)] (.int x :: st) h := w_ldIn dX2_losesArrow_47 rfl
theorem w_X2_losesArrow_48 (d : Nat) (a1 a2 : Option Value) (x : Nat) (st : List Value) (h : a_H) : a_run d MX2_losesArrow 48 [some (.ref x), a1, a2] st h = a_run d MX2_losesArrow 49 [some (.ref x), a1, a2] (.ref x :: st) h := w_ldAn dX2_losesArrow_48 rfl
theorem w_X2_losesArrow_49 (d : Nat) (L : a_L) (i : Nat) (st : List Value) (h : a_H) : a_run d MX2_losesArrow 49 L (.ref i :: st) h = (a_gf h i 1 [1]).bind fun v => a_run d MX2_losesArrow 52 L (v :: st) h := w_getf dX2_losesArrow_49 rfl
theorem w_X2_losesArrow_52 (d : Nat) (a0 a1 : Option Value) (x : Int32) (st : List Value) (h : a_H) : a_run d MX2_losesArrow 52 [a0, a1, some (.int x)] st h = a_run d MX2_losesArrow 53 [a0, a1, some (.int x)] (.int x :: st) h := w_ldIn dX2_losesArrow_52 rfl
theorem w_X2_losesArrow_53 (d : Nat) (L : a_L) (st : List Value) (h : a_H) : a_run d MX2_losesArrow 53 L st h = a_run d MX2_losesArrow 54 L (.int (nI 1) :: st) h := w_iconst dX2_losesArrow_53 rfl
theorem w_X2_losesArrow_54 (d : Nat) (L : a_L) (x y : Int32) (st : List Value) (h : a_H) : a_run d MX2_losesArrow 54 L (.int y :: .int x :: st) h = a_run d MX2_losesArrow 55 L (.int (x + y) :: st) h := w_iadd dX2_losesArrow_54
theorem w_X2_losesArrow_55 (d : Nat) (L : a_L) (x : Int32) (i : Nat) (st : List Value) (h : a_H) : a_run d MX2_losesArrow 55 L (.int x :: .ref i :: st) h = (a_rdi h i a_int x).bind fun v => a_run d MX2_losesArrow 56 L (v :: st) h := w_iald dX2_losesArrow_55
theorem w_X2_losesArrow_56 (d : Nat) (L : a_L) (x y : Int32) (i : Nat) (st : List Value) (h : a_H) : a_run d MX2_losesArrow 56 L (.int y :: .int x :: .ref i :: st) h = (a_wri h i a_int x y).bind fun h' => a_run d MX2_losesArrow 57 L st h' := w_iast dX2_losesArrow_56
theorem w_X2_losesArrow_57 (d : Nat) (a0 a1 : Option Value) (x : Int32) (st : List Value) (h : a_H) : a_run d MX2_losesArrow 57 [a0, a1, some (.int x)] st h = a_run d MX2_losesArrow 60 [a0, a1, some (.int (x + nI 1))] st h := w_incL dX2_losesArrow_57 rfl rfl rfl
theorem w_X2_losesArrow_60 (d : Nat) (L : a_L) (st : List Value) (h : a_H) : a_run d MX2_losesArrow 60 L st h = a_run d MX2_losesArrow 21 L st h := w_goto dX2_losesArrow_60 rfl
theorem w_X2_losesArrow_63 (d : Nat) (a1 a2 : Option Value) (x : Nat) (st : List Value) (h : a_H) : a_run d MX2_losesArrow 63 [some (.ref x), a1, a2] st h = a_run d MX2_losesArrow 64 [some (.ref x), a1, a2] (.ref x :: st) h := w_ldAn dX2_losesArrow_63 rfl
theorem w_X2_losesArrow_64 (d : Nat) (L : a_L) (i : Nat) (st : List Value) (h : a_H) (hk : a_kls h i = some 1) (hc : a_cat st ≤ 8) : a_run d MX2_losesArrow 64 L (.ref i :: st) h = a_cont d MX2_losesArrow (a_bk MX2_losesArrow 64 L st (a_call d MX2_lays [.ref i] h)) := w_callV (as := [.ref i]) dX2_losesArrow_64 rfl rfl rfl hc (a_rcv_of hk rfl)
theorem w_X2_losesArrow_67 (d : Nat) (a1 a2 : Option Value) (x : Nat) (st : List Value) (h : a_H) : a_run d MX2_losesArrow 67 [some (.ref x), a1, a2] st h = a_run d MX2_losesArrow 68 [some (.ref x), a1, a2] (.ref x :: st) h := w_ldAn dX2_losesArrow_67 rfl
theorem w_X2_losesArrow_68 (d : Nat) (L : a_L) (i : Nat) (st : List Value) (h : a_H) : a_run d MX2_losesArrow 68 L (.ref i :: st) h = (a_gf h i 12 [1]).bind fun v => a_run d MX2_losesArrow 71 L (v :: st) h := w_getf dX2_losesArrow_68 rfl
theorem w_X2_losesArrow_71 (d : Nat) (L : a_L) (x : Int32) (h : a_H) : a_run d MX2_losesArrow 71 L [.int x] h = some (.inl (some (.int x)), h) := w_iret dX2_losesArrow_71 (w_retI rfl)
theorem e_X2_isArrow (d : Nat) (x0 : Nat) (x1 : Int32) (h : a_H) : a_call (d + 1) MX2_isArrow [.ref x0, .int x1] h = a_run d MX2_isArrow 0 [some (.ref x0), some (.int x1)] [] h := a_call_run rfl (Nat.le_of_ble_eq_true rfl) rfl
theorem w_X2_isArrow_0 (d : Nat) (a0 : Option Value) (x : Int32) (st : List Value) (h : a_H) : a_run d MX2_isArrow 0 [a0, some (.int x)] st h = a_run d MX2_isArrow 1 [a0, some (.int x)] (.int x :: st) h := w_ldIn dX2_isArrow_0 rfl
theorem w_X2_isArrow_1 (d : Nat) (L : a_L) (x : Int32) (st : List Value) (h : a_H) : a_run d MX2_isArrow 1 L (.int x :: st) h = a_run d MX2_isArrow 2 L (.long x.toInt64 :: st) h := w_i2l dX2_isArrow_1
theorem w_X2_isArrow_2 (d : Nat) (L : a_L) (st : List Value) (h : a_H) : a_run d MX2_isArrow 2 L st h = a_run d MX2_isArrow 3 L (.long (lN 0) :: st) h := (w_lconst dX2_isArrow_2).trans rfl
theorem w_X2_isArrow_3 (d : Nat) (a1 : Option Value) (x : Nat) (st : List Value) (h : a_H) : a_run d MX2_isArrow 3 [some (.ref x), a1] st h = a_run d MX2_isArrow 4 [some (.ref x), a1] (.ref x :: st) h := w_ldAn dX2_isArrow_3 rfl
theorem w_X2_isArrow_4 (d : Nat) (L : a_L) (i : Nat) (st : List Value) (h : a_H) : a_run d MX2_isArrow 4 L (.ref i :: st) h = (a_gf h i 12 [1]).bind fun v => a_run d MX2_isArrow 7 L (v :: st) h := w_getf dX2_isArrow_4 rfl
theorem w_X2_isArrow_7 (d : Nat) (L : a_L) (st : List Value) (h : a_H) : a_run d MX2_isArrow 7 L st h = a_run d MX2_isArrow 8 L (.int (nI 1) :: st) h := w_iconst dX2_isArrow_7 rfl
theorem w_X2_isArrow_8 (d : Nat) (L : a_L) (x y : Int32) (st : List Value) (h : a_H) : a_run d MX2_isArrow 8 L (.int y :: .int x :: st) h = a_run d MX2_isArrow 9 L (.int (x - y) :: st) h := w_isub dX2_isArrow_8
theorem w_X2_isArrow_9 (d : Nat) (L : a_L) (x : Int32) (st : List Value) (h : a_H) : a_run d MX2_isArrow 9 L (.int x :: st) h = a_run d MX2_isArrow 10 L (.long x.toInt64 :: st) h := w_i2l dX2_isArrow_9
theorem w_X2_isArrow_10 (d : Nat) (L : a_L) (v0 v1 v2 : Value) (st : List Value) (h : a_H) (hc : a_cat st ≤ 8) : a_run d MX2_isArrow 10 L (v2 :: v1 :: v0 :: st) h = a_cont d MX2_isArrow (a_bk MX2_isArrow 10 L st (a_call d MX1_isBetween [v0, v1, v2] h)) := w_callS (as := [v0, v1, v2]) dX2_isArrow_10 rfl rfl rfl hc
theorem w_X2_isArrow_13 (d : Nat) (L : a_L) (x : Int32) (h : a_H) (hx : x = 0 ∨ x = 1) : a_run d MX2_isArrow 13 L [.int x] h = some (.inl (some (.int x)), h) := w_iret dX2_isArrow_13 (w_retZ rfl hx)
theorem e_X2_holds (d : Nat) (x0 : Nat) (x1 : Int32) (x2 : Int32) (h : a_H) : a_call (d + 1) MX2_holds [.ref x0, .int x1, .int x2] h = a_run d MX2_holds 0 [some (.ref x0), some (.int x1), some (.int x2), none] [] h := a_call_run rfl (Nat.le_of_ble_eq_true rfl) rfl
theorem w_X2_holds_0 (d : Nat) (a1 a2 a3 : Option Value) (x : Nat) (st : List Value) (h : a_H) : a_run d MX2_holds 0 [some (.ref x), a1, a2, a3] st h = a_run d MX2_holds 1 [some (.ref x), a1, a2, a3] (.ref x :: st) h := w_ldAn dX2_holds_0 rfl
theorem w_X2_holds_1 (d : Nat) (a0 a2 a3 : Option Value) (x : Int32) (st : List Value) (h : a_H) : a_run d MX2_holds 1 [a0, some (.int x), a2, a3] st h = a_run d MX2_holds 2 [a0, some (.int x), a2, a3] (.int x :: st) h := w_ldIn dX2_holds_1 rfl
theorem w_X2_holds_2 (d : Nat) (L : a_L) (i : Nat) (v1 : Value) (st : List Value) (h : a_H) (hk : a_kls h i = some 1) (hc : a_cat st ≤ 8) : a_run d MX2_holds 2 L (v1 :: .ref i :: st) h = a_cont d MX2_holds (a_bk MX2_holds 2 L st (a_call d MX2_isBox [.ref i, v1] h)) := w_callV (as := [.ref i, v1]) dX2_holds_2 rfl rfl rfl hc (a_rcv_of hk rfl)
theorem w_X2_holds_5 (d : Nat) (L : a_L) (x : Int32) (st : List Value) (h : a_H) : a_run d MX2_holds 5 L (.int x :: st) h = if x = 0 then a_run d MX2_holds 24 L st h else a_run d MX2_holds 8 L st h := w_if_eq dX2_holds_5 rfl
theorem w_X2_holds_8 (d : Nat) (a0 a1 a3 : Option Value) (x : Int32) (st : List Value) (h : a_H) : a_run d MX2_holds 8 [a0, a1, some (.int x), a3] st h = a_run d MX2_holds 9 [a0, a1, some (.int x), a3] (.int x :: st) h := w_ldIn dX2_holds_8 rfl
theorem w_X2_holds_9 (d : Nat) (L : a_L) (x : Int32) (st : List Value) (h : a_H) : a_run d MX2_holds 9 L (.int x :: st) h = a_run d MX2_holds 10 L (.long x.toInt64 :: st) h := w_i2l dX2_holds_9
theorem w_X2_holds_10 (d : Nat) (L : a_L) (st : List Value) (h : a_H) : a_run d MX2_holds 10 L st h = a_run d MX2_holds 11 L (.long (lN 0) :: st) h := (w_lconst dX2_holds_10).trans rfl
theorem w_X2_holds_11 (d : Nat) (L : a_L) (st : List Value) (h : a_H) : a_run d MX2_holds 11 L st h = a_run d MX2_holds 14 L (.long (9 : Int64) :: st) h := w_ldc2 dX2_holds_11 rfl
theorem w_X2_holds_14 (d : Nat) (L : a_L) (v0 v1 v2 : Value) (st : List Value) (h : a_H) (hc : a_cat st ≤ 8) : a_run d MX2_holds 14 L (v2 :: v1 :: v0 :: st) h = a_cont d MX2_holds (a_bk MX2_holds 14 L st (a_call d MX1_isBetween [v0, v1, v2] h)) := w_callS (as := [v0, v1, v2]) dX2_holds_14 rfl rfl rfl hc
theorem w_X2_holds_17 (d : Nat) (L : a_L) (x : Int32) (st : List Value) (h : a_H) : a_run d MX2_holds 17 L (.int x :: st) h = if x = 0 then a_run d MX2_holds 24 L st h else a_run d MX2_holds 20 L st h := w_if_eq dX2_holds_17 rfl
theorem w_X2_holds_20 (d : Nat) (L : a_L) (st : List Value) (h : a_H) : a_run d MX2_holds 20 L st h = a_run d MX2_holds 21 L (.int (nI 1) :: st) h := w_iconst dX2_holds_20 rfl
theorem w_X2_holds_21 (d : Nat) (L : a_L) (st : List Value) (h : a_H) : a_run d MX2_holds 21 L st h = a_run d MX2_holds 25 L st h := w_goto dX2_holds_21 rfl
theorem w_X2_holds_24 (d : Nat) (L : a_L) (st : List Value) (h : a_H) : a_run d MX2_holds 24 L st h = a_run d MX2_holds 25 L (.int (nI 0) :: st) h := w_iconst dX2_holds_24 rfl
theorem w_X2_holds_25 (d : Nat) (L : a_L) (st : List Value) (h : a_H) : a_run d MX2_holds 25 L st h = a_run d MX2_holds 26 L (.int (nI 1) :: st) h := w_iconst dX2_holds_25 rfl
theorem w_X2_holds_26 (d : Nat) (L : a_L) (v0 v1 : Value) (st : List Value) (h : a_H) (hc : a_cat st ≤ 8) : a_run d MX2_holds 26 L (v1 :: v0 :: st) h = a_cont d MX2_holds (a_bk MX2_holds 26 L st (a_call d MX1_need [v0, v1] h)) := w_callS (as := [v0, v1]) dX2_holds_26 rfl rfl rfl hc
theorem w_X2_holds_29 (d : Nat) (a1 a2 a3 : Option Value) (x : Nat) (st : List Value) (h : a_H) : a_run d MX2_holds 29 [some (.ref x), a1, a2, a3] st h = a_run d MX2_holds 30 [some (.ref x), a1, a2, a3] (.ref x :: st) h := w_ldAn dX2_holds_29 rfl
theorem w_X2_holds_30 (d : Nat) (L : a_L) (i : Nat) (st : List Value) (h : a_H) : a_run d MX2_holds 30 L (.ref i :: st) h = (a_gf h i 2 [1]).bind fun v => a_run d MX2_holds 33 L (v :: st) h := w_getf dX2_holds_30 rfl
theorem w_X2_holds_33 (d : Nat) (a0 a2 a3 : Option Value) (x : Int32) (st : List Value) (h : a_H) : a_run d MX2_holds 33 [a0, some (.int x), a2, a3] st h = a_run d MX2_holds 34 [a0, some (.int x), a2, a3] (.int x :: st) h := w_ldIn dX2_holds_33 rfl
theorem w_X2_holds_34 (d : Nat) (L : a_L) (x : Int32) (i : Nat) (st : List Value) (h : a_H) : a_run d MX2_holds 34 L (.int x :: .ref i :: st) h = (a_rdi h i a_int x).bind fun v => a_run d MX2_holds 35 L (v :: st) h := w_iald dX2_holds_34
theorem w_X2_holds_35 (d : Nat) (a0 a1 a2 a3 : Option Value) (x : Int32) (st : List Value) (h : a_H) : a_run d MX2_holds 35 [a0, a1, a2, a3] (.int x :: st) h = a_run d MX2_holds 36 [a0, a1, a2, some (.int x)] st h := w_stIn dX2_holds_35 (Nat.le_of_ble_eq_true rfl) rfl
theorem w_X2_holds_36 (d : Nat) (a1 a2 a3 : Option Value) (x : Nat) (st : List Value) (h : a_H) : a_run d MX2_holds 36 [some (.ref x), a1, a2, a3] st h = a_run d MX2_holds 37 [some (.ref x), a1, a2, a3] (.ref x :: st) h := w_ldAn dX2_holds_36 rfl
theorem w_X2_holds_37 (d : Nat) (L : a_L) (i : Nat) (st : List Value) (h : a_H) : a_run d MX2_holds 37 L (.ref i :: st) h = (a_gf h i 2 [1]).bind fun v => a_run d MX2_holds 40 L (v :: st) h := w_getf dX2_holds_37 rfl
theorem w_X2_holds_40 (d : Nat) (a0 a2 a3 : Option Value) (x : Int32) (st : List Value) (h : a_H) : a_run d MX2_holds 40 [a0, some (.int x), a2, a3] st h = a_run d MX2_holds 41 [a0, some (.int x), a2, a3] (.int x :: st) h := w_ldIn dX2_holds_40 rfl
theorem w_X2_holds_41 (d : Nat) (a0 a1 a3 : Option Value) (x : Int32) (st : List Value) (h : a_H) : a_run d MX2_holds 41 [a0, a1, some (.int x), a3] st h = a_run d MX2_holds 42 [a0, a1, some (.int x), a3] (.int x :: st) h := w_ldIn dX2_holds_41 rfl
theorem w_X2_holds_42 (d : Nat) (L : a_L) (x y : Int32) (i : Nat) (st : List Value) (h : a_H) : a_run d MX2_holds 42 L (.int y :: .int x :: .ref i :: st) h = (a_wri h i a_int x y).bind fun h' => a_run d MX2_holds 43 L st h' := w_iast dX2_holds_42
theorem w_X2_holds_43 (d : Nat) (a1 a2 a3 : Option Value) (x : Nat) (st : List Value) (h : a_H) : a_run d MX2_holds 43 [some (.ref x), a1, a2, a3] st h = a_run d MX2_holds 44 [some (.ref x), a1, a2, a3] (.ref x :: st) h := w_ldAn dX2_holds_43 rfl
theorem w_X2_holds_44 (d : Nat) (L : a_L) (i : Nat) (st : List Value) (h : a_H) (hk : a_kls h i = some 1) (hc : a_cat st ≤ 8) : a_run d MX2_holds 44 L (.ref i :: st) h = a_cont d MX2_holds (a_bk MX2_holds 44 L st (a_call d MX2_lays [.ref i] h)) := w_callV (as := [.ref i]) dX2_holds_44 rfl rfl rfl hc (a_rcv_of hk rfl)
theorem w_X2_holds_47 (d : Nat) (a0 a1 a2 : Option Value) (x : Int32) (st : List Value) (h : a_H) : a_run d MX2_holds 47 [a0, a1, a2, some (.int x)] st h = a_run d MX2_holds 48 [a0, a1, a2, some (.int x)] (.int x :: st) h := w_ldIn dX2_holds_47 rfl
theorem w_X2_holds_48 (d : Nat) (L : a_L) (x : Int32) (h : a_H) : a_run d MX2_holds 48 L [.int x] h = some (.inl (some (.int x)), h) := w_iret dX2_holds_48 (w_retI rfl)
theorem e_X2_prunes (d : Nat) (x0 : Nat) (h : a_H) : a_call (d + 1) MX2_prunes [.ref x0] h = a_run d MX2_prunes 0 [some (.ref x0), none, none, none] [] h := a_call_run rfl (Nat.le_of_ble_eq_true rfl) rfl
theorem w_X2_prunes_0 (d : Nat) (a1 a2 a3 : Option Value) (x : Nat) (st : List Value) (h : a_H) : a_run d MX2_prunes 0 [some (.ref x), a1, a2, a3] st h = a_run d MX2_prunes 1 [some (.ref x), a1, a2, a3] (.ref x :: st) h := w_ldAn dX2_prunes_0 rfl
theorem w_X2_prunes_1 (d : Nat) (L : a_L) (i : Nat) (st : List Value) (h : a_H) : a_run d MX2_prunes 1 L (.ref i :: st) h = (a_gf h i 12 [1]).bind fun v => a_run d MX2_prunes 4 L (v :: st) h := w_getf dX2_prunes_1 rfl
theorem w_X2_prunes_4 (d : Nat) (a0 a1 a2 a3 : Option Value) (x : Int32) (st : List Value) (h : a_H) : a_run d MX2_prunes 4 [a0, a1, a2, a3] (.int x :: st) h = a_run d MX2_prunes 5 [a0, some (.int x), a2, a3] st h := w_stIn dX2_prunes_4 (Nat.le_of_ble_eq_true rfl) rfl
theorem w_X2_prunes_5 (d : Nat) (a1 a2 a3 : Option Value) (x : Nat) (st : List Value) (h : a_H) : a_run d MX2_prunes 5 [some (.ref x), a1, a2, a3] st h = a_run d MX2_prunes 6 [some (.ref x), a1, a2, a3] (.ref x :: st) h := w_ldAn dX2_prunes_5 rfl
theorem w_X2_prunes_6 (d : Nat) (L : a_L) (i : Nat) (st : List Value) (h : a_H) : a_run d MX2_prunes 6 L (.ref i :: st) h = (a_gf h i 12 [1]).bind fun v => a_run d MX2_prunes 9 L (v :: st) h := w_getf dX2_prunes_6 rfl
theorem w_X2_prunes_9 (d : Nat) (L : a_L) (st : List Value) (h : a_H) : a_run d MX2_prunes 9 L st h = a_run d MX2_prunes 10 L (.int (nI 1) :: st) h := w_iconst dX2_prunes_9 rfl
theorem w_X2_prunes_10 (d : Nat) (L : a_L) (x y : Int32) (st : List Value) (h : a_H) : a_run d MX2_prunes 10 L (.int y :: .int x :: st) h = a_run d MX2_prunes 11 L (.int (x - y) :: st) h := w_isub dX2_prunes_10
theorem w_X2_prunes_11 (d : Nat) (a0 a1 a2 a3 : Option Value) (x : Int32) (st : List Value) (h : a_H) : a_run d MX2_prunes 11 [a0, a1, a2, a3] (.int x :: st) h = a_run d MX2_prunes 12 [a0, a1, some (.int x), a3] st h := w_stIn dX2_prunes_11 (Nat.le_of_ble_eq_true rfl) rfl
theorem w_X2_prunes_12 (d : Nat) (a0 a1 a3 : Option Value) (x : Int32) (st : List Value) (h : a_H) : a_run d MX2_prunes 12 [a0, a1, some (.int x), a3] st h = a_run d MX2_prunes 13 [a0, a1, some (.int x), a3] (.int x :: st) h := w_ldIn dX2_prunes_12 rfl
theorem w_X2_prunes_13 (d : Nat) (L : a_L) (x : Int32) (st : List Value) (h : a_H) : a_run d MX2_prunes 13 L (.int x :: st) h = if x < 0 then a_run d MX2_prunes 48 L st h else a_run d MX2_prunes 16 L st h := w_if_lt dX2_prunes_13 rfl
theorem w_X2_prunes_16 (d : Nat) (a1 a2 a3 : Option Value) (x : Nat) (st : List Value) (h : a_H) : a_run d MX2_prunes 16 [some (.ref x), a1, a2, a3] st h = a_run d MX2_prunes 17 [some (.ref x), a1, a2, a3] (.ref x :: st) h := w_ldAn dX2_prunes_16 rfl
theorem w_X2_prunes_17 (d : Nat) (a1 a2 a3 : Option Value) (x : Nat) (st : List Value) (h : a_H) : a_run d MX2_prunes 17 [some (.ref x), a1, a2, a3] st h = a_run d MX2_prunes 18 [some (.ref x), a1, a2, a3] (.ref x :: st) h := w_ldAn dX2_prunes_17 rfl
theorem w_X2_prunes_18 (d : Nat) (L : a_L) (i : Nat) (st : List Value) (h : a_H) : a_run d MX2_prunes 18 L (.ref i :: st) h = (a_gf h i 1 [1]).bind fun v => a_run d MX2_prunes 21 L (v :: st) h := w_getf dX2_prunes_18 rfl
theorem w_X2_prunes_21 (d : Nat) (a0 a1 a3 : Option Value) (x : Int32) (st : List Value) (h : a_H) : a_run d MX2_prunes 21 [a0, a1, some (.int x), a3] st h = a_run d MX2_prunes 22 [a0, a1, some (.int x), a3] (.int x :: st) h := w_ldIn dX2_prunes_21 rfl
theorem w_X2_prunes_22 (d : Nat) (L : a_L) (x : Int32) (i : Nat) (st : List Value) (h : a_H) : a_run d MX2_prunes 22 L (.int x :: .ref i :: st) h = (a_rdi h i a_int x).bind fun v => a_run d MX2_prunes 23 L (v :: st) h := w_iald dX2_prunes_22
theorem w_X2_prunes_23 (d : Nat) (a1 a2 a3 : Option Value) (x : Nat) (st : List Value) (h : a_H) : a_run d MX2_prunes 23 [some (.ref x), a1, a2, a3] st h = a_run d MX2_prunes 24 [some (.ref x), a1, a2, a3] (.ref x :: st) h := w_ldAn dX2_prunes_23 rfl
theorem w_X2_prunes_24 (d : Nat) (L : a_L) (i : Nat) (st : List Value) (h : a_H) : a_run d MX2_prunes 24 L (.ref i :: st) h = (a_gf h i 0 [1]).bind fun v => a_run d MX2_prunes 27 L (v :: st) h := w_getf dX2_prunes_24 rfl
theorem w_X2_prunes_27 (d : Nat) (a0 a1 a3 : Option Value) (x : Int32) (st : List Value) (h : a_H) : a_run d MX2_prunes 27 [a0, a1, some (.int x), a3] st h = a_run d MX2_prunes 28 [a0, a1, some (.int x), a3] (.int x :: st) h := w_ldIn dX2_prunes_27 rfl
theorem w_X2_prunes_28 (d : Nat) (L : a_L) (x : Int32) (i : Nat) (st : List Value) (h : a_H) : a_run d MX2_prunes 28 L (.int x :: .ref i :: st) h = (a_rdi h i a_int x).bind fun v => a_run d MX2_prunes 29 L (v :: st) h := w_iald dX2_prunes_28
theorem w_X2_prunes_29 (d : Nat) (a0 a1 a3 : Option Value) (x : Int32) (st : List Value) (h : a_H) : a_run d MX2_prunes 29 [a0, a1, some (.int x), a3] st h = a_run d MX2_prunes 30 [a0, a1, some (.int x), a3] (.int x :: st) h := w_ldIn dX2_prunes_29 rfl
theorem w_X2_prunes_30 (d : Nat) (L : a_L) (i : Nat) (v1 v2 v3 : Value) (st : List Value) (h : a_H) (hk : a_kls h i = some 1) (hc : a_cat st ≤ 8) : a_run d MX2_prunes 30 L (v3 :: v2 :: v1 :: .ref i :: st) h = a_cont d MX2_prunes (a_bk MX2_prunes 30 L st (a_call d MX2_listens [.ref i, v1, v2, v3] h)) := w_callV (as := [.ref i, v1, v2, v3]) dX2_prunes_30 rfl rfl rfl hc (a_rcv_of hk rfl)
theorem w_X2_prunes_33 (d : Nat) (L : a_L) (x : Int32) (st : List Value) (h : a_H) : a_run d MX2_prunes 33 L (.int x :: st) h = if x = 0 then a_run d MX2_prunes 42 L st h else a_run d MX2_prunes 36 L st h := w_if_eq dX2_prunes_33 rfl
theorem w_X2_prunes_36 (d : Nat) (a1 a2 a3 : Option Value) (x : Nat) (st : List Value) (h : a_H) : a_run d MX2_prunes 36 [some (.ref x), a1, a2, a3] st h = a_run d MX2_prunes 37 [some (.ref x), a1, a2, a3] (.ref x :: st) h := w_ldAn dX2_prunes_36 rfl
theorem w_X2_prunes_37 (d : Nat) (a0 a1 a3 : Option Value) (x : Int32) (st : List Value) (h : a_H) : a_run d MX2_prunes 37 [a0, a1, some (.int x), a3] st h = a_run d MX2_prunes 38 [a0, a1, some (.int x), a3] (.int x :: st) h := w_ldIn dX2_prunes_37 rfl
theorem w_X2_prunes_38 (d : Nat) (L : a_L) (i : Nat) (v1 : Value) (st : List Value) (h : a_H) (hk : a_kls h i = some 1) (hc : a_cat st ≤ 8) : a_run d MX2_prunes 38 L (v1 :: .ref i :: st) h = a_cont d MX2_prunes (a_bk MX2_prunes 38 L st (a_call d MX2_losesArrow [.ref i, v1] h)) := w_callV (as := [.ref i, v1]) dX2_prunes_38 rfl rfl rfl hc (a_rcv_of hk rfl)
theorem w_X2_prunes_41 (d : Nat) (a0 a1 a2 a3 : Option Value) (x : Int32) (st : List Value) (h : a_H) : a_run d MX2_prunes 41 [a0, a1, a2, a3] (.int x :: st) h = a_run d MX2_prunes 42 [a0, a1, a2, some (.int x)] st h := w_stIn dX2_prunes_41 (Nat.le_of_ble_eq_true rfl) rfl
theorem w_X2_prunes_42 (d : Nat) (a0 a1 a3 : Option Value) (x : Int32) (st : List Value) (h : a_H) : a_run d MX2_prunes 42 [a0, a1, some (.int x), a3] st h = a_run d MX2_prunes 45 [a0, a1, some (.int (x + (-1))), a3] st h := w_incL dX2_prunes_42 rfl rfl rfl
theorem w_X2_prunes_45 (d : Nat) (L : a_L) (st : List Value) (h : a_H) : a_run d MX2_prunes 45 L st h = a_run d MX2_prunes 12 L st h := w_goto dX2_prunes_45 rfl
theorem w_X2_prunes_48 (d : Nat) (a1 a2 a3 : Option Value) (x : Nat) (st : List Value) (h : a_H) : a_run d MX2_prunes 48 [some (.ref x), a1, a2, a3] st h = a_run d MX2_prunes 49 [some (.ref x), a1, a2, a3] (.ref x :: st) h := w_ldAn dX2_prunes_48 rfl
theorem w_X2_prunes_49 (d : Nat) (L : a_L) (i : Nat) (st : List Value) (h : a_H) (hk : a_kls h i = some 1) (hc : a_cat st ≤ 8) : a_run d MX2_prunes 49 L (.ref i :: st) h = a_cont d MX2_prunes (a_bk MX2_prunes 49 L st (a_call d MX2_lays [.ref i] h)) := w_callV (as := [.ref i]) dX2_prunes_49 rfl rfl rfl hc (a_rcv_of hk rfl)
theorem w_X2_prunes_52 (d : Nat) (a0 a2 a3 : Option Value) (x : Int32) (st : List Value) (h : a_H) : a_run d MX2_prunes 52 [a0, some (.int x), a2, a3] st h = a_run d MX2_prunes 53 [a0, some (.int x), a2, a3] (.int x :: st) h := w_ldIn dX2_prunes_52 rfl
theorem w_X2_prunes_53 (d : Nat) (a1 a2 a3 : Option Value) (x : Nat) (st : List Value) (h : a_H) : a_run d MX2_prunes 53 [some (.ref x), a1, a2, a3] st h = a_run d MX2_prunes 54 [some (.ref x), a1, a2, a3] (.ref x :: st) h := w_ldAn dX2_prunes_53 rfl
theorem w_X2_prunes_54 (d : Nat) (L : a_L) (i : Nat) (st : List Value) (h : a_H) : a_run d MX2_prunes 54 L (.ref i :: st) h = (a_gf h i 12 [1]).bind fun v => a_run d MX2_prunes 57 L (v :: st) h := w_getf dX2_prunes_54 rfl
theorem w_X2_prunes_57 (d : Nat) (L : a_L) (x y : Int32) (st : List Value) (h : a_H) : a_run d MX2_prunes 57 L (.int y :: .int x :: st) h = a_run d MX2_prunes 58 L (.int (x - y) :: st) h := w_isub dX2_prunes_57
theorem w_X2_prunes_58 (d : Nat) (L : a_L) (x : Int32) (h : a_H) : a_run d MX2_prunes 58 L [.int x] h = some (.inl (some (.int x)), h) := w_iret dX2_prunes_58 (w_retI rfl)
theorem e_X2_turnsRound (d : Nat) (x0 : Nat) (h : a_H) : a_call (d + 1) MX2_turnsRound [.ref x0] h = a_run d MX2_turnsRound 0 [some (.ref x0), none, none] [] h := a_call_run rfl (Nat.le_of_ble_eq_true rfl) rfl
theorem w_X2_turnsRound_0 (d : Nat) (L : a_L) (st : List Value) (h : a_H) : a_run d MX2_turnsRound 0 L st h = a_run d MX2_turnsRound 1 L (.int (nI 0) :: st) h := w_iconst dX2_turnsRound_0 rfl
theorem w_X2_turnsRound_1 (d : Nat) (a0 a1 a2 : Option Value) (x : Int32) (st : List Value) (h : a_H) : a_run d MX2_turnsRound 1 [a0, a1, a2] (.int x :: st) h = a_run d MX2_turnsRound 2 [a0, some (.int x), a2] st h := w_stIn dX2_turnsRound_1 (Nat.le_of_ble_eq_true rfl) rfl
theorem w_X2_turnsRound_2 (d : Nat) (a0 a2 : Option Value) (x : Int32) (st : List Value) (h : a_H) : a_run d MX2_turnsRound 2 [a0, some (.int x), a2] st h = a_run d MX2_turnsRound 3 [a0, some (.int x), a2] (.int x :: st) h := w_ldIn dX2_turnsRound_2 rfl
theorem w_X2_turnsRound_3 (d : Nat) (a1 a2 : Option Value) (x : Nat) (st : List Value) (h : a_H) : a_run d MX2_turnsRound 3 [some (.ref x), a1, a2] st h = a_run d MX2_turnsRound 4 [some (.ref x), a1, a2] (.ref x :: st) h := w_ldAn dX2_turnsRound_3 rfl
theorem w_X2_turnsRound_4 (d : Nat) (L : a_L) (i : Nat) (st : List Value) (h : a_H) : a_run d MX2_turnsRound 4 L (.ref i :: st) h = (a_gf h i 12 [1]).bind fun v => a_run d MX2_turnsRound 7 L (v :: st) h := w_getf dX2_turnsRound_4 rfl
theorem w_X2_turnsRound_7 (d : Nat) (L : a_L) (x y : Int32) (st : List Value) (h : a_H) : a_run d MX2_turnsRound 7 L (.int y :: .int x :: st) h = if x < y then a_run d MX2_turnsRound 10 L st h else a_run d MX2_turnsRound 42 L st h := w_icmp_ge dX2_turnsRound_7 rfl
theorem w_X2_turnsRound_10 (d : Nat) (a1 a2 : Option Value) (x : Nat) (st : List Value) (h : a_H) : a_run d MX2_turnsRound 10 [some (.ref x), a1, a2] st h = a_run d MX2_turnsRound 11 [some (.ref x), a1, a2] (.ref x :: st) h := w_ldAn dX2_turnsRound_10 rfl
theorem w_X2_turnsRound_11 (d : Nat) (L : a_L) (i : Nat) (st : List Value) (h : a_H) : a_run d MX2_turnsRound 11 L (.ref i :: st) h = (a_gf h i 0 [1]).bind fun v => a_run d MX2_turnsRound 14 L (v :: st) h := w_getf dX2_turnsRound_11 rfl
theorem w_X2_turnsRound_14 (d : Nat) (a0 a2 : Option Value) (x : Int32) (st : List Value) (h : a_H) : a_run d MX2_turnsRound 14 [a0, some (.int x), a2] st h = a_run d MX2_turnsRound 15 [a0, some (.int x), a2] (.int x :: st) h := w_ldIn dX2_turnsRound_14 rfl
theorem w_X2_turnsRound_15 (d : Nat) (L : a_L) (x : Int32) (i : Nat) (st : List Value) (h : a_H) : a_run d MX2_turnsRound 15 L (.int x :: .ref i :: st) h = (a_rdi h i a_int x).bind fun v => a_run d MX2_turnsRound 16 L (v :: st) h := w_iald dX2_turnsRound_15
theorem w_X2_turnsRound_16 (d : Nat) (a0 a1 a2 : Option Value) (x : Int32) (st : List Value) (h : a_H) : a_run d MX2_turnsRound 16 [a0, a1, a2] (.int x :: st) h = a_run d MX2_turnsRound 17 [a0, a1, some (.int x)] st h := w_stIn dX2_turnsRound_16 (Nat.le_of_ble_eq_true rfl) rfl
theorem w_X2_turnsRound_17 (d : Nat) (a1 a2 : Option Value) (x : Nat) (st : List Value) (h : a_H) : a_run d MX2_turnsRound 17 [some (.ref x), a1, a2] st h = a_run d MX2_turnsRound 18 [some (.ref x), a1, a2] (.ref x :: st) h := w_ldAn dX2_turnsRound_17 rfl
theorem w_X2_turnsRound_18 (d : Nat) (L : a_L) (i : Nat) (st : List Value) (h : a_H) : a_run d MX2_turnsRound 18 L (.ref i :: st) h = (a_gf h i 0 [1]).bind fun v => a_run d MX2_turnsRound 21 L (v :: st) h := w_getf dX2_turnsRound_18 rfl
theorem w_X2_turnsRound_21 (d : Nat) (a0 a2 : Option Value) (x : Int32) (st : List Value) (h : a_H) : a_run d MX2_turnsRound 21 [a0, some (.int x), a2] st h = a_run d MX2_turnsRound 22 [a0, some (.int x), a2] (.int x :: st) h := w_ldIn dX2_turnsRound_21 rfl
theorem w_X2_turnsRound_22 (d : Nat) (a1 a2 : Option Value) (x : Nat) (st : List Value) (h : a_H) : a_run d MX2_turnsRound 22 [some (.ref x), a1, a2] st h = a_run d MX2_turnsRound 23 [some (.ref x), a1, a2] (.ref x :: st) h := w_ldAn dX2_turnsRound_22 rfl
theorem w_X2_turnsRound_23 (d : Nat) (L : a_L) (i : Nat) (st : List Value) (h : a_H) : a_run d MX2_turnsRound 23 L (.ref i :: st) h = (a_gf h i 1 [1]).bind fun v => a_run d MX2_turnsRound 26 L (v :: st) h := w_getf dX2_turnsRound_23 rfl
theorem w_X2_turnsRound_26 (d : Nat) (a0 a2 : Option Value) (x : Int32) (st : List Value) (h : a_H) : a_run d MX2_turnsRound 26 [a0, some (.int x), a2] st h = a_run d MX2_turnsRound 27 [a0, some (.int x), a2] (.int x :: st) h := w_ldIn dX2_turnsRound_26 rfl
theorem w_X2_turnsRound_27 (d : Nat) (L : a_L) (x : Int32) (i : Nat) (st : List Value) (h : a_H) : a_run d MX2_turnsRound 27 L (.int x :: .ref i :: st) h = (a_rdi h i a_int x).bind fun v => a_run d MX2_turnsRound 28 L (v :: st) h := w_iald dX2_turnsRound_27
theorem w_X2_turnsRound_28 (d : Nat) (L : a_L) (x y : Int32) (i : Nat) (st : List Value) (h : a_H) : a_run d MX2_turnsRound 28 L (.int y :: .int x :: .ref i :: st) h = (a_wri h i a_int x y).bind fun h' => a_run d MX2_turnsRound 29 L st h' := w_iast dX2_turnsRound_28
theorem w_X2_turnsRound_29 (d : Nat) (a1 a2 : Option Value) (x : Nat) (st : List Value) (h : a_H) : a_run d MX2_turnsRound 29 [some (.ref x), a1, a2] st h = a_run d MX2_turnsRound 30 [some (.ref x), a1, a2] (.ref x :: st) h := w_ldAn dX2_turnsRound_29 rfl
theorem w_X2_turnsRound_30 (d : Nat) (L : a_L) (i : Nat) (st : List Value) (h : a_H) : a_run d MX2_turnsRound 30 L (.ref i :: st) h = (a_gf h i 1 [1]).bind fun v => a_run d MX2_turnsRound 33 L (v :: st) h := w_getf dX2_turnsRound_30 rfl
theorem w_X2_turnsRound_33 (d : Nat) (a0 a2 : Option Value) (x : Int32) (st : List Value) (h : a_H) : a_run d MX2_turnsRound 33 [a0, some (.int x), a2] st h = a_run d MX2_turnsRound 34 [a0, some (.int x), a2] (.int x :: st) h := w_ldIn dX2_turnsRound_33 rfl
theorem w_X2_turnsRound_34 (d : Nat) (a0 a1 : Option Value) (x : Int32) (st : List Value) (h : a_H) : a_run d MX2_turnsRound 34 [a0, a1, some (.int x)] st h = a_run d MX2_turnsRound 35 [a0, a1, some (.int x)] (.int x :: st) h := w_ldIn dX2_turnsRound_34 rfl
theorem w_X2_turnsRound_35 (d : Nat) (L : a_L) (x y : Int32) (i : Nat) (st : List Value) (h : a_H) : a_run d MX2_turnsRound 35 L (.int y :: .int x :: .ref i :: st) h = (a_wri h i a_int x y).bind fun h' => a_run d MX2_turnsRound 36 L st h' := w_iast dX2_turnsRound_35
theorem w_X2_turnsRound_36 (d : Nat) (a0 a2 : Option Value) (x : Int32) (st : List Value) (h : a_H) : a_run d MX2_turnsRound 36 [a0, some (.int x), a2] st h = a_run d MX2_turnsRound 39 [a0, some (.int (x + nI 1)), a2] st h := w_incL dX2_turnsRound_36 rfl rfl rfl
theorem w_X2_turnsRound_39 (d : Nat) (L : a_L) (st : List Value) (h : a_H) : a_run d MX2_turnsRound 39 L st h = a_run d MX2_turnsRound 2 L st h := w_goto dX2_turnsRound_39 rfl
theorem w_X2_turnsRound_42 (d : Nat) (a1 a2 : Option Value) (x : Nat) (st : List Value) (h : a_H) : a_run d MX2_turnsRound 42 [some (.ref x), a1, a2] st h = a_run d MX2_turnsRound 43 [some (.ref x), a1, a2] (.ref x :: st) h := w_ldAn dX2_turnsRound_42 rfl
theorem w_X2_turnsRound_43 (d : Nat) (L : a_L) (i : Nat) (st : List Value) (h : a_H) (hk : a_kls h i = some 1) (hc : a_cat st ≤ 8) : a_run d MX2_turnsRound 43 L (.ref i :: st) h = a_cont d MX2_turnsRound (a_bk MX2_turnsRound 43 L st (a_call d MX2_lays [.ref i] h)) := w_callV (as := [.ref i]) dX2_turnsRound_43 rfl rfl rfl hc (a_rcv_of hk rfl)
theorem w_X2_turnsRound_46 (d : Nat) (a1 a2 : Option Value) (x : Nat) (st : List Value) (h : a_H) : a_run d MX2_turnsRound 46 [some (.ref x), a1, a2] st h = a_run d MX2_turnsRound 47 [some (.ref x), a1, a2] (.ref x :: st) h := w_ldAn dX2_turnsRound_46 rfl
theorem w_X2_turnsRound_47 (d : Nat) (L : a_L) (i : Nat) (st : List Value) (h : a_H) : a_run d MX2_turnsRound 47 L (.ref i :: st) h = (a_gf h i 13 [1]).bind fun v => a_run d MX2_turnsRound 50 L (v :: st) h := w_getf dX2_turnsRound_47 rfl
theorem w_X2_turnsRound_50 (d : Nat) (L : a_L) (x : Int32) (h : a_H) : a_run d MX2_turnsRound 50 L [.int x] h = some (.inl (some (.int x)), h) := w_iret dX2_turnsRound_50 (w_retI rfl)
theorem e_X2_goes (d : Nat) (x0 : Nat) (x1 : Int32) (h : a_H) : a_call (d + 1) MX2_goes [.ref x0, .int x1] h = a_run d MX2_goes 0 [some (.ref x0), some (.int x1)] [] h := a_call_run rfl (Nat.le_of_ble_eq_true rfl) rfl
theorem w_X2_goes_0 (d : Nat) (a1 : Option Value) (x : Nat) (st : List Value) (h : a_H) : a_run d MX2_goes 0 [some (.ref x), a1] st h = a_run d MX2_goes 1 [some (.ref x), a1] (.ref x :: st) h := w_ldAn dX2_goes_0 rfl
theorem w_X2_goes_1 (d : Nat) (a0 : Option Value) (x : Int32) (st : List Value) (h : a_H) : a_run d MX2_goes 1 [a0, some (.int x)] st h = a_run d MX2_goes 2 [a0, some (.int x)] (.int x :: st) h := w_ldIn dX2_goes_1 rfl
theorem w_X2_goes_2 (d : Nat) (L : a_L) (i : Nat) (v1 : Value) (st : List Value) (h : a_H) (hk : a_kls h i = some 1) (hc : a_cat st ≤ 8) : a_run d MX2_goes 2 L (v1 :: .ref i :: st) h = a_cont d MX2_goes (a_bk MX2_goes 2 L st (a_call d MX2_brushes [.ref i, v1] h)) := w_callV (as := [.ref i, v1]) dX2_goes_2 rfl rfl rfl hc (a_rcv_of hk rfl)
theorem w_X2_goes_5 (d : Nat) (a1 : Option Value) (x : Nat) (st : List Value) (h : a_H) : a_run d MX2_goes 5 [some (.ref x), a1] st h = a_run d MX2_goes 6 [some (.ref x), a1] (.ref x :: st) h := w_ldAn dX2_goes_5 rfl
theorem w_X2_goes_6 (d : Nat) (L : a_L) (x : Nat) (st : List Value) (h : a_H) : a_run d MX2_goes 6 L (.ref x :: st) h = a_run d MX2_goes 7 L (.ref x :: .ref x :: st) h := w_dup dX2_goes_6
theorem w_X2_goes_6I (d : Nat) (L : a_L) (x : Int32) (st : List Value) (h : a_H) : a_run d MX2_goes 6 L (.int x :: st) h = a_run d MX2_goes 7 L (.int x :: .int x :: st) h := w_dupI dX2_goes_6
theorem w_X2_goes_7 (d : Nat) (L : a_L) (i : Nat) (st : List Value) (h : a_H) : a_run d MX2_goes 7 L (.ref i :: st) h = (a_gf h i 14 [1]).bind fun v => a_run d MX2_goes 10 L (v :: st) h := w_getf dX2_goes_7 rfl
theorem w_X2_goes_10 (d : Nat) (L : a_L) (st : List Value) (h : a_H) : a_run d MX2_goes 10 L st h = a_run d MX2_goes 11 L (.int (nI 1) :: st) h := w_iconst dX2_goes_10 rfl
theorem w_X2_goes_11 (d : Nat) (L : a_L) (x y : Int32) (st : List Value) (h : a_H) : a_run d MX2_goes 11 L (.int y :: .int x :: st) h = a_run d MX2_goes 12 L (.int (x + y) :: st) h := w_iadd dX2_goes_11
theorem w_X2_goes_12 (d : Nat) (L : a_L) (x : Int32) (i : Nat) (st : List Value) (h : a_H) : a_run d MX2_goes 12 L (.int x :: .ref i :: st) h = (a_pf h i 14 [1] (.int x)).bind fun h' => a_run d MX2_goes 15 L st h' := w_putf dX2_goes_12 rfl rfl (Or.inl rfl) rfl rfl
theorem w_X2_goes_15 (d : Nat) (a1 : Option Value) (x : Nat) (st : List Value) (h : a_H) : a_run d MX2_goes 15 [some (.ref x), a1] st h = a_run d MX2_goes 16 [some (.ref x), a1] (.ref x :: st) h := w_ldAn dX2_goes_15 rfl
theorem w_X2_goes_16 (d : Nat) (L : a_L) (i : Nat) (st : List Value) (h : a_H) (hk : a_kls h i = some 1) (hc : a_cat st ≤ 8) : a_run d MX2_goes 16 L (.ref i :: st) h = a_cont d MX2_goes (a_bk MX2_goes 16 L st (a_call d MX2_allCrossings [.ref i] h)) := w_callV (as := [.ref i]) dX2_goes_16 rfl rfl rfl hc (a_rcv_of hk rfl)
theorem w_X2_goes_19 (d : Nat) (L : a_L) (x : Int32) (h : a_H) : a_run d MX2_goes 19 L [.int x] h = some (.inl (some (.int x)), h) := w_iret dX2_goes_19 (w_retI rfl)
theorem e_X2_brushes (d : Nat) (x0 : Nat) (x1 : Int32) (h : a_H) : a_call (d + 1) MX2_brushes [.ref x0, .int x1] h = a_run d MX2_brushes 0 [some (.ref x0), some (.int x1), none] [] h := a_call_run rfl (Nat.le_of_ble_eq_true rfl) rfl
theorem w_X2_brushes_0 (d : Nat) (L : a_L) (st : List Value) (h : a_H) : a_run d MX2_brushes 0 L st h = a_run d MX2_brushes 1 L (.int (nI 1) :: st) h := w_iconst dX2_brushes_0 rfl
theorem w_X2_brushes_1 (d : Nat) (a0 a1 a2 : Option Value) (x : Int32) (st : List Value) (h : a_H) : a_run d MX2_brushes 1 [a0, a1, a2] (.int x :: st) h = a_run d MX2_brushes 2 [a0, a1, some (.int x)] st h := w_stIn dX2_brushes_1 (Nat.le_of_ble_eq_true rfl) rfl
theorem w_X2_brushes_2 (d : Nat) (a0 a1 : Option Value) (x : Int32) (st : List Value) (h : a_H) : a_run d MX2_brushes 2 [a0, a1, some (.int x)] st h = a_run d MX2_brushes 3 [a0, a1, some (.int x)] (.int x :: st) h := w_ldIn dX2_brushes_2 rfl
theorem w_X2_brushes_3 (d : Nat) (a1 a2 : Option Value) (x : Nat) (st : List Value) (h : a_H) : a_run d MX2_brushes 3 [some (.ref x), a1, a2] st h = a_run d MX2_brushes 4 [some (.ref x), a1, a2] (.ref x :: st) h := w_ldAn dX2_brushes_3 rfl
theorem w_X2_brushes_4 (d : Nat) (L : a_L) (i : Nat) (st : List Value) (h : a_H) : a_run d MX2_brushes 4 L (.ref i :: st) h = (a_gf h i 13 [1]).bind fun v => a_run d MX2_brushes 7 L (v :: st) h := w_getf dX2_brushes_4 rfl
theorem w_X2_brushes_7 (d : Nat) (L : a_L) (x y : Int32) (st : List Value) (h : a_H) : a_run d MX2_brushes 7 L (.int y :: .int x :: st) h = if x < y then a_run d MX2_brushes 10 L st h else a_run d MX2_brushes 37 L st h := w_icmp_ge dX2_brushes_7 rfl
theorem w_X2_brushes_10 (d : Nat) (a1 a2 : Option Value) (x : Nat) (st : List Value) (h : a_H) : a_run d MX2_brushes 10 [some (.ref x), a1, a2] st h = a_run d MX2_brushes 11 [some (.ref x), a1, a2] (.ref x :: st) h := w_ldAn dX2_brushes_10 rfl
theorem w_X2_brushes_11 (d : Nat) (a0 a2 : Option Value) (x : Int32) (st : List Value) (h : a_H) : a_run d MX2_brushes 11 [a0, some (.int x), a2] st h = a_run d MX2_brushes 12 [a0, some (.int x), a2] (.int x :: st) h := w_ldIn dX2_brushes_11 rfl
theorem w_X2_brushes_12 (d : Nat) (L : a_L) (x : Int32) (st : List Value) (h : a_H) : a_run d MX2_brushes 12 L (.int x :: st) h = if x = 0 then a_run d MX2_brushes 19 L st h else a_run d MX2_brushes 15 L st h := w_if_eq dX2_brushes_12 rfl
theorem w_X2_brushes_15 (d : Nat) (a0 a1 : Option Value) (x : Int32) (st : List Value) (h : a_H) : a_run d MX2_brushes 15 [a0, a1, some (.int x)] st h = a_run d MX2_brushes 16 [a0, a1, some (.int x)] (.int x :: st) h := w_ldIn dX2_brushes_15 rfl
theorem w_X2_brushes_16 (d : Nat) (L : a_L) (st : List Value) (h : a_H) : a_run d MX2_brushes 16 L st h = a_run d MX2_brushes 27 L st h := w_goto dX2_brushes_16 rfl
theorem w_X2_brushes_19 (d : Nat) (a1 a2 : Option Value) (x : Nat) (st : List Value) (h : a_H) : a_run d MX2_brushes 19 [some (.ref x), a1, a2] st h = a_run d MX2_brushes 20 [some (.ref x), a1, a2] (.ref x :: st) h := w_ldAn dX2_brushes_19 rfl
theorem w_X2_brushes_20 (d : Nat) (L : a_L) (i : Nat) (st : List Value) (h : a_H) : a_run d MX2_brushes 20 L (.ref i :: st) h = (a_gf h i 13 [1]).bind fun v => a_run d MX2_brushes 23 L (v :: st) h := w_getf dX2_brushes_20 rfl
theorem w_X2_brushes_23 (d : Nat) (L : a_L) (st : List Value) (h : a_H) : a_run d MX2_brushes 23 L st h = a_run d MX2_brushes 24 L (.int (nI 1) :: st) h := w_iconst dX2_brushes_23 rfl
theorem w_X2_brushes_24 (d : Nat) (L : a_L) (x y : Int32) (st : List Value) (h : a_H) : a_run d MX2_brushes 24 L (.int y :: .int x :: st) h = a_run d MX2_brushes 25 L (.int (x - y) :: st) h := w_isub dX2_brushes_24
theorem w_X2_brushes_25 (d : Nat) (a0 a1 : Option Value) (x : Int32) (st : List Value) (h : a_H) : a_run d MX2_brushes 25 [a0, a1, some (.int x)] st h = a_run d MX2_brushes 26 [a0, a1, some (.int x)] (.int x :: st) h := w_ldIn dX2_brushes_25 rfl
theorem w_X2_brushes_26 (d : Nat) (L : a_L) (x y : Int32) (st : List Value) (h : a_H) : a_run d MX2_brushes 26 L (.int y :: .int x :: st) h = a_run d MX2_brushes 27 L (.int (x - y) :: st) h := w_isub dX2_brushes_26
theorem w_X2_brushes_27 (d : Nat) (a0 a2 : Option Value) (x : Int32) (st : List Value) (h : a_H) : a_run d MX2_brushes 27 [a0, some (.int x), a2] st h = a_run d MX2_brushes 28 [a0, some (.int x), a2] (.int x :: st) h := w_ldIn dX2_brushes_27 rfl
theorem w_X2_brushes_28 (d : Nat) (L : a_L) (i : Nat) (v1 v2 : Value) (st : List Value) (h : a_H) (hk : a_kls h i = some 1) (hc : a_cat st ≤ 8) : a_run d MX2_brushes 28 L (v2 :: v1 :: .ref i :: st) h = a_cont d MX2_brushes (a_bk MX2_brushes 28 L st (a_call d MX2_orders [.ref i, v1, v2] h)) := w_callV (as := [.ref i, v1, v2]) dX2_brushes_28 rfl rfl rfl hc (a_rcv_of hk rfl)
theorem w_X2_brushes_31 (d : Nat) (a0 a1 : Option Value) (x : Int32) (st : List Value) (h : a_H) : a_run d MX2_brushes 31 [a0, a1, some (.int x)] st h = a_run d MX2_brushes 34 [a0, a1, some (.int (x + nI 1))] st h := w_incL dX2_brushes_31 rfl rfl rfl
theorem w_X2_brushes_34 (d : Nat) (L : a_L) (st : List Value) (h : a_H) : a_run d MX2_brushes 34 L st h = a_run d MX2_brushes 2 L st h := w_goto dX2_brushes_34 rfl
theorem w_X2_brushes_37 (d : Nat) (L : a_L) (h : a_H) : a_run d MX2_brushes 37 L [] h = some (.inl none, h) := w_vret dX2_brushes_37 rfl
theorem e_X2_orders (d : Nat) (x0 : Nat) (x1 : Int32) (x2 : Int32) (h : a_H) : a_call (d + 1) MX2_orders [.ref x0, .int x1, .int x2] h = a_run d MX2_orders 0 [some (.ref x0), some (.int x1), some (.int x2), none, none, none] [] h := a_call_run rfl (Nat.le_of_ble_eq_true rfl) rfl
theorem w_X2_orders_0 (d : Nat) (L : a_L) (st : List Value) (h : a_H) : a_run d MX2_orders 0 L st h = a_run d MX2_orders 1 L (.int (nI 0) :: st) h := w_iconst dX2_orders_0 rfl
theorem w_X2_orders_1 (d : Nat) (a0 a1 a2 a3 a4 a5 : Option Value) (x : Int32) (st : List Value) (h : a_H) : a_run d MX2_orders 1 [a0, a1, a2, a3, a4, a5] (.int x :: st) h = a_run d MX2_orders 2 [a0, a1, a2, some (.int x), a4, a5] st h := w_stIn dX2_orders_1 (Nat.le_of_ble_eq_true rfl) rfl
theorem w_X2_orders_2 (d : Nat) (a0 a1 a2 a4 a5 : Option Value) (x : Int32) (st : List Value) (h : a_H) : a_run d MX2_orders 2 [a0, a1, a2, some (.int x), a4, a5] st h = a_run d MX2_orders 3 [a0, a1, a2, some (.int x), a4, a5] (.int x :: st) h := w_ldIn dX2_orders_2 rfl
theorem w_X2_orders_3 (d : Nat) (a1 a2 a3 a4 a5 : Option Value) (x : Nat) (st : List Value) (h : a_H) : a_run d MX2_orders 3 [some (.ref x), a1, a2, a3, a4, a5] st h = a_run d MX2_orders 4 [some (.ref x), a1, a2, a3, a4, a5] (.ref x :: st) h := w_ldAn dX2_orders_3 rfl
theorem w_X2_orders_4 (d : Nat) (L : a_L) (i : Nat) (st : List Value) (h : a_H) : a_run d MX2_orders 4 L (.ref i :: st) h = (a_gf h i 5 [1]).bind fun v => a_run d MX2_orders 7 L (v :: st) h := w_getf dX2_orders_4 rfl
theorem w_X2_orders_7 (d : Nat) (a0 a2 a3 a4 a5 : Option Value) (x : Int32) (st : List Value) (h : a_H) : a_run d MX2_orders 7 [a0, some (.int x), a2, a3, a4, a5] st h = a_run d MX2_orders 8 [a0, some (.int x), a2, a3, a4, a5] (.int x :: st) h := w_ldIn dX2_orders_7 rfl
theorem w_X2_orders_8 (d : Nat) (L : a_L) (x : Int32) (i : Nat) (st : List Value) (h : a_H) : a_run d MX2_orders 8 L (.int x :: .ref i :: st) h = (a_rdi h i a_int x).bind fun v => a_run d MX2_orders 9 L (v :: st) h := w_iald dX2_orders_8
theorem w_X2_orders_9 (d : Nat) (L : a_L) (x y : Int32) (st : List Value) (h : a_H) : a_run d MX2_orders 9 L (.int y :: .int x :: st) h = if x < y then a_run d MX2_orders 12 L st h else a_run d MX2_orders 109 L st h := w_icmp_ge dX2_orders_9 rfl
theorem w_X2_orders_12 (d : Nat) (a1 a2 a3 a4 a5 : Option Value) (x : Nat) (st : List Value) (h : a_H) : a_run d MX2_orders 12 [some (.ref x), a1, a2, a3, a4, a5] st h = a_run d MX2_orders 13 [some (.ref x), a1, a2, a3, a4, a5] (.ref x :: st) h := w_ldAn dX2_orders_12 rfl
theorem w_X2_orders_13 (d : Nat) (a0 a2 a3 a4 a5 : Option Value) (x : Int32) (st : List Value) (h : a_H) : a_run d MX2_orders 13 [a0, some (.int x), a2, a3, a4, a5] st h = a_run d MX2_orders 14 [a0, some (.int x), a2, a3, a4, a5] (.int x :: st) h := w_ldIn dX2_orders_13 rfl
theorem w_X2_orders_14 (d : Nat) (a0 a1 a2 a4 a5 : Option Value) (x : Int32) (st : List Value) (h : a_H) : a_run d MX2_orders 14 [a0, a1, a2, some (.int x), a4, a5] st h = a_run d MX2_orders 15 [a0, a1, a2, some (.int x), a4, a5] (.int x :: st) h := w_ldIn dX2_orders_14 rfl
theorem w_X2_orders_15 (d : Nat) (a0 a1 a3 a4 a5 : Option Value) (x : Int32) (st : List Value) (h : a_H) : a_run d MX2_orders 15 [a0, a1, some (.int x), a3, a4, a5] st h = a_run d MX2_orders 16 [a0, a1, some (.int x), a3, a4, a5] (.int x :: st) h := w_ldIn dX2_orders_15 rfl
theorem w_X2_orders_16 (d : Nat) (L : a_L) (i : Nat) (v1 v2 v3 : Value) (st : List Value) (h : a_H) (hk : a_kls h i = some 1) (hc : a_cat st ≤ 8) : a_run d MX2_orders 16 L (v3 :: v2 :: v1 :: .ref i :: st) h = a_cont d MX2_orders (a_bk MX2_orders 16 L st (a_call d MX2_median [.ref i, v1, v2, v3] h)) := w_callV (as := [.ref i, v1, v2, v3]) dX2_orders_16 rfl rfl rfl hc (a_rcv_of hk rfl)
theorem w_X2_orders_19 (d : Nat) (a0 a1 a2 a3 a4 a5 : Option Value) (x : Int32) (st : List Value) (h : a_H) : a_run d MX2_orders 19 [a0, a1, a2, a3, a4, a5] (.int x :: st) h = a_run d MX2_orders 21 [a0, a1, a2, a3, some (.int x), a5] st h := w_stI dX2_orders_19 (Nat.le_of_ble_eq_true rfl) rfl
theorem w_X2_orders_21 (d : Nat) (a0 a1 a2 a4 a5 : Option Value) (x : Int32) (st : List Value) (h : a_H) : a_run d MX2_orders 21 [a0, a1, a2, some (.int x), a4, a5] st h = a_run d MX2_orders 22 [a0, a1, a2, some (.int x), a4, a5] (.int x :: st) h := w_ldIn dX2_orders_21 rfl
theorem w_X2_orders_22 (d : Nat) (a0 a1 a2 a3 a4 a5 : Option Value) (x : Int32) (st : List Value) (h : a_H) : a_run d MX2_orders 22 [a0, a1, a2, a3, a4, a5] (.int x :: st) h = a_run d MX2_orders 24 [a0, a1, a2, a3, a4, some (.int x)] st h := w_stI dX2_orders_22 (Nat.le_of_ble_eq_true rfl) rfl
theorem w_X2_orders_24 (d : Nat) (a0 a1 a2 a3 a4 : Option Value) (x : Int32) (st : List Value) (h : a_H) : a_run d MX2_orders 24 [a0, a1, a2, a3, a4, some (.int x)] st h = a_run d MX2_orders 26 [a0, a1, a2, a3, a4, some (.int x)] (.int x :: st) h := w_ldI dX2_orders_24 rfl
theorem w_X2_orders_26 (d : Nat) (L : a_L) (x : Int32) (st : List Value) (h : a_H) : a_run d MX2_orders 26 L (.int x :: st) h = if 0 < x then a_run d MX2_orders 29 L st h else a_run d MX2_orders 81 L st h := w_if_le dX2_orders_26 rfl
theorem w_X2_orders_29 (d : Nat) (a1 a2 a3 a4 a5 : Option Value) (x : Nat) (st : List Value) (h : a_H) : a_run d MX2_orders 29 [some (.ref x), a1, a2, a3, a4, a5] st h = a_run d MX2_orders 30 [some (.ref x), a1, a2, a3, a4, a5] (.ref x :: st) h := w_ldAn dX2_orders_29 rfl
theorem w_X2_orders_30 (d : Nat) (L : a_L) (i : Nat) (st : List Value) (h : a_H) : a_run d MX2_orders 30 L (.ref i :: st) h = (a_gf h i 9 [1]).bind fun v => a_run d MX2_orders 33 L (v :: st) h := w_getf dX2_orders_30 rfl
theorem w_X2_orders_33 (d : Nat) (a0 a1 a2 a3 a4 : Option Value) (x : Int32) (st : List Value) (h : a_H) : a_run d MX2_orders 33 [a0, a1, a2, a3, a4, some (.int x)] st h = a_run d MX2_orders 35 [a0, a1, a2, a3, a4, some (.int x)] (.int x :: st) h := w_ldI dX2_orders_33 rfl
theorem w_X2_orders_35 (d : Nat) (L : a_L) (st : List Value) (h : a_H) : a_run d MX2_orders 35 L st h = a_run d MX2_orders 36 L (.int (nI 1) :: st) h := w_iconst dX2_orders_35 rfl
theorem w_X2_orders_36 (d : Nat) (L : a_L) (x y : Int32) (st : List Value) (h : a_H) : a_run d MX2_orders 36 L (.int y :: .int x :: st) h = a_run d MX2_orders 37 L (.int (x - y) :: st) h := w_isub dX2_orders_36
theorem w_X2_orders_37 (d : Nat) (L : a_L) (x : Int32) (i : Nat) (st : List Value) (h : a_H) : a_run d MX2_orders 37 L (.int x :: .ref i :: st) h = (a_rdi h i a_int x).bind fun v => a_run d MX2_orders 38 L (v :: st) h := w_iald dX2_orders_37
theorem w_X2_orders_38 (d : Nat) (a0 a1 a2 a3 a5 : Option Value) (x : Int32) (st : List Value) (h : a_H) : a_run d MX2_orders 38 [a0, a1, a2, a3, some (.int x), a5] st h = a_run d MX2_orders 40 [a0, a1, a2, a3, some (.int x), a5] (.int x :: st) h := w_ldI dX2_orders_38 rfl
theorem w_X2_orders_40 (d : Nat) (L : a_L) (x y : Int32) (st : List Value) (h : a_H) : a_run d MX2_orders 40 L (.int y :: .int x :: st) h = if y < x then a_run d MX2_orders 43 L st h else a_run d MX2_orders 81 L st h := w_icmp_le dX2_orders_40 rfl
theorem w_X2_orders_43 (d : Nat) (a1 a2 a3 a4 a5 : Option Value) (x : Nat) (st : List Value) (h : a_H) : a_run d MX2_orders 43 [some (.ref x), a1, a2, a3, a4, a5] st h = a_run d MX2_orders 44 [some (.ref x), a1, a2, a3, a4, a5] (.ref x :: st) h := w_ldAn dX2_orders_43 rfl
theorem w_X2_orders_44 (d : Nat) (L : a_L) (i : Nat) (st : List Value) (h : a_H) : a_run d MX2_orders 44 L (.ref i :: st) h = (a_gf h i 9 [1]).bind fun v => a_run d MX2_orders 47 L (v :: st) h := w_getf dX2_orders_44 rfl
theorem w_X2_orders_47 (d : Nat) (a0 a1 a2 a3 a4 : Option Value) (x : Int32) (st : List Value) (h : a_H) : a_run d MX2_orders 47 [a0, a1, a2, a3, a4, some (.int x)] st h = a_run d MX2_orders 49 [a0, a1, a2, a3, a4, some (.int x)] (.int x :: st) h := w_ldI dX2_orders_47 rfl
theorem w_X2_orders_49 (d : Nat) (a1 a2 a3 a4 a5 : Option Value) (x : Nat) (st : List Value) (h : a_H) : a_run d MX2_orders 49 [some (.ref x), a1, a2, a3, a4, a5] st h = a_run d MX2_orders 50 [some (.ref x), a1, a2, a3, a4, a5] (.ref x :: st) h := w_ldAn dX2_orders_49 rfl
theorem w_X2_orders_50 (d : Nat) (L : a_L) (i : Nat) (st : List Value) (h : a_H) : a_run d MX2_orders 50 L (.ref i :: st) h = (a_gf h i 9 [1]).bind fun v => a_run d MX2_orders 53 L (v :: st) h := w_getf dX2_orders_50 rfl
theorem w_X2_orders_53 (d : Nat) (a0 a1 a2 a3 a4 : Option Value) (x : Int32) (st : List Value) (h : a_H) : a_run d MX2_orders 53 [a0, a1, a2, a3, a4, some (.int x)] st h = a_run d MX2_orders 55 [a0, a1, a2, a3, a4, some (.int x)] (.int x :: st) h := w_ldI dX2_orders_53 rfl
theorem w_X2_orders_55 (d : Nat) (L : a_L) (st : List Value) (h : a_H) : a_run d MX2_orders 55 L st h = a_run d MX2_orders 56 L (.int (nI 1) :: st) h := w_iconst dX2_orders_55 rfl
theorem w_X2_orders_56 (d : Nat) (L : a_L) (x y : Int32) (st : List Value) (h : a_H) : a_run d MX2_orders 56 L (.int y :: .int x :: st) h = a_run d MX2_orders 57 L (.int (x - y) :: st) h := w_isub dX2_orders_56
theorem w_X2_orders_57 (d : Nat) (L : a_L) (x : Int32) (i : Nat) (st : List Value) (h : a_H) : a_run d MX2_orders 57 L (.int x :: .ref i :: st) h = (a_rdi h i a_int x).bind fun v => a_run d MX2_orders 58 L (v :: st) h := w_iald dX2_orders_57
theorem w_X2_orders_58 (d : Nat) (L : a_L) (x y : Int32) (i : Nat) (st : List Value) (h : a_H) : a_run d MX2_orders 58 L (.int y :: .int x :: .ref i :: st) h = (a_wri h i a_int x y).bind fun h' => a_run d MX2_orders 59 L st h' := w_iast dX2_orders_58
theorem w_X2_orders_59 (d : Nat) (a1 a2 a3 a4 a5 : Option Value) (x : Nat) (st : List Value) (h : a_H) : a_run d MX2_orders 59 [some (.ref x), a1, a2, a3, a4, a5] st h = a_run d MX2_orders 60 [some (.ref x), a1, a2, a3, a4, a5] (.ref x :: st) h := w_ldAn dX2_orders_59 rfl
theorem w_X2_orders_60 (d : Nat) (L : a_L) (i : Nat) (st : List Value) (h : a_H) : a_run d MX2_orders 60 L (.ref i :: st) h = (a_gf h i 10 [1]).bind fun v => a_run d MX2_orders 63 L (v :: st) h := w_getf dX2_orders_60 rfl
theorem w_X2_orders_63 (d : Nat) (a0 a1 a2 a3 a4 : Option Value) (x : Int32) (st : List Value) (h : a_H) : a_run d MX2_orders 63 [a0, a1, a2, a3, a4, some (.int x)] st h = a_run d MX2_orders 65 [a0, a1, a2, a3, a4, some (.int x)] (.int x :: st) h := w_ldI dX2_orders_63 rfl
theorem w_X2_orders_65 (d : Nat) (a1 a2 a3 a4 a5 : Option Value) (x : Nat) (st : List Value) (h : a_H) : a_run d MX2_orders 65 [some (.ref x), a1, a2, a3, a4, a5] st h = a_run d MX2_orders 66 [some (.ref x), a1, a2, a3, a4, a5] (.ref x :: st) h := w_ldAn dX2_orders_65 rfl
theorem w_X2_orders_66 (d : Nat) (L : a_L) (i : Nat) (st : List Value) (h : a_H) : a_run d MX2_orders 66 L (.ref i :: st) h = (a_gf h i 10 [1]).bind fun v => a_run d MX2_orders 69 L (v :: st) h := w_getf dX2_orders_66 rfl
theorem w_X2_orders_69 (d : Nat) (a0 a1 a2 a3 a4 : Option Value) (x : Int32) (st : List Value) (h : a_H) : a_run d MX2_orders 69 [a0, a1, a2, a3, a4, some (.int x)] st h = a_run d MX2_orders 71 [a0, a1, a2, a3, a4, some (.int x)] (.int x :: st) h := w_ldI dX2_orders_69 rfl
theorem w_X2_orders_71 (d : Nat) (L : a_L) (st : List Value) (h : a_H) : a_run d MX2_orders 71 L st h = a_run d MX2_orders 72 L (.int (nI 1) :: st) h := w_iconst dX2_orders_71 rfl
theorem w_X2_orders_72 (d : Nat) (L : a_L) (x y : Int32) (st : List Value) (h : a_H) : a_run d MX2_orders 72 L (.int y :: .int x :: st) h = a_run d MX2_orders 73 L (.int (x - y) :: st) h := w_isub dX2_orders_72
theorem w_X2_orders_73 (d : Nat) (L : a_L) (x : Int32) (i : Nat) (st : List Value) (h : a_H) : a_run d MX2_orders 73 L (.int x :: .ref i :: st) h = (a_rdi h i a_int x).bind fun v => a_run d MX2_orders 74 L (v :: st) h := w_iald dX2_orders_73
theorem w_X2_orders_74 (d : Nat) (L : a_L) (x y : Int32) (i : Nat) (st : List Value) (h : a_H) : a_run d MX2_orders 74 L (.int y :: .int x :: .ref i :: st) h = (a_wri h i a_int x y).bind fun h' => a_run d MX2_orders 75 L st h' := w_iast dX2_orders_74
theorem w_X2_orders_75 (d : Nat) (a0 a1 a2 a3 a4 : Option Value) (x : Int32) (st : List Value) (h : a_H) : a_run d MX2_orders 75 [a0, a1, a2, a3, a4, some (.int x)] st h = a_run d MX2_orders 78 [a0, a1, a2, a3, a4, some (.int (x + (-1)))] st h := w_incL dX2_orders_75 rfl rfl rfl
theorem w_X2_orders_78 (d : Nat) (L : a_L) (st : List Value) (h : a_H) : a_run d MX2_orders 78 L st h = a_run d MX2_orders 24 L st h := w_goto dX2_orders_78 rfl
theorem w_X2_orders_81 (d : Nat) (a1 a2 a3 a4 a5 : Option Value) (x : Nat) (st : List Value) (h : a_H) : a_run d MX2_orders 81 [some (.ref x), a1, a2, a3, a4, a5] st h = a_run d MX2_orders 82 [some (.ref x), a1, a2, a3, a4, a5] (.ref x :: st) h := w_ldAn dX2_orders_81 rfl
theorem w_X2_orders_82 (d : Nat) (L : a_L) (i : Nat) (st : List Value) (h : a_H) : a_run d MX2_orders 82 L (.ref i :: st) h = (a_gf h i 9 [1]).bind fun v => a_run d MX2_orders 85 L (v :: st) h := w_getf dX2_orders_82 rfl
theorem w_X2_orders_85 (d : Nat) (a0 a1 a2 a3 a4 : Option Value) (x : Int32) (st : List Value) (h : a_H) : a_run d MX2_orders 85 [a0, a1, a2, a3, a4, some (.int x)] st h = a_run d MX2_orders 87 [a0, a1, a2, a3, a4, some (.int x)] (.int x :: st) h := w_ldI dX2_orders_85 rfl
theorem w_X2_orders_87 (d : Nat) (a0 a1 a2 a3 a5 : Option Value) (x : Int32) (st : List Value) (h : a_H) : a_run d MX2_orders 87 [a0, a1, a2, a3, some (.int x), a5] st h = a_run d MX2_orders 89 [a0, a1, a2, a3, some (.int x), a5] (.int x :: st) h := w_ldI dX2_orders_87 rfl
theorem w_X2_orders_89 (d : Nat) (L : a_L) (x y : Int32) (i : Nat) (st : List Value) (h : a_H) : a_run d MX2_orders 89 L (.int y :: .int x :: .ref i :: st) h = (a_wri h i a_int x y).bind fun h' => a_run d MX2_orders 90 L st h' := w_iast dX2_orders_89
theorem w_X2_orders_90 (d : Nat) (a1 a2 a3 a4 a5 : Option Value) (x : Nat) (st : List Value) (h : a_H) : a_run d MX2_orders 90 [some (.ref x), a1, a2, a3, a4, a5] st h = a_run d MX2_orders 91 [some (.ref x), a1, a2, a3, a4, a5] (.ref x :: st) h := w_ldAn dX2_orders_90 rfl
theorem w_X2_orders_91 (d : Nat) (L : a_L) (i : Nat) (st : List Value) (h : a_H) : a_run d MX2_orders 91 L (.ref i :: st) h = (a_gf h i 10 [1]).bind fun v => a_run d MX2_orders 94 L (v :: st) h := w_getf dX2_orders_91 rfl
theorem w_X2_orders_94 (d : Nat) (a0 a1 a2 a3 a4 : Option Value) (x : Int32) (st : List Value) (h : a_H) : a_run d MX2_orders 94 [a0, a1, a2, a3, a4, some (.int x)] st h = a_run d MX2_orders 96 [a0, a1, a2, a3, a4, some (.int x)] (.int x :: st) h := w_ldI dX2_orders_94 rfl
theorem w_X2_orders_96 (d : Nat) (a1 a2 a3 a4 a5 : Option Value) (x : Nat) (st : List Value) (h : a_H) : a_run d MX2_orders 96 [some (.ref x), a1, a2, a3, a4, a5] st h = a_run d MX2_orders 97 [some (.ref x), a1, a2, a3, a4, a5] (.ref x :: st) h := w_ldAn dX2_orders_96 rfl
theorem w_X2_orders_97 (d : Nat) (a0 a2 a3 a4 a5 : Option Value) (x : Int32) (st : List Value) (h : a_H) : a_run d MX2_orders 97 [a0, some (.int x), a2, a3, a4, a5] st h = a_run d MX2_orders 98 [a0, some (.int x), a2, a3, a4, a5] (.int x :: st) h := w_ldIn dX2_orders_97 rfl
theorem w_X2_orders_98 (d : Nat) (a0 a1 a2 a4 a5 : Option Value) (x : Int32) (st : List Value) (h : a_H) : a_run d MX2_orders 98 [a0, a1, a2, some (.int x), a4, a5] st h = a_run d MX2_orders 99 [a0, a1, a2, some (.int x), a4, a5] (.int x :: st) h := w_ldIn dX2_orders_98 rfl
theorem w_X2_orders_99 (d : Nat) (L : a_L) (i : Nat) (v1 v2 : Value) (st : List Value) (h : a_H) (hk : a_kls h i = some 1) (hc : a_cat st ≤ 8) : a_run d MX2_orders 99 L (v2 :: v1 :: .ref i :: st) h = a_cont d MX2_orders (a_bk MX2_orders 99 L st (a_call d MX2_point [.ref i, v1, v2] h)) := w_callV (as := [.ref i, v1, v2]) dX2_orders_99 rfl rfl rfl hc (a_rcv_of hk rfl)
theorem w_X2_orders_102 (d : Nat) (L : a_L) (x y : Int32) (i : Nat) (st : List Value) (h : a_H) : a_run d MX2_orders 102 L (.int y :: .int x :: .ref i :: st) h = (a_wri h i a_int x y).bind fun h' => a_run d MX2_orders 103 L st h' := w_iast dX2_orders_102
theorem w_X2_orders_103 (d : Nat) (a0 a1 a2 a4 a5 : Option Value) (x : Int32) (st : List Value) (h : a_H) : a_run d MX2_orders 103 [a0, a1, a2, some (.int x), a4, a5] st h = a_run d MX2_orders 106 [a0, a1, a2, some (.int (x + nI 1)), a4, a5] st h := w_incL dX2_orders_103 rfl rfl rfl
theorem w_X2_orders_106 (d : Nat) (L : a_L) (st : List Value) (h : a_H) : a_run d MX2_orders 106 L st h = a_run d MX2_orders 2 L st h := w_goto dX2_orders_106 rfl
theorem w_X2_orders_109 (d : Nat) (L : a_L) (st : List Value) (h : a_H) : a_run d MX2_orders 109 L st h = a_run d MX2_orders 110 L (.int (nI 0) :: st) h := w_iconst dX2_orders_109 rfl
theorem w_X2_orders_110 (d : Nat) (a0 a1 a2 a3 a4 a5 : Option Value) (x : Int32) (st : List Value) (h : a_H) : a_run d MX2_orders 110 [a0, a1, a2, a3, a4, a5] (.int x :: st) h = a_run d MX2_orders 111 [a0, a1, a2, some (.int x), a4, a5] st h := w_stIn dX2_orders_110 (Nat.le_of_ble_eq_true rfl) rfl
theorem w_X2_orders_111 (d : Nat) (a0 a1 a2 a4 a5 : Option Value) (x : Int32) (st : List Value) (h : a_H) : a_run d MX2_orders 111 [a0, a1, a2, some (.int x), a4, a5] st h = a_run d MX2_orders 112 [a0, a1, a2, some (.int x), a4, a5] (.int x :: st) h := w_ldIn dX2_orders_111 rfl
theorem w_X2_orders_112 (d : Nat) (a1 a2 a3 a4 a5 : Option Value) (x : Nat) (st : List Value) (h : a_H) : a_run d MX2_orders 112 [some (.ref x), a1, a2, a3, a4, a5] st h = a_run d MX2_orders 113 [some (.ref x), a1, a2, a3, a4, a5] (.ref x :: st) h := w_ldAn dX2_orders_112 rfl
theorem w_X2_orders_113 (d : Nat) (L : a_L) (i : Nat) (st : List Value) (h : a_H) : a_run d MX2_orders 113 L (.ref i :: st) h = (a_gf h i 5 [1]).bind fun v => a_run d MX2_orders 116 L (v :: st) h := w_getf dX2_orders_113 rfl
theorem w_X2_orders_116 (d : Nat) (a0 a2 a3 a4 a5 : Option Value) (x : Int32) (st : List Value) (h : a_H) : a_run d MX2_orders 116 [a0, some (.int x), a2, a3, a4, a5] st h = a_run d MX2_orders 117 [a0, some (.int x), a2, a3, a4, a5] (.int x :: st) h := w_ldIn dX2_orders_116 rfl
theorem w_X2_orders_117 (d : Nat) (L : a_L) (x : Int32) (i : Nat) (st : List Value) (h : a_H) : a_run d MX2_orders 117 L (.int x :: .ref i :: st) h = (a_rdi h i a_int x).bind fun v => a_run d MX2_orders 118 L (v :: st) h := w_iald dX2_orders_117
theorem w_X2_orders_118 (d : Nat) (L : a_L) (x y : Int32) (st : List Value) (h : a_H) : a_run d MX2_orders 118 L (.int y :: .int x :: st) h = if x < y then a_run d MX2_orders 121 L st h else a_run d MX2_orders 144 L st h := w_icmp_ge dX2_orders_118 rfl
theorem w_X2_orders_121 (d : Nat) (a1 a2 a3 a4 a5 : Option Value) (x : Nat) (st : List Value) (h : a_H) : a_run d MX2_orders 121 [some (.ref x), a1, a2, a3, a4, a5] st h = a_run d MX2_orders 122 [some (.ref x), a1, a2, a3, a4, a5] (.ref x :: st) h := w_ldAn dX2_orders_121 rfl
theorem w_X2_orders_122 (d : Nat) (L : a_L) (i : Nat) (st : List Value) (h : a_H) : a_run d MX2_orders 122 L (.ref i :: st) h = (a_gf h i 4 [1]).bind fun v => a_run d MX2_orders 125 L (v :: st) h := w_getf dX2_orders_122 rfl
theorem w_X2_orders_125 (d : Nat) (a0 a2 a3 a4 a5 : Option Value) (x : Int32) (st : List Value) (h : a_H) : a_run d MX2_orders 125 [a0, some (.int x), a2, a3, a4, a5] st h = a_run d MX2_orders 126 [a0, some (.int x), a2, a3, a4, a5] (.int x :: st) h := w_ldIn dX2_orders_125 rfl
theorem w_X2_orders_126 (d : Nat) (L : a_L) (st : List Value) (h : a_H) : a_run d MX2_orders 126 L st h = a_run d MX2_orders 128 L (.int (nI 46) :: st) h := w_bipush dX2_orders_126 rfl
theorem w_X2_orders_128 (d : Nat) (L : a_L) (x y : Int32) (st : List Value) (h : a_H) : a_run d MX2_orders 128 L (.int y :: .int x :: st) h = a_run d MX2_orders 129 L (.int (x * y) :: st) h := w_imul dX2_orders_128
theorem w_X2_orders_129 (d : Nat) (a0 a1 a2 a4 a5 : Option Value) (x : Int32) (st : List Value) (h : a_H) : a_run d MX2_orders 129 [a0, a1, a2, some (.int x), a4, a5] st h = a_run d MX2_orders 130 [a0, a1, a2, some (.int x), a4, a5] (.int x :: st) h := w_ldIn dX2_orders_129 rfl
theorem w_X2_orders_130 (d : Nat) (L : a_L) (x y : Int32) (st : List Value) (h : a_H) : a_run d MX2_orders 130 L (.int y :: .int x :: st) h = a_run d MX2_orders 131 L (.int (x + y) :: st) h := w_iadd dX2_orders_130
theorem w_X2_orders_131 (d : Nat) (a1 a2 a3 a4 a5 : Option Value) (x : Nat) (st : List Value) (h : a_H) : a_run d MX2_orders 131 [some (.ref x), a1, a2, a3, a4, a5] st h = a_run d MX2_orders 132 [some (.ref x), a1, a2, a3, a4, a5] (.ref x :: st) h := w_ldAn dX2_orders_131 rfl
theorem w_X2_orders_132 (d : Nat) (L : a_L) (i : Nat) (st : List Value) (h : a_H) : a_run d MX2_orders 132 L (.ref i :: st) h = (a_gf h i 10 [1]).bind fun v => a_run d MX2_orders 135 L (v :: st) h := w_getf dX2_orders_132 rfl
theorem w_X2_orders_135 (d : Nat) (a0 a1 a2 a4 a5 : Option Value) (x : Int32) (st : List Value) (h : a_H) : a_run d MX2_orders 135 [a0, a1, a2, some (.int x), a4, a5] st h = a_run d MX2_orders 136 [a0, a1, a2, some (.int x), a4, a5] (.int x :: st) h := w_ldIn dX2_orders_135 rfl
theorem w_X2_orders_136 (d : Nat) (L : a_L) (x : Int32) (i : Nat) (st : List Value) (h : a_H) : a_run d MX2_orders 136 L (.int x :: .ref i :: st) h = (a_rdi h i a_int x).bind fun v => a_run d MX2_orders 137 L (v :: st) h := w_iald dX2_orders_136
theorem w_X2_orders_137 (d : Nat) (L : a_L) (x y : Int32) (i : Nat) (st : List Value) (h : a_H) : a_run d MX2_orders 137 L (.int y :: .int x :: .ref i :: st) h = (a_wri h i a_int x y).bind fun h' => a_run d MX2_orders 138 L st h' := w_iast dX2_orders_137
theorem w_X2_orders_138 (d : Nat) (a0 a1 a2 a4 a5 : Option Value) (x : Int32) (st : List Value) (h : a_H) : a_run d MX2_orders 138 [a0, a1, a2, some (.int x), a4, a5] st h = a_run d MX2_orders 141 [a0, a1, a2, some (.int (x + nI 1)), a4, a5] st h := w_incL dX2_orders_138 rfl rfl rfl
theorem w_X2_orders_141 (d : Nat) (L : a_L) (st : List Value) (h : a_H) : a_run d MX2_orders 141 L st h = a_run d MX2_orders 111 L st h := w_goto dX2_orders_141 rfl
theorem w_X2_orders_144 (d : Nat) (L : a_L) (h : a_H) : a_run d MX2_orders 144 L [] h = some (.inl none, h) := w_vret dX2_orders_144 rfl
theorem e_X2_median (d : Nat) (x0 : Nat) (x1 : Int32) (x2 : Int32) (x3 : Int32) (h : a_H) : a_call (d + 1) MX2_median [.ref x0, .int x1, .int x2, .int x3] h = a_run d MX2_median 0 [some (.ref x0), some (.int x1), some (.int x2), some (.int x3)] [] h := a_call_run rfl (Nat.le_of_ble_eq_true rfl) rfl
theorem w_X2_median_0 (d : Nat) (a1 a2 a3 : Option Value) (x : Nat) (st : List Value) (h : a_H) : a_run d MX2_median 0 [some (.ref x), a1, a2, a3] st h = a_run d MX2_median 1 [some (.ref x), a1, a2, a3] (.ref x :: st) h := w_ldAn dX2_median_0 rfl
theorem w_X2_median_1 (d : Nat) (L : a_L) (st : List Value) (h : a_H) : a_run d MX2_median 1 L st h = a_run d MX2_median 2 L (.int (nI 2) :: st) h := w_iconst dX2_median_1 rfl
theorem w_X2_median_2 (d : Nat) (a0 a1 a3 : Option Value) (x : Int32) (st : List Value) (h : a_H) : a_run d MX2_median 2 [a0, a1, some (.int x), a3] st h = a_run d MX2_median 3 [a0, a1, some (.int x), a3] (.int x :: st) h := w_ldIn dX2_median_2 rfl
theorem w_X2_median_3 (d : Nat) (L : a_L) (x y : Int32) (st : List Value) (h : a_H) : a_run d MX2_median 3 L (.int y :: .int x :: st) h = a_run d MX2_median 4 L (.int (x * y) :: st) h := w_imul dX2_median_3
theorem w_X2_median_4 (d : Nat) (a1 a2 a3 : Option Value) (x : Nat) (st : List Value) (h : a_H) : a_run d MX2_median 4 [some (.ref x), a1, a2, a3] st h = a_run d MX2_median 5 [some (.ref x), a1, a2, a3] (.ref x :: st) h := w_ldAn dX2_median_4 rfl
theorem w_X2_median_5 (d : Nat) (a0 a2 a3 : Option Value) (x : Int32) (st : List Value) (h : a_H) : a_run d MX2_median 5 [a0, some (.int x), a2, a3] st h = a_run d MX2_median 6 [a0, some (.int x), a2, a3] (.int x :: st) h := w_ldIn dX2_median_5 rfl
theorem w_X2_median_6 (d : Nat) (a0 a1 a3 : Option Value) (x : Int32) (st : List Value) (h : a_H) : a_run d MX2_median 6 [a0, a1, some (.int x), a3] st h = a_run d MX2_median 7 [a0, a1, some (.int x), a3] (.int x :: st) h := w_ldIn dX2_median_6 rfl
theorem w_X2_median_7 (d : Nat) (a0 a1 a2 : Option Value) (x : Int32) (st : List Value) (h : a_H) : a_run d MX2_median 7 [a0, a1, a2, some (.int x)] st h = a_run d MX2_median 8 [a0, a1, a2, some (.int x)] (.int x :: st) h := w_ldIn dX2_median_7 rfl
theorem w_X2_median_8 (d : Nat) (L : a_L) (st : List Value) (h : a_H) : a_run d MX2_median 8 L st h = a_run d MX2_median 9 L (.null :: st) h := w_null dX2_median_8
theorem w_X2_median_9 (d : Nat) (L : a_L) (i : Nat) (v1 v2 v3 v4 : Value) (st : List Value) (h : a_H) (hk : a_kls h i = some 1) (hc : a_cat st ≤ 8) : a_run d MX2_median 9 L (v4 :: v3 :: v2 :: v1 :: .ref i :: st) h = a_cont d MX2_median (a_bk MX2_median 9 L st (a_call d MX2_neighbours [.ref i, v1, v2, v3, v4] h)) := w_callV (as := [.ref i, v1, v2, v3, v4]) dX2_median_9 rfl rfl rfl hc (a_rcv_of hk rfl)
theorem w_X2_median_12 (d : Nat) (L : a_L) (i : Nat) (v1 v2 : Value) (st : List Value) (h : a_H) (hk : a_kls h i = some 1) (hc : a_cat st ≤ 8) : a_run d MX2_median 12 L (v2 :: v1 :: .ref i :: st) h = a_cont d MX2_median (a_bk MX2_median 12 L st (a_call d MX2_middle [.ref i, v1, v2] h)) := w_callV (as := [.ref i, v1, v2]) dX2_median_12 rfl rfl rfl hc (a_rcv_of hk rfl)
theorem w_X2_median_15 (d : Nat) (L : a_L) (x : Int32) (h : a_H) : a_run d MX2_median 15 L [.int x] h = some (.inl (some (.int x)), h) := w_iret dX2_median_15 (w_retI rfl)
theorem e_X2_neighbours (d : Nat) (x0 : Nat) (x1 : Int32) (x2 : Int32) (x3 : Int32) (x4 : Nat) (h : a_H) : a_call (d + 1) MX2_neighbours [.ref x0, .int x1, .int x2, .int x3, .ref x4] h = a_run d MX2_neighbours 0 [some (.ref x0), some (.int x1), some (.int x2), some (.int x3), some (.ref x4), none, none, none, none, none, none, none] [] h := a_call_run rfl (Nat.le_of_ble_eq_true rfl) rfl
theorem w_X2_neighbours_0 (d : Nat) (a0 a1 a2 a4 a5 a6 a7 a8 a9 a10 a11 : Option Value) (x : Int32) (st : List Value) (h : a_H) : a_run d MX2_neighbours 0 [a0, a1, a2, some (.int x), a4, a5, a6, a7, a8, a9, a10, a11] st h = a_run d MX2_neighbours 1 [a0, a1, a2, some (.int x), a4, a5, a6, a7, a8, a9, a10, a11] (.int x :: st) h := w_ldIn dX2_neighbours_0 rfl
theorem w_X2_neighbours_1 (d : Nat) (L : a_L) (x : Int32) (st : List Value) (h : a_H) : a_run d MX2_neighbours 1 L (.int x :: st) h = if x = 0 then a_run d MX2_neighbours 10 L st h else a_run d MX2_neighbours 4 L st h := w_if_eq dX2_neighbours_1 rfl
theorem w_X2_neighbours_4 (d : Nat) (a0 a2 a3 a4 a5 a6 a7 a8 a9 a10 a11 : Option Value) (x : Int32) (st : List Value) (h : a_H) : a_run d MX2_neighbours 4 [a0, some (.int x), a2, a3, a4, a5, a6, a7, a8, a9, a10, a11] st h = a_run d MX2_neighbours 5 [a0, some (.int x), a2, a3, a4, a5, a6, a7, a8, a9, a10, a11] (.int x :: st) h := w_ldIn dX2_neighbours_4 rfl
theorem w_X2_neighbours_5 (d : Nat) (L : a_L) (st : List Value) (h : a_H) : a_run d MX2_neighbours 5 L st h = a_run d MX2_neighbours 6 L (.int (nI 1) :: st) h := w_iconst dX2_neighbours_5 rfl
theorem w_X2_neighbours_6 (d : Nat) (L : a_L) (x y : Int32) (st : List Value) (h : a_H) : a_run d MX2_neighbours 6 L (.int y :: .int x :: st) h = a_run d MX2_neighbours 7 L (.int (x - y) :: st) h := w_isub dX2_neighbours_6
theorem w_X2_neighbours_7 (d : Nat) (L : a_L) (st : List Value) (h : a_H) : a_run d MX2_neighbours 7 L st h = a_run d MX2_neighbours 11 L st h := w_goto dX2_neighbours_7 rfl
theorem w_X2_neighbours_10 (d : Nat) (a0 a2 a3 a4 a5 a6 a7 a8 a9 a10 a11 : Option Value) (x : Int32) (st : List Value) (h : a_H) : a_run d MX2_neighbours 10 [a0, some (.int x), a2, a3, a4, a5, a6, a7, a8, a9, a10, a11] st h = a_run d MX2_neighbours 11 [a0, some (.int x), a2, a3, a4, a5, a6, a7, a8, a9, a10, a11] (.int x :: st) h := w_ldIn dX2_neighbours_10 rfl
theorem w_X2_neighbours_11 (d : Nat) (a0 a1 a2 a3 a4 a5 a6 a7 a8 a9 a10 a11 : Option Value) (x : Int32) (st : List Value) (h : a_H) : a_run d MX2_neighbours 11 [a0, a1, a2, a3, a4, a5, a6, a7, a8, a9, a10, a11] (.int x :: st) h = a_run d MX2_neighbours 13 [a0, a1, a2, a3, a4, some (.int x), a6, a7, a8, a9, a10, a11] st h := w_stI dX2_neighbours_11 (Nat.le_of_ble_eq_true rfl) rfl
theorem w_X2_neighbours_13 (d : Nat) (a0 a1 a2 a4 a5 a6 a7 a8 a9 a10 a11 : Option Value) (x : Int32) (st : List Value) (h : a_H) : a_run d MX2_neighbours 13 [a0, a1, a2, some (.int x), a4, a5, a6, a7, a8, a9, a10, a11] st h = a_run d MX2_neighbours 14 [a0, a1, a2, some (.int x), a4, a5, a6, a7, a8, a9, a10, a11] (.int x :: st) h := w_ldIn dX2_neighbours_13 rfl
theorem w_X2_neighbours_14 (d : Nat) (L : a_L) (x : Int32) (st : List Value) (h : a_H) : a_run d MX2_neighbours 14 L (.int x :: st) h = if x = 0 then a_run d MX2_neighbours 23 L st h else a_run d MX2_neighbours 17 L st h := w_if_eq dX2_neighbours_14 rfl
theorem w_X2_neighbours_17 (d : Nat) (a0 a2 a3 a4 a5 a6 a7 a8 a9 a10 a11 : Option Value) (x : Int32) (st : List Value) (h : a_H) : a_run d MX2_neighbours 17 [a0, some (.int x), a2, a3, a4, a5, a6, a7, a8, a9, a10, a11] st h = a_run d MX2_neighbours 18 [a0, some (.int x), a2, a3, a4, a5, a6, a7, a8, a9, a10, a11] (.int x :: st) h := w_ldIn dX2_neighbours_17 rfl
theorem w_X2_neighbours_18 (d : Nat) (L : a_L) (st : List Value) (h : a_H) : a_run d MX2_neighbours 18 L st h = a_run d MX2_neighbours 19 L (.int (nI 1) :: st) h := w_iconst dX2_neighbours_18 rfl
theorem w_X2_neighbours_19 (d : Nat) (L : a_L) (x y : Int32) (st : List Value) (h : a_H) : a_run d MX2_neighbours 19 L (.int y :: .int x :: st) h = a_run d MX2_neighbours 20 L (.int (x - y) :: st) h := w_isub dX2_neighbours_19
theorem w_X2_neighbours_20 (d : Nat) (L : a_L) (st : List Value) (h : a_H) : a_run d MX2_neighbours 20 L st h = a_run d MX2_neighbours 26 L st h := w_goto dX2_neighbours_20 rfl
theorem w_X2_neighbours_23 (d : Nat) (a0 a2 a3 a4 a5 a6 a7 a8 a9 a10 a11 : Option Value) (x : Int32) (st : List Value) (h : a_H) : a_run d MX2_neighbours 23 [a0, some (.int x), a2, a3, a4, a5, a6, a7, a8, a9, a10, a11] st h = a_run d MX2_neighbours 24 [a0, some (.int x), a2, a3, a4, a5, a6, a7, a8, a9, a10, a11] (.int x :: st) h := w_ldIn dX2_neighbours_23 rfl
theorem w_X2_neighbours_24 (d : Nat) (L : a_L) (st : List Value) (h : a_H) : a_run d MX2_neighbours 24 L st h = a_run d MX2_neighbours 25 L (.int (nI 1) :: st) h := w_iconst dX2_neighbours_24 rfl
theorem w_X2_neighbours_25 (d : Nat) (L : a_L) (x y : Int32) (st : List Value) (h : a_H) : a_run d MX2_neighbours 25 L (.int y :: .int x :: st) h = a_run d MX2_neighbours 26 L (.int (x + y) :: st) h := w_iadd dX2_neighbours_25
theorem w_X2_neighbours_26 (d : Nat) (a0 a1 a2 a3 a4 a5 a6 a7 a8 a9 a10 a11 : Option Value) (x : Int32) (st : List Value) (h : a_H) : a_run d MX2_neighbours 26 [a0, a1, a2, a3, a4, a5, a6, a7, a8, a9, a10, a11] (.int x :: st) h = a_run d MX2_neighbours 28 [a0, a1, a2, a3, a4, a5, some (.int x), a7, a8, a9, a10, a11] st h := w_stI dX2_neighbours_26 (Nat.le_of_ble_eq_true rfl) rfl
theorem w_X2_neighbours_28 (d : Nat) (L : a_L) (st : List Value) (h : a_H) : a_run d MX2_neighbours 28 L st h = a_run d MX2_neighbours 29 L (.int (nI 0) :: st) h := w_iconst dX2_neighbours_28 rfl
theorem w_X2_neighbours_29 (d : Nat) (a0 a1 a2 a3 a4 a5 a6 a7 a8 a9 a10 a11 : Option Value) (x : Int32) (st : List Value) (h : a_H) : a_run d MX2_neighbours 29 [a0, a1, a2, a3, a4, a5, a6, a7, a8, a9, a10, a11] (.int x :: st) h = a_run d MX2_neighbours 31 [a0, a1, a2, a3, a4, a5, a6, some (.int x), a8, a9, a10, a11] st h := w_stI dX2_neighbours_29 (Nat.le_of_ble_eq_true rfl) rfl
theorem w_X2_neighbours_31 (d : Nat) (L : a_L) (st : List Value) (h : a_H) : a_run d MX2_neighbours 31 L st h = a_run d MX2_neighbours 32 L (.int (nI 0) :: st) h := w_iconst dX2_neighbours_31 rfl
theorem w_X2_neighbours_32 (d : Nat) (a0 a1 a2 a3 a4 a5 a6 a7 a8 a9 a10 a11 : Option Value) (x : Int32) (st : List Value) (h : a_H) : a_run d MX2_neighbours 32 [a0, a1, a2, a3, a4, a5, a6, a7, a8, a9, a10, a11] (.int x :: st) h = a_run d MX2_neighbours 34 [a0, a1, a2, a3, a4, a5, a6, a7, some (.int x), a9, a10, a11] st h := w_stI dX2_neighbours_32 (Nat.le_of_ble_eq_true rfl) rfl
theorem w_X2_neighbours_34 (d : Nat) (a0 a1 a2 a3 a4 a5 a6 a7 a9 a10 a11 : Option Value) (x : Int32) (st : List Value) (h : a_H) : a_run d MX2_neighbours 34 [a0, a1, a2, a3, a4, a5, a6, a7, some (.int x), a9, a10, a11] st h = a_run d MX2_neighbours 36 [a0, a1, a2, a3, a4, a5, a6, a7, some (.int x), a9, a10, a11] (.int x :: st) h := w_ldI dX2_neighbours_34 rfl
theorem w_X2_neighbours_36 (d : Nat) (a1 a2 a3 a4 a5 a6 a7 a8 a9 a10 a11 : Option Value) (x : Nat) (st : List Value) (h : a_H) : a_run d MX2_neighbours 36 [some (.ref x), a1, a2, a3, a4, a5, a6, a7, a8, a9, a10, a11] st h = a_run d MX2_neighbours 37 [some (.ref x), a1, a2, a3, a4, a5, a6, a7, a8, a9, a10, a11] (.ref x :: st) h := w_ldAn dX2_neighbours_36 rfl
theorem w_X2_neighbours_37 (d : Nat) (L : a_L) (i : Nat) (st : List Value) (h : a_H) : a_run d MX2_neighbours 37 L (.ref i :: st) h = (a_gf h i 12 [1]).bind fun v => a_run d MX2_neighbours 40 L (v :: st) h := w_getf dX2_neighbours_37 rfl
theorem w_X2_neighbours_40 (d : Nat) (L : a_L) (x y : Int32) (st : List Value) (h : a_H) : a_run d MX2_neighbours 40 L (.int y :: .int x :: st) h = if x < y then a_run d MX2_neighbours 43 L st h else a_run d MX2_neighbours 161 L st h := w_icmp_ge dX2_neighbours_40 rfl
theorem w_X2_neighbours_43 (d : Nat) (a1 a2 a3 a4 a5 a6 a7 a8 a9 a10 a11 : Option Value) (x : Nat) (st : List Value) (h : a_H) : a_run d MX2_neighbours 43 [some (.ref x), a1, a2, a3, a4, a5, a6, a7, a8, a9, a10, a11] st h = a_run d MX2_neighbours 44 [some (.ref x), a1, a2, a3, a4, a5, a6, a7, a8, a9, a10, a11] (.ref x :: st) h := w_ldAn dX2_neighbours_43 rfl
theorem w_X2_neighbours_44 (d : Nat) (a0 a1 a2 a3 a4 a5 a6 a7 a9 a10 a11 : Option Value) (x : Int32) (st : List Value) (h : a_H) : a_run d MX2_neighbours 44 [a0, a1, a2, a3, a4, a5, a6, a7, some (.int x), a9, a10, a11] st h = a_run d MX2_neighbours 46 [a0, a1, a2, a3, a4, a5, a6, a7, some (.int x), a9, a10, a11] (.int x :: st) h := w_ldI dX2_neighbours_44 rfl
theorem w_X2_neighbours_46 (d : Nat) (a0 a1 a2 a3 a4 a6 a7 a8 a9 a10 a11 : Option Value) (x : Int32) (st : List Value) (h : a_H) : a_run d MX2_neighbours 46 [a0, a1, a2, a3, a4, some (.int x), a6, a7, a8, a9, a10, a11] st h = a_run d MX2_neighbours 48 [a0, a1, a2, a3, a4, some (.int x), a6, a7, a8, a9, a10, a11] (.int x :: st) h := w_ldI dX2_neighbours_46 rfl
theorem w_X2_neighbours_48 (d : Nat) (L : a_L) (i : Nat) (v1 v2 : Value) (st : List Value) (h : a_H) (hk : a_kls h i = some 1) (hc : a_cat st ≤ 8) : a_run d MX2_neighbours 48 L (v2 :: v1 :: .ref i :: st) h = a_cont d MX2_neighbours (a_bk MX2_neighbours 48 L st (a_call d MX2_hasLine [.ref i, v1, v2] h)) := w_callV (as := [.ref i, v1, v2]) dX2_neighbours_48 rfl rfl rfl hc (a_rcv_of hk rfl)
theorem w_X2_neighbours_51 (d : Nat) (L : a_L) (x : Int32) (st : List Value) (h : a_H) : a_run d MX2_neighbours 51 L (.int x :: st) h = if x = 0 then a_run d MX2_neighbours 155 L st h else a_run d MX2_neighbours 54 L st h := w_if_eq dX2_neighbours_51 rfl
theorem w_X2_neighbours_54 (d : Nat) (a1 a2 a3 a4 a5 a6 a7 a8 a9 a10 a11 : Option Value) (x : Nat) (st : List Value) (h : a_H) : a_run d MX2_neighbours 54 [some (.ref x), a1, a2, a3, a4, a5, a6, a7, a8, a9, a10, a11] st h = a_run d MX2_neighbours 55 [some (.ref x), a1, a2, a3, a4, a5, a6, a7, a8, a9, a10, a11] (.ref x :: st) h := w_ldAn dX2_neighbours_54 rfl
theorem w_X2_neighbours_55 (d : Nat) (a0 a1 a2 a3 a4 a5 a6 a7 a9 a10 a11 : Option Value) (x : Int32) (st : List Value) (h : a_H) : a_run d MX2_neighbours 55 [a0, a1, a2, a3, a4, a5, a6, a7, some (.int x), a9, a10, a11] st h = a_run d MX2_neighbours 57 [a0, a1, a2, a3, a4, a5, a6, a7, some (.int x), a9, a10, a11] (.int x :: st) h := w_ldI dX2_neighbours_55 rfl
theorem w_X2_neighbours_57 (d : Nat) (a0 a2 a3 a4 a5 a6 a7 a8 a9 a10 a11 : Option Value) (x : Int32) (st : List Value) (h : a_H) : a_run d MX2_neighbours 57 [a0, some (.int x), a2, a3, a4, a5, a6, a7, a8, a9, a10, a11] st h = a_run d MX2_neighbours 58 [a0, some (.int x), a2, a3, a4, a5, a6, a7, a8, a9, a10, a11] (.int x :: st) h := w_ldIn dX2_neighbours_57 rfl
theorem w_X2_neighbours_58 (d : Nat) (L : a_L) (i : Nat) (v1 v2 : Value) (st : List Value) (h : a_H) (hk : a_kls h i = some 1) (hc : a_cat st ≤ 8) : a_run d MX2_neighbours 58 L (v2 :: v1 :: .ref i :: st) h = a_cont d MX2_neighbours (a_bk MX2_neighbours 58 L st (a_call d MX2_endOf [.ref i, v1, v2] h)) := w_callV (as := [.ref i, v1, v2]) dX2_neighbours_58 rfl rfl rfl hc (a_rcv_of hk rfl)
theorem w_X2_neighbours_61 (d : Nat) (a0 a1 a3 a4 a5 a6 a7 a8 a9 a10 a11 : Option Value) (x : Int32) (st : List Value) (h : a_H) : a_run d MX2_neighbours 61 [a0, a1, some (.int x), a3, a4, a5, a6, a7, a8, a9, a10, a11] st h = a_run d MX2_neighbours 62 [a0, a1, some (.int x), a3, a4, a5, a6, a7, a8, a9, a10, a11] (.int x :: st) h := w_ldIn dX2_neighbours_61 rfl
theorem w_X2_neighbours_62 (d : Nat) (L : a_L) (x y : Int32) (st : List Value) (h : a_H) : a_run d MX2_neighbours 62 L (.int y :: .int x :: st) h = if x = y then a_run d MX2_neighbours 65 L st h else a_run d MX2_neighbours 155 L st h := w_icmp_ne dX2_neighbours_62 rfl
theorem w_X2_neighbours_65 (d : Nat) (a1 a2 a3 a4 a5 a6 a7 a8 a9 a10 a11 : Option Value) (x : Nat) (st : List Value) (h : a_H) : a_run d MX2_neighbours 65 [some (.ref x), a1, a2, a3, a4, a5, a6, a7, a8, a9, a10, a11] st h = a_run d MX2_neighbours 66 [some (.ref x), a1, a2, a3, a4, a5, a6, a7, a8, a9, a10, a11] (.ref x :: st) h := w_ldAn dX2_neighbours_65 rfl
theorem w_X2_neighbours_66 (d : Nat) (a0 a1 a2 a3 a4 a5 a6 a7 a9 a10 a11 : Option Value) (x : Int32) (st : List Value) (h : a_H) : a_run d MX2_neighbours 66 [a0, a1, a2, a3, a4, a5, a6, a7, some (.int x), a9, a10, a11] st h = a_run d MX2_neighbours 68 [a0, a1, a2, a3, a4, a5, a6, a7, some (.int x), a9, a10, a11] (.int x :: st) h := w_ldI dX2_neighbours_66 rfl
theorem w_X2_neighbours_68 (d : Nat) (a0 a1 a2 a3 a4 a5 a7 a8 a9 a10 a11 : Option Value) (x : Int32) (st : List Value) (h : a_H) : a_run d MX2_neighbours 68 [a0, a1, a2, a3, a4, a5, some (.int x), a7, a8, a9, a10, a11] st h = a_run d MX2_neighbours 70 [a0, a1, a2, a3, a4, a5, some (.int x), a7, a8, a9, a10, a11] (.int x :: st) h := w_ldI dX2_neighbours_68 rfl
theorem w_X2_neighbours_70 (d : Nat) (L : a_L) (i : Nat) (v1 v2 : Value) (st : List Value) (h : a_H) (hk : a_kls h i = some 1) (hc : a_cat st ≤ 8) : a_run d MX2_neighbours 70 L (v2 :: v1 :: .ref i :: st) h = a_cont d MX2_neighbours (a_bk MX2_neighbours 70 L st (a_call d MX2_endOf [.ref i, v1, v2] h)) := w_callV (as := [.ref i, v1, v2]) dX2_neighbours_70 rfl rfl rfl hc (a_rcv_of hk rfl)
theorem w_X2_neighbours_73 (d : Nat) (a0 a1 a2 a3 a4 a5 a6 a7 a8 a9 a10 a11 : Option Value) (x : Int32) (st : List Value) (h : a_H) : a_run d MX2_neighbours 73 [a0, a1, a2, a3, a4, a5, a6, a7, a8, a9, a10, a11] (.int x :: st) h = a_run d MX2_neighbours 75 [a0, a1, a2, a3, a4, a5, a6, a7, a8, some (.int x), a10, a11] st h := w_stI dX2_neighbours_73 (Nat.le_of_ble_eq_true rfl) rfl
theorem w_X2_neighbours_75 (d : Nat) (a0 a1 a2 a3 a5 a6 a7 a8 a9 a10 a11 : Option Value) (x : Nat) (st : List Value) (h : a_H) : a_run d MX2_neighbours 75 [a0, a1, a2, a3, some (.ref x), a5, a6, a7, a8, a9, a10, a11] st h = a_run d MX2_neighbours 77 [a0, a1, a2, a3, some (.ref x), a5, a6, a7, a8, a9, a10, a11] (.ref x :: st) h := w_ldA dX2_neighbours_75 rfl
theorem w_X2_neighbours_75N (d : Nat) (a0 a1 a2 a3 a5 a6 a7 a8 a9 a10 a11 : Option Value) (st : List Value) (h : a_H) : a_run d MX2_neighbours 75 [a0, a1, a2, a3, some .null, a5, a6, a7, a8, a9, a10, a11] st h = a_run d MX2_neighbours 77 [a0, a1, a2, a3, some .null, a5, a6, a7, a8, a9, a10, a11] (.null :: st) h := w_ldN dX2_neighbours_75 rfl
theorem w_X2_neighbours_77 (d : Nat) (L : a_L) (x : Nat) (st : List Value) (h : a_H) (hx : x < 600 ∨ 1024 ≤ x) : a_run d MX2_neighbours 77 L (.ref x :: st) h = a_run d MX2_neighbours 85 L st h := w_ifnonnull_r dX2_neighbours_77 rfl hx
theorem w_X2_neighbours_77N (d : Nat) (L : a_L) (st : List Value) (h : a_H) : a_run d MX2_neighbours 77 L (.null :: st) h = a_run d MX2_neighbours 80 L st h := w_ifnonnull_n (tgt := 85) dX2_neighbours_77 rfl
theorem w_X2_neighbours_80 (d : Nat) (a0 a1 a2 a3 a4 a5 a6 a7 a8 a10 a11 : Option Value) (x : Int32) (st : List Value) (h : a_H) : a_run d MX2_neighbours 80 [a0, a1, a2, a3, a4, a5, a6, a7, a8, some (.int x), a10, a11] st h = a_run d MX2_neighbours 82 [a0, a1, a2, a3, a4, a5, a6, a7, a8, some (.int x), a10, a11] (.int x :: st) h := w_ldI dX2_neighbours_80 rfl
theorem w_X2_neighbours_82 (d : Nat) (L : a_L) (st : List Value) (h : a_H) : a_run d MX2_neighbours 82 L st h = a_run d MX2_neighbours 96 L st h := w_goto dX2_neighbours_82 rfl
theorem w_X2_neighbours_85 (d : Nat) (a0 a1 a2 a3 a5 a6 a7 a8 a9 a10 a11 : Option Value) (x : Nat) (st : List Value) (h : a_H) : a_run d MX2_neighbours 85 [a0, a1, a2, a3, some (.ref x), a5, a6, a7, a8, a9, a10, a11] st h = a_run d MX2_neighbours 87 [a0, a1, a2, a3, some (.ref x), a5, a6, a7, a8, a9, a10, a11] (.ref x :: st) h := w_ldA dX2_neighbours_85 rfl
theorem w_X2_neighbours_85N (d : Nat) (a0 a1 a2 a3 a5 a6 a7 a8 a9 a10 a11 : Option Value) (st : List Value) (h : a_H) : a_run d MX2_neighbours 85 [a0, a1, a2, a3, some .null, a5, a6, a7, a8, a9, a10, a11] st h = a_run d MX2_neighbours 87 [a0, a1, a2, a3, some .null, a5, a6, a7, a8, a9, a10, a11] (.null :: st) h := w_ldN dX2_neighbours_85 rfl
theorem w_X2_neighbours_87 (d : Nat) (a0 a1 a2 a3 a4 a5 a7 a8 a9 a10 a11 : Option Value) (x : Int32) (st : List Value) (h : a_H) : a_run d MX2_neighbours 87 [a0, a1, a2, a3, a4, a5, some (.int x), a7, a8, a9, a10, a11] st h = a_run d MX2_neighbours 89 [a0, a1, a2, a3, a4, a5, some (.int x), a7, a8, a9, a10, a11] (.int x :: st) h := w_ldI dX2_neighbours_87 rfl
theorem w_X2_neighbours_89 (d : Nat) (L : a_L) (st : List Value) (h : a_H) : a_run d MX2_neighbours 89 L st h = a_run d MX2_neighbours 91 L (.int (nI 46) :: st) h := w_bipush dX2_neighbours_89 rfl
theorem w_X2_neighbours_91 (d : Nat) (L : a_L) (x y : Int32) (st : List Value) (h : a_H) : a_run d MX2_neighbours 91 L (.int y :: .int x :: st) h = a_run d MX2_neighbours 92 L (.int (x * y) :: st) h := w_imul dX2_neighbours_91
theorem w_X2_neighbours_92 (d : Nat) (a0 a1 a2 a3 a4 a5 a6 a7 a8 a10 a11 : Option Value) (x : Int32) (st : List Value) (h : a_H) : a_run d MX2_neighbours 92 [a0, a1, a2, a3, a4, a5, a6, a7, a8, some (.int x), a10, a11] st h = a_run d MX2_neighbours 94 [a0, a1, a2, a3, a4, a5, a6, a7, a8, some (.int x), a10, a11] (.int x :: st) h := w_ldI dX2_neighbours_92 rfl
theorem w_X2_neighbours_94 (d : Nat) (L : a_L) (x y : Int32) (st : List Value) (h : a_H) : a_run d MX2_neighbours 94 L (.int y :: .int x :: st) h = a_run d MX2_neighbours 95 L (.int (x + y) :: st) h := w_iadd dX2_neighbours_94
theorem w_X2_neighbours_95 (d : Nat) (L : a_L) (x : Int32) (i : Nat) (st : List Value) (h : a_H) : a_run d MX2_neighbours 95 L (.int x :: .ref i :: st) h = (a_rdi h i a_int x).bind fun v => a_run d MX2_neighbours 96 L (v :: st) h := w_iald dX2_neighbours_95
theorem w_X2_neighbours_96 (d : Nat) (a0 a1 a2 a3 a4 a5 a6 a7 a8 a9 a10 a11 : Option Value) (x : Int32) (st : List Value) (h : a_H) : a_run d MX2_neighbours 96 [a0, a1, a2, a3, a4, a5, a6, a7, a8, a9, a10, a11] (.int x :: st) h = a_run d MX2_neighbours 98 [a0, a1, a2, a3, a4, a5, a6, a7, a8, a9, some (.int x), a11] st h := w_stI dX2_neighbours_96 (Nat.le_of_ble_eq_true rfl) rfl
theorem w_X2_neighbours_98 (d : Nat) (a0 a1 a2 a3 a4 a5 a6 a8 a9 a10 a11 : Option Value) (x : Int32) (st : List Value) (h : a_H) : a_run d MX2_neighbours 98 [a0, a1, a2, a3, a4, a5, a6, some (.int x), a8, a9, a10, a11] st h = a_run d MX2_neighbours 100 [a0, a1, a2, a3, a4, a5, a6, some (.int x), a8, a9, a10, a11] (.int x :: st) h := w_ldI dX2_neighbours_98 rfl
theorem w_X2_neighbours_100 (d : Nat) (a0 a1 a2 a3 a4 a5 a6 a7 a8 a9 a10 a11 : Option Value) (x : Int32) (st : List Value) (h : a_H) : a_run d MX2_neighbours 100 [a0, a1, a2, a3, a4, a5, a6, a7, a8, a9, a10, a11] (.int x :: st) h = a_run d MX2_neighbours 102 [a0, a1, a2, a3, a4, a5, a6, a7, a8, a9, a10, some (.int x)] st h := w_stI dX2_neighbours_100 (Nat.le_of_ble_eq_true rfl) rfl
theorem w_X2_neighbours_102 (d : Nat) (a0 a1 a2 a3 a4 a5 a6 a7 a8 a9 a10 : Option Value) (x : Int32) (st : List Value) (h : a_H) : a_run d MX2_neighbours 102 [a0, a1, a2, a3, a4, a5, a6, a7, a8, a9, a10, some (.int x)] st h = a_run d MX2_neighbours 104 [a0, a1, a2, a3, a4, a5, a6, a7, a8, a9, a10, some (.int x)] (.int x :: st) h := w_ldI dX2_neighbours_102 rfl
theorem w_X2_neighbours_104 (d : Nat) (L : a_L) (x : Int32) (st : List Value) (h : a_H) : a_run d MX2_neighbours 104 L (.int x :: st) h = if 0 < x then a_run d MX2_neighbours 107 L st h else a_run d MX2_neighbours 143 L st h := w_if_le dX2_neighbours_104 rfl
theorem w_X2_neighbours_107 (d : Nat) (a1 a2 a3 a4 a5 a6 a7 a8 a9 a10 a11 : Option Value) (x : Nat) (st : List Value) (h : a_H) : a_run d MX2_neighbours 107 [some (.ref x), a1, a2, a3, a4, a5, a6, a7, a8, a9, a10, a11] st h = a_run d MX2_neighbours 108 [some (.ref x), a1, a2, a3, a4, a5, a6, a7, a8, a9, a10, a11] (.ref x :: st) h := w_ldAn dX2_neighbours_107 rfl
theorem w_X2_neighbours_108 (d : Nat) (L : a_L) (i : Nat) (st : List Value) (h : a_H) : a_run d MX2_neighbours 108 L (.ref i :: st) h = (a_gf h i 8 [1]).bind fun v => a_run d MX2_neighbours 111 L (v :: st) h := w_getf dX2_neighbours_108 rfl
theorem w_X2_neighbours_111 (d : Nat) (a0 a1 a2 a3 a4 a5 a6 a7 a8 a9 a10 : Option Value) (x : Int32) (st : List Value) (h : a_H) : a_run d MX2_neighbours 111 [a0, a1, a2, a3, a4, a5, a6, a7, a8, a9, a10, some (.int x)] st h = a_run d MX2_neighbours 113 [a0, a1, a2, a3, a4, a5, a6, a7, a8, a9, a10, some (.int x)] (.int x :: st) h := w_ldI dX2_neighbours_111 rfl
theorem w_X2_neighbours_113 (d : Nat) (L : a_L) (st : List Value) (h : a_H) : a_run d MX2_neighbours 113 L st h = a_run d MX2_neighbours 114 L (.int (nI 1) :: st) h := w_iconst dX2_neighbours_113 rfl
theorem w_X2_neighbours_114 (d : Nat) (L : a_L) (x y : Int32) (st : List Value) (h : a_H) : a_run d MX2_neighbours 114 L (.int y :: .int x :: st) h = a_run d MX2_neighbours 115 L (.int (x - y) :: st) h := w_isub dX2_neighbours_114
theorem w_X2_neighbours_115 (d : Nat) (L : a_L) (x : Int32) (i : Nat) (st : List Value) (h : a_H) : a_run d MX2_neighbours 115 L (.int x :: .ref i :: st) h = (a_rdi h i a_int x).bind fun v => a_run d MX2_neighbours 116 L (v :: st) h := w_iald dX2_neighbours_115
theorem w_X2_neighbours_116 (d : Nat) (a0 a1 a2 a3 a4 a5 a6 a7 a8 a9 a11 : Option Value) (x : Int32) (st : List Value) (h : a_H) : a_run d MX2_neighbours 116 [a0, a1, a2, a3, a4, a5, a6, a7, a8, a9, some (.int x), a11] st h = a_run d MX2_neighbours 118 [a0, a1, a2, a3, a4, a5, a6, a7, a8, a9, some (.int x), a11] (.int x :: st) h := w_ldI dX2_neighbours_116 rfl
theorem w_X2_neighbours_118 (d : Nat) (L : a_L) (x y : Int32) (st : List Value) (h : a_H) : a_run d MX2_neighbours 118 L (.int y :: .int x :: st) h = if y < x then a_run d MX2_neighbours 121 L st h else a_run d MX2_neighbours 143 L st h := w_icmp_le dX2_neighbours_118 rfl
theorem w_X2_neighbours_121 (d : Nat) (a1 a2 a3 a4 a5 a6 a7 a8 a9 a10 a11 : Option Value) (x : Nat) (st : List Value) (h : a_H) : a_run d MX2_neighbours 121 [some (.ref x), a1, a2, a3, a4, a5, a6, a7, a8, a9, a10, a11] st h = a_run d MX2_neighbours 122 [some (.ref x), a1, a2, a3, a4, a5, a6, a7, a8, a9, a10, a11] (.ref x :: st) h := w_ldAn dX2_neighbours_121 rfl
theorem w_X2_neighbours_122 (d : Nat) (L : a_L) (i : Nat) (st : List Value) (h : a_H) : a_run d MX2_neighbours 122 L (.ref i :: st) h = (a_gf h i 8 [1]).bind fun v => a_run d MX2_neighbours 125 L (v :: st) h := w_getf dX2_neighbours_122 rfl
theorem w_X2_neighbours_125 (d : Nat) (a0 a1 a2 a3 a4 a5 a6 a7 a8 a9 a10 : Option Value) (x : Int32) (st : List Value) (h : a_H) : a_run d MX2_neighbours 125 [a0, a1, a2, a3, a4, a5, a6, a7, a8, a9, a10, some (.int x)] st h = a_run d MX2_neighbours 127 [a0, a1, a2, a3, a4, a5, a6, a7, a8, a9, a10, some (.int x)] (.int x :: st) h := w_ldI dX2_neighbours_125 rfl
theorem w_X2_neighbours_127 (d : Nat) (a1 a2 a3 a4 a5 a6 a7 a8 a9 a10 a11 : Option Value) (x : Nat) (st : List Value) (h : a_H) : a_run d MX2_neighbours 127 [some (.ref x), a1, a2, a3, a4, a5, a6, a7, a8, a9, a10, a11] st h = a_run d MX2_neighbours 128 [some (.ref x), a1, a2, a3, a4, a5, a6, a7, a8, a9, a10, a11] (.ref x :: st) h := w_ldAn dX2_neighbours_127 rfl
theorem w_X2_neighbours_128 (d : Nat) (L : a_L) (i : Nat) (st : List Value) (h : a_H) : a_run d MX2_neighbours 128 L (.ref i :: st) h = (a_gf h i 8 [1]).bind fun v => a_run d MX2_neighbours 131 L (v :: st) h := w_getf dX2_neighbours_128 rfl
theorem w_X2_neighbours_131 (d : Nat) (a0 a1 a2 a3 a4 a5 a6 a7 a8 a9 a10 : Option Value) (x : Int32) (st : List Value) (h : a_H) : a_run d MX2_neighbours 131 [a0, a1, a2, a3, a4, a5, a6, a7, a8, a9, a10, some (.int x)] st h = a_run d MX2_neighbours 133 [a0, a1, a2, a3, a4, a5, a6, a7, a8, a9, a10, some (.int x)] (.int x :: st) h := w_ldI dX2_neighbours_131 rfl
theorem w_X2_neighbours_133 (d : Nat) (L : a_L) (st : List Value) (h : a_H) : a_run d MX2_neighbours 133 L st h = a_run d MX2_neighbours 134 L (.int (nI 1) :: st) h := w_iconst dX2_neighbours_133 rfl
theorem w_X2_neighbours_134 (d : Nat) (L : a_L) (x y : Int32) (st : List Value) (h : a_H) : a_run d MX2_neighbours 134 L (.int y :: .int x :: st) h = a_run d MX2_neighbours 135 L (.int (x - y) :: st) h := w_isub dX2_neighbours_134
theorem w_X2_neighbours_135 (d : Nat) (L : a_L) (x : Int32) (i : Nat) (st : List Value) (h : a_H) : a_run d MX2_neighbours 135 L (.int x :: .ref i :: st) h = (a_rdi h i a_int x).bind fun v => a_run d MX2_neighbours 136 L (v :: st) h := w_iald dX2_neighbours_135
theorem w_X2_neighbours_136 (d : Nat) (L : a_L) (x y : Int32) (i : Nat) (st : List Value) (h : a_H) : a_run d MX2_neighbours 136 L (.int y :: .int x :: .ref i :: st) h = (a_wri h i a_int x y).bind fun h' => a_run d MX2_neighbours 137 L st h' := w_iast dX2_neighbours_136
theorem w_X2_neighbours_137 (d : Nat) (a0 a1 a2 a3 a4 a5 a6 a7 a8 a9 a10 : Option Value) (x : Int32) (st : List Value) (h : a_H) : a_run d MX2_neighbours 137 [a0, a1, a2, a3, a4, a5, a6, a7, a8, a9, a10, some (.int x)] st h = a_run d MX2_neighbours 140 [a0, a1, a2, a3, a4, a5, a6, a7, a8, a9, a10, some (.int (x + (-1)))] st h := w_incL dX2_neighbours_137 rfl rfl rfl
theorem w_X2_neighbours_140 (d : Nat) (L : a_L) (st : List Value) (h : a_H) : a_run d MX2_neighbours 140 L st h = a_run d MX2_neighbours 102 L st h := w_goto dX2_neighbours_140 rfl
theorem w_X2_neighbours_143 (d : Nat) (a1 a2 a3 a4 a5 a6 a7 a8 a9 a10 a11 : Option Value) (x : Nat) (st : List Value) (h : a_H) : a_run d MX2_neighbours 143 [some (.ref x), a1, a2, a3, a4, a5, a6, a7, a8, a9, a10, a11] st h = a_run d MX2_neighbours 144 [some (.ref x), a1, a2, a3, a4, a5, a6, a7, a8, a9, a10, a11] (.ref x :: st) h := w_ldAn dX2_neighbours_143 rfl
theorem w_X2_neighbours_144 (d : Nat) (L : a_L) (i : Nat) (st : List Value) (h : a_H) : a_run d MX2_neighbours 144 L (.ref i :: st) h = (a_gf h i 8 [1]).bind fun v => a_run d MX2_neighbours 147 L (v :: st) h := w_getf dX2_neighbours_144 rfl
theorem w_X2_neighbours_147 (d : Nat) (a0 a1 a2 a3 a4 a5 a6 a7 a8 a9 a10 : Option Value) (x : Int32) (st : List Value) (h : a_H) : a_run d MX2_neighbours 147 [a0, a1, a2, a3, a4, a5, a6, a7, a8, a9, a10, some (.int x)] st h = a_run d MX2_neighbours 149 [a0, a1, a2, a3, a4, a5, a6, a7, a8, a9, a10, some (.int x)] (.int x :: st) h := w_ldI dX2_neighbours_147 rfl
theorem w_X2_neighbours_149 (d : Nat) (a0 a1 a2 a3 a4 a5 a6 a7 a8 a9 a11 : Option Value) (x : Int32) (st : List Value) (h : a_H) : a_run d MX2_neighbours 149 [a0, a1, a2, a3, a4, a5, a6, a7, a8, a9, some (.int x), a11] st h = a_run d MX2_neighbours 151 [a0, a1, a2, a3, a4, a5, a6, a7, a8, a9, some (.int x), a11] (.int x :: st) h := w_ldI dX2_neighbours_149 rfl
theorem w_X2_neighbours_151 (d : Nat) (L : a_L) (x y : Int32) (i : Nat) (st : List Value) (h : a_H) : a_run d MX2_neighbours 151 L (.int y :: .int x :: .ref i :: st) h = (a_wri h i a_int x y).bind fun h' => a_run d MX2_neighbours 152 L st h' := w_iast dX2_neighbours_151
theorem w_X2_neighbours_152 (d : Nat) (a0 a1 a2 a3 a4 a5 a6 a8 a9 a10 a11 : Option Value) (x : Int32) (st : List Value) (h : a_H) : a_run d MX2_neighbours 152 [a0, a1, a2, a3, a4, a5, a6, some (.int x), a8, a9, a10, a11] st h = a_run d MX2_neighbours 155 [a0, a1, a2, a3, a4, a5, a6, some (.int (x + nI 1)), a8, a9, a10, a11] st h := w_incL dX2_neighbours_152 rfl rfl rfl
theorem w_X2_neighbours_155 (d : Nat) (a0 a1 a2 a3 a4 a5 a6 a7 a9 a10 a11 : Option Value) (x : Int32) (st : List Value) (h : a_H) : a_run d MX2_neighbours 155 [a0, a1, a2, a3, a4, a5, a6, a7, some (.int x), a9, a10, a11] st h = a_run d MX2_neighbours 158 [a0, a1, a2, a3, a4, a5, a6, a7, some (.int (x + nI 1)), a9, a10, a11] st h := w_incL dX2_neighbours_155 rfl rfl rfl
theorem w_X2_neighbours_158 (d : Nat) (L : a_L) (st : List Value) (h : a_H) : a_run d MX2_neighbours 158 L st h = a_run d MX2_neighbours 34 L st h := w_goto dX2_neighbours_158 rfl
theorem w_X2_neighbours_161 (d : Nat) (a0 a1 a2 a3 a4 a5 a6 a8 a9 a10 a11 : Option Value) (x : Int32) (st : List Value) (h : a_H) : a_run d MX2_neighbours 161 [a0, a1, a2, a3, a4, a5, a6, some (.int x), a8, a9, a10, a11] st h = a_run d MX2_neighbours 163 [a0, a1, a2, a3, a4, a5, a6, some (.int x), a8, a9, a10, a11] (.int x :: st) h := w_ldI dX2_neighbours_161 rfl
theorem w_X2_neighbours_163 (d : Nat) (L : a_L) (x : Int32) (h : a_H) : a_run d MX2_neighbours 163 L [.int x] h = some (.inl (some (.int x)), h) := w_iret dX2_neighbours_163 (w_retI rfl)
theorem e_X2_hasLine (d : Nat) (x0 : Nat) (x1 : Int32) (x2 : Int32) (h : a_H) : a_call (d + 1) MX2_hasLine [.ref x0, .int x1, .int x2] h = a_run d MX2_hasLine 0 [some (.ref x0), some (.int x1), some (.int x2)] [] h := a_call_run rfl (Nat.le_of_ble_eq_true rfl) rfl
theorem w_X2_hasLine_0 (d : Nat) (a1 a2 : Option Value) (x : Nat) (st : List Value) (h : a_H) : a_run d MX2_hasLine 0 [some (.ref x), a1, a2] st h = a_run d MX2_hasLine 1 [some (.ref x), a1, a2] (.ref x :: st) h := w_ldAn dX2_hasLine_0 rfl
theorem w_X2_hasLine_1 (d : Nat) (L : a_L) (i : Nat) (st : List Value) (h : a_H) : a_run d MX2_hasLine 1 L (.ref i :: st) h = (a_gf h i 3 [1]).bind fun v => a_run d MX2_hasLine 4 L (v :: st) h := w_getf dX2_hasLine_1 rfl
theorem w_X2_hasLine_4 (d : Nat) (a1 a2 : Option Value) (x : Nat) (st : List Value) (h : a_H) : a_run d MX2_hasLine 4 [some (.ref x), a1, a2] st h = a_run d MX2_hasLine 5 [some (.ref x), a1, a2] (.ref x :: st) h := w_ldAn dX2_hasLine_4 rfl
theorem w_X2_hasLine_5 (d : Nat) (L : a_L) (i : Nat) (st : List Value) (h : a_H) : a_run d MX2_hasLine 5 L (.ref i :: st) h = (a_gf h i 0 [1]).bind fun v => a_run d MX2_hasLine 8 L (v :: st) h := w_getf dX2_hasLine_5 rfl
theorem w_X2_hasLine_8 (d : Nat) (a0 a2 : Option Value) (x : Int32) (st : List Value) (h : a_H) : a_run d MX2_hasLine 8 [a0, some (.int x), a2] st h = a_run d MX2_hasLine 9 [a0, some (.int x), a2] (.int x :: st) h := w_ldIn dX2_hasLine_8 rfl
theorem w_X2_hasLine_9 (d : Nat) (L : a_L) (x : Int32) (i : Nat) (st : List Value) (h : a_H) : a_run d MX2_hasLine 9 L (.int x :: .ref i :: st) h = (a_rdi h i a_int x).bind fun v => a_run d MX2_hasLine 10 L (v :: st) h := w_iald dX2_hasLine_9
theorem w_X2_hasLine_10 (d : Nat) (L : a_L) (x : Int32) (i : Nat) (st : List Value) (h : a_H) : a_run d MX2_hasLine 10 L (.int x :: .ref i :: st) h = (a_rdi h i a_int x).bind fun v => a_run d MX2_hasLine 11 L (v :: st) h := w_iald dX2_hasLine_10
theorem w_X2_hasLine_11 (d : Nat) (a0 a1 : Option Value) (x : Int32) (st : List Value) (h : a_H) : a_run d MX2_hasLine 11 [a0, a1, some (.int x)] st h = a_run d MX2_hasLine 12 [a0, a1, some (.int x)] (.int x :: st) h := w_ldIn dX2_hasLine_11 rfl
theorem w_X2_hasLine_12 (d : Nat) (L : a_L) (x y : Int32) (st : List Value) (h : a_H) : a_run d MX2_hasLine 12 L (.int y :: .int x :: st) h = if y < x then a_run d MX2_hasLine 34 L st h else a_run d MX2_hasLine 15 L st h := w_icmp_gt dX2_hasLine_12 rfl
theorem w_X2_hasLine_15 (d : Nat) (a1 a2 : Option Value) (x : Nat) (st : List Value) (h : a_H) : a_run d MX2_hasLine 15 [some (.ref x), a1, a2] st h = a_run d MX2_hasLine 16 [some (.ref x), a1, a2] (.ref x :: st) h := w_ldAn dX2_hasLine_15 rfl
theorem w_X2_hasLine_16 (d : Nat) (L : a_L) (i : Nat) (st : List Value) (h : a_H) : a_run d MX2_hasLine 16 L (.ref i :: st) h = (a_gf h i 3 [1]).bind fun v => a_run d MX2_hasLine 19 L (v :: st) h := w_getf dX2_hasLine_16 rfl
theorem w_X2_hasLine_19 (d : Nat) (a1 a2 : Option Value) (x : Nat) (st : List Value) (h : a_H) : a_run d MX2_hasLine 19 [some (.ref x), a1, a2] st h = a_run d MX2_hasLine 20 [some (.ref x), a1, a2] (.ref x :: st) h := w_ldAn dX2_hasLine_19 rfl
theorem w_X2_hasLine_20 (d : Nat) (L : a_L) (i : Nat) (st : List Value) (h : a_H) : a_run d MX2_hasLine 20 L (.ref i :: st) h = (a_gf h i 1 [1]).bind fun v => a_run d MX2_hasLine 23 L (v :: st) h := w_getf dX2_hasLine_20 rfl
theorem w_X2_hasLine_23 (d : Nat) (a0 a2 : Option Value) (x : Int32) (st : List Value) (h : a_H) : a_run d MX2_hasLine 23 [a0, some (.int x), a2] st h = a_run d MX2_hasLine 24 [a0, some (.int x), a2] (.int x :: st) h := w_ldIn dX2_hasLine_23 rfl
theorem w_X2_hasLine_24 (d : Nat) (L : a_L) (x : Int32) (i : Nat) (st : List Value) (h : a_H) : a_run d MX2_hasLine 24 L (.int x :: .ref i :: st) h = (a_rdi h i a_int x).bind fun v => a_run d MX2_hasLine 25 L (v :: st) h := w_iald dX2_hasLine_24
theorem w_X2_hasLine_25 (d : Nat) (L : a_L) (x : Int32) (i : Nat) (st : List Value) (h : a_H) : a_run d MX2_hasLine 25 L (.int x :: .ref i :: st) h = (a_rdi h i a_int x).bind fun v => a_run d MX2_hasLine 26 L (v :: st) h := w_iald dX2_hasLine_25
theorem w_X2_hasLine_26 (d : Nat) (a0 a1 : Option Value) (x : Int32) (st : List Value) (h : a_H) : a_run d MX2_hasLine 26 [a0, a1, some (.int x)] st h = a_run d MX2_hasLine 27 [a0, a1, some (.int x)] (.int x :: st) h := w_ldIn dX2_hasLine_26 rfl
theorem w_X2_hasLine_27 (d : Nat) (L : a_L) (x y : Int32) (st : List Value) (h : a_H) : a_run d MX2_hasLine 27 L (.int y :: .int x :: st) h = if y < x then a_run d MX2_hasLine 30 L st h else a_run d MX2_hasLine 34 L st h := w_icmp_le dX2_hasLine_27 rfl
theorem w_X2_hasLine_30 (d : Nat) (L : a_L) (st : List Value) (h : a_H) : a_run d MX2_hasLine 30 L st h = a_run d MX2_hasLine 31 L (.int (nI 1) :: st) h := w_iconst dX2_hasLine_30 rfl
theorem w_X2_hasLine_31 (d : Nat) (L : a_L) (st : List Value) (h : a_H) : a_run d MX2_hasLine 31 L st h = a_run d MX2_hasLine 35 L st h := w_goto dX2_hasLine_31 rfl
theorem w_X2_hasLine_34 (d : Nat) (L : a_L) (st : List Value) (h : a_H) : a_run d MX2_hasLine 34 L st h = a_run d MX2_hasLine 35 L (.int (nI 0) :: st) h := w_iconst dX2_hasLine_34 rfl
theorem w_X2_hasLine_35 (d : Nat) (L : a_L) (x : Int32) (h : a_H) (hx : x = 0 ∨ x = 1) : a_run d MX2_hasLine 35 L [.int x] h = some (.inl (some (.int x)), h) := w_iret dX2_hasLine_35 (w_retZ rfl hx)
theorem e_X2_endOf (d : Nat) (x0 : Nat) (x1 : Int32) (x2 : Int32) (h : a_H) : a_call (d + 1) MX2_endOf [.ref x0, .int x1, .int x2] h = a_run d MX2_endOf 0 [some (.ref x0), some (.int x1), some (.int x2)] [] h := a_call_run rfl (Nat.le_of_ble_eq_true rfl) rfl
theorem w_X2_endOf_0 (d : Nat) (a1 a2 : Option Value) (x : Nat) (st : List Value) (h : a_H) : a_run d MX2_endOf 0 [some (.ref x), a1, a2] st h = a_run d MX2_endOf 1 [some (.ref x), a1, a2] (.ref x :: st) h := w_ldAn dX2_endOf_0 rfl
theorem w_X2_endOf_1 (d : Nat) (a0 a1 : Option Value) (x : Int32) (st : List Value) (h : a_H) : a_run d MX2_endOf 1 [a0, a1, some (.int x)] st h = a_run d MX2_endOf 2 [a0, a1, some (.int x)] (.int x :: st) h := w_ldIn dX2_endOf_1 rfl
theorem w_X2_endOf_2 (d : Nat) (a1 a2 : Option Value) (x : Nat) (st : List Value) (h : a_H) : a_run d MX2_endOf 2 [some (.ref x), a1, a2] st h = a_run d MX2_endOf 3 [some (.ref x), a1, a2] (.ref x :: st) h := w_ldAn dX2_endOf_2 rfl
theorem w_X2_endOf_3 (d : Nat) (a0 a2 : Option Value) (x : Int32) (st : List Value) (h : a_H) : a_run d MX2_endOf 3 [a0, some (.int x), a2] st h = a_run d MX2_endOf 4 [a0, some (.int x), a2] (.int x :: st) h := w_ldIn dX2_endOf_3 rfl
theorem w_X2_endOf_4 (d : Nat) (a0 a1 : Option Value) (x : Int32) (st : List Value) (h : a_H) : a_run d MX2_endOf 4 [a0, a1, some (.int x)] st h = a_run d MX2_endOf 5 [a0, a1, some (.int x)] (.int x :: st) h := w_ldIn dX2_endOf_4 rfl
theorem w_X2_endOf_5 (d : Nat) (L : a_L) (i : Nat) (v1 v2 : Value) (st : List Value) (h : a_H) (hk : a_kls h i = some 1) (hc : a_cat st ≤ 8) : a_run d MX2_endOf 5 L (v2 :: v1 :: .ref i :: st) h = a_cont d MX2_endOf (a_bk MX2_endOf 5 L st (a_call d MX2_pointOf [.ref i, v1, v2] h)) := w_callV (as := [.ref i, v1, v2]) dX2_endOf_5 rfl rfl rfl hc (a_rcv_of hk rfl)
theorem w_X2_endOf_8 (d : Nat) (L : a_L) (i : Nat) (v1 v2 : Value) (st : List Value) (h : a_H) (hk : a_kls h i = some 1) (hc : a_cat st ≤ 8) : a_run d MX2_endOf 8 L (v2 :: v1 :: .ref i :: st) h = a_cont d MX2_endOf (a_bk MX2_endOf 8 L st (a_call d MX2_place [.ref i, v1, v2] h)) := w_callV (as := [.ref i, v1, v2]) dX2_endOf_8 rfl rfl rfl hc (a_rcv_of hk rfl)
theorem w_X2_endOf_11 (d : Nat) (L : a_L) (x : Int32) (h : a_H) : a_run d MX2_endOf 11 L [.int x] h = some (.inl (some (.int x)), h) := w_iret dX2_endOf_11 (w_retI rfl)
theorem e_X2_pointOf (d : Nat) (x0 : Nat) (x1 : Int32) (x2 : Int32) (h : a_H) : a_call (d + 1) MX2_pointOf [.ref x0, .int x1, .int x2] h = a_run d MX2_pointOf 0 [some (.ref x0), some (.int x1), some (.int x2)] [] h := a_call_run rfl (Nat.le_of_ble_eq_true rfl) rfl
theorem w_X2_pointOf_0 (d : Nat) (a1 a2 : Option Value) (x : Nat) (st : List Value) (h : a_H) : a_run d MX2_pointOf 0 [some (.ref x), a1, a2] st h = a_run d MX2_pointOf 1 [some (.ref x), a1, a2] (.ref x :: st) h := w_ldAn dX2_pointOf_0 rfl
theorem w_X2_pointOf_1 (d : Nat) (L : a_L) (i : Nat) (st : List Value) (h : a_H) : a_run d MX2_pointOf 1 L (.ref i :: st) h = (a_gf h i 3 [1]).bind fun v => a_run d MX2_pointOf 4 L (v :: st) h := w_getf dX2_pointOf_1 rfl
theorem w_X2_pointOf_4 (d : Nat) (a1 a2 : Option Value) (x : Nat) (st : List Value) (h : a_H) : a_run d MX2_pointOf 4 [some (.ref x), a1, a2] st h = a_run d MX2_pointOf 5 [some (.ref x), a1, a2] (.ref x :: st) h := w_ldAn dX2_pointOf_4 rfl
theorem w_X2_pointOf_5 (d : Nat) (L : a_L) (i : Nat) (st : List Value) (h : a_H) : a_run d MX2_pointOf 5 L (.ref i :: st) h = (a_gf h i 0 [1]).bind fun v => a_run d MX2_pointOf 8 L (v :: st) h := w_getf dX2_pointOf_5 rfl
theorem w_X2_pointOf_8 (d : Nat) (a0 a2 : Option Value) (x : Int32) (st : List Value) (h : a_H) : a_run d MX2_pointOf 8 [a0, some (.int x), a2] st h = a_run d MX2_pointOf 9 [a0, some (.int x), a2] (.int x :: st) h := w_ldIn dX2_pointOf_8 rfl
theorem w_X2_pointOf_9 (d : Nat) (L : a_L) (x : Int32) (i : Nat) (st : List Value) (h : a_H) : a_run d MX2_pointOf 9 L (.int x :: .ref i :: st) h = (a_rdi h i a_int x).bind fun v => a_run d MX2_pointOf 10 L (v :: st) h := w_iald dX2_pointOf_9
theorem w_X2_pointOf_10 (d : Nat) (L : a_L) (x : Int32) (i : Nat) (st : List Value) (h : a_H) : a_run d MX2_pointOf 10 L (.int x :: .ref i :: st) h = (a_rdi h i a_int x).bind fun v => a_run d MX2_pointOf 11 L (v :: st) h := w_iald dX2_pointOf_10
theorem w_X2_pointOf_11 (d : Nat) (a0 a1 : Option Value) (x : Int32) (st : List Value) (h : a_H) : a_run d MX2_pointOf 11 [a0, a1, some (.int x)] st h = a_run d MX2_pointOf 12 [a0, a1, some (.int x)] (.int x :: st) h := w_ldIn dX2_pointOf_11 rfl
theorem w_X2_pointOf_12 (d : Nat) (L : a_L) (x y : Int32) (st : List Value) (h : a_H) : a_run d MX2_pointOf 12 L (.int y :: .int x :: st) h = if x = y then a_run d MX2_pointOf 15 L st h else a_run d MX2_pointOf 24 L st h := w_icmp_ne dX2_pointOf_12 rfl
theorem w_X2_pointOf_15 (d : Nat) (a1 a2 : Option Value) (x : Nat) (st : List Value) (h : a_H) : a_run d MX2_pointOf 15 [some (.ref x), a1, a2] st h = a_run d MX2_pointOf 16 [some (.ref x), a1, a2] (.ref x :: st) h := w_ldAn dX2_pointOf_15 rfl
theorem w_X2_pointOf_16 (d : Nat) (L : a_L) (i : Nat) (st : List Value) (h : a_H) : a_run d MX2_pointOf 16 L (.ref i :: st) h = (a_gf h i 0 [1]).bind fun v => a_run d MX2_pointOf 19 L (v :: st) h := w_getf dX2_pointOf_16 rfl
theorem w_X2_pointOf_19 (d : Nat) (a0 a2 : Option Value) (x : Int32) (st : List Value) (h : a_H) : a_run d MX2_pointOf 19 [a0, some (.int x), a2] st h = a_run d MX2_pointOf 20 [a0, some (.int x), a2] (.int x :: st) h := w_ldIn dX2_pointOf_19 rfl
theorem w_X2_pointOf_20 (d : Nat) (L : a_L) (x : Int32) (i : Nat) (st : List Value) (h : a_H) : a_run d MX2_pointOf 20 L (.int x :: .ref i :: st) h = (a_rdi h i a_int x).bind fun v => a_run d MX2_pointOf 21 L (v :: st) h := w_iald dX2_pointOf_20
theorem w_X2_pointOf_21 (d : Nat) (L : a_L) (st : List Value) (h : a_H) : a_run d MX2_pointOf 21 L st h = a_run d MX2_pointOf 52 L st h := w_goto dX2_pointOf_21 rfl
theorem w_X2_pointOf_24 (d : Nat) (a1 a2 : Option Value) (x : Nat) (st : List Value) (h : a_H) : a_run d MX2_pointOf 24 [some (.ref x), a1, a2] st h = a_run d MX2_pointOf 25 [some (.ref x), a1, a2] (.ref x :: st) h := w_ldAn dX2_pointOf_24 rfl
theorem w_X2_pointOf_25 (d : Nat) (L : a_L) (i : Nat) (st : List Value) (h : a_H) : a_run d MX2_pointOf 25 L (.ref i :: st) h = (a_gf h i 3 [1]).bind fun v => a_run d MX2_pointOf 28 L (v :: st) h := w_getf dX2_pointOf_25 rfl
theorem w_X2_pointOf_28 (d : Nat) (a1 a2 : Option Value) (x : Nat) (st : List Value) (h : a_H) : a_run d MX2_pointOf 28 [some (.ref x), a1, a2] st h = a_run d MX2_pointOf 29 [some (.ref x), a1, a2] (.ref x :: st) h := w_ldAn dX2_pointOf_28 rfl
theorem w_X2_pointOf_29 (d : Nat) (L : a_L) (i : Nat) (st : List Value) (h : a_H) : a_run d MX2_pointOf 29 L (.ref i :: st) h = (a_gf h i 1 [1]).bind fun v => a_run d MX2_pointOf 32 L (v :: st) h := w_getf dX2_pointOf_29 rfl
theorem w_X2_pointOf_32 (d : Nat) (a0 a2 : Option Value) (x : Int32) (st : List Value) (h : a_H) : a_run d MX2_pointOf 32 [a0, some (.int x), a2] st h = a_run d MX2_pointOf 33 [a0, some (.int x), a2] (.int x :: st) h := w_ldIn dX2_pointOf_32 rfl
theorem w_X2_pointOf_33 (d : Nat) (L : a_L) (x : Int32) (i : Nat) (st : List Value) (h : a_H) : a_run d MX2_pointOf 33 L (.int x :: .ref i :: st) h = (a_rdi h i a_int x).bind fun v => a_run d MX2_pointOf 34 L (v :: st) h := w_iald dX2_pointOf_33
theorem w_X2_pointOf_34 (d : Nat) (L : a_L) (x : Int32) (i : Nat) (st : List Value) (h : a_H) : a_run d MX2_pointOf 34 L (.int x :: .ref i :: st) h = (a_rdi h i a_int x).bind fun v => a_run d MX2_pointOf 35 L (v :: st) h := w_iald dX2_pointOf_34
theorem w_X2_pointOf_35 (d : Nat) (a0 a1 : Option Value) (x : Int32) (st : List Value) (h : a_H) : a_run d MX2_pointOf 35 [a0, a1, some (.int x)] st h = a_run d MX2_pointOf 36 [a0, a1, some (.int x)] (.int x :: st) h := w_ldIn dX2_pointOf_35 rfl
theorem w_X2_pointOf_36 (d : Nat) (L : a_L) (x y : Int32) (st : List Value) (h : a_H) : a_run d MX2_pointOf 36 L (.int y :: .int x :: st) h = if x = y then a_run d MX2_pointOf 39 L st h else a_run d MX2_pointOf 48 L st h := w_icmp_ne dX2_pointOf_36 rfl
theorem w_X2_pointOf_39 (d : Nat) (a1 a2 : Option Value) (x : Nat) (st : List Value) (h : a_H) : a_run d MX2_pointOf 39 [some (.ref x), a1, a2] st h = a_run d MX2_pointOf 40 [some (.ref x), a1, a2] (.ref x :: st) h := w_ldAn dX2_pointOf_39 rfl
theorem w_X2_pointOf_40 (d : Nat) (L : a_L) (i : Nat) (st : List Value) (h : a_H) : a_run d MX2_pointOf 40 L (.ref i :: st) h = (a_gf h i 1 [1]).bind fun v => a_run d MX2_pointOf 43 L (v :: st) h := w_getf dX2_pointOf_40 rfl
theorem w_X2_pointOf_43 (d : Nat) (a0 a2 : Option Value) (x : Int32) (st : List Value) (h : a_H) : a_run d MX2_pointOf 43 [a0, some (.int x), a2] st h = a_run d MX2_pointOf 44 [a0, some (.int x), a2] (.int x :: st) h := w_ldIn dX2_pointOf_43 rfl
theorem w_X2_pointOf_44 (d : Nat) (L : a_L) (x : Int32) (i : Nat) (st : List Value) (h : a_H) : a_run d MX2_pointOf 44 L (.int x :: .ref i :: st) h = (a_rdi h i a_int x).bind fun v => a_run d MX2_pointOf 45 L (v :: st) h := w_iald dX2_pointOf_44
theorem w_X2_pointOf_45 (d : Nat) (L : a_L) (st : List Value) (h : a_H) : a_run d MX2_pointOf 45 L st h = a_run d MX2_pointOf 52 L st h := w_goto dX2_pointOf_45 rfl
theorem w_X2_pointOf_48 (d : Nat) (L : a_L) (st : List Value) (h : a_H) : a_run d MX2_pointOf 48 L st h = a_run d MX2_pointOf 50 L (.int (nI 100) :: st) h := w_bipush dX2_pointOf_48 rfl
theorem w_X2_pointOf_50 (d : Nat) (a0 a2 : Option Value) (x : Int32) (st : List Value) (h : a_H) : a_run d MX2_pointOf 50 [a0, some (.int x), a2] st h = a_run d MX2_pointOf 51 [a0, some (.int x), a2] (.int x :: st) h := w_ldIn dX2_pointOf_50 rfl
theorem w_X2_pointOf_51 (d : Nat) (L : a_L) (x y : Int32) (st : List Value) (h : a_H) : a_run d MX2_pointOf 51 L (.int y :: .int x :: st) h = a_run d MX2_pointOf 52 L (.int (x + y) :: st) h := w_iadd dX2_pointOf_51
theorem w_X2_pointOf_52 (d : Nat) (L : a_L) (x : Int32) (h : a_H) : a_run d MX2_pointOf 52 L [.int x] h = some (.inl (some (.int x)), h) := w_iret dX2_pointOf_52 (w_retI rfl)
theorem e_X2_place (d : Nat) (x0 : Nat) (x1 : Int32) (x2 : Int32) (h : a_H) : a_call (d + 1) MX2_place [.ref x0, .int x1, .int x2] h = a_run d MX2_place 0 [some (.ref x0), some (.int x1), some (.int x2), none] [] h := a_call_run rfl (Nat.le_of_ble_eq_true rfl) rfl
theorem w_X2_place_0 (d : Nat) (L : a_L) (st : List Value) (h : a_H) : a_run d MX2_place 0 L st h = a_run d MX2_place 1 L (.int (nI 0) :: st) h := w_iconst dX2_place_0 rfl
theorem w_X2_place_1 (d : Nat) (a0 a1 a2 a3 : Option Value) (x : Int32) (st : List Value) (h : a_H) : a_run d MX2_place 1 [a0, a1, a2, a3] (.int x :: st) h = a_run d MX2_place 2 [a0, a1, a2, some (.int x)] st h := w_stIn dX2_place_1 (Nat.le_of_ble_eq_true rfl) rfl
theorem w_X2_place_2 (d : Nat) (a1 a2 a3 : Option Value) (x : Nat) (st : List Value) (h : a_H) : a_run d MX2_place 2 [some (.ref x), a1, a2, a3] st h = a_run d MX2_place 3 [some (.ref x), a1, a2, a3] (.ref x :: st) h := w_ldAn dX2_place_2 rfl
theorem w_X2_place_3 (d : Nat) (a0 a2 a3 : Option Value) (x : Int32) (st : List Value) (h : a_H) : a_run d MX2_place 3 [a0, some (.int x), a2, a3] st h = a_run d MX2_place 4 [a0, some (.int x), a2, a3] (.int x :: st) h := w_ldIn dX2_place_3 rfl
theorem w_X2_place_4 (d : Nat) (a0 a1 a2 : Option Value) (x : Int32) (st : List Value) (h : a_H) : a_run d MX2_place 4 [a0, a1, a2, some (.int x)] st h = a_run d MX2_place 5 [a0, a1, a2, some (.int x)] (.int x :: st) h := w_ldIn dX2_place_4 rfl
theorem w_X2_place_5 (d : Nat) (L : a_L) (i : Nat) (v1 v2 : Value) (st : List Value) (h : a_H) (hk : a_kls h i = some 1) (hc : a_cat st ≤ 8) : a_run d MX2_place 5 L (v2 :: v1 :: .ref i :: st) h = a_cont d MX2_place (a_bk MX2_place 5 L st (a_call d MX2_point [.ref i, v1, v2] h)) := w_callV (as := [.ref i, v1, v2]) dX2_place_5 rfl rfl rfl hc (a_rcv_of hk rfl)
theorem w_X2_place_8 (d : Nat) (a0 a1 a3 : Option Value) (x : Int32) (st : List Value) (h : a_H) : a_run d MX2_place 8 [a0, a1, some (.int x), a3] st h = a_run d MX2_place 9 [a0, a1, some (.int x), a3] (.int x :: st) h := w_ldIn dX2_place_8 rfl
theorem w_X2_place_9 (d : Nat) (L : a_L) (x y : Int32) (st : List Value) (h : a_H) : a_run d MX2_place 9 L (.int y :: .int x :: st) h = if x = y then a_run d MX2_place 18 L st h else a_run d MX2_place 12 L st h := w_icmp_eq dX2_place_9 rfl
theorem w_X2_place_12 (d : Nat) (a0 a1 a2 : Option Value) (x : Int32) (st : List Value) (h : a_H) : a_run d MX2_place 12 [a0, a1, a2, some (.int x)] st h = a_run d MX2_place 15 [a0, a1, a2, some (.int (x + nI 1))] st h := w_incL dX2_place_12 rfl rfl rfl
theorem w_X2_place_15 (d : Nat) (L : a_L) (st : List Value) (h : a_H) : a_run d MX2_place 15 L st h = a_run d MX2_place 2 L st h := w_goto dX2_place_15 rfl
theorem w_X2_place_18 (d : Nat) (a0 a1 a2 : Option Value) (x : Int32) (st : List Value) (h : a_H) : a_run d MX2_place 18 [a0, a1, a2, some (.int x)] st h = a_run d MX2_place 19 [a0, a1, a2, some (.int x)] (.int x :: st) h := w_ldIn dX2_place_18 rfl
theorem w_X2_place_19 (d : Nat) (L : a_L) (x : Int32) (h : a_H) : a_run d MX2_place 19 L [.int x] h = some (.inl (some (.int x)), h) := w_iret dX2_place_19 (w_retI rfl)
theorem e_X2_point (d : Nat) (x0 : Nat) (x1 : Int32) (x2 : Int32) (h : a_H) : a_call (d + 1) MX2_point [.ref x0, .int x1, .int x2] h = a_run d MX2_point 0 [some (.ref x0), some (.int x1), some (.int x2)] [] h := a_call_run rfl (Nat.le_of_ble_eq_true rfl) rfl
theorem w_X2_point_0 (d : Nat) (a1 a2 : Option Value) (x : Nat) (st : List Value) (h : a_H) : a_run d MX2_point 0 [some (.ref x), a1, a2] st h = a_run d MX2_point 1 [some (.ref x), a1, a2] (.ref x :: st) h := w_ldAn dX2_point_0 rfl
theorem w_X2_point_1 (d : Nat) (L : a_L) (i : Nat) (st : List Value) (h : a_H) : a_run d MX2_point 1 L (.ref i :: st) h = (a_gf h i 4 [1]).bind fun v => a_run d MX2_point 4 L (v :: st) h := w_getf dX2_point_1 rfl
theorem w_X2_point_4 (d : Nat) (a0 a2 : Option Value) (x : Int32) (st : List Value) (h : a_H) : a_run d MX2_point 4 [a0, some (.int x), a2] st h = a_run d MX2_point 5 [a0, some (.int x), a2] (.int x :: st) h := w_ldIn dX2_point_4 rfl
theorem w_X2_point_5 (d : Nat) (L : a_L) (st : List Value) (h : a_H) : a_run d MX2_point 5 L st h = a_run d MX2_point 7 L (.int (nI 46) :: st) h := w_bipush dX2_point_5 rfl
theorem w_X2_point_7 (d : Nat) (L : a_L) (x y : Int32) (st : List Value) (h : a_H) : a_run d MX2_point 7 L (.int y :: .int x :: st) h = a_run d MX2_point 8 L (.int (x * y) :: st) h := w_imul dX2_point_7
theorem w_X2_point_8 (d : Nat) (a0 a1 : Option Value) (x : Int32) (st : List Value) (h : a_H) : a_run d MX2_point 8 [a0, a1, some (.int x)] st h = a_run d MX2_point 9 [a0, a1, some (.int x)] (.int x :: st) h := w_ldIn dX2_point_8 rfl
theorem w_X2_point_9 (d : Nat) (L : a_L) (x y : Int32) (st : List Value) (h : a_H) : a_run d MX2_point 9 L (.int y :: .int x :: st) h = a_run d MX2_point 10 L (.int (x + y) :: st) h := w_iadd dX2_point_9
theorem w_X2_point_10 (d : Nat) (L : a_L) (x : Int32) (i : Nat) (st : List Value) (h : a_H) : a_run d MX2_point 10 L (.int x :: .ref i :: st) h = (a_rdi h i a_int x).bind fun v => a_run d MX2_point 11 L (v :: st) h := w_iald dX2_point_10
theorem w_X2_point_11 (d : Nat) (L : a_L) (x : Int32) (h : a_H) : a_run d MX2_point 11 L [.int x] h = some (.inl (some (.int x)), h) := w_iret dX2_point_11 (w_retI rfl)
theorem e_X2_middle (d : Nat) (x0 : Nat) (x1 : Int32) (x2 : Int32) (h : a_H) : a_call (d + 1) MX2_middle [.ref x0, .int x1, .int x2] h = a_run d MX2_middle 0 [some (.ref x0), some (.int x1), some (.int x2), none] [] h := a_call_run rfl (Nat.le_of_ble_eq_true rfl) rfl
theorem w_X2_middle_0 (d : Nat) (a0 a1 a3 : Option Value) (x : Int32) (st : List Value) (h : a_H) : a_run d MX2_middle 0 [a0, a1, some (.int x), a3] st h = a_run d MX2_middle 1 [a0, a1, some (.int x), a3] (.int x :: st) h := w_ldIn dX2_middle_0 rfl
theorem w_X2_middle_1 (d : Nat) (L : a_L) (st : List Value) (h : a_H) : a_run d MX2_middle 1 L st h = a_run d MX2_middle 2 L (.int (nI 2) :: st) h := w_iconst dX2_middle_1 rfl
theorem w_X2_middle_2 (d : Nat) (L : a_L) (x y : Int32) (st : List Value) (h : a_H) (hy : y ≠ 0) : a_run d MX2_middle 2 L (.int y :: .int x :: st) h = a_run d MX2_middle 3 L (.int (x / y) :: st) h := w_idiv dX2_middle_2 hy
theorem w_X2_middle_3 (d : Nat) (a0 a1 a2 a3 : Option Value) (x : Int32) (st : List Value) (h : a_H) : a_run d MX2_middle 3 [a0, a1, a2, a3] (.int x :: st) h = a_run d MX2_middle 4 [a0, a1, a2, some (.int x)] st h := w_stIn dX2_middle_3 (Nat.le_of_ble_eq_true rfl) rfl
theorem w_X2_middle_4 (d : Nat) (a0 a1 a3 : Option Value) (x : Int32) (st : List Value) (h : a_H) : a_run d MX2_middle 4 [a0, a1, some (.int x), a3] st h = a_run d MX2_middle 5 [a0, a1, some (.int x), a3] (.int x :: st) h := w_ldIn dX2_middle_4 rfl
theorem w_X2_middle_5 (d : Nat) (L : a_L) (x : Int32) (st : List Value) (h : a_H) : a_run d MX2_middle 5 L (.int x :: st) h = if x = 0 then a_run d MX2_middle 8 L st h else a_run d MX2_middle 12 L st h := w_if_ne dX2_middle_5 rfl
theorem w_X2_middle_8 (d : Nat) (a0 a2 a3 : Option Value) (x : Int32) (st : List Value) (h : a_H) : a_run d MX2_middle 8 [a0, some (.int x), a2, a3] st h = a_run d MX2_middle 9 [a0, some (.int x), a2, a3] (.int x :: st) h := w_ldIn dX2_middle_8 rfl
theorem w_X2_middle_9 (d : Nat) (L : a_L) (st : List Value) (h : a_H) : a_run d MX2_middle 9 L st h = a_run d MX2_middle 45 L st h := w_goto dX2_middle_9 rfl
theorem w_X2_middle_12 (d : Nat) (a0 a1 a3 : Option Value) (x : Int32) (st : List Value) (h : a_H) : a_run d MX2_middle 12 [a0, a1, some (.int x), a3] st h = a_run d MX2_middle 13 [a0, a1, some (.int x), a3] (.int x :: st) h := w_ldIn dX2_middle_12 rfl
theorem w_X2_middle_13 (d : Nat) (L : a_L) (st : List Value) (h : a_H) : a_run d MX2_middle 13 L st h = a_run d MX2_middle 14 L (.int (nI 2) :: st) h := w_iconst dX2_middle_13 rfl
theorem w_X2_middle_14 (d : Nat) (L : a_L) (x y : Int32) (st : List Value) (h : a_H) (hy : y ≠ 0) : a_run d MX2_middle 14 L (.int y :: .int x :: st) h = a_run d MX2_middle 15 L (.int (x - x / y * y) :: st) h := w_irem dX2_middle_14 hy
theorem w_X2_middle_15 (d : Nat) (L : a_L) (st : List Value) (h : a_H) : a_run d MX2_middle 15 L st h = a_run d MX2_middle 16 L (.int (nI 1) :: st) h := w_iconst dX2_middle_15 rfl
theorem w_X2_middle_16 (d : Nat) (L : a_L) (x y : Int32) (st : List Value) (h : a_H) : a_run d MX2_middle 16 L (.int y :: .int x :: st) h = if x = y then a_run d MX2_middle 19 L st h else a_run d MX2_middle 30 L st h := w_icmp_ne dX2_middle_16 rfl
theorem w_X2_middle_19 (d : Nat) (L : a_L) (st : List Value) (h : a_H) : a_run d MX2_middle 19 L st h = a_run d MX2_middle 20 L (.int (nI 2) :: st) h := w_iconst dX2_middle_19 rfl
theorem w_X2_middle_20 (d : Nat) (a1 a2 a3 : Option Value) (x : Nat) (st : List Value) (h : a_H) : a_run d MX2_middle 20 [some (.ref x), a1, a2, a3] st h = a_run d MX2_middle 21 [some (.ref x), a1, a2, a3] (.ref x :: st) h := w_ldAn dX2_middle_20 rfl
theorem w_X2_middle_21 (d : Nat) (L : a_L) (i : Nat) (st : List Value) (h : a_H) : a_run d MX2_middle 21 L (.ref i :: st) h = (a_gf h i 8 [1]).bind fun v => a_run d MX2_middle 24 L (v :: st) h := w_getf dX2_middle_21 rfl
theorem w_X2_middle_24 (d : Nat) (a0 a1 a2 : Option Value) (x : Int32) (st : List Value) (h : a_H) : a_run d MX2_middle 24 [a0, a1, a2, some (.int x)] st h = a_run d MX2_middle 25 [a0, a1, a2, some (.int x)] (.int x :: st) h := w_ldIn dX2_middle_24 rfl
theorem w_X2_middle_25 (d : Nat) (L : a_L) (x : Int32) (i : Nat) (st : List Value) (h : a_H) : a_run d MX2_middle 25 L (.int x :: .ref i :: st) h = (a_rdi h i a_int x).bind fun v => a_run d MX2_middle 26 L (v :: st) h := w_iald dX2_middle_25
theorem w_X2_middle_26 (d : Nat) (L : a_L) (x y : Int32) (st : List Value) (h : a_H) : a_run d MX2_middle 26 L (.int y :: .int x :: st) h = a_run d MX2_middle 27 L (.int (x * y) :: st) h := w_imul dX2_middle_26
theorem w_X2_middle_27 (d : Nat) (L : a_L) (st : List Value) (h : a_H) : a_run d MX2_middle 27 L st h = a_run d MX2_middle 45 L st h := w_goto dX2_middle_27 rfl
theorem w_X2_middle_30 (d : Nat) (a1 a2 a3 : Option Value) (x : Nat) (st : List Value) (h : a_H) : a_run d MX2_middle 30 [some (.ref x), a1, a2, a3] st h = a_run d MX2_middle 31 [some (.ref x), a1, a2, a3] (.ref x :: st) h := w_ldAn dX2_middle_30 rfl
theorem w_X2_middle_31 (d : Nat) (L : a_L) (i : Nat) (st : List Value) (h : a_H) : a_run d MX2_middle 31 L (.ref i :: st) h = (a_gf h i 8 [1]).bind fun v => a_run d MX2_middle 34 L (v :: st) h := w_getf dX2_middle_31 rfl
theorem w_X2_middle_34 (d : Nat) (a0 a1 a2 : Option Value) (x : Int32) (st : List Value) (h : a_H) : a_run d MX2_middle 34 [a0, a1, a2, some (.int x)] st h = a_run d MX2_middle 35 [a0, a1, a2, some (.int x)] (.int x :: st) h := w_ldIn dX2_middle_34 rfl
theorem w_X2_middle_35 (d : Nat) (L : a_L) (st : List Value) (h : a_H) : a_run d MX2_middle 35 L st h = a_run d MX2_middle 36 L (.int (nI 1) :: st) h := w_iconst dX2_middle_35 rfl
theorem w_X2_middle_36 (d : Nat) (L : a_L) (x y : Int32) (st : List Value) (h : a_H) : a_run d MX2_middle 36 L (.int y :: .int x :: st) h = a_run d MX2_middle 37 L (.int (x - y) :: st) h := w_isub dX2_middle_36
theorem w_X2_middle_37 (d : Nat) (L : a_L) (x : Int32) (i : Nat) (st : List Value) (h : a_H) : a_run d MX2_middle 37 L (.int x :: .ref i :: st) h = (a_rdi h i a_int x).bind fun v => a_run d MX2_middle 38 L (v :: st) h := w_iald dX2_middle_37
theorem w_X2_middle_38 (d : Nat) (a1 a2 a3 : Option Value) (x : Nat) (st : List Value) (h : a_H) : a_run d MX2_middle 38 [some (.ref x), a1, a2, a3] st h = a_run d MX2_middle 39 [some (.ref x), a1, a2, a3] (.ref x :: st) h := w_ldAn dX2_middle_38 rfl
theorem w_X2_middle_39 (d : Nat) (L : a_L) (i : Nat) (st : List Value) (h : a_H) : a_run d MX2_middle 39 L (.ref i :: st) h = (a_gf h i 8 [1]).bind fun v => a_run d MX2_middle 42 L (v :: st) h := w_getf dX2_middle_39 rfl
theorem w_X2_middle_42 (d : Nat) (a0 a1 a2 : Option Value) (x : Int32) (st : List Value) (h : a_H) : a_run d MX2_middle 42 [a0, a1, a2, some (.int x)] st h = a_run d MX2_middle 43 [a0, a1, a2, some (.int x)] (.int x :: st) h := w_ldIn dX2_middle_42 rfl
theorem w_X2_middle_43 (d : Nat) (L : a_L) (x : Int32) (i : Nat) (st : List Value) (h : a_H) : a_run d MX2_middle 43 L (.int x :: .ref i :: st) h = (a_rdi h i a_int x).bind fun v => a_run d MX2_middle 44 L (v :: st) h := w_iald dX2_middle_43
theorem w_X2_middle_44 (d : Nat) (L : a_L) (x y : Int32) (st : List Value) (h : a_H) : a_run d MX2_middle 44 L (.int y :: .int x :: st) h = a_run d MX2_middle 45 L (.int (x + y) :: st) h := w_iadd dX2_middle_44
theorem w_X2_middle_45 (d : Nat) (L : a_L) (x : Int32) (h : a_H) : a_run d MX2_middle 45 L [.int x] h = some (.inl (some (.int x)), h) := w_iret dX2_middle_45 (w_retI rfl)
theorem e_X2_allCrossings (d : Nat) (x0 : Nat) (h : a_H) : a_call (d + 1) MX2_allCrossings [.ref x0] h = a_run d MX2_allCrossings 0 [some (.ref x0), none, none] [] h := a_call_run rfl (Nat.le_of_ble_eq_true rfl) rfl
theorem w_X2_allCrossings_0 (d : Nat) (L : a_L) (st : List Value) (h : a_H) : a_run d MX2_allCrossings 0 L st h = a_run d MX2_allCrossings 1 L (.int (nI 0) :: st) h := w_iconst dX2_allCrossings_0 rfl
theorem w_X2_allCrossings_1 (d : Nat) (a0 a1 a2 : Option Value) (x : Int32) (st : List Value) (h : a_H) : a_run d MX2_allCrossings 1 [a0, a1, a2] (.int x :: st) h = a_run d MX2_allCrossings 2 [a0, some (.int x), a2] st h := w_stIn dX2_allCrossings_1 (Nat.le_of_ble_eq_true rfl) rfl
theorem w_X2_allCrossings_2 (d : Nat) (L : a_L) (st : List Value) (h : a_H) : a_run d MX2_allCrossings 2 L st h = a_run d MX2_allCrossings 3 L (.int (nI 0) :: st) h := w_iconst dX2_allCrossings_2 rfl
theorem w_X2_allCrossings_3 (d : Nat) (a0 a1 a2 : Option Value) (x : Int32) (st : List Value) (h : a_H) : a_run d MX2_allCrossings 3 [a0, a1, a2] (.int x :: st) h = a_run d MX2_allCrossings 4 [a0, a1, some (.int x)] st h := w_stIn dX2_allCrossings_3 (Nat.le_of_ble_eq_true rfl) rfl
theorem w_X2_allCrossings_4 (d : Nat) (a0 a1 : Option Value) (x : Int32) (st : List Value) (h : a_H) : a_run d MX2_allCrossings 4 [a0, a1, some (.int x)] st h = a_run d MX2_allCrossings 5 [a0, a1, some (.int x)] (.int x :: st) h := w_ldIn dX2_allCrossings_4 rfl
theorem w_X2_allCrossings_5 (d : Nat) (L : a_L) (st : List Value) (h : a_H) : a_run d MX2_allCrossings 5 L st h = a_run d MX2_allCrossings 6 L (.int (nI 1) :: st) h := w_iconst dX2_allCrossings_5 rfl
theorem w_X2_allCrossings_6 (d : Nat) (L : a_L) (x y : Int32) (st : List Value) (h : a_H) : a_run d MX2_allCrossings 6 L (.int y :: .int x :: st) h = a_run d MX2_allCrossings 7 L (.int (x + y) :: st) h := w_iadd dX2_allCrossings_6
theorem w_X2_allCrossings_7 (d : Nat) (a1 a2 : Option Value) (x : Nat) (st : List Value) (h : a_H) : a_run d MX2_allCrossings 7 [some (.ref x), a1, a2] st h = a_run d MX2_allCrossings 8 [some (.ref x), a1, a2] (.ref x :: st) h := w_ldAn dX2_allCrossings_7 rfl
theorem w_X2_allCrossings_8 (d : Nat) (L : a_L) (i : Nat) (st : List Value) (h : a_H) : a_run d MX2_allCrossings 8 L (.ref i :: st) h = (a_gf h i 13 [1]).bind fun v => a_run d MX2_allCrossings 11 L (v :: st) h := w_getf dX2_allCrossings_8 rfl
theorem w_X2_allCrossings_11 (d : Nat) (L : a_L) (x y : Int32) (st : List Value) (h : a_H) : a_run d MX2_allCrossings 11 L (.int y :: .int x :: st) h = if x < y then a_run d MX2_allCrossings 14 L st h else a_run d MX2_allCrossings 28 L st h := w_icmp_ge dX2_allCrossings_11 rfl
theorem w_X2_allCrossings_14 (d : Nat) (a0 a2 : Option Value) (x : Int32) (st : List Value) (h : a_H) : a_run d MX2_allCrossings 14 [a0, some (.int x), a2] st h = a_run d MX2_allCrossings 15 [a0, some (.int x), a2] (.int x :: st) h := w_ldIn dX2_allCrossings_14 rfl
theorem w_X2_allCrossings_15 (d : Nat) (a1 a2 : Option Value) (x : Nat) (st : List Value) (h : a_H) : a_run d MX2_allCrossings 15 [some (.ref x), a1, a2] st h = a_run d MX2_allCrossings 16 [some (.ref x), a1, a2] (.ref x :: st) h := w_ldAn dX2_allCrossings_15 rfl
theorem w_X2_allCrossings_16 (d : Nat) (a0 a1 : Option Value) (x : Int32) (st : List Value) (h : a_H) : a_run d MX2_allCrossings 16 [a0, a1, some (.int x)] st h = a_run d MX2_allCrossings 17 [a0, a1, some (.int x)] (.int x :: st) h := w_ldIn dX2_allCrossings_16 rfl
theorem w_X2_allCrossings_17 (d : Nat) (L : a_L) (i : Nat) (v1 : Value) (st : List Value) (h : a_H) (hk : a_kls h i = some 1) (hc : a_cat st ≤ 8) : a_run d MX2_allCrossings 17 L (v1 :: .ref i :: st) h = a_cont d MX2_allCrossings (a_bk MX2_allCrossings 17 L st (a_call d MX2_crossingsAt [.ref i, v1] h)) := w_callV (as := [.ref i, v1]) dX2_allCrossings_17 rfl rfl rfl hc (a_rcv_of hk rfl)
theorem w_X2_allCrossings_20 (d : Nat) (L : a_L) (x y : Int32) (st : List Value) (h : a_H) : a_run d MX2_allCrossings 20 L (.int y :: .int x :: st) h = a_run d MX2_allCrossings 21 L (.int (x + y) :: st) h := w_iadd dX2_allCrossings_20
theorem w_X2_allCrossings_21 (d : Nat) (a0 a1 a2 : Option Value) (x : Int32) (st : List Value) (h : a_H) : a_run d MX2_allCrossings 21 [a0, a1, a2] (.int x :: st) h = a_run d MX2_allCrossings 22 [a0, some (.int x), a2] st h := w_stIn dX2_allCrossings_21 (Nat.le_of_ble_eq_true rfl) rfl
theorem w_X2_allCrossings_22 (d : Nat) (a0 a1 : Option Value) (x : Int32) (st : List Value) (h : a_H) : a_run d MX2_allCrossings 22 [a0, a1, some (.int x)] st h = a_run d MX2_allCrossings 25 [a0, a1, some (.int (x + nI 1))] st h := w_incL dX2_allCrossings_22 rfl rfl rfl
theorem w_X2_allCrossings_25 (d : Nat) (L : a_L) (st : List Value) (h : a_H) : a_run d MX2_allCrossings 25 L st h = a_run d MX2_allCrossings 4 L st h := w_goto dX2_allCrossings_25 rfl
theorem w_X2_allCrossings_28 (d : Nat) (a0 a2 : Option Value) (x : Int32) (st : List Value) (h : a_H) : a_run d MX2_allCrossings 28 [a0, some (.int x), a2] st h = a_run d MX2_allCrossings 29 [a0, some (.int x), a2] (.int x :: st) h := w_ldIn dX2_allCrossings_28 rfl
theorem w_X2_allCrossings_29 (d : Nat) (L : a_L) (x : Int32) (h : a_H) : a_run d MX2_allCrossings 29 L [.int x] h = some (.inl (some (.int x)), h) := w_iret dX2_allCrossings_29 (w_retI rfl)
theorem e_X2_crossingsAt (d : Nat) (x0 : Nat) (x1 : Int32) (h : a_H) : a_call (d + 1) MX2_crossingsAt [.ref x0, .int x1] h = a_run d MX2_crossingsAt 0 [some (.ref x0), some (.int x1), none, none, none] [] h := a_call_run rfl (Nat.le_of_ble_eq_true rfl) rfl
theorem w_X2_crossingsAt_0 (d : Nat) (a1 a2 a3 a4 : Option Value) (x : Nat) (st : List Value) (h : a_H) : a_run d MX2_crossingsAt 0 [some (.ref x), a1, a2, a3, a4] st h = a_run d MX2_crossingsAt 1 [some (.ref x), a1, a2, a3, a4] (.ref x :: st) h := w_ldAn dX2_crossingsAt_0 rfl
theorem w_X2_crossingsAt_1 (d : Nat) (a0 a2 a3 a4 : Option Value) (x : Int32) (st : List Value) (h : a_H) : a_run d MX2_crossingsAt 1 [a0, some (.int x), a2, a3, a4] st h = a_run d MX2_crossingsAt 2 [a0, some (.int x), a2, a3, a4] (.int x :: st) h := w_ldIn dX2_crossingsAt_1 rfl
theorem w_X2_crossingsAt_2 (d : Nat) (L : a_L) (i : Nat) (v1 : Value) (st : List Value) (h : a_H) (hk : a_kls h i = some 1) (hc : a_cat st ≤ 8) : a_run d MX2_crossingsAt 2 L (v1 :: .ref i :: st) h = a_cont d MX2_crossingsAt (a_bk MX2_crossingsAt 2 L st (a_call d MX2_ends [.ref i, v1] h)) := w_callV (as := [.ref i, v1]) dX2_crossingsAt_2 rfl rfl rfl hc (a_rcv_of hk rfl)
theorem w_X2_crossingsAt_5 (d : Nat) (L : a_L) (st : List Value) (h : a_H) : a_run d MX2_crossingsAt 5 L st h = a_run d MX2_crossingsAt 6 L (.int (nI 0) :: st) h := w_iconst dX2_crossingsAt_5 rfl
theorem w_X2_crossingsAt_6 (d : Nat) (a0 a1 a2 a3 a4 : Option Value) (x : Int32) (st : List Value) (h : a_H) : a_run d MX2_crossingsAt 6 [a0, a1, a2, a3, a4] (.int x :: st) h = a_run d MX2_crossingsAt 7 [a0, a1, some (.int x), a3, a4] st h := w_stIn dX2_crossingsAt_6 (Nat.le_of_ble_eq_true rfl) rfl
theorem w_X2_crossingsAt_7 (d : Nat) (L : a_L) (st : List Value) (h : a_H) : a_run d MX2_crossingsAt 7 L st h = a_run d MX2_crossingsAt 8 L (.int (nI 0) :: st) h := w_iconst dX2_crossingsAt_7 rfl
theorem w_X2_crossingsAt_8 (d : Nat) (a0 a1 a2 a3 a4 : Option Value) (x : Int32) (st : List Value) (h : a_H) : a_run d MX2_crossingsAt 8 [a0, a1, a2, a3, a4] (.int x :: st) h = a_run d MX2_crossingsAt 9 [a0, a1, a2, some (.int x), a4] st h := w_stIn dX2_crossingsAt_8 (Nat.le_of_ble_eq_true rfl) rfl
theorem w_X2_crossingsAt_9 (d : Nat) (a0 a1 a2 a4 : Option Value) (x : Int32) (st : List Value) (h : a_H) : a_run d MX2_crossingsAt 9 [a0, a1, a2, some (.int x), a4] st h = a_run d MX2_crossingsAt 10 [a0, a1, a2, some (.int x), a4] (.int x :: st) h := w_ldIn dX2_crossingsAt_9 rfl
theorem w_X2_crossingsAt_10 (d : Nat) (a1 a2 a3 a4 : Option Value) (x : Nat) (st : List Value) (h : a_H) : a_run d MX2_crossingsAt 10 [some (.ref x), a1, a2, a3, a4] st h = a_run d MX2_crossingsAt 11 [some (.ref x), a1, a2, a3, a4] (.ref x :: st) h := w_ldAn dX2_crossingsAt_10 rfl
theorem w_X2_crossingsAt_11 (d : Nat) (L : a_L) (i : Nat) (st : List Value) (h : a_H) : a_run d MX2_crossingsAt 11 L (.ref i :: st) h = (a_gf h i 12 [1]).bind fun v => a_run d MX2_crossingsAt 14 L (v :: st) h := w_getf dX2_crossingsAt_11 rfl
theorem w_X2_crossingsAt_14 (d : Nat) (L : a_L) (x y : Int32) (st : List Value) (h : a_H) : a_run d MX2_crossingsAt 14 L (.int y :: .int x :: st) h = if x < y then a_run d MX2_crossingsAt 17 L st h else a_run d MX2_crossingsAt 56 L st h := w_icmp_ge dX2_crossingsAt_14 rfl
theorem w_X2_crossingsAt_17 (d : Nat) (L : a_L) (st : List Value) (h : a_H) : a_run d MX2_crossingsAt 17 L st h = a_run d MX2_crossingsAt 18 L (.int (nI 0) :: st) h := w_iconst dX2_crossingsAt_17 rfl
theorem w_X2_crossingsAt_18 (d : Nat) (a0 a1 a2 a3 a4 : Option Value) (x : Int32) (st : List Value) (h : a_H) : a_run d MX2_crossingsAt 18 [a0, a1, a2, a3, a4] (.int x :: st) h = a_run d MX2_crossingsAt 20 [a0, a1, a2, a3, some (.int x)] st h := w_stI dX2_crossingsAt_18 (Nat.le_of_ble_eq_true rfl) rfl
theorem w_X2_crossingsAt_20 (d : Nat) (a0 a1 a2 a3 : Option Value) (x : Int32) (st : List Value) (h : a_H) : a_run d MX2_crossingsAt 20 [a0, a1, a2, a3, some (.int x)] st h = a_run d MX2_crossingsAt 22 [a0, a1, a2, a3, some (.int x)] (.int x :: st) h := w_ldI dX2_crossingsAt_20 rfl
theorem w_X2_crossingsAt_22 (d : Nat) (a0 a1 a2 a4 : Option Value) (x : Int32) (st : List Value) (h : a_H) : a_run d MX2_crossingsAt 22 [a0, a1, a2, some (.int x), a4] st h = a_run d MX2_crossingsAt 23 [a0, a1, a2, some (.int x), a4] (.int x :: st) h := w_ldIn dX2_crossingsAt_22 rfl
theorem w_X2_crossingsAt_23 (d : Nat) (L : a_L) (x y : Int32) (st : List Value) (h : a_H) : a_run d MX2_crossingsAt 23 L (.int y :: .int x :: st) h = if x < y then a_run d MX2_crossingsAt 26 L st h else a_run d MX2_crossingsAt 50 L st h := w_icmp_ge dX2_crossingsAt_23 rfl
theorem w_X2_crossingsAt_26 (d : Nat) (a0 a1 a3 a4 : Option Value) (x : Int32) (st : List Value) (h : a_H) : a_run d MX2_crossingsAt 26 [a0, a1, some (.int x), a3, a4] st h = a_run d MX2_crossingsAt 27 [a0, a1, some (.int x), a3, a4] (.int x :: st) h := w_ldIn dX2_crossingsAt_26 rfl
theorem w_X2_crossingsAt_27 (d : Nat) (a1 a2 a3 a4 : Option Value) (x : Nat) (st : List Value) (h : a_H) : a_run d MX2_crossingsAt 27 [some (.ref x), a1, a2, a3, a4] st h = a_run d MX2_crossingsAt 28 [some (.ref x), a1, a2, a3, a4] (.ref x :: st) h := w_ldAn dX2_crossingsAt_27 rfl
theorem w_X2_crossingsAt_28 (d : Nat) (a0 a1 a2 a4 : Option Value) (x : Int32) (st : List Value) (h : a_H) : a_run d MX2_crossingsAt 28 [a0, a1, a2, some (.int x), a4] st h = a_run d MX2_crossingsAt 29 [a0, a1, a2, some (.int x), a4] (.int x :: st) h := w_ldIn dX2_crossingsAt_28 rfl
theorem w_X2_crossingsAt_29 (d : Nat) (a0 a1 a2 a3 : Option Value) (x : Int32) (st : List Value) (h : a_H) : a_run d MX2_crossingsAt 29 [a0, a1, a2, a3, some (.int x)] st h = a_run d MX2_crossingsAt 31 [a0, a1, a2, a3, some (.int x)] (.int x :: st) h := w_ldI dX2_crossingsAt_29 rfl
theorem w_X2_crossingsAt_31 (d : Nat) (L : a_L) (i : Nat) (v1 v2 : Value) (st : List Value) (h : a_H) (hk : a_kls h i = some 1) (hc : a_cat st ≤ 8) : a_run d MX2_crossingsAt 31 L (v2 :: v1 :: .ref i :: st) h = a_cont d MX2_crossingsAt (a_bk MX2_crossingsAt 31 L st (a_call d MX2_doCross [.ref i, v1, v2] h)) := w_callV (as := [.ref i, v1, v2]) dX2_crossingsAt_31 rfl rfl rfl hc (a_rcv_of hk rfl)
theorem w_X2_crossingsAt_34 (d : Nat) (L : a_L) (x : Int32) (st : List Value) (h : a_H) : a_run d MX2_crossingsAt 34 L (.int x :: st) h = if x = 0 then a_run d MX2_crossingsAt 41 L st h else a_run d MX2_crossingsAt 37 L st h := w_if_eq dX2_crossingsAt_34 rfl
theorem w_X2_crossingsAt_37 (d : Nat) (L : a_L) (st : List Value) (h : a_H) : a_run d MX2_crossingsAt 37 L st h = a_run d MX2_crossingsAt 38 L (.int (nI 1) :: st) h := w_iconst dX2_crossingsAt_37 rfl
theorem w_X2_crossingsAt_38 (d : Nat) (L : a_L) (st : List Value) (h : a_H) : a_run d MX2_crossingsAt 38 L st h = a_run d MX2_crossingsAt 42 L st h := w_goto dX2_crossingsAt_38 rfl
theorem w_X2_crossingsAt_41 (d : Nat) (L : a_L) (st : List Value) (h : a_H) : a_run d MX2_crossingsAt 41 L st h = a_run d MX2_crossingsAt 42 L (.int (nI 0) :: st) h := w_iconst dX2_crossingsAt_41 rfl
theorem w_X2_crossingsAt_42 (d : Nat) (L : a_L) (x y : Int32) (st : List Value) (h : a_H) : a_run d MX2_crossingsAt 42 L (.int y :: .int x :: st) h = a_run d MX2_crossingsAt 43 L (.int (x + y) :: st) h := w_iadd dX2_crossingsAt_42
theorem w_X2_crossingsAt_43 (d : Nat) (a0 a1 a2 a3 a4 : Option Value) (x : Int32) (st : List Value) (h : a_H) : a_run d MX2_crossingsAt 43 [a0, a1, a2, a3, a4] (.int x :: st) h = a_run d MX2_crossingsAt 44 [a0, a1, some (.int x), a3, a4] st h := w_stIn dX2_crossingsAt_43 (Nat.le_of_ble_eq_true rfl) rfl
theorem w_X2_crossingsAt_44 (d : Nat) (a0 a1 a2 a3 : Option Value) (x : Int32) (st : List Value) (h : a_H) : a_run d MX2_crossingsAt 44 [a0, a1, a2, a3, some (.int x)] st h = a_run d MX2_crossingsAt 47 [a0, a1, a2, a3, some (.int (x + nI 1))] st h := w_incL dX2_crossingsAt_44 rfl rfl rfl
theorem w_X2_crossingsAt_47 (d : Nat) (L : a_L) (st : List Value) (h : a_H) : a_run d MX2_crossingsAt 47 L st h = a_run d MX2_crossingsAt 20 L st h := w_goto dX2_crossingsAt_47 rfl
theorem w_X2_crossingsAt_50 (d : Nat) (a0 a1 a2 a4 : Option Value) (x : Int32) (st : List Value) (h : a_H) : a_run d MX2_crossingsAt 50 [a0, a1, a2, some (.int x), a4] st h = a_run d MX2_crossingsAt 53 [a0, a1, a2, some (.int (x + nI 1)), a4] st h := w_incL dX2_crossingsAt_50 rfl rfl rfl
theorem w_X2_crossingsAt_53 (d : Nat) (L : a_L) (st : List Value) (h : a_H) : a_run d MX2_crossingsAt 53 L st h = a_run d MX2_crossingsAt 9 L st h := w_goto dX2_crossingsAt_53 rfl
theorem w_X2_crossingsAt_56 (d : Nat) (a0 a1 a3 a4 : Option Value) (x : Int32) (st : List Value) (h : a_H) : a_run d MX2_crossingsAt 56 [a0, a1, some (.int x), a3, a4] st h = a_run d MX2_crossingsAt 57 [a0, a1, some (.int x), a3, a4] (.int x :: st) h := w_ldIn dX2_crossingsAt_56 rfl
theorem w_X2_crossingsAt_57 (d : Nat) (L : a_L) (x : Int32) (h : a_H) : a_run d MX2_crossingsAt 57 L [.int x] h = some (.inl (some (.int x)), h) := w_iret dX2_crossingsAt_57 (w_retI rfl)
theorem e_X2_ends (d : Nat) (x0 : Nat) (x1 : Int32) (h : a_H) : a_call (d + 1) MX2_ends [.ref x0, .int x1] h = a_run d MX2_ends 0 [some (.ref x0), some (.int x1), none, none] [] h := a_call_run rfl (Nat.le_of_ble_eq_true rfl) rfl
theorem w_X2_ends_0 (d : Nat) (L : a_L) (st : List Value) (h : a_H) : a_run d MX2_ends 0 L st h = a_run d MX2_ends 1 L (.int (nI 0) :: st) h := w_iconst dX2_ends_0 rfl
theorem w_X2_ends_1 (d : Nat) (a0 a1 a2 a3 : Option Value) (x : Int32) (st : List Value) (h : a_H) : a_run d MX2_ends 1 [a0, a1, a2, a3] (.int x :: st) h = a_run d MX2_ends 2 [a0, a1, some (.int x), a3] st h := w_stIn dX2_ends_1 (Nat.le_of_ble_eq_true rfl) rfl
theorem w_X2_ends_2 (d : Nat) (a0 a1 a3 : Option Value) (x : Int32) (st : List Value) (h : a_H) : a_run d MX2_ends 2 [a0, a1, some (.int x), a3] st h = a_run d MX2_ends 3 [a0, a1, some (.int x), a3] (.int x :: st) h := w_ldIn dX2_ends_2 rfl
theorem w_X2_ends_3 (d : Nat) (a1 a2 a3 : Option Value) (x : Nat) (st : List Value) (h : a_H) : a_run d MX2_ends 3 [some (.ref x), a1, a2, a3] st h = a_run d MX2_ends 4 [some (.ref x), a1, a2, a3] (.ref x :: st) h := w_ldAn dX2_ends_3 rfl
theorem w_X2_ends_4 (d : Nat) (L : a_L) (i : Nat) (st : List Value) (h : a_H) : a_run d MX2_ends 4 L (.ref i :: st) h = (a_gf h i 12 [1]).bind fun v => a_run d MX2_ends 7 L (v :: st) h := w_getf dX2_ends_4 rfl
theorem w_X2_ends_7 (d : Nat) (L : a_L) (x y : Int32) (st : List Value) (h : a_H) : a_run d MX2_ends 7 L (.int y :: .int x :: st) h = if x < y then a_run d MX2_ends 10 L st h else a_run d MX2_ends 65 L st h := w_icmp_ge dX2_ends_7 rfl
theorem w_X2_ends_10 (d : Nat) (a1 a2 a3 : Option Value) (x : Nat) (st : List Value) (h : a_H) : a_run d MX2_ends 10 [some (.ref x), a1, a2, a3] st h = a_run d MX2_ends 11 [some (.ref x), a1, a2, a3] (.ref x :: st) h := w_ldAn dX2_ends_10 rfl
theorem w_X2_ends_11 (d : Nat) (a0 a1 a3 : Option Value) (x : Int32) (st : List Value) (h : a_H) : a_run d MX2_ends 11 [a0, a1, some (.int x), a3] st h = a_run d MX2_ends 12 [a0, a1, some (.int x), a3] (.int x :: st) h := w_ldIn dX2_ends_11 rfl
theorem w_X2_ends_12 (d : Nat) (a0 a2 a3 : Option Value) (x : Int32) (st : List Value) (h : a_H) : a_run d MX2_ends 12 [a0, some (.int x), a2, a3] st h = a_run d MX2_ends 13 [a0, some (.int x), a2, a3] (.int x :: st) h := w_ldIn dX2_ends_12 rfl
theorem w_X2_ends_13 (d : Nat) (L : a_L) (i : Nat) (v1 v2 : Value) (st : List Value) (h : a_H) (hk : a_kls h i = some 1) (hc : a_cat st ≤ 8) : a_run d MX2_ends 13 L (v2 :: v1 :: .ref i :: st) h = a_cont d MX2_ends (a_bk MX2_ends 13 L st (a_call d MX2_hasLine [.ref i, v1, v2] h)) := w_callV (as := [.ref i, v1, v2]) dX2_ends_13 rfl rfl rfl hc (a_rcv_of hk rfl)
theorem w_X2_ends_16 (d : Nat) (a0 a1 a2 a3 : Option Value) (x : Int32) (st : List Value) (h : a_H) : a_run d MX2_ends 16 [a0, a1, a2, a3] (.int x :: st) h = a_run d MX2_ends 17 [a0, a1, a2, some (.int x)] st h := w_stIn dX2_ends_16 (Nat.le_of_ble_eq_true rfl) rfl
theorem w_X2_ends_17 (d : Nat) (a1 a2 a3 : Option Value) (x : Nat) (st : List Value) (h : a_H) : a_run d MX2_ends 17 [some (.ref x), a1, a2, a3] st h = a_run d MX2_ends 18 [some (.ref x), a1, a2, a3] (.ref x :: st) h := w_ldAn dX2_ends_17 rfl
theorem w_X2_ends_18 (d : Nat) (L : a_L) (i : Nat) (st : List Value) (h : a_H) : a_run d MX2_ends 18 L (.ref i :: st) h = (a_gf h i 6 [1]).bind fun v => a_run d MX2_ends 21 L (v :: st) h := w_getf dX2_ends_18 rfl
theorem w_X2_ends_21 (d : Nat) (a0 a1 a3 : Option Value) (x : Int32) (st : List Value) (h : a_H) : a_run d MX2_ends 21 [a0, a1, some (.int x), a3] st h = a_run d MX2_ends 22 [a0, a1, some (.int x), a3] (.int x :: st) h := w_ldIn dX2_ends_21 rfl
theorem w_X2_ends_22 (d : Nat) (a0 a1 a2 : Option Value) (x : Int32) (st : List Value) (h : a_H) : a_run d MX2_ends 22 [a0, a1, a2, some (.int x)] st h = a_run d MX2_ends 23 [a0, a1, a2, some (.int x)] (.int x :: st) h := w_ldIn dX2_ends_22 rfl
theorem w_X2_ends_23 (d : Nat) (L : a_L) (x : Int32) (st : List Value) (h : a_H) : a_run d MX2_ends 23 L (.int x :: st) h = if x = 0 then a_run d MX2_ends 35 L st h else a_run d MX2_ends 26 L st h := w_if_eq dX2_ends_23 rfl
theorem w_X2_ends_26 (d : Nat) (a1 a2 a3 : Option Value) (x : Nat) (st : List Value) (h : a_H) : a_run d MX2_ends 26 [some (.ref x), a1, a2, a3] st h = a_run d MX2_ends 27 [some (.ref x), a1, a2, a3] (.ref x :: st) h := w_ldAn dX2_ends_26 rfl
theorem w_X2_ends_27 (d : Nat) (a0 a1 a3 : Option Value) (x : Int32) (st : List Value) (h : a_H) : a_run d MX2_ends 27 [a0, a1, some (.int x), a3] st h = a_run d MX2_ends 28 [a0, a1, some (.int x), a3] (.int x :: st) h := w_ldIn dX2_ends_27 rfl
theorem w_X2_ends_28 (d : Nat) (a0 a2 a3 : Option Value) (x : Int32) (st : List Value) (h : a_H) : a_run d MX2_ends 28 [a0, some (.int x), a2, a3] st h = a_run d MX2_ends 29 [a0, some (.int x), a2, a3] (.int x :: st) h := w_ldIn dX2_ends_28 rfl
theorem w_X2_ends_29 (d : Nat) (L : a_L) (i : Nat) (v1 v2 : Value) (st : List Value) (h : a_H) (hk : a_kls h i = some 1) (hc : a_cat st ≤ 8) : a_run d MX2_ends 29 L (v2 :: v1 :: .ref i :: st) h = a_cont d MX2_ends (a_bk MX2_ends 29 L st (a_call d MX2_endOf [.ref i, v1, v2] h)) := w_callV (as := [.ref i, v1, v2]) dX2_ends_29 rfl rfl rfl hc (a_rcv_of hk rfl)
theorem w_X2_ends_32 (d : Nat) (L : a_L) (st : List Value) (h : a_H) : a_run d MX2_ends 32 L st h = a_run d MX2_ends 36 L st h := w_goto dX2_ends_32 rfl
theorem w_X2_ends_35 (d : Nat) (L : a_L) (st : List Value) (h : a_H) : a_run d MX2_ends 35 L st h = a_run d MX2_ends 36 L (.int ((-1)) :: st) h := w_iconst dX2_ends_35 rfl
theorem w_X2_ends_36 (d : Nat) (L : a_L) (x y : Int32) (i : Nat) (st : List Value) (h : a_H) : a_run d MX2_ends 36 L (.int y :: .int x :: .ref i :: st) h = (a_wri h i a_int x y).bind fun h' => a_run d MX2_ends 37 L st h' := w_iast dX2_ends_36
theorem w_X2_ends_37 (d : Nat) (a1 a2 a3 : Option Value) (x : Nat) (st : List Value) (h : a_H) : a_run d MX2_ends 37 [some (.ref x), a1, a2, a3] st h = a_run d MX2_ends 38 [some (.ref x), a1, a2, a3] (.ref x :: st) h := w_ldAn dX2_ends_37 rfl
theorem w_X2_ends_38 (d : Nat) (L : a_L) (i : Nat) (st : List Value) (h : a_H) : a_run d MX2_ends 38 L (.ref i :: st) h = (a_gf h i 7 [1]).bind fun v => a_run d MX2_ends 41 L (v :: st) h := w_getf dX2_ends_38 rfl
theorem w_X2_ends_41 (d : Nat) (a0 a1 a3 : Option Value) (x : Int32) (st : List Value) (h : a_H) : a_run d MX2_ends 41 [a0, a1, some (.int x), a3] st h = a_run d MX2_ends 42 [a0, a1, some (.int x), a3] (.int x :: st) h := w_ldIn dX2_ends_41 rfl
theorem w_X2_ends_42 (d : Nat) (a0 a1 a2 : Option Value) (x : Int32) (st : List Value) (h : a_H) : a_run d MX2_ends 42 [a0, a1, a2, some (.int x)] st h = a_run d MX2_ends 43 [a0, a1, a2, some (.int x)] (.int x :: st) h := w_ldIn dX2_ends_42 rfl
theorem w_X2_ends_43 (d : Nat) (L : a_L) (x : Int32) (st : List Value) (h : a_H) : a_run d MX2_ends 43 L (.int x :: st) h = if x = 0 then a_run d MX2_ends 57 L st h else a_run d MX2_ends 46 L st h := w_if_eq dX2_ends_43 rfl
theorem w_X2_ends_46 (d : Nat) (a1 a2 a3 : Option Value) (x : Nat) (st : List Value) (h : a_H) : a_run d MX2_ends 46 [some (.ref x), a1, a2, a3] st h = a_run d MX2_ends 47 [some (.ref x), a1, a2, a3] (.ref x :: st) h := w_ldAn dX2_ends_46 rfl
theorem w_X2_ends_47 (d : Nat) (a0 a1 a3 : Option Value) (x : Int32) (st : List Value) (h : a_H) : a_run d MX2_ends 47 [a0, a1, some (.int x), a3] st h = a_run d MX2_ends 48 [a0, a1, some (.int x), a3] (.int x :: st) h := w_ldIn dX2_ends_47 rfl
theorem w_X2_ends_48 (d : Nat) (a0 a2 a3 : Option Value) (x : Int32) (st : List Value) (h : a_H) : a_run d MX2_ends 48 [a0, some (.int x), a2, a3] st h = a_run d MX2_ends 49 [a0, some (.int x), a2, a3] (.int x :: st) h := w_ldIn dX2_ends_48 rfl
theorem w_X2_ends_49 (d : Nat) (L : a_L) (st : List Value) (h : a_H) : a_run d MX2_ends 49 L st h = a_run d MX2_ends 50 L (.int (nI 1) :: st) h := w_iconst dX2_ends_49 rfl
theorem w_X2_ends_50 (d : Nat) (L : a_L) (x y : Int32) (st : List Value) (h : a_H) : a_run d MX2_ends 50 L (.int y :: .int x :: st) h = a_run d MX2_ends 51 L (.int (x + y) :: st) h := w_iadd dX2_ends_50
theorem w_X2_ends_51 (d : Nat) (L : a_L) (i : Nat) (v1 v2 : Value) (st : List Value) (h : a_H) (hk : a_kls h i = some 1) (hc : a_cat st ≤ 8) : a_run d MX2_ends 51 L (v2 :: v1 :: .ref i :: st) h = a_cont d MX2_ends (a_bk MX2_ends 51 L st (a_call d MX2_endOf [.ref i, v1, v2] h)) := w_callV (as := [.ref i, v1, v2]) dX2_ends_51 rfl rfl rfl hc (a_rcv_of hk rfl)
theorem w_X2_ends_54 (d : Nat) (L : a_L) (st : List Value) (h : a_H) : a_run d MX2_ends 54 L st h = a_run d MX2_ends 58 L st h := w_goto dX2_ends_54 rfl
theorem w_X2_ends_57 (d : Nat) (L : a_L) (st : List Value) (h : a_H) : a_run d MX2_ends 57 L st h = a_run d MX2_ends 58 L (.int ((-1)) :: st) h := w_iconst dX2_ends_57 rfl
theorem w_X2_ends_58 (d : Nat) (L : a_L) (x y : Int32) (i : Nat) (st : List Value) (h : a_H) : a_run d MX2_ends 58 L (.int y :: .int x :: .ref i :: st) h = (a_wri h i a_int x y).bind fun h' => a_run d MX2_ends 59 L st h' := w_iast dX2_ends_58
theorem w_X2_ends_59 (d : Nat) (a0 a1 a3 : Option Value) (x : Int32) (st : List Value) (h : a_H) : a_run d MX2_ends 59 [a0, a1, some (.int x), a3] st h = a_run d MX2_ends 62 [a0, a1, some (.int (x + nI 1)), a3] st h := w_incL dX2_ends_59 rfl rfl rfl
theorem w_X2_ends_62 (d : Nat) (L : a_L) (st : List Value) (h : a_H) : a_run d MX2_ends 62 L st h = a_run d MX2_ends 2 L st h := w_goto dX2_ends_62 rfl
theorem w_X2_ends_65 (d : Nat) (L : a_L) (h : a_H) : a_run d MX2_ends 65 L [] h = some (.inl none, h) := w_vret dX2_ends_65 rfl
theorem e_X2_doCross (d : Nat) (x0 : Nat) (x1 : Int32) (x2 : Int32) (h : a_H) : a_call (d + 1) MX2_doCross [.ref x0, .int x1, .int x2] h = a_run d MX2_doCross 0 [some (.ref x0), some (.int x1), some (.int x2), none] [] h := a_call_run rfl (Nat.le_of_ble_eq_true rfl) rfl
theorem w_X2_doCross_0 (d : Nat) (a1 a2 a3 : Option Value) (x : Nat) (st : List Value) (h : a_H) : a_run d MX2_doCross 0 [some (.ref x), a1, a2, a3] st h = a_run d MX2_doCross 1 [some (.ref x), a1, a2, a3] (.ref x :: st) h := w_ldAn dX2_doCross_0 rfl
theorem w_X2_doCross_1 (d : Nat) (L : a_L) (i : Nat) (st : List Value) (h : a_H) : a_run d MX2_doCross 1 L (.ref i :: st) h = (a_gf h i 6 [1]).bind fun v => a_run d MX2_doCross 4 L (v :: st) h := w_getf dX2_doCross_1 rfl
theorem w_X2_doCross_4 (d : Nat) (a0 a2 a3 : Option Value) (x : Int32) (st : List Value) (h : a_H) : a_run d MX2_doCross 4 [a0, some (.int x), a2, a3] st h = a_run d MX2_doCross 5 [a0, some (.int x), a2, a3] (.int x :: st) h := w_ldIn dX2_doCross_4 rfl
theorem w_X2_doCross_5 (d : Nat) (L : a_L) (x : Int32) (i : Nat) (st : List Value) (h : a_H) : a_run d MX2_doCross 5 L (.int x :: .ref i :: st) h = (a_rdi h i a_int x).bind fun v => a_run d MX2_doCross 6 L (v :: st) h := w_iald dX2_doCross_5
theorem w_X2_doCross_6 (d : Nat) (L : a_L) (st : List Value) (h : a_H) : a_run d MX2_doCross 6 L st h = a_run d MX2_doCross 7 L (.int ((-1)) :: st) h := w_iconst dX2_doCross_6 rfl
theorem w_X2_doCross_7 (d : Nat) (L : a_L) (x y : Int32) (st : List Value) (h : a_H) : a_run d MX2_doCross 7 L (.int y :: .int x :: st) h = if x = y then a_run d MX2_doCross 24 L st h else a_run d MX2_doCross 10 L st h := w_icmp_eq dX2_doCross_7 rfl
theorem w_X2_doCross_10 (d : Nat) (a1 a2 a3 : Option Value) (x : Nat) (st : List Value) (h : a_H) : a_run d MX2_doCross 10 [some (.ref x), a1, a2, a3] st h = a_run d MX2_doCross 11 [some (.ref x), a1, a2, a3] (.ref x :: st) h := w_ldAn dX2_doCross_10 rfl
theorem w_X2_doCross_11 (d : Nat) (L : a_L) (i : Nat) (st : List Value) (h : a_H) : a_run d MX2_doCross 11 L (.ref i :: st) h = (a_gf h i 6 [1]).bind fun v => a_run d MX2_doCross 14 L (v :: st) h := w_getf dX2_doCross_11 rfl
theorem w_X2_doCross_14 (d : Nat) (a0 a1 a3 : Option Value) (x : Int32) (st : List Value) (h : a_H) : a_run d MX2_doCross 14 [a0, a1, some (.int x), a3] st h = a_run d MX2_doCross 15 [a0, a1, some (.int x), a3] (.int x :: st) h := w_ldIn dX2_doCross_14 rfl
theorem w_X2_doCross_15 (d : Nat) (L : a_L) (x : Int32) (i : Nat) (st : List Value) (h : a_H) : a_run d MX2_doCross 15 L (.int x :: .ref i :: st) h = (a_rdi h i a_int x).bind fun v => a_run d MX2_doCross 16 L (v :: st) h := w_iald dX2_doCross_15
theorem w_X2_doCross_16 (d : Nat) (L : a_L) (st : List Value) (h : a_H) : a_run d MX2_doCross 16 L st h = a_run d MX2_doCross 17 L (.int ((-1)) :: st) h := w_iconst dX2_doCross_16 rfl
theorem w_X2_doCross_17 (d : Nat) (L : a_L) (x y : Int32) (st : List Value) (h : a_H) : a_run d MX2_doCross 17 L (.int y :: .int x :: st) h = if x = y then a_run d MX2_doCross 24 L st h else a_run d MX2_doCross 20 L st h := w_icmp_eq dX2_doCross_17 rfl
theorem w_X2_doCross_20 (d : Nat) (L : a_L) (st : List Value) (h : a_H) : a_run d MX2_doCross 20 L st h = a_run d MX2_doCross 21 L (.int (nI 1) :: st) h := w_iconst dX2_doCross_20 rfl
theorem w_X2_doCross_21 (d : Nat) (L : a_L) (st : List Value) (h : a_H) : a_run d MX2_doCross 21 L st h = a_run d MX2_doCross 25 L st h := w_goto dX2_doCross_21 rfl
theorem w_X2_doCross_24 (d : Nat) (L : a_L) (st : List Value) (h : a_H) : a_run d MX2_doCross 24 L st h = a_run d MX2_doCross 25 L (.int (nI 0) :: st) h := w_iconst dX2_doCross_24 rfl
theorem w_X2_doCross_25 (d : Nat) (a0 a1 a2 a3 : Option Value) (x : Int32) (st : List Value) (h : a_H) : a_run d MX2_doCross 25 [a0, a1, a2, a3] (.int x :: st) h = a_run d MX2_doCross 26 [a0, a1, a2, some (.int x)] st h := w_stIn dX2_doCross_25 (Nat.le_of_ble_eq_true rfl) rfl
theorem w_X2_doCross_26 (d : Nat) (a0 a1 a2 : Option Value) (x : Int32) (st : List Value) (h : a_H) : a_run d MX2_doCross 26 [a0, a1, a2, some (.int x)] st h = a_run d MX2_doCross 27 [a0, a1, a2, some (.int x)] (.int x :: st) h := w_ldIn dX2_doCross_26 rfl
theorem w_X2_doCross_27 (d : Nat) (L : a_L) (x : Int32) (st : List Value) (h : a_H) : a_run d MX2_doCross 27 L (.int x :: st) h = if x = 0 then a_run d MX2_doCross 64 L st h else a_run d MX2_doCross 30 L st h := w_if_eq dX2_doCross_27 rfl
theorem w_X2_doCross_30 (d : Nat) (a1 a2 a3 : Option Value) (x : Nat) (st : List Value) (h : a_H) : a_run d MX2_doCross 30 [some (.ref x), a1, a2, a3] st h = a_run d MX2_doCross 31 [some (.ref x), a1, a2, a3] (.ref x :: st) h := w_ldAn dX2_doCross_30 rfl
theorem w_X2_doCross_31 (d : Nat) (L : a_L) (i : Nat) (st : List Value) (h : a_H) : a_run d MX2_doCross 31 L (.ref i :: st) h = (a_gf h i 6 [1]).bind fun v => a_run d MX2_doCross 34 L (v :: st) h := w_getf dX2_doCross_31 rfl
theorem w_X2_doCross_34 (d : Nat) (a0 a2 a3 : Option Value) (x : Int32) (st : List Value) (h : a_H) : a_run d MX2_doCross 34 [a0, some (.int x), a2, a3] st h = a_run d MX2_doCross 35 [a0, some (.int x), a2, a3] (.int x :: st) h := w_ldIn dX2_doCross_34 rfl
theorem w_X2_doCross_35 (d : Nat) (L : a_L) (x : Int32) (i : Nat) (st : List Value) (h : a_H) : a_run d MX2_doCross 35 L (.int x :: .ref i :: st) h = (a_rdi h i a_int x).bind fun v => a_run d MX2_doCross 36 L (v :: st) h := w_iald dX2_doCross_35
theorem w_X2_doCross_36 (d : Nat) (a1 a2 a3 : Option Value) (x : Nat) (st : List Value) (h : a_H) : a_run d MX2_doCross 36 [some (.ref x), a1, a2, a3] st h = a_run d MX2_doCross 37 [some (.ref x), a1, a2, a3] (.ref x :: st) h := w_ldAn dX2_doCross_36 rfl
theorem w_X2_doCross_37 (d : Nat) (L : a_L) (i : Nat) (st : List Value) (h : a_H) : a_run d MX2_doCross 37 L (.ref i :: st) h = (a_gf h i 6 [1]).bind fun v => a_run d MX2_doCross 40 L (v :: st) h := w_getf dX2_doCross_37 rfl
theorem w_X2_doCross_40 (d : Nat) (a0 a1 a3 : Option Value) (x : Int32) (st : List Value) (h : a_H) : a_run d MX2_doCross 40 [a0, a1, some (.int x), a3] st h = a_run d MX2_doCross 41 [a0, a1, some (.int x), a3] (.int x :: st) h := w_ldIn dX2_doCross_40 rfl
theorem w_X2_doCross_41 (d : Nat) (L : a_L) (x : Int32) (i : Nat) (st : List Value) (h : a_H) : a_run d MX2_doCross 41 L (.int x :: .ref i :: st) h = (a_rdi h i a_int x).bind fun v => a_run d MX2_doCross 42 L (v :: st) h := w_iald dX2_doCross_41
theorem w_X2_doCross_42 (d : Nat) (L : a_L) (x y : Int32) (st : List Value) (h : a_H) : a_run d MX2_doCross 42 L (.int y :: .int x :: st) h = a_run d MX2_doCross 43 L (.int (x - y) :: st) h := w_isub dX2_doCross_42
theorem w_X2_doCross_43 (d : Nat) (a1 a2 a3 : Option Value) (x : Nat) (st : List Value) (h : a_H) : a_run d MX2_doCross 43 [some (.ref x), a1, a2, a3] st h = a_run d MX2_doCross 44 [some (.ref x), a1, a2, a3] (.ref x :: st) h := w_ldAn dX2_doCross_43 rfl
theorem w_X2_doCross_44 (d : Nat) (L : a_L) (i : Nat) (st : List Value) (h : a_H) : a_run d MX2_doCross 44 L (.ref i :: st) h = (a_gf h i 7 [1]).bind fun v => a_run d MX2_doCross 47 L (v :: st) h := w_getf dX2_doCross_44 rfl
theorem w_X2_doCross_47 (d : Nat) (a0 a2 a3 : Option Value) (x : Int32) (st : List Value) (h : a_H) : a_run d MX2_doCross 47 [a0, some (.int x), a2, a3] st h = a_run d MX2_doCross 48 [a0, some (.int x), a2, a3] (.int x :: st) h := w_ldIn dX2_doCross_47 rfl
theorem w_X2_doCross_48 (d : Nat) (L : a_L) (x : Int32) (i : Nat) (st : List Value) (h : a_H) : a_run d MX2_doCross 48 L (.int x :: .ref i :: st) h = (a_rdi h i a_int x).bind fun v => a_run d MX2_doCross 49 L (v :: st) h := w_iald dX2_doCross_48
theorem w_X2_doCross_49 (d : Nat) (a1 a2 a3 : Option Value) (x : Nat) (st : List Value) (h : a_H) : a_run d MX2_doCross 49 [some (.ref x), a1, a2, a3] st h = a_run d MX2_doCross 50 [some (.ref x), a1, a2, a3] (.ref x :: st) h := w_ldAn dX2_doCross_49 rfl
theorem w_X2_doCross_50 (d : Nat) (L : a_L) (i : Nat) (st : List Value) (h : a_H) : a_run d MX2_doCross 50 L (.ref i :: st) h = (a_gf h i 7 [1]).bind fun v => a_run d MX2_doCross 53 L (v :: st) h := w_getf dX2_doCross_50 rfl
theorem w_X2_doCross_53 (d : Nat) (a0 a1 a3 : Option Value) (x : Int32) (st : List Value) (h : a_H) : a_run d MX2_doCross 53 [a0, a1, some (.int x), a3] st h = a_run d MX2_doCross 54 [a0, a1, some (.int x), a3] (.int x :: st) h := w_ldIn dX2_doCross_53 rfl
theorem w_X2_doCross_54 (d : Nat) (L : a_L) (x : Int32) (i : Nat) (st : List Value) (h : a_H) : a_run d MX2_doCross 54 L (.int x :: .ref i :: st) h = (a_rdi h i a_int x).bind fun v => a_run d MX2_doCross 55 L (v :: st) h := w_iald dX2_doCross_54
theorem w_X2_doCross_55 (d : Nat) (L : a_L) (x y : Int32) (st : List Value) (h : a_H) : a_run d MX2_doCross 55 L (.int y :: .int x :: st) h = a_run d MX2_doCross 56 L (.int (x - y) :: st) h := w_isub dX2_doCross_55
theorem w_X2_doCross_56 (d : Nat) (L : a_L) (x y : Int32) (st : List Value) (h : a_H) : a_run d MX2_doCross 56 L (.int y :: .int x :: st) h = a_run d MX2_doCross 57 L (.int (x * y) :: st) h := w_imul dX2_doCross_56
theorem w_X2_doCross_57 (d : Nat) (L : a_L) (x : Int32) (st : List Value) (h : a_H) : a_run d MX2_doCross 57 L (.int x :: st) h = if x < 0 then a_run d MX2_doCross 60 L st h else a_run d MX2_doCross 64 L st h := w_if_ge dX2_doCross_57 rfl
theorem w_X2_doCross_60 (d : Nat) (L : a_L) (st : List Value) (h : a_H) : a_run d MX2_doCross 60 L st h = a_run d MX2_doCross 61 L (.int (nI 1) :: st) h := w_iconst dX2_doCross_60 rfl
theorem w_X2_doCross_61 (d : Nat) (L : a_L) (st : List Value) (h : a_H) : a_run d MX2_doCross 61 L st h = a_run d MX2_doCross 65 L st h := w_goto dX2_doCross_61 rfl
theorem w_X2_doCross_64 (d : Nat) (L : a_L) (st : List Value) (h : a_H) : a_run d MX2_doCross 64 L st h = a_run d MX2_doCross 65 L (.int (nI 0) :: st) h := w_iconst dX2_doCross_64 rfl
theorem w_X2_doCross_65 (d : Nat) (L : a_L) (x : Int32) (h : a_H) (hx : x = 0 ∨ x = 1) : a_run d MX2_doCross 65 L [.int x] h = some (.inl (some (.int x)), h) := w_iret dX2_doCross_65 (w_retZ rfl hx)
theorem e_X2_untangles (d : Nat) (x0 : Nat) (h : a_H) : a_call (d + 1) MX2_untangles [.ref x0] h = a_run d MX2_untangles 0 [some (.ref x0), none, none, none, none, none] [] h := a_call_run rfl (Nat.le_of_ble_eq_true rfl) rfl
theorem w_X2_untangles_0 (d : Nat) (L : a_L) (st : List Value) (h : a_H) : a_run d MX2_untangles 0 L st h = a_run d MX2_untangles 1 L (.int (nI 0) :: st) h := w_iconst dX2_untangles_0 rfl
theorem w_X2_untangles_1 (d : Nat) (a0 a1 a2 a3 a4 a5 : Option Value) (x : Int32) (st : List Value) (h : a_H) : a_run d MX2_untangles 1 [a0, a1, a2, a3, a4, a5] (.int x :: st) h = a_run d MX2_untangles 2 [a0, some (.int x), a2, a3, a4, a5] st h := w_stIn dX2_untangles_1 (Nat.le_of_ble_eq_true rfl) rfl
theorem w_X2_untangles_2 (d : Nat) (L : a_L) (st : List Value) (h : a_H) : a_run d MX2_untangles 2 L st h = a_run d MX2_untangles 3 L (.int (nI 0) :: st) h := w_iconst dX2_untangles_2 rfl
theorem w_X2_untangles_3 (d : Nat) (a0 a1 a2 a3 a4 a5 : Option Value) (x : Int32) (st : List Value) (h : a_H) : a_run d MX2_untangles 3 [a0, a1, a2, a3, a4, a5] (.int x :: st) h = a_run d MX2_untangles 4 [a0, a1, some (.int x), a3, a4, a5] st h := w_stIn dX2_untangles_3 (Nat.le_of_ble_eq_true rfl) rfl
theorem w_X2_untangles_4 (d : Nat) (a0 a1 a3 a4 a5 : Option Value) (x : Int32) (st : List Value) (h : a_H) : a_run d MX2_untangles 4 [a0, a1, some (.int x), a3, a4, a5] st h = a_run d MX2_untangles 5 [a0, a1, some (.int x), a3, a4, a5] (.int x :: st) h := w_ldIn dX2_untangles_4 rfl
theorem w_X2_untangles_5 (d : Nat) (a1 a2 a3 a4 a5 : Option Value) (x : Nat) (st : List Value) (h : a_H) : a_run d MX2_untangles 5 [some (.ref x), a1, a2, a3, a4, a5] st h = a_run d MX2_untangles 6 [some (.ref x), a1, a2, a3, a4, a5] (.ref x :: st) h := w_ldAn dX2_untangles_5 rfl
theorem w_X2_untangles_6 (d : Nat) (L : a_L) (i : Nat) (st : List Value) (h : a_H) : a_run d MX2_untangles 6 L (.ref i :: st) h = (a_gf h i 13 [1]).bind fun v => a_run d MX2_untangles 9 L (v :: st) h := w_getf dX2_untangles_6 rfl
theorem w_X2_untangles_9 (d : Nat) (L : a_L) (x y : Int32) (st : List Value) (h : a_H) : a_run d MX2_untangles 9 L (.int y :: .int x :: st) h = if x < y then a_run d MX2_untangles 12 L st h else a_run d MX2_untangles 89 L st h := w_icmp_ge dX2_untangles_9 rfl
theorem w_X2_untangles_12 (d : Nat) (L : a_L) (st : List Value) (h : a_H) : a_run d MX2_untangles 12 L st h = a_run d MX2_untangles 13 L (.int (nI 0) :: st) h := w_iconst dX2_untangles_12 rfl
theorem w_X2_untangles_13 (d : Nat) (a0 a1 a2 a3 a4 a5 : Option Value) (x : Int32) (st : List Value) (h : a_H) : a_run d MX2_untangles 13 [a0, a1, a2, a3, a4, a5] (.int x :: st) h = a_run d MX2_untangles 14 [a0, a1, a2, some (.int x), a4, a5] st h := w_stIn dX2_untangles_13 (Nat.le_of_ble_eq_true rfl) rfl
theorem w_X2_untangles_14 (d : Nat) (a0 a1 a2 a4 a5 : Option Value) (x : Int32) (st : List Value) (h : a_H) : a_run d MX2_untangles 14 [a0, a1, a2, some (.int x), a4, a5] st h = a_run d MX2_untangles 15 [a0, a1, a2, some (.int x), a4, a5] (.int x :: st) h := w_ldIn dX2_untangles_14 rfl
theorem w_X2_untangles_15 (d : Nat) (L : a_L) (st : List Value) (h : a_H) : a_run d MX2_untangles 15 L st h = a_run d MX2_untangles 16 L (.int (nI 1) :: st) h := w_iconst dX2_untangles_15 rfl
theorem w_X2_untangles_16 (d : Nat) (L : a_L) (x y : Int32) (st : List Value) (h : a_H) : a_run d MX2_untangles 16 L (.int y :: .int x :: st) h = a_run d MX2_untangles 17 L (.int (x + y) :: st) h := w_iadd dX2_untangles_16
theorem w_X2_untangles_17 (d : Nat) (a1 a2 a3 a4 a5 : Option Value) (x : Nat) (st : List Value) (h : a_H) : a_run d MX2_untangles 17 [some (.ref x), a1, a2, a3, a4, a5] st h = a_run d MX2_untangles 18 [some (.ref x), a1, a2, a3, a4, a5] (.ref x :: st) h := w_ldAn dX2_untangles_17 rfl
theorem w_X2_untangles_18 (d : Nat) (L : a_L) (i : Nat) (st : List Value) (h : a_H) : a_run d MX2_untangles 18 L (.ref i :: st) h = (a_gf h i 5 [1]).bind fun v => a_run d MX2_untangles 21 L (v :: st) h := w_getf dX2_untangles_18 rfl
theorem w_X2_untangles_21 (d : Nat) (a0 a1 a3 a4 a5 : Option Value) (x : Int32) (st : List Value) (h : a_H) : a_run d MX2_untangles 21 [a0, a1, some (.int x), a3, a4, a5] st h = a_run d MX2_untangles 22 [a0, a1, some (.int x), a3, a4, a5] (.int x :: st) h := w_ldIn dX2_untangles_21 rfl
theorem w_X2_untangles_22 (d : Nat) (L : a_L) (x : Int32) (i : Nat) (st : List Value) (h : a_H) : a_run d MX2_untangles 22 L (.int x :: .ref i :: st) h = (a_rdi h i a_int x).bind fun v => a_run d MX2_untangles 23 L (v :: st) h := w_iald dX2_untangles_22
theorem w_X2_untangles_23 (d : Nat) (L : a_L) (x y : Int32) (st : List Value) (h : a_H) : a_run d MX2_untangles 23 L (.int y :: .int x :: st) h = if x < y then a_run d MX2_untangles 26 L st h else a_run d MX2_untangles 83 L st h := w_icmp_ge dX2_untangles_23 rfl
theorem w_X2_untangles_26 (d : Nat) (a1 a2 a3 a4 a5 : Option Value) (x : Nat) (st : List Value) (h : a_H) : a_run d MX2_untangles 26 [some (.ref x), a1, a2, a3, a4, a5] st h = a_run d MX2_untangles 27 [some (.ref x), a1, a2, a3, a4, a5] (.ref x :: st) h := w_ldAn dX2_untangles_26 rfl
theorem w_X2_untangles_27 (d : Nat) (a0 a1 a3 a4 a5 : Option Value) (x : Int32) (st : List Value) (h : a_H) : a_run d MX2_untangles 27 [a0, a1, some (.int x), a3, a4, a5] st h = a_run d MX2_untangles 28 [a0, a1, some (.int x), a3, a4, a5] (.int x :: st) h := w_ldIn dX2_untangles_27 rfl
theorem w_X2_untangles_28 (d : Nat) (L : a_L) (i : Nat) (v1 : Value) (st : List Value) (h : a_H) (hk : a_kls h i = some 1) (hc : a_cat st ≤ 8) : a_run d MX2_untangles 28 L (v1 :: .ref i :: st) h = a_cont d MX2_untangles (a_bk MX2_untangles 28 L st (a_call d MX2_around [.ref i, v1] h)) := w_callV (as := [.ref i, v1]) dX2_untangles_28 rfl rfl rfl hc (a_rcv_of hk rfl)
theorem w_X2_untangles_31 (d : Nat) (a0 a1 a2 a3 a4 a5 : Option Value) (x : Int32) (st : List Value) (h : a_H) : a_run d MX2_untangles 31 [a0, a1, a2, a3, a4, a5] (.int x :: st) h = a_run d MX2_untangles 33 [a0, a1, a2, a3, some (.int x), a5] st h := w_stI dX2_untangles_31 (Nat.le_of_ble_eq_true rfl) rfl
theorem w_X2_untangles_33 (d : Nat) (a1 a2 a3 a4 a5 : Option Value) (x : Nat) (st : List Value) (h : a_H) : a_run d MX2_untangles 33 [some (.ref x), a1, a2, a3, a4, a5] st h = a_run d MX2_untangles 34 [some (.ref x), a1, a2, a3, a4, a5] (.ref x :: st) h := w_ldAn dX2_untangles_33 rfl
theorem w_X2_untangles_34 (d : Nat) (a0 a1 a3 a4 a5 : Option Value) (x : Int32) (st : List Value) (h : a_H) : a_run d MX2_untangles 34 [a0, a1, some (.int x), a3, a4, a5] st h = a_run d MX2_untangles 35 [a0, a1, some (.int x), a3, a4, a5] (.int x :: st) h := w_ldIn dX2_untangles_34 rfl
theorem w_X2_untangles_35 (d : Nat) (a0 a1 a2 a4 a5 : Option Value) (x : Int32) (st : List Value) (h : a_H) : a_run d MX2_untangles 35 [a0, a1, a2, some (.int x), a4, a5] st h = a_run d MX2_untangles 36 [a0, a1, a2, some (.int x), a4, a5] (.int x :: st) h := w_ldIn dX2_untangles_35 rfl
theorem w_X2_untangles_36 (d : Nat) (a0 a1 a2 a4 a5 : Option Value) (x : Int32) (st : List Value) (h : a_H) : a_run d MX2_untangles 36 [a0, a1, a2, some (.int x), a4, a5] st h = a_run d MX2_untangles 37 [a0, a1, a2, some (.int x), a4, a5] (.int x :: st) h := w_ldIn dX2_untangles_36 rfl
theorem w_X2_untangles_37 (d : Nat) (L : a_L) (st : List Value) (h : a_H) : a_run d MX2_untangles 37 L st h = a_run d MX2_untangles 38 L (.int (nI 1) :: st) h := w_iconst dX2_untangles_37 rfl
theorem w_X2_untangles_38 (d : Nat) (L : a_L) (x y : Int32) (st : List Value) (h : a_H) : a_run d MX2_untangles 38 L (.int y :: .int x :: st) h = a_run d MX2_untangles 39 L (.int (x + y) :: st) h := w_iadd dX2_untangles_38
theorem w_X2_untangles_39 (d : Nat) (L : a_L) (i : Nat) (v1 v2 v3 : Value) (st : List Value) (h : a_H) (hk : a_kls h i = some 1) (hc : a_cat st ≤ 8) : a_run d MX2_untangles 39 L (v3 :: v2 :: v1 :: .ref i :: st) h = a_cont d MX2_untangles (a_bk MX2_untangles 39 L st (a_call d MX2_swaps [.ref i, v1, v2, v3] h)) := w_callV (as := [.ref i, v1, v2, v3]) dX2_untangles_39 rfl rfl rfl hc (a_rcv_of hk rfl)
theorem w_X2_untangles_42 (d : Nat) (a1 a2 a3 a4 a5 : Option Value) (x : Nat) (st : List Value) (h : a_H) : a_run d MX2_untangles 42 [some (.ref x), a1, a2, a3, a4, a5] st h = a_run d MX2_untangles 43 [some (.ref x), a1, a2, a3, a4, a5] (.ref x :: st) h := w_ldAn dX2_untangles_42 rfl
theorem w_X2_untangles_43 (d : Nat) (a0 a1 a3 a4 a5 : Option Value) (x : Int32) (st : List Value) (h : a_H) : a_run d MX2_untangles 43 [a0, a1, some (.int x), a3, a4, a5] st h = a_run d MX2_untangles 44 [a0, a1, some (.int x), a3, a4, a5] (.int x :: st) h := w_ldIn dX2_untangles_43 rfl
theorem w_X2_untangles_44 (d : Nat) (L : a_L) (i : Nat) (v1 : Value) (st : List Value) (h : a_H) (hk : a_kls h i = some 1) (hc : a_cat st ≤ 8) : a_run d MX2_untangles 44 L (v1 :: .ref i :: st) h = a_cont d MX2_untangles (a_bk MX2_untangles 44 L st (a_call d MX2_around [.ref i, v1] h)) := w_callV (as := [.ref i, v1]) dX2_untangles_44 rfl rfl rfl hc (a_rcv_of hk rfl)
theorem w_X2_untangles_47 (d : Nat) (a0 a1 a2 a3 a4 a5 : Option Value) (x : Int32) (st : List Value) (h : a_H) : a_run d MX2_untangles 47 [a0, a1, a2, a3, a4, a5] (.int x :: st) h = a_run d MX2_untangles 49 [a0, a1, a2, a3, a4, some (.int x)] st h := w_stI dX2_untangles_47 (Nat.le_of_ble_eq_true rfl) rfl
theorem w_X2_untangles_49 (d : Nat) (a0 a1 a2 a3 a4 : Option Value) (x : Int32) (st : List Value) (h : a_H) : a_run d MX2_untangles 49 [a0, a1, a2, a3, a4, some (.int x)] st h = a_run d MX2_untangles 51 [a0, a1, a2, a3, a4, some (.int x)] (.int x :: st) h := w_ldI dX2_untangles_49 rfl
theorem w_X2_untangles_51 (d : Nat) (a0 a1 a2 a3 a5 : Option Value) (x : Int32) (st : List Value) (h : a_H) : a_run d MX2_untangles 51 [a0, a1, a2, a3, some (.int x), a5] st h = a_run d MX2_untangles 53 [a0, a1, a2, a3, some (.int x), a5] (.int x :: st) h := w_ldI dX2_untangles_51 rfl
theorem w_X2_untangles_53 (d : Nat) (L : a_L) (x y : Int32) (st : List Value) (h : a_H) : a_run d MX2_untangles 53 L (.int y :: .int x :: st) h = if x < y then a_run d MX2_untangles 65 L st h else a_run d MX2_untangles 56 L st h := w_icmp_lt dX2_untangles_53 rfl
theorem w_X2_untangles_56 (d : Nat) (a1 a2 a3 a4 a5 : Option Value) (x : Nat) (st : List Value) (h : a_H) : a_run d MX2_untangles 56 [some (.ref x), a1, a2, a3, a4, a5] st h = a_run d MX2_untangles 57 [some (.ref x), a1, a2, a3, a4, a5] (.ref x :: st) h := w_ldAn dX2_untangles_56 rfl
theorem w_X2_untangles_57 (d : Nat) (a0 a1 a3 a4 a5 : Option Value) (x : Int32) (st : List Value) (h : a_H) : a_run d MX2_untangles 57 [a0, a1, some (.int x), a3, a4, a5] st h = a_run d MX2_untangles 58 [a0, a1, some (.int x), a3, a4, a5] (.int x :: st) h := w_ldIn dX2_untangles_57 rfl
theorem w_X2_untangles_58 (d : Nat) (a0 a1 a2 a4 a5 : Option Value) (x : Int32) (st : List Value) (h : a_H) : a_run d MX2_untangles 58 [a0, a1, a2, some (.int x), a4, a5] st h = a_run d MX2_untangles 59 [a0, a1, a2, some (.int x), a4, a5] (.int x :: st) h := w_ldIn dX2_untangles_58 rfl
theorem w_X2_untangles_59 (d : Nat) (a0 a1 a2 a4 a5 : Option Value) (x : Int32) (st : List Value) (h : a_H) : a_run d MX2_untangles 59 [a0, a1, a2, some (.int x), a4, a5] st h = a_run d MX2_untangles 60 [a0, a1, a2, some (.int x), a4, a5] (.int x :: st) h := w_ldIn dX2_untangles_59 rfl
theorem w_X2_untangles_60 (d : Nat) (L : a_L) (st : List Value) (h : a_H) : a_run d MX2_untangles 60 L st h = a_run d MX2_untangles 61 L (.int (nI 1) :: st) h := w_iconst dX2_untangles_60 rfl
theorem w_X2_untangles_61 (d : Nat) (L : a_L) (x y : Int32) (st : List Value) (h : a_H) : a_run d MX2_untangles 61 L (.int y :: .int x :: st) h = a_run d MX2_untangles 62 L (.int (x + y) :: st) h := w_iadd dX2_untangles_61
theorem w_X2_untangles_62 (d : Nat) (L : a_L) (i : Nat) (v1 v2 v3 : Value) (st : List Value) (h : a_H) (hk : a_kls h i = some 1) (hc : a_cat st ≤ 8) : a_run d MX2_untangles 62 L (v3 :: v2 :: v1 :: .ref i :: st) h = a_cont d MX2_untangles (a_bk MX2_untangles 62 L st (a_call d MX2_swaps [.ref i, v1, v2, v3] h)) := w_callV (as := [.ref i, v1, v2, v3]) dX2_untangles_62 rfl rfl rfl hc (a_rcv_of hk rfl)
theorem w_X2_untangles_65 (d : Nat) (a0 a2 a3 a4 a5 : Option Value) (x : Int32) (st : List Value) (h : a_H) : a_run d MX2_untangles 65 [a0, some (.int x), a2, a3, a4, a5] st h = a_run d MX2_untangles 66 [a0, some (.int x), a2, a3, a4, a5] (.int x :: st) h := w_ldIn dX2_untangles_65 rfl
theorem w_X2_untangles_66 (d : Nat) (L : a_L) (st : List Value) (h : a_H) : a_run d MX2_untangles 66 L st h = a_run d MX2_untangles 67 L (.int (nI 0) :: st) h := w_iconst dX2_untangles_66 rfl
theorem w_X2_untangles_67 (d : Nat) (a0 a1 a2 a3 a5 : Option Value) (x : Int32) (st : List Value) (h : a_H) : a_run d MX2_untangles 67 [a0, a1, a2, a3, some (.int x), a5] st h = a_run d MX2_untangles 69 [a0, a1, a2, a3, some (.int x), a5] (.int x :: st) h := w_ldI dX2_untangles_67 rfl
theorem w_X2_untangles_69 (d : Nat) (a0 a1 a2 a3 a4 : Option Value) (x : Int32) (st : List Value) (h : a_H) : a_run d MX2_untangles 69 [a0, a1, a2, a3, a4, some (.int x)] st h = a_run d MX2_untangles 71 [a0, a1, a2, a3, a4, some (.int x)] (.int x :: st) h := w_ldI dX2_untangles_69 rfl
theorem w_X2_untangles_71 (d : Nat) (L : a_L) (x y : Int32) (st : List Value) (h : a_H) : a_run d MX2_untangles 71 L (.int y :: .int x :: st) h = a_run d MX2_untangles 72 L (.int (x - y) :: st) h := w_isub dX2_untangles_71
theorem w_X2_untangles_72 (d : Nat) (L : a_L) (x y : Int32) (st : List Value) (h : a_H) (hc : a_cat st ≤ 8) : a_run d MX2_untangles 72 L (.int y :: .int x :: st) h = a_run d MX2_untangles 75 L (.int (if x < y then y else x) :: st) h := w_max dX2_untangles_72 rfl hc
theorem w_X2_untangles_75 (d : Nat) (L : a_L) (x y : Int32) (st : List Value) (h : a_H) : a_run d MX2_untangles 75 L (.int y :: .int x :: st) h = a_run d MX2_untangles 76 L (.int (x + y) :: st) h := w_iadd dX2_untangles_75
theorem w_X2_untangles_76 (d : Nat) (a0 a1 a2 a3 a4 a5 : Option Value) (x : Int32) (st : List Value) (h : a_H) : a_run d MX2_untangles 76 [a0, a1, a2, a3, a4, a5] (.int x :: st) h = a_run d MX2_untangles 77 [a0, some (.int x), a2, a3, a4, a5] st h := w_stIn dX2_untangles_76 (Nat.le_of_ble_eq_true rfl) rfl
theorem w_X2_untangles_77 (d : Nat) (a0 a1 a2 a4 a5 : Option Value) (x : Int32) (st : List Value) (h : a_H) : a_run d MX2_untangles 77 [a0, a1, a2, some (.int x), a4, a5] st h = a_run d MX2_untangles 80 [a0, a1, a2, some (.int (x + nI 1)), a4, a5] st h := w_incL dX2_untangles_77 rfl rfl rfl
theorem w_X2_untangles_80 (d : Nat) (L : a_L) (st : List Value) (h : a_H) : a_run d MX2_untangles 80 L st h = a_run d MX2_untangles 14 L st h := w_goto dX2_untangles_80 rfl
theorem w_X2_untangles_83 (d : Nat) (a0 a1 a3 a4 a5 : Option Value) (x : Int32) (st : List Value) (h : a_H) : a_run d MX2_untangles 83 [a0, a1, some (.int x), a3, a4, a5] st h = a_run d MX2_untangles 86 [a0, a1, some (.int (x + nI 1)), a3, a4, a5] st h := w_incL dX2_untangles_83 rfl rfl rfl
theorem w_X2_untangles_86 (d : Nat) (L : a_L) (st : List Value) (h : a_H) : a_run d MX2_untangles 86 L st h = a_run d MX2_untangles 4 L st h := w_goto dX2_untangles_86 rfl
theorem w_X2_untangles_89 (d : Nat) (a0 a2 a3 a4 a5 : Option Value) (x : Int32) (st : List Value) (h : a_H) : a_run d MX2_untangles 89 [a0, some (.int x), a2, a3, a4, a5] st h = a_run d MX2_untangles 90 [a0, some (.int x), a2, a3, a4, a5] (.int x :: st) h := w_ldIn dX2_untangles_89 rfl
theorem w_X2_untangles_90 (d : Nat) (L : a_L) (x : Int32) (h : a_H) : a_run d MX2_untangles 90 L [.int x] h = some (.inl (some (.int x)), h) := w_iret dX2_untangles_90 (w_retI rfl)
theorem e_X2_around (d : Nat) (x0 : Nat) (x1 : Int32) (h : a_H) : a_call (d + 1) MX2_around [.ref x0, .int x1] h = a_run d MX2_around 0 [some (.ref x0), some (.int x1)] [] h := a_call_run rfl (Nat.le_of_ble_eq_true rfl) rfl
theorem w_X2_around_0 (d : Nat) (a0 : Option Value) (x : Int32) (st : List Value) (h : a_H) : a_run d MX2_around 0 [a0, some (.int x)] st h = a_run d MX2_around 1 [a0, some (.int x)] (.int x :: st) h := w_ldIn dX2_around_0 rfl
theorem w_X2_around_1 (d : Nat) (L : a_L) (x : Int32) (st : List Value) (h : a_H) : a_run d MX2_around 1 L (.int x :: st) h = if 0 < x then a_run d MX2_around 4 L st h else a_run d MX2_around 14 L st h := w_if_le dX2_around_1 rfl
theorem w_X2_around_4 (d : Nat) (a1 : Option Value) (x : Nat) (st : List Value) (h : a_H) : a_run d MX2_around 4 [some (.ref x), a1] st h = a_run d MX2_around 5 [some (.ref x), a1] (.ref x :: st) h := w_ldAn dX2_around_4 rfl
theorem w_X2_around_5 (d : Nat) (a0 : Option Value) (x : Int32) (st : List Value) (h : a_H) : a_run d MX2_around 5 [a0, some (.int x)] st h = a_run d MX2_around 6 [a0, some (.int x)] (.int x :: st) h := w_ldIn dX2_around_5 rfl
theorem w_X2_around_6 (d : Nat) (L : a_L) (st : List Value) (h : a_H) : a_run d MX2_around 6 L st h = a_run d MX2_around 7 L (.int (nI 1) :: st) h := w_iconst dX2_around_6 rfl
theorem w_X2_around_7 (d : Nat) (L : a_L) (x y : Int32) (st : List Value) (h : a_H) : a_run d MX2_around 7 L (.int y :: .int x :: st) h = a_run d MX2_around 8 L (.int (x - y) :: st) h := w_isub dX2_around_7
theorem w_X2_around_8 (d : Nat) (L : a_L) (i : Nat) (v1 : Value) (st : List Value) (h : a_H) (hk : a_kls h i = some 1) (hc : a_cat st ≤ 8) : a_run d MX2_around 8 L (v1 :: .ref i :: st) h = a_cont d MX2_around (a_bk MX2_around 8 L st (a_call d MX2_crossingsAt [.ref i, v1] h)) := w_callV (as := [.ref i, v1]) dX2_around_8 rfl rfl rfl hc (a_rcv_of hk rfl)
theorem w_X2_around_11 (d : Nat) (L : a_L) (st : List Value) (h : a_H) : a_run d MX2_around 11 L st h = a_run d MX2_around 15 L st h := w_goto dX2_around_11 rfl
theorem w_X2_around_14 (d : Nat) (L : a_L) (st : List Value) (h : a_H) : a_run d MX2_around 14 L st h = a_run d MX2_around 15 L (.int (nI 0) :: st) h := w_iconst dX2_around_14 rfl
theorem w_X2_around_15 (d : Nat) (a0 : Option Value) (x : Int32) (st : List Value) (h : a_H) : a_run d MX2_around 15 [a0, some (.int x)] st h = a_run d MX2_around 16 [a0, some (.int x)] (.int x :: st) h := w_ldIn dX2_around_15 rfl
theorem w_X2_around_16 (d : Nat) (L : a_L) (st : List Value) (h : a_H) : a_run d MX2_around 16 L st h = a_run d MX2_around 17 L (.int (nI 1) :: st) h := w_iconst dX2_around_16 rfl
theorem w_X2_around_17 (d : Nat) (L : a_L) (x y : Int32) (st : List Value) (h : a_H) : a_run d MX2_around 17 L (.int y :: .int x :: st) h = a_run d MX2_around 18 L (.int (x + y) :: st) h := w_iadd dX2_around_17
theorem w_X2_around_18 (d : Nat) (a1 : Option Value) (x : Nat) (st : List Value) (h : a_H) : a_run d MX2_around 18 [some (.ref x), a1] st h = a_run d MX2_around 19 [some (.ref x), a1] (.ref x :: st) h := w_ldAn dX2_around_18 rfl
theorem w_X2_around_19 (d : Nat) (L : a_L) (i : Nat) (st : List Value) (h : a_H) : a_run d MX2_around 19 L (.ref i :: st) h = (a_gf h i 13 [1]).bind fun v => a_run d MX2_around 22 L (v :: st) h := w_getf dX2_around_19 rfl
theorem w_X2_around_22 (d : Nat) (L : a_L) (x y : Int32) (st : List Value) (h : a_H) : a_run d MX2_around 22 L (.int y :: .int x :: st) h = if x < y then a_run d MX2_around 25 L st h else a_run d MX2_around 33 L st h := w_icmp_ge dX2_around_22 rfl
theorem w_X2_around_25 (d : Nat) (a1 : Option Value) (x : Nat) (st : List Value) (h : a_H) : a_run d MX2_around 25 [some (.ref x), a1] st h = a_run d MX2_around 26 [some (.ref x), a1] (.ref x :: st) h := w_ldAn dX2_around_25 rfl
theorem w_X2_around_26 (d : Nat) (a0 : Option Value) (x : Int32) (st : List Value) (h : a_H) : a_run d MX2_around 26 [a0, some (.int x)] st h = a_run d MX2_around 27 [a0, some (.int x)] (.int x :: st) h := w_ldIn dX2_around_26 rfl
theorem w_X2_around_27 (d : Nat) (L : a_L) (i : Nat) (v1 : Value) (st : List Value) (h : a_H) (hk : a_kls h i = some 1) (hc : a_cat st ≤ 8) : a_run d MX2_around 27 L (v1 :: .ref i :: st) h = a_cont d MX2_around (a_bk MX2_around 27 L st (a_call d MX2_crossingsAt [.ref i, v1] h)) := w_callV (as := [.ref i, v1]) dX2_around_27 rfl rfl rfl hc (a_rcv_of hk rfl)
theorem w_X2_around_30 (d : Nat) (L : a_L) (st : List Value) (h : a_H) : a_run d MX2_around 30 L st h = a_run d MX2_around 34 L st h := w_goto dX2_around_30 rfl
theorem w_X2_around_33 (d : Nat) (L : a_L) (st : List Value) (h : a_H) : a_run d MX2_around 33 L st h = a_run d MX2_around 34 L (.int (nI 0) :: st) h := w_iconst dX2_around_33 rfl
theorem w_X2_around_34 (d : Nat) (L : a_L) (x y : Int32) (st : List Value) (h : a_H) : a_run d MX2_around 34 L (.int y :: .int x :: st) h = a_run d MX2_around 35 L (.int (x + y) :: st) h := w_iadd dX2_around_34
theorem w_X2_around_35 (d : Nat) (L : a_L) (x : Int32) (h : a_H) : a_run d MX2_around 35 L [.int x] h = some (.inl (some (.int x)), h) := w_iret dX2_around_35 (w_retI rfl)
theorem e_X2_swaps (d : Nat) (x0 : Nat) (x1 : Int32) (x2 : Int32) (x3 : Int32) (h : a_H) : a_call (d + 1) MX2_swaps [.ref x0, .int x1, .int x2, .int x3] h = a_run d MX2_swaps 0 [some (.ref x0), some (.int x1), some (.int x2), some (.int x3), none] [] h := a_call_run rfl (Nat.le_of_ble_eq_true rfl) rfl
theorem w_X2_swaps_0 (d : Nat) (a1 a2 a3 a4 : Option Value) (x : Nat) (st : List Value) (h : a_H) : a_run d MX2_swaps 0 [some (.ref x), a1, a2, a3, a4] st h = a_run d MX2_swaps 1 [some (.ref x), a1, a2, a3, a4] (.ref x :: st) h := w_ldAn dX2_swaps_0 rfl
theorem w_X2_swaps_1 (d : Nat) (a0 a2 a3 a4 : Option Value) (x : Int32) (st : List Value) (h : a_H) : a_run d MX2_swaps 1 [a0, some (.int x), a2, a3, a4] st h = a_run d MX2_swaps 2 [a0, some (.int x), a2, a3, a4] (.int x :: st) h := w_ldIn dX2_swaps_1 rfl
theorem w_X2_swaps_2 (d : Nat) (a0 a1 a3 a4 : Option Value) (x : Int32) (st : List Value) (h : a_H) : a_run d MX2_swaps 2 [a0, a1, some (.int x), a3, a4] st h = a_run d MX2_swaps 3 [a0, a1, some (.int x), a3, a4] (.int x :: st) h := w_ldIn dX2_swaps_2 rfl
theorem w_X2_swaps_3 (d : Nat) (L : a_L) (i : Nat) (v1 v2 : Value) (st : List Value) (h : a_H) (hk : a_kls h i = some 1) (hc : a_cat st ≤ 8) : a_run d MX2_swaps 3 L (v2 :: v1 :: .ref i :: st) h = a_cont d MX2_swaps (a_bk MX2_swaps 3 L st (a_call d MX2_point [.ref i, v1, v2] h)) := w_callV (as := [.ref i, v1, v2]) dX2_swaps_3 rfl rfl rfl hc (a_rcv_of hk rfl)
theorem w_X2_swaps_6 (d : Nat) (a0 a1 a2 a3 a4 : Option Value) (x : Int32) (st : List Value) (h : a_H) : a_run d MX2_swaps 6 [a0, a1, a2, a3, a4] (.int x :: st) h = a_run d MX2_swaps 8 [a0, a1, a2, a3, some (.int x)] st h := w_stI dX2_swaps_6 (Nat.le_of_ble_eq_true rfl) rfl
theorem w_X2_swaps_8 (d : Nat) (a1 a2 a3 a4 : Option Value) (x : Nat) (st : List Value) (h : a_H) : a_run d MX2_swaps 8 [some (.ref x), a1, a2, a3, a4] st h = a_run d MX2_swaps 9 [some (.ref x), a1, a2, a3, a4] (.ref x :: st) h := w_ldAn dX2_swaps_8 rfl
theorem w_X2_swaps_9 (d : Nat) (L : a_L) (i : Nat) (st : List Value) (h : a_H) : a_run d MX2_swaps 9 L (.ref i :: st) h = (a_gf h i 4 [1]).bind fun v => a_run d MX2_swaps 12 L (v :: st) h := w_getf dX2_swaps_9 rfl
theorem w_X2_swaps_12 (d : Nat) (a0 a2 a3 a4 : Option Value) (x : Int32) (st : List Value) (h : a_H) : a_run d MX2_swaps 12 [a0, some (.int x), a2, a3, a4] st h = a_run d MX2_swaps 13 [a0, some (.int x), a2, a3, a4] (.int x :: st) h := w_ldIn dX2_swaps_12 rfl
theorem w_X2_swaps_13 (d : Nat) (L : a_L) (st : List Value) (h : a_H) : a_run d MX2_swaps 13 L st h = a_run d MX2_swaps 15 L (.int (nI 46) :: st) h := w_bipush dX2_swaps_13 rfl
theorem w_X2_swaps_15 (d : Nat) (L : a_L) (x y : Int32) (st : List Value) (h : a_H) : a_run d MX2_swaps 15 L (.int y :: .int x :: st) h = a_run d MX2_swaps 16 L (.int (x * y) :: st) h := w_imul dX2_swaps_15
theorem w_X2_swaps_16 (d : Nat) (a0 a1 a3 a4 : Option Value) (x : Int32) (st : List Value) (h : a_H) : a_run d MX2_swaps 16 [a0, a1, some (.int x), a3, a4] st h = a_run d MX2_swaps 17 [a0, a1, some (.int x), a3, a4] (.int x :: st) h := w_ldIn dX2_swaps_16 rfl
theorem w_X2_swaps_17 (d : Nat) (L : a_L) (x y : Int32) (st : List Value) (h : a_H) : a_run d MX2_swaps 17 L (.int y :: .int x :: st) h = a_run d MX2_swaps 18 L (.int (x + y) :: st) h := w_iadd dX2_swaps_17
theorem w_X2_swaps_18 (d : Nat) (a1 a2 a3 a4 : Option Value) (x : Nat) (st : List Value) (h : a_H) : a_run d MX2_swaps 18 [some (.ref x), a1, a2, a3, a4] st h = a_run d MX2_swaps 19 [some (.ref x), a1, a2, a3, a4] (.ref x :: st) h := w_ldAn dX2_swaps_18 rfl
theorem w_X2_swaps_19 (d : Nat) (a0 a2 a3 a4 : Option Value) (x : Int32) (st : List Value) (h : a_H) : a_run d MX2_swaps 19 [a0, some (.int x), a2, a3, a4] st h = a_run d MX2_swaps 20 [a0, some (.int x), a2, a3, a4] (.int x :: st) h := w_ldIn dX2_swaps_19 rfl
theorem w_X2_swaps_20 (d : Nat) (a0 a1 a2 a4 : Option Value) (x : Int32) (st : List Value) (h : a_H) : a_run d MX2_swaps 20 [a0, a1, a2, some (.int x), a4] st h = a_run d MX2_swaps 21 [a0, a1, a2, some (.int x), a4] (.int x :: st) h := w_ldIn dX2_swaps_20 rfl
theorem w_X2_swaps_21 (d : Nat) (L : a_L) (i : Nat) (v1 v2 : Value) (st : List Value) (h : a_H) (hk : a_kls h i = some 1) (hc : a_cat st ≤ 8) : a_run d MX2_swaps 21 L (v2 :: v1 :: .ref i :: st) h = a_cont d MX2_swaps (a_bk MX2_swaps 21 L st (a_call d MX2_point [.ref i, v1, v2] h)) := w_callV (as := [.ref i, v1, v2]) dX2_swaps_21 rfl rfl rfl hc (a_rcv_of hk rfl)
theorem w_X2_swaps_24 (d : Nat) (L : a_L) (x y : Int32) (i : Nat) (st : List Value) (h : a_H) : a_run d MX2_swaps 24 L (.int y :: .int x :: .ref i :: st) h = (a_wri h i a_int x y).bind fun h' => a_run d MX2_swaps 25 L st h' := w_iast dX2_swaps_24
theorem w_X2_swaps_25 (d : Nat) (a1 a2 a3 a4 : Option Value) (x : Nat) (st : List Value) (h : a_H) : a_run d MX2_swaps 25 [some (.ref x), a1, a2, a3, a4] st h = a_run d MX2_swaps 26 [some (.ref x), a1, a2, a3, a4] (.ref x :: st) h := w_ldAn dX2_swaps_25 rfl
theorem w_X2_swaps_26 (d : Nat) (L : a_L) (i : Nat) (st : List Value) (h : a_H) : a_run d MX2_swaps 26 L (.ref i :: st) h = (a_gf h i 4 [1]).bind fun v => a_run d MX2_swaps 29 L (v :: st) h := w_getf dX2_swaps_26 rfl
theorem w_X2_swaps_29 (d : Nat) (a0 a2 a3 a4 : Option Value) (x : Int32) (st : List Value) (h : a_H) : a_run d MX2_swaps 29 [a0, some (.int x), a2, a3, a4] st h = a_run d MX2_swaps 30 [a0, some (.int x), a2, a3, a4] (.int x :: st) h := w_ldIn dX2_swaps_29 rfl
theorem w_X2_swaps_30 (d : Nat) (L : a_L) (st : List Value) (h : a_H) : a_run d MX2_swaps 30 L st h = a_run d MX2_swaps 32 L (.int (nI 46) :: st) h := w_bipush dX2_swaps_30 rfl
theorem w_X2_swaps_32 (d : Nat) (L : a_L) (x y : Int32) (st : List Value) (h : a_H) : a_run d MX2_swaps 32 L (.int y :: .int x :: st) h = a_run d MX2_swaps 33 L (.int (x * y) :: st) h := w_imul dX2_swaps_32
theorem w_X2_swaps_33 (d : Nat) (a0 a1 a2 a4 : Option Value) (x : Int32) (st : List Value) (h : a_H) : a_run d MX2_swaps 33 [a0, a1, a2, some (.int x), a4] st h = a_run d MX2_swaps 34 [a0, a1, a2, some (.int x), a4] (.int x :: st) h := w_ldIn dX2_swaps_33 rfl
theorem w_X2_swaps_34 (d : Nat) (L : a_L) (x y : Int32) (st : List Value) (h : a_H) : a_run d MX2_swaps 34 L (.int y :: .int x :: st) h = a_run d MX2_swaps 35 L (.int (x + y) :: st) h := w_iadd dX2_swaps_34
theorem w_X2_swaps_35 (d : Nat) (a0 a1 a2 a3 : Option Value) (x : Int32) (st : List Value) (h : a_H) : a_run d MX2_swaps 35 [a0, a1, a2, a3, some (.int x)] st h = a_run d MX2_swaps 37 [a0, a1, a2, a3, some (.int x)] (.int x :: st) h := w_ldI dX2_swaps_35 rfl
theorem w_X2_swaps_37 (d : Nat) (L : a_L) (x y : Int32) (i : Nat) (st : List Value) (h : a_H) : a_run d MX2_swaps 37 L (.int y :: .int x :: .ref i :: st) h = (a_wri h i a_int x y).bind fun h' => a_run d MX2_swaps 38 L st h' := w_iast dX2_swaps_37
theorem w_X2_swaps_38 (d : Nat) (L : a_L) (h : a_H) : a_run d MX2_swaps 38 L [] h = some (.inl none, h) := w_vret dX2_swaps_38 rfl
theorem e_X2_swapsAt (d : Nat) (x0 : Nat) (x1 : Int32) (x2 : Int32) (x3 : Int32) (h : a_H) : a_call (d + 1) MX2_swapsAt [.ref x0, .int x1, .int x2, .int x3] h = a_run d MX2_swapsAt 0 [some (.ref x0), some (.int x1), some (.int x2), some (.int x3)] [] h := a_call_run rfl (Nat.le_of_ble_eq_true rfl) rfl
theorem w_X2_swapsAt_0 (d : Nat) (a1 a2 a3 : Option Value) (x : Nat) (st : List Value) (h : a_H) : a_run d MX2_swapsAt 0 [some (.ref x), a1, a2, a3] st h = a_run d MX2_swapsAt 1 [some (.ref x), a1, a2, a3] (.ref x :: st) h := w_ldAn dX2_swapsAt_0 rfl
theorem w_X2_swapsAt_1 (d : Nat) (a0 a2 a3 : Option Value) (x : Int32) (st : List Value) (h : a_H) : a_run d MX2_swapsAt 1 [a0, some (.int x), a2, a3] st h = a_run d MX2_swapsAt 2 [a0, some (.int x), a2, a3] (.int x :: st) h := w_ldIn dX2_swapsAt_1 rfl
theorem w_X2_swapsAt_2 (d : Nat) (L : a_L) (i : Nat) (v1 : Value) (st : List Value) (h : a_H) (hk : a_kls h i = some 1) (hc : a_cat st ≤ 8) : a_run d MX2_swapsAt 2 L (v1 :: .ref i :: st) h = a_cont d MX2_swapsAt (a_bk MX2_swapsAt 2 L st (a_call d MX2_isLayer [.ref i, v1] h)) := w_callV (as := [.ref i, v1]) dX2_swapsAt_2 rfl rfl rfl hc (a_rcv_of hk rfl)
theorem w_X2_swapsAt_5 (d : Nat) (L : a_L) (x : Int32) (st : List Value) (h : a_H) : a_run d MX2_swapsAt 5 L (.int x :: st) h = if x = 0 then a_run d MX2_swapsAt 48 L st h else a_run d MX2_swapsAt 8 L st h := w_if_eq dX2_swapsAt_5 rfl
theorem w_X2_swapsAt_8 (d : Nat) (a0 a1 a3 : Option Value) (x : Int32) (st : List Value) (h : a_H) : a_run d MX2_swapsAt 8 [a0, a1, some (.int x), a3] st h = a_run d MX2_swapsAt 9 [a0, a1, some (.int x), a3] (.int x :: st) h := w_ldIn dX2_swapsAt_8 rfl
theorem w_X2_swapsAt_9 (d : Nat) (L : a_L) (x : Int32) (st : List Value) (h : a_H) : a_run d MX2_swapsAt 9 L (.int x :: st) h = a_run d MX2_swapsAt 10 L (.long x.toInt64 :: st) h := w_i2l dX2_swapsAt_9
theorem w_X2_swapsAt_10 (d : Nat) (L : a_L) (st : List Value) (h : a_H) : a_run d MX2_swapsAt 10 L st h = a_run d MX2_swapsAt 11 L (.long (lN 0) :: st) h := (w_lconst dX2_swapsAt_10).trans rfl
theorem w_X2_swapsAt_11 (d : Nat) (a1 a2 a3 : Option Value) (x : Nat) (st : List Value) (h : a_H) : a_run d MX2_swapsAt 11 [some (.ref x), a1, a2, a3] st h = a_run d MX2_swapsAt 12 [some (.ref x), a1, a2, a3] (.ref x :: st) h := w_ldAn dX2_swapsAt_11 rfl
theorem w_X2_swapsAt_12 (d : Nat) (L : a_L) (i : Nat) (st : List Value) (h : a_H) : a_run d MX2_swapsAt 12 L (.ref i :: st) h = (a_gf h i 5 [1]).bind fun v => a_run d MX2_swapsAt 15 L (v :: st) h := w_getf dX2_swapsAt_12 rfl
theorem w_X2_swapsAt_15 (d : Nat) (a0 a2 a3 : Option Value) (x : Int32) (st : List Value) (h : a_H) : a_run d MX2_swapsAt 15 [a0, some (.int x), a2, a3] st h = a_run d MX2_swapsAt 16 [a0, some (.int x), a2, a3] (.int x :: st) h := w_ldIn dX2_swapsAt_15 rfl
theorem w_X2_swapsAt_16 (d : Nat) (L : a_L) (x : Int32) (i : Nat) (st : List Value) (h : a_H) : a_run d MX2_swapsAt 16 L (.int x :: .ref i :: st) h = (a_rdi h i a_int x).bind fun v => a_run d MX2_swapsAt 17 L (v :: st) h := w_iald dX2_swapsAt_16
theorem w_X2_swapsAt_17 (d : Nat) (L : a_L) (st : List Value) (h : a_H) : a_run d MX2_swapsAt 17 L st h = a_run d MX2_swapsAt 18 L (.int (nI 1) :: st) h := w_iconst dX2_swapsAt_17 rfl
theorem w_X2_swapsAt_18 (d : Nat) (L : a_L) (x y : Int32) (st : List Value) (h : a_H) : a_run d MX2_swapsAt 18 L (.int y :: .int x :: st) h = a_run d MX2_swapsAt 19 L (.int (x - y) :: st) h := w_isub dX2_swapsAt_18
theorem w_X2_swapsAt_19 (d : Nat) (L : a_L) (x : Int32) (st : List Value) (h : a_H) : a_run d MX2_swapsAt 19 L (.int x :: st) h = a_run d MX2_swapsAt 20 L (.long x.toInt64 :: st) h := w_i2l dX2_swapsAt_19
theorem w_X2_swapsAt_20 (d : Nat) (L : a_L) (v0 v1 v2 : Value) (st : List Value) (h : a_H) (hc : a_cat st ≤ 8) : a_run d MX2_swapsAt 20 L (v2 :: v1 :: v0 :: st) h = a_cont d MX2_swapsAt (a_bk MX2_swapsAt 20 L st (a_call d MX1_isBetween [v0, v1, v2] h)) := w_callS (as := [v0, v1, v2]) dX2_swapsAt_20 rfl rfl rfl hc
theorem w_X2_swapsAt_23 (d : Nat) (L : a_L) (x : Int32) (st : List Value) (h : a_H) : a_run d MX2_swapsAt 23 L (.int x :: st) h = if x = 0 then a_run d MX2_swapsAt 48 L st h else a_run d MX2_swapsAt 26 L st h := w_if_eq dX2_swapsAt_23 rfl
theorem w_X2_swapsAt_26 (d : Nat) (a0 a1 a2 : Option Value) (x : Int32) (st : List Value) (h : a_H) : a_run d MX2_swapsAt 26 [a0, a1, a2, some (.int x)] st h = a_run d MX2_swapsAt 27 [a0, a1, a2, some (.int x)] (.int x :: st) h := w_ldIn dX2_swapsAt_26 rfl
theorem w_X2_swapsAt_27 (d : Nat) (L : a_L) (x : Int32) (st : List Value) (h : a_H) : a_run d MX2_swapsAt 27 L (.int x :: st) h = a_run d MX2_swapsAt 28 L (.long x.toInt64 :: st) h := w_i2l dX2_swapsAt_27
theorem w_X2_swapsAt_28 (d : Nat) (L : a_L) (st : List Value) (h : a_H) : a_run d MX2_swapsAt 28 L st h = a_run d MX2_swapsAt 29 L (.long (lN 0) :: st) h := (w_lconst dX2_swapsAt_28).trans rfl
theorem w_X2_swapsAt_29 (d : Nat) (a1 a2 a3 : Option Value) (x : Nat) (st : List Value) (h : a_H) : a_run d MX2_swapsAt 29 [some (.ref x), a1, a2, a3] st h = a_run d MX2_swapsAt 30 [some (.ref x), a1, a2, a3] (.ref x :: st) h := w_ldAn dX2_swapsAt_29 rfl
theorem w_X2_swapsAt_30 (d : Nat) (L : a_L) (i : Nat) (st : List Value) (h : a_H) : a_run d MX2_swapsAt 30 L (.ref i :: st) h = (a_gf h i 5 [1]).bind fun v => a_run d MX2_swapsAt 33 L (v :: st) h := w_getf dX2_swapsAt_30 rfl
theorem w_X2_swapsAt_33 (d : Nat) (a0 a2 a3 : Option Value) (x : Int32) (st : List Value) (h : a_H) : a_run d MX2_swapsAt 33 [a0, some (.int x), a2, a3] st h = a_run d MX2_swapsAt 34 [a0, some (.int x), a2, a3] (.int x :: st) h := w_ldIn dX2_swapsAt_33 rfl
theorem w_X2_swapsAt_34 (d : Nat) (L : a_L) (x : Int32) (i : Nat) (st : List Value) (h : a_H) : a_run d MX2_swapsAt 34 L (.int x :: .ref i :: st) h = (a_rdi h i a_int x).bind fun v => a_run d MX2_swapsAt 35 L (v :: st) h := w_iald dX2_swapsAt_34
theorem w_X2_swapsAt_35 (d : Nat) (L : a_L) (st : List Value) (h : a_H) : a_run d MX2_swapsAt 35 L st h = a_run d MX2_swapsAt 36 L (.int (nI 1) :: st) h := w_iconst dX2_swapsAt_35 rfl
theorem w_X2_swapsAt_36 (d : Nat) (L : a_L) (x y : Int32) (st : List Value) (h : a_H) : a_run d MX2_swapsAt 36 L (.int y :: .int x :: st) h = a_run d MX2_swapsAt 37 L (.int (x - y) :: st) h := w_isub dX2_swapsAt_36
theorem w_X2_swapsAt_37 (d : Nat) (L : a_L) (x : Int32) (st : List Value) (h : a_H) : a_run d MX2_swapsAt 37 L (.int x :: st) h = a_run d MX2_swapsAt 38 L (.long x.toInt64 :: st) h := w_i2l dX2_swapsAt_37
theorem w_X2_swapsAt_38 (d : Nat) (L : a_L) (v0 v1 v2 : Value) (st : List Value) (h : a_H) (hc : a_cat st ≤ 8) : a_run d MX2_swapsAt 38 L (v2 :: v1 :: v0 :: st) h = a_cont d MX2_swapsAt (a_bk MX2_swapsAt 38 L st (a_call d MX1_isBetween [v0, v1, v2] h)) := w_callS (as := [v0, v1, v2]) dX2_swapsAt_38 rfl rfl rfl hc
theorem w_X2_swapsAt_41 (d : Nat) (L : a_L) (x : Int32) (st : List Value) (h : a_H) : a_run d MX2_swapsAt 41 L (.int x :: st) h = if x = 0 then a_run d MX2_swapsAt 48 L st h else a_run d MX2_swapsAt 44 L st h := w_if_eq dX2_swapsAt_41 rfl
theorem w_X2_swapsAt_44 (d : Nat) (L : a_L) (st : List Value) (h : a_H) : a_run d MX2_swapsAt 44 L st h = a_run d MX2_swapsAt 45 L (.int (nI 1) :: st) h := w_iconst dX2_swapsAt_44 rfl
theorem w_X2_swapsAt_45 (d : Nat) (L : a_L) (st : List Value) (h : a_H) : a_run d MX2_swapsAt 45 L st h = a_run d MX2_swapsAt 49 L st h := w_goto dX2_swapsAt_45 rfl
theorem w_X2_swapsAt_48 (d : Nat) (L : a_L) (st : List Value) (h : a_H) : a_run d MX2_swapsAt 48 L st h = a_run d MX2_swapsAt 49 L (.int (nI 0) :: st) h := w_iconst dX2_swapsAt_48 rfl
theorem w_X2_swapsAt_49 (d : Nat) (L : a_L) (st : List Value) (h : a_H) : a_run d MX2_swapsAt 49 L st h = a_run d MX2_swapsAt 50 L (.int (nI 1) :: st) h := w_iconst dX2_swapsAt_49 rfl
theorem w_X2_swapsAt_50 (d : Nat) (L : a_L) (v0 v1 : Value) (st : List Value) (h : a_H) (hc : a_cat st ≤ 8) : a_run d MX2_swapsAt 50 L (v1 :: v0 :: st) h = a_cont d MX2_swapsAt (a_bk MX2_swapsAt 50 L st (a_call d MX1_need [v0, v1] h)) := w_callS (as := [v0, v1]) dX2_swapsAt_50 rfl rfl rfl hc
theorem w_X2_swapsAt_53 (d : Nat) (a1 a2 a3 : Option Value) (x : Nat) (st : List Value) (h : a_H) : a_run d MX2_swapsAt 53 [some (.ref x), a1, a2, a3] st h = a_run d MX2_swapsAt 54 [some (.ref x), a1, a2, a3] (.ref x :: st) h := w_ldAn dX2_swapsAt_53 rfl
theorem w_X2_swapsAt_54 (d : Nat) (a0 a2 a3 : Option Value) (x : Int32) (st : List Value) (h : a_H) : a_run d MX2_swapsAt 54 [a0, some (.int x), a2, a3] st h = a_run d MX2_swapsAt 55 [a0, some (.int x), a2, a3] (.int x :: st) h := w_ldIn dX2_swapsAt_54 rfl
theorem w_X2_swapsAt_55 (d : Nat) (a0 a1 a3 : Option Value) (x : Int32) (st : List Value) (h : a_H) : a_run d MX2_swapsAt 55 [a0, a1, some (.int x), a3] st h = a_run d MX2_swapsAt 56 [a0, a1, some (.int x), a3] (.int x :: st) h := w_ldIn dX2_swapsAt_55 rfl
theorem w_X2_swapsAt_56 (d : Nat) (a0 a1 a2 : Option Value) (x : Int32) (st : List Value) (h : a_H) : a_run d MX2_swapsAt 56 [a0, a1, a2, some (.int x)] st h = a_run d MX2_swapsAt 57 [a0, a1, a2, some (.int x)] (.int x :: st) h := w_ldIn dX2_swapsAt_56 rfl
theorem w_X2_swapsAt_57 (d : Nat) (L : a_L) (i : Nat) (v1 v2 v3 : Value) (st : List Value) (h : a_H) (hk : a_kls h i = some 1) (hc : a_cat st ≤ 8) : a_run d MX2_swapsAt 57 L (v3 :: v2 :: v1 :: .ref i :: st) h = a_cont d MX2_swapsAt (a_bk MX2_swapsAt 57 L st (a_call d MX2_swaps [.ref i, v1, v2, v3] h)) := w_callV (as := [.ref i, v1, v2, v3]) dX2_swapsAt_57 rfl rfl rfl hc (a_rcv_of hk rfl)
theorem w_X2_swapsAt_60 (d : Nat) (a1 a2 a3 : Option Value) (x : Nat) (st : List Value) (h : a_H) : a_run d MX2_swapsAt 60 [some (.ref x), a1, a2, a3] st h = a_run d MX2_swapsAt 61 [some (.ref x), a1, a2, a3] (.ref x :: st) h := w_ldAn dX2_swapsAt_60 rfl
theorem w_X2_swapsAt_61 (d : Nat) (L : a_L) (i : Nat) (st : List Value) (h : a_H) (hk : a_kls h i = some 1) (hc : a_cat st ≤ 8) : a_run d MX2_swapsAt 61 L (.ref i :: st) h = a_cont d MX2_swapsAt (a_bk MX2_swapsAt 61 L st (a_call d MX2_allCrossings [.ref i] h)) := w_callV (as := [.ref i]) dX2_swapsAt_61 rfl rfl rfl hc (a_rcv_of hk rfl)
theorem w_X2_swapsAt_64 (d : Nat) (L : a_L) (x : Int32) (h : a_H) : a_run d MX2_swapsAt 64 L [.int x] h = some (.inl (some (.int x)), h) := w_iret dX2_swapsAt_64 (w_retI rfl)
theorem e_X2_isLayer (d : Nat) (x0 : Nat) (x1 : Int32) (h : a_H) : a_call (d + 1) MX2_isLayer [.ref x0, .int x1] h = a_run d MX2_isLayer 0 [some (.ref x0), some (.int x1)] [] h := a_call_run rfl (Nat.le_of_ble_eq_true rfl) rfl
theorem w_X2_isLayer_0 (d : Nat) (a0 : Option Value) (x : Int32) (st : List Value) (h : a_H) : a_run d MX2_isLayer 0 [a0, some (.int x)] st h = a_run d MX2_isLayer 1 [a0, some (.int x)] (.int x :: st) h := w_ldIn dX2_isLayer_0 rfl
theorem w_X2_isLayer_1 (d : Nat) (L : a_L) (x : Int32) (st : List Value) (h : a_H) : a_run d MX2_isLayer 1 L (.int x :: st) h = a_run d MX2_isLayer 2 L (.long x.toInt64 :: st) h := w_i2l dX2_isLayer_1
theorem w_X2_isLayer_2 (d : Nat) (L : a_L) (st : List Value) (h : a_H) : a_run d MX2_isLayer 2 L st h = a_run d MX2_isLayer 3 L (.long (lN 0) :: st) h := (w_lconst dX2_isLayer_2).trans rfl
theorem w_X2_isLayer_3 (d : Nat) (a1 : Option Value) (x : Nat) (st : List Value) (h : a_H) : a_run d MX2_isLayer 3 [some (.ref x), a1] st h = a_run d MX2_isLayer 4 [some (.ref x), a1] (.ref x :: st) h := w_ldAn dX2_isLayer_3 rfl
theorem w_X2_isLayer_4 (d : Nat) (L : a_L) (i : Nat) (st : List Value) (h : a_H) : a_run d MX2_isLayer 4 L (.ref i :: st) h = (a_gf h i 13 [1]).bind fun v => a_run d MX2_isLayer 7 L (v :: st) h := w_getf dX2_isLayer_4 rfl
theorem w_X2_isLayer_7 (d : Nat) (L : a_L) (st : List Value) (h : a_H) : a_run d MX2_isLayer 7 L st h = a_run d MX2_isLayer 8 L (.int (nI 1) :: st) h := w_iconst dX2_isLayer_7 rfl
theorem w_X2_isLayer_8 (d : Nat) (L : a_L) (x y : Int32) (st : List Value) (h : a_H) : a_run d MX2_isLayer 8 L (.int y :: .int x :: st) h = a_run d MX2_isLayer 9 L (.int (x - y) :: st) h := w_isub dX2_isLayer_8
theorem w_X2_isLayer_9 (d : Nat) (L : a_L) (x : Int32) (st : List Value) (h : a_H) : a_run d MX2_isLayer 9 L (.int x :: st) h = a_run d MX2_isLayer 10 L (.long x.toInt64 :: st) h := w_i2l dX2_isLayer_9
theorem w_X2_isLayer_10 (d : Nat) (L : a_L) (v0 v1 v2 : Value) (st : List Value) (h : a_H) (hc : a_cat st ≤ 8) : a_run d MX2_isLayer 10 L (v2 :: v1 :: v0 :: st) h = a_cont d MX2_isLayer (a_bk MX2_isLayer 10 L st (a_call d MX1_isBetween [v0, v1, v2] h)) := w_callS (as := [v0, v1, v2]) dX2_isLayer_10 rfl rfl rfl hc
theorem w_X2_isLayer_13 (d : Nat) (L : a_L) (x : Int32) (h : a_H) (hx : x = 0 ∨ x = 1) : a_run d MX2_isLayer 13 L [.int x] h = some (.inl (some (.int x)), h) := w_iret dX2_isLayer_13 (w_retZ rfl hx)
theorem e_X2_settles (d : Nat) (x0 : Nat) (h : a_H) : a_call (d + 1) MX2_settles [.ref x0] h = a_run d MX2_settles 0 [some (.ref x0), none, none, none, none, none] [] h := a_call_run rfl (Nat.le_of_ble_eq_true rfl) rfl
theorem w_X2_settles_0 (d : Nat) (L : a_L) (st : List Value) (h : a_H) : a_run d MX2_settles 0 L st h = a_run d MX2_settles 3 L (.ref h.1 :: st) (a_add h (.inr (1, [.null, .null, .null, .null, .null, .null, .null, .null, .null, .null, .null, .int 0, .int 0, .int 0, .int 0, .int 0])) 16) := w_new dX2_settles_0 rfl rfl
theorem w_X2_settles_3 (d : Nat) (L : a_L) (x : Nat) (st : List Value) (h : a_H) : a_run d MX2_settles 3 L (.ref x :: st) h = a_run d MX2_settles 4 L (.ref x :: .ref x :: st) h := w_dup dX2_settles_3
theorem w_X2_settles_3I (d : Nat) (L : a_L) (x : Int32) (st : List Value) (h : a_H) : a_run d MX2_settles 3 L (.int x :: st) h = a_run d MX2_settles 4 L (.int x :: .int x :: st) h := w_dupI dX2_settles_3
theorem w_X2_settles_4 (d : Nat) (a1 a2 a3 a4 a5 : Option Value) (x : Nat) (st : List Value) (h : a_H) : a_run d MX2_settles 4 [some (.ref x), a1, a2, a3, a4, a5] st h = a_run d MX2_settles 5 [some (.ref x), a1, a2, a3, a4, a5] (.ref x :: st) h := w_ldAn dX2_settles_4 rfl
theorem w_X2_settles_5 (d : Nat) (L : a_L) (i : Nat) (v1 : Value) (st : List Value) (h : a_H) (hi : 1024 ≤ i) (hc : a_cat st ≤ 8) : a_run d MX2_settles 5 L (v1 :: .ref i :: st) h = a_cont d MX2_settles (a_bk MX2_settles 5 L st (a_call d MX2_init_2 [.ref i, v1] h)) := w_callI (as := [.ref i, v1]) dX2_settles_5 rfl rfl rfl hc (a_new0_of hi)
theorem w_X2_settles_8 (d : Nat) (a0 a1 a2 a3 a4 a5 : Option Value) (x : Nat) (st : List Value) (h : a_H) : a_run d MX2_settles 8 [a0, a1, a2, a3, a4, a5] (.ref x :: st) h = a_run d MX2_settles 9 [a0, some (.ref x), a2, a3, a4, a5] st h := w_stAn dX2_settles_8 (Nat.le_of_ble_eq_true rfl) rfl
theorem w_X2_settles_8N (d : Nat) (a0 a1 a2 a3 a4 a5 : Option Value) (st : List Value) (h : a_H) : a_run d MX2_settles 8 [a0, a1, a2, a3, a4, a5] (.null :: st) h = a_run d MX2_settles 9 [a0, some .null, a2, a3, a4, a5] st h := w_stNn dX2_settles_8 (Nat.le_of_ble_eq_true rfl) rfl
theorem w_X2_settles_9 (d : Nat) (a1 a2 a3 a4 a5 : Option Value) (x : Nat) (st : List Value) (h : a_H) : a_run d MX2_settles 9 [some (.ref x), a1, a2, a3, a4, a5] st h = a_run d MX2_settles 10 [some (.ref x), a1, a2, a3, a4, a5] (.ref x :: st) h := w_ldAn dX2_settles_9 rfl
theorem w_X2_settles_10 (d : Nat) (L : a_L) (i : Nat) (st : List Value) (h : a_H) (hk : a_kls h i = some 1) (hc : a_cat st ≤ 8) : a_run d MX2_settles 10 L (.ref i :: st) h = a_cont d MX2_settles (a_bk MX2_settles 10 L st (a_call d MX2_allCrossings [.ref i] h)) := w_callV (as := [.ref i]) dX2_settles_10 rfl rfl rfl hc (a_rcv_of hk rfl)
theorem w_X2_settles_13 (d : Nat) (a0 a1 a2 a3 a4 a5 : Option Value) (x : Int32) (st : List Value) (h : a_H) : a_run d MX2_settles 13 [a0, a1, a2, a3, a4, a5] (.int x :: st) h = a_run d MX2_settles 14 [a0, a1, some (.int x), a3, a4, a5] st h := w_stIn dX2_settles_13 (Nat.le_of_ble_eq_true rfl) rfl
theorem w_X2_settles_14 (d : Nat) (L : a_L) (st : List Value) (h : a_H) : a_run d MX2_settles 14 L st h = a_run d MX2_settles 15 L (.int (nI 0) :: st) h := w_iconst dX2_settles_14 rfl
theorem w_X2_settles_15 (d : Nat) (a0 a1 a2 a3 a4 a5 : Option Value) (x : Int32) (st : List Value) (h : a_H) : a_run d MX2_settles 15 [a0, a1, a2, a3, a4, a5] (.int x :: st) h = a_run d MX2_settles 16 [a0, a1, a2, some (.int x), a4, a5] st h := w_stIn dX2_settles_15 (Nat.le_of_ble_eq_true rfl) rfl
theorem w_X2_settles_16 (d : Nat) (a0 a1 a2 a4 a5 : Option Value) (x : Int32) (st : List Value) (h : a_H) : a_run d MX2_settles 16 [a0, a1, a2, some (.int x), a4, a5] st h = a_run d MX2_settles 17 [a0, a1, a2, some (.int x), a4, a5] (.int x :: st) h := w_ldIn dX2_settles_16 rfl
theorem w_X2_settles_17 (d : Nat) (L : a_L) (st : List Value) (h : a_H) : a_run d MX2_settles 17 L st h = a_run d MX2_settles 19 L (.int (nI 10) :: st) h := w_bipush dX2_settles_17 rfl
theorem w_X2_settles_19 (d : Nat) (L : a_L) (x y : Int32) (st : List Value) (h : a_H) : a_run d MX2_settles 19 L (.int y :: .int x :: st) h = if x < y then a_run d MX2_settles 22 L st h else a_run d MX2_settles 111 L st h := w_icmp_ge dX2_settles_19 rfl
theorem w_X2_settles_22 (d : Nat) (a0 a1 a2 a4 a5 : Option Value) (x : Int32) (st : List Value) (h : a_H) : a_run d MX2_settles 22 [a0, a1, a2, some (.int x), a4, a5] st h = a_run d MX2_settles 23 [a0, a1, a2, some (.int x), a4, a5] (.int x :: st) h := w_ldIn dX2_settles_22 rfl
theorem w_X2_settles_23 (d : Nat) (L : a_L) (st : List Value) (h : a_H) : a_run d MX2_settles 23 L st h = a_run d MX2_settles 24 L (.int (nI 3) :: st) h := w_iconst dX2_settles_23 rfl
theorem w_X2_settles_24 (d : Nat) (L : a_L) (x y : Int32) (st : List Value) (h : a_H) (hy : y ≠ 0) : a_run d MX2_settles 24 L (.int y :: .int x :: st) h = a_run d MX2_settles 25 L (.int (x - x / y * y) :: st) h := w_irem dX2_settles_24 hy
theorem w_X2_settles_25 (d : Nat) (L : a_L) (st : List Value) (h : a_H) : a_run d MX2_settles 25 L st h = a_run d MX2_settles 26 L (.int (nI 2) :: st) h := w_iconst dX2_settles_25 rfl
theorem w_X2_settles_26 (d : Nat) (L : a_L) (x y : Int32) (st : List Value) (h : a_H) : a_run d MX2_settles 26 L (.int y :: .int x :: st) h = if x = y then a_run d MX2_settles 29 L st h else a_run d MX2_settles 38 L st h := w_icmp_ne dX2_settles_26 rfl
theorem w_X2_settles_29 (d : Nat) (a0 a2 a3 a4 a5 : Option Value) (x : Nat) (st : List Value) (h : a_H) : a_run d MX2_settles 29 [a0, some (.ref x), a2, a3, a4, a5] st h = a_run d MX2_settles 30 [a0, some (.ref x), a2, a3, a4, a5] (.ref x :: st) h := w_ldAn dX2_settles_29 rfl
theorem w_X2_settles_29N (d : Nat) (a0 a2 a3 a4 a5 : Option Value) (st : List Value) (h : a_H) : a_run d MX2_settles 29 [a0, some .null, a2, a3, a4, a5] st h = a_run d MX2_settles 30 [a0, some .null, a2, a3, a4, a5] (.null :: st) h := w_ldNn dX2_settles_29 rfl
theorem w_X2_settles_30 (d : Nat) (L : a_L) (i : Nat) (st : List Value) (h : a_H) (hk : a_kls h i = some 1) (hc : a_cat st ≤ 8) : a_run d MX2_settles 30 L (.ref i :: st) h = a_cont d MX2_settles (a_bk MX2_settles 30 L st (a_call d MX2_untangles [.ref i] h)) := w_callV (as := [.ref i]) dX2_settles_30 rfl rfl rfl hc (a_rcv_of hk rfl)
theorem w_X2_settles_33 (d : Nat) (a0 a1 a2 a3 a4 a5 : Option Value) (x : Int32) (st : List Value) (h : a_H) : a_run d MX2_settles 33 [a0, a1, a2, a3, a4, a5] (.int x :: st) h = a_run d MX2_settles 35 [a0, a1, a2, a3, some (.int x), a5] st h := w_stI dX2_settles_33 (Nat.le_of_ble_eq_true rfl) rfl
theorem w_X2_settles_35 (d : Nat) (L : a_L) (st : List Value) (h : a_H) : a_run d MX2_settles 35 L st h = a_run d MX2_settles 53 L st h := w_goto dX2_settles_35 rfl
theorem w_X2_settles_38 (d : Nat) (a0 a2 a3 a4 a5 : Option Value) (x : Nat) (st : List Value) (h : a_H) : a_run d MX2_settles 38 [a0, some (.ref x), a2, a3, a4, a5] st h = a_run d MX2_settles 39 [a0, some (.ref x), a2, a3, a4, a5] (.ref x :: st) h := w_ldAn dX2_settles_38 rfl
theorem w_X2_settles_38N (d : Nat) (a0 a2 a3 a4 a5 : Option Value) (st : List Value) (h : a_H) : a_run d MX2_settles 38 [a0, some .null, a2, a3, a4, a5] st h = a_run d MX2_settles 39 [a0, some .null, a2, a3, a4, a5] (.null :: st) h := w_ldNn dX2_settles_38 rfl
theorem w_X2_settles_39 (d : Nat) (a0 a1 a2 a4 a5 : Option Value) (x : Int32) (st : List Value) (h : a_H) : a_run d MX2_settles 39 [a0, a1, a2, some (.int x), a4, a5] st h = a_run d MX2_settles 40 [a0, a1, a2, some (.int x), a4, a5] (.int x :: st) h := w_ldIn dX2_settles_39 rfl
theorem w_X2_settles_40 (d : Nat) (L : a_L) (st : List Value) (h : a_H) : a_run d MX2_settles 40 L st h = a_run d MX2_settles 41 L (.int (nI 3) :: st) h := w_iconst dX2_settles_40 rfl
theorem w_X2_settles_41 (d : Nat) (L : a_L) (x y : Int32) (st : List Value) (h : a_H) (hy : y ≠ 0) : a_run d MX2_settles 41 L (.int y :: .int x :: st) h = a_run d MX2_settles 42 L (.int (x - x / y * y) :: st) h := w_irem dX2_settles_41 hy
theorem w_X2_settles_42 (d : Nat) (L : a_L) (x : Int32) (st : List Value) (h : a_H) : a_run d MX2_settles 42 L (.int x :: st) h = if x = 0 then a_run d MX2_settles 45 L st h else a_run d MX2_settles 49 L st h := w_if_ne dX2_settles_42 rfl
theorem w_X2_settles_45 (d : Nat) (L : a_L) (st : List Value) (h : a_H) : a_run d MX2_settles 45 L st h = a_run d MX2_settles 46 L (.int (nI 1) :: st) h := w_iconst dX2_settles_45 rfl
theorem w_X2_settles_46 (d : Nat) (L : a_L) (st : List Value) (h : a_H) : a_run d MX2_settles 46 L st h = a_run d MX2_settles 50 L st h := w_goto dX2_settles_46 rfl
theorem w_X2_settles_49 (d : Nat) (L : a_L) (st : List Value) (h : a_H) : a_run d MX2_settles 49 L st h = a_run d MX2_settles 50 L (.int (nI 0) :: st) h := w_iconst dX2_settles_49 rfl
theorem w_X2_settles_50 (d : Nat) (L : a_L) (i : Nat) (v1 : Value) (st : List Value) (h : a_H) (hk : a_kls h i = some 1) (hc : a_cat st ≤ 8) : a_run d MX2_settles 50 L (v1 :: .ref i :: st) h = a_cont d MX2_settles (a_bk MX2_settles 50 L st (a_call d MX2_brushes [.ref i, v1] h)) := w_callV (as := [.ref i, v1]) dX2_settles_50 rfl rfl rfl hc (a_rcv_of hk rfl)
theorem w_X2_settles_53 (d : Nat) (a0 a2 a3 a4 a5 : Option Value) (x : Nat) (st : List Value) (h : a_H) : a_run d MX2_settles 53 [a0, some (.ref x), a2, a3, a4, a5] st h = a_run d MX2_settles 54 [a0, some (.ref x), a2, a3, a4, a5] (.ref x :: st) h := w_ldAn dX2_settles_53 rfl
theorem w_X2_settles_53N (d : Nat) (a0 a2 a3 a4 a5 : Option Value) (st : List Value) (h : a_H) : a_run d MX2_settles 53 [a0, some .null, a2, a3, a4, a5] st h = a_run d MX2_settles 54 [a0, some .null, a2, a3, a4, a5] (.null :: st) h := w_ldNn dX2_settles_53 rfl
theorem w_X2_settles_54 (d : Nat) (L : a_L) (i : Nat) (st : List Value) (h : a_H) (hk : a_kls h i = some 1) (hc : a_cat st ≤ 8) : a_run d MX2_settles 54 L (.ref i :: st) h = a_cont d MX2_settles (a_bk MX2_settles 54 L st (a_call d MX2_allCrossings [.ref i] h)) := w_callV (as := [.ref i]) dX2_settles_54 rfl rfl rfl hc (a_rcv_of hk rfl)
theorem w_X2_settles_57 (d : Nat) (a0 a1 a2 a3 a4 a5 : Option Value) (x : Int32) (st : List Value) (h : a_H) : a_run d MX2_settles 57 [a0, a1, a2, a3, a4, a5] (.int x :: st) h = a_run d MX2_settles 59 [a0, a1, a2, a3, some (.int x), a5] st h := w_stI dX2_settles_57 (Nat.le_of_ble_eq_true rfl) rfl
theorem w_X2_settles_59 (d : Nat) (L : a_L) (st : List Value) (h : a_H) : a_run d MX2_settles 59 L st h = a_run d MX2_settles 60 L (.int (nI 0) :: st) h := w_iconst dX2_settles_59 rfl
theorem w_X2_settles_60 (d : Nat) (a0 a1 a2 a3 a4 a5 : Option Value) (x : Int32) (st : List Value) (h : a_H) : a_run d MX2_settles 60 [a0, a1, a2, a3, a4, a5] (.int x :: st) h = a_run d MX2_settles 62 [a0, a1, a2, a3, a4, some (.int x)] st h := w_stI dX2_settles_60 (Nat.le_of_ble_eq_true rfl) rfl
theorem w_X2_settles_62 (d : Nat) (a0 a1 a2 a3 a4 : Option Value) (x : Int32) (st : List Value) (h : a_H) : a_run d MX2_settles 62 [a0, a1, a2, a3, a4, some (.int x)] st h = a_run d MX2_settles 64 [a0, a1, a2, a3, a4, some (.int x)] (.int x :: st) h := w_ldI dX2_settles_62 rfl
theorem w_X2_settles_64 (d : Nat) (a1 a2 a3 a4 a5 : Option Value) (x : Nat) (st : List Value) (h : a_H) : a_run d MX2_settles 64 [some (.ref x), a1, a2, a3, a4, a5] st h = a_run d MX2_settles 65 [some (.ref x), a1, a2, a3, a4, a5] (.ref x :: st) h := w_ldAn dX2_settles_64 rfl
theorem w_X2_settles_65 (d : Nat) (L : a_L) (i : Nat) (st : List Value) (h : a_H) : a_run d MX2_settles 65 L (.ref i :: st) h = (a_gf h i 4 [1]).bind fun v => a_run d MX2_settles 68 L (v :: st) h := w_getf dX2_settles_65 rfl
theorem w_X2_settles_68 (d : Nat) (L : a_L) (i : Nat) (st : List Value) (h : a_H) : a_run d MX2_settles 68 L (.ref i :: st) h = (a_len h i).bind fun v => a_run d MX2_settles 69 L (v :: st) h := w_alen dX2_settles_68
theorem w_X2_settles_69 (d : Nat) (L : a_L) (x y : Int32) (st : List Value) (h : a_H) : a_run d MX2_settles 69 L (.int y :: .int x :: st) h = if x < y then a_run d MX2_settles 72 L st h else a_run d MX2_settles 98 L st h := w_icmp_ge dX2_settles_69 rfl
theorem w_X2_settles_72 (d : Nat) (a0 a1 a2 a3 a5 : Option Value) (x : Int32) (st : List Value) (h : a_H) : a_run d MX2_settles 72 [a0, a1, a2, a3, some (.int x), a5] st h = a_run d MX2_settles 74 [a0, a1, a2, a3, some (.int x), a5] (.int x :: st) h := w_ldI dX2_settles_72 rfl
theorem w_X2_settles_74 (d : Nat) (a0 a1 a3 a4 a5 : Option Value) (x : Int32) (st : List Value) (h : a_H) : a_run d MX2_settles 74 [a0, a1, some (.int x), a3, a4, a5] st h = a_run d MX2_settles 75 [a0, a1, some (.int x), a3, a4, a5] (.int x :: st) h := w_ldIn dX2_settles_74 rfl
theorem w_X2_settles_75 (d : Nat) (L : a_L) (x y : Int32) (st : List Value) (h : a_H) : a_run d MX2_settles 75 L (.int y :: .int x :: st) h = if x < y then a_run d MX2_settles 78 L st h else a_run d MX2_settles 98 L st h := w_icmp_ge dX2_settles_75 rfl
theorem w_X2_settles_78 (d : Nat) (a1 a2 a3 a4 a5 : Option Value) (x : Nat) (st : List Value) (h : a_H) : a_run d MX2_settles 78 [some (.ref x), a1, a2, a3, a4, a5] st h = a_run d MX2_settles 79 [some (.ref x), a1, a2, a3, a4, a5] (.ref x :: st) h := w_ldAn dX2_settles_78 rfl
theorem w_X2_settles_79 (d : Nat) (L : a_L) (i : Nat) (st : List Value) (h : a_H) : a_run d MX2_settles 79 L (.ref i :: st) h = (a_gf h i 4 [1]).bind fun v => a_run d MX2_settles 82 L (v :: st) h := w_getf dX2_settles_79 rfl
theorem w_X2_settles_82 (d : Nat) (a0 a1 a2 a3 a4 : Option Value) (x : Int32) (st : List Value) (h : a_H) : a_run d MX2_settles 82 [a0, a1, a2, a3, a4, some (.int x)] st h = a_run d MX2_settles 84 [a0, a1, a2, a3, a4, some (.int x)] (.int x :: st) h := w_ldI dX2_settles_82 rfl
theorem w_X2_settles_84 (d : Nat) (a0 a2 a3 a4 a5 : Option Value) (x : Nat) (st : List Value) (h : a_H) : a_run d MX2_settles 84 [a0, some (.ref x), a2, a3, a4, a5] st h = a_run d MX2_settles 85 [a0, some (.ref x), a2, a3, a4, a5] (.ref x :: st) h := w_ldAn dX2_settles_84 rfl
theorem w_X2_settles_84N (d : Nat) (a0 a2 a3 a4 a5 : Option Value) (st : List Value) (h : a_H) : a_run d MX2_settles 84 [a0, some .null, a2, a3, a4, a5] st h = a_run d MX2_settles 85 [a0, some .null, a2, a3, a4, a5] (.null :: st) h := w_ldNn dX2_settles_84 rfl
theorem w_X2_settles_85 (d : Nat) (L : a_L) (i : Nat) (st : List Value) (h : a_H) : a_run d MX2_settles 85 L (.ref i :: st) h = (a_gf h i 4 [1]).bind fun v => a_run d MX2_settles 88 L (v :: st) h := w_getf dX2_settles_85 rfl
theorem w_X2_settles_88 (d : Nat) (a0 a1 a2 a3 a4 : Option Value) (x : Int32) (st : List Value) (h : a_H) : a_run d MX2_settles 88 [a0, a1, a2, a3, a4, some (.int x)] st h = a_run d MX2_settles 90 [a0, a1, a2, a3, a4, some (.int x)] (.int x :: st) h := w_ldI dX2_settles_88 rfl
theorem w_X2_settles_90 (d : Nat) (L : a_L) (x : Int32) (i : Nat) (st : List Value) (h : a_H) : a_run d MX2_settles 90 L (.int x :: .ref i :: st) h = (a_rdi h i a_int x).bind fun v => a_run d MX2_settles 91 L (v :: st) h := w_iald dX2_settles_90
theorem w_X2_settles_91 (d : Nat) (L : a_L) (x y : Int32) (i : Nat) (st : List Value) (h : a_H) : a_run d MX2_settles 91 L (.int y :: .int x :: .ref i :: st) h = (a_wri h i a_int x y).bind fun h' => a_run d MX2_settles 92 L st h' := w_iast dX2_settles_91
theorem w_X2_settles_92 (d : Nat) (a0 a1 a2 a3 a4 : Option Value) (x : Int32) (st : List Value) (h : a_H) : a_run d MX2_settles 92 [a0, a1, a2, a3, a4, some (.int x)] st h = a_run d MX2_settles 95 [a0, a1, a2, a3, a4, some (.int (x + nI 1))] st h := w_incL dX2_settles_92 rfl rfl rfl
theorem w_X2_settles_95 (d : Nat) (L : a_L) (st : List Value) (h : a_H) : a_run d MX2_settles 95 L st h = a_run d MX2_settles 62 L st h := w_goto dX2_settles_95 rfl
theorem w_X2_settles_98 (d : Nat) (a0 a1 a3 a4 a5 : Option Value) (x : Int32) (st : List Value) (h : a_H) : a_run d MX2_settles 98 [a0, a1, some (.int x), a3, a4, a5] st h = a_run d MX2_settles 99 [a0, a1, some (.int x), a3, a4, a5] (.int x :: st) h := w_ldIn dX2_settles_98 rfl
theorem w_X2_settles_99 (d : Nat) (a0 a1 a2 a3 a5 : Option Value) (x : Int32) (st : List Value) (h : a_H) : a_run d MX2_settles 99 [a0, a1, a2, a3, some (.int x), a5] st h = a_run d MX2_settles 101 [a0, a1, a2, a3, some (.int x), a5] (.int x :: st) h := w_ldI dX2_settles_99 rfl
theorem w_X2_settles_101 (d : Nat) (L : a_L) (x y : Int32) (st : List Value) (h : a_H) (hc : a_cat st ≤ 8) : a_run d MX2_settles 101 L (.int y :: .int x :: st) h = a_run d MX2_settles 104 L (.int (if y < x then y else x) :: st) h := w_min dX2_settles_101 rfl hc
theorem w_X2_settles_104 (d : Nat) (a0 a1 a2 a3 a4 a5 : Option Value) (x : Int32) (st : List Value) (h : a_H) : a_run d MX2_settles 104 [a0, a1, a2, a3, a4, a5] (.int x :: st) h = a_run d MX2_settles 105 [a0, a1, some (.int x), a3, a4, a5] st h := w_stIn dX2_settles_104 (Nat.le_of_ble_eq_true rfl) rfl
theorem w_X2_settles_105 (d : Nat) (a0 a1 a2 a4 a5 : Option Value) (x : Int32) (st : List Value) (h : a_H) : a_run d MX2_settles 105 [a0, a1, a2, some (.int x), a4, a5] st h = a_run d MX2_settles 108 [a0, a1, a2, some (.int (x + nI 1)), a4, a5] st h := w_incL dX2_settles_105 rfl rfl rfl
theorem w_X2_settles_108 (d : Nat) (L : a_L) (st : List Value) (h : a_H) : a_run d MX2_settles 108 L st h = a_run d MX2_settles 16 L st h := w_goto dX2_settles_108 rfl
theorem w_X2_settles_111 (d : Nat) (a0 a1 a3 a4 a5 : Option Value) (x : Int32) (st : List Value) (h : a_H) : a_run d MX2_settles 111 [a0, a1, some (.int x), a3, a4, a5] st h = a_run d MX2_settles 112 [a0, a1, some (.int x), a3, a4, a5] (.int x :: st) h := w_ldIn dX2_settles_111 rfl
theorem w_X2_settles_112 (d : Nat) (L : a_L) (x : Int32) (h : a_H) : a_run d MX2_settles 112 L [.int x] h = some (.inl (some (.int x)), h) := w_iret dX2_settles_112 (w_retI rfl)
theorem e_X2_needlessOnes (d : Nat) (x0 : Nat) (h : a_H) : a_call (d + 1) MX2_needlessOnes [.ref x0] h = a_run d MX2_needlessOnes 0 [some (.ref x0), none, none] [] h := a_call_run rfl (Nat.le_of_ble_eq_true rfl) rfl
theorem w_X2_needlessOnes_0 (d : Nat) (L : a_L) (st : List Value) (h : a_H) : a_run d MX2_needlessOnes 0 L st h = a_run d MX2_needlessOnes 1 L (.int (nI 0) :: st) h := w_iconst dX2_needlessOnes_0 rfl
theorem w_X2_needlessOnes_1 (d : Nat) (a0 a1 a2 : Option Value) (x : Int32) (st : List Value) (h : a_H) : a_run d MX2_needlessOnes 1 [a0, a1, a2] (.int x :: st) h = a_run d MX2_needlessOnes 2 [a0, some (.int x), a2] st h := w_stIn dX2_needlessOnes_1 (Nat.le_of_ble_eq_true rfl) rfl
theorem w_X2_needlessOnes_2 (d : Nat) (L : a_L) (st : List Value) (h : a_H) : a_run d MX2_needlessOnes 2 L st h = a_run d MX2_needlessOnes 3 L (.int (nI 0) :: st) h := w_iconst dX2_needlessOnes_2 rfl
theorem w_X2_needlessOnes_3 (d : Nat) (a0 a1 a2 : Option Value) (x : Int32) (st : List Value) (h : a_H) : a_run d MX2_needlessOnes 3 [a0, a1, a2] (.int x :: st) h = a_run d MX2_needlessOnes 4 [a0, a1, some (.int x)] st h := w_stIn dX2_needlessOnes_3 (Nat.le_of_ble_eq_true rfl) rfl
theorem w_X2_needlessOnes_4 (d : Nat) (a0 a1 : Option Value) (x : Int32) (st : List Value) (h : a_H) : a_run d MX2_needlessOnes 4 [a0, a1, some (.int x)] st h = a_run d MX2_needlessOnes 5 [a0, a1, some (.int x)] (.int x :: st) h := w_ldIn dX2_needlessOnes_4 rfl
theorem w_X2_needlessOnes_5 (d : Nat) (a1 a2 : Option Value) (x : Nat) (st : List Value) (h : a_H) : a_run d MX2_needlessOnes 5 [some (.ref x), a1, a2] st h = a_run d MX2_needlessOnes 6 [some (.ref x), a1, a2] (.ref x :: st) h := w_ldAn dX2_needlessOnes_5 rfl
theorem w_X2_needlessOnes_6 (d : Nat) (L : a_L) (i : Nat) (st : List Value) (h : a_H) : a_run d MX2_needlessOnes 6 L (.ref i :: st) h = (a_gf h i 12 [1]).bind fun v => a_run d MX2_needlessOnes 9 L (v :: st) h := w_getf dX2_needlessOnes_6 rfl
theorem w_X2_needlessOnes_9 (d : Nat) (L : a_L) (x y : Int32) (st : List Value) (h : a_H) : a_run d MX2_needlessOnes 9 L (.int y :: .int x :: st) h = if x < y then a_run d MX2_needlessOnes 12 L st h else a_run d MX2_needlessOnes 46 L st h := w_icmp_ge dX2_needlessOnes_9 rfl
theorem w_X2_needlessOnes_12 (d : Nat) (a0 a2 : Option Value) (x : Int32) (st : List Value) (h : a_H) : a_run d MX2_needlessOnes 12 [a0, some (.int x), a2] st h = a_run d MX2_needlessOnes 13 [a0, some (.int x), a2] (.int x :: st) h := w_ldIn dX2_needlessOnes_12 rfl
theorem w_X2_needlessOnes_13 (d : Nat) (a1 a2 : Option Value) (x : Nat) (st : List Value) (h : a_H) : a_run d MX2_needlessOnes 13 [some (.ref x), a1, a2] st h = a_run d MX2_needlessOnes 14 [some (.ref x), a1, a2] (.ref x :: st) h := w_ldAn dX2_needlessOnes_13 rfl
theorem w_X2_needlessOnes_14 (d : Nat) (a1 a2 : Option Value) (x : Nat) (st : List Value) (h : a_H) : a_run d MX2_needlessOnes 14 [some (.ref x), a1, a2] st h = a_run d MX2_needlessOnes 15 [some (.ref x), a1, a2] (.ref x :: st) h := w_ldAn dX2_needlessOnes_14 rfl
theorem w_X2_needlessOnes_15 (d : Nat) (L : a_L) (i : Nat) (st : List Value) (h : a_H) : a_run d MX2_needlessOnes 15 L (.ref i :: st) h = (a_gf h i 1 [1]).bind fun v => a_run d MX2_needlessOnes 18 L (v :: st) h := w_getf dX2_needlessOnes_15 rfl
theorem w_X2_needlessOnes_18 (d : Nat) (a0 a1 : Option Value) (x : Int32) (st : List Value) (h : a_H) : a_run d MX2_needlessOnes 18 [a0, a1, some (.int x)] st h = a_run d MX2_needlessOnes 19 [a0, a1, some (.int x)] (.int x :: st) h := w_ldIn dX2_needlessOnes_18 rfl
theorem w_X2_needlessOnes_19 (d : Nat) (L : a_L) (x : Int32) (i : Nat) (st : List Value) (h : a_H) : a_run d MX2_needlessOnes 19 L (.int x :: .ref i :: st) h = (a_rdi h i a_int x).bind fun v => a_run d MX2_needlessOnes 20 L (v :: st) h := w_iald dX2_needlessOnes_19
theorem w_X2_needlessOnes_20 (d : Nat) (a1 a2 : Option Value) (x : Nat) (st : List Value) (h : a_H) : a_run d MX2_needlessOnes 20 [some (.ref x), a1, a2] st h = a_run d MX2_needlessOnes 21 [some (.ref x), a1, a2] (.ref x :: st) h := w_ldAn dX2_needlessOnes_20 rfl
theorem w_X2_needlessOnes_21 (d : Nat) (L : a_L) (i : Nat) (st : List Value) (h : a_H) : a_run d MX2_needlessOnes 21 L (.ref i :: st) h = (a_gf h i 0 [1]).bind fun v => a_run d MX2_needlessOnes 24 L (v :: st) h := w_getf dX2_needlessOnes_21 rfl
theorem w_X2_needlessOnes_24 (d : Nat) (a0 a1 : Option Value) (x : Int32) (st : List Value) (h : a_H) : a_run d MX2_needlessOnes 24 [a0, a1, some (.int x)] st h = a_run d MX2_needlessOnes 25 [a0, a1, some (.int x)] (.int x :: st) h := w_ldIn dX2_needlessOnes_24 rfl
theorem w_X2_needlessOnes_25 (d : Nat) (L : a_L) (x : Int32) (i : Nat) (st : List Value) (h : a_H) : a_run d MX2_needlessOnes 25 L (.int x :: .ref i :: st) h = (a_rdi h i a_int x).bind fun v => a_run d MX2_needlessOnes 26 L (v :: st) h := w_iald dX2_needlessOnes_25
theorem w_X2_needlessOnes_26 (d : Nat) (a0 a1 : Option Value) (x : Int32) (st : List Value) (h : a_H) : a_run d MX2_needlessOnes 26 [a0, a1, some (.int x)] st h = a_run d MX2_needlessOnes 27 [a0, a1, some (.int x)] (.int x :: st) h := w_ldIn dX2_needlessOnes_26 rfl
theorem w_X2_needlessOnes_27 (d : Nat) (L : a_L) (i : Nat) (v1 v2 v3 : Value) (st : List Value) (h : a_H) (hk : a_kls h i = some 1) (hc : a_cat st ≤ 8) : a_run d MX2_needlessOnes 27 L (v3 :: v2 :: v1 :: .ref i :: st) h = a_cont d MX2_needlessOnes (a_bk MX2_needlessOnes 27 L st (a_call d MX2_listens [.ref i, v1, v2, v3] h)) := w_callV (as := [.ref i, v1, v2, v3]) dX2_needlessOnes_27 rfl rfl rfl hc (a_rcv_of hk rfl)
theorem w_X2_needlessOnes_30 (d : Nat) (L : a_L) (x : Int32) (st : List Value) (h : a_H) : a_run d MX2_needlessOnes 30 L (.int x :: st) h = if x = 0 then a_run d MX2_needlessOnes 37 L st h else a_run d MX2_needlessOnes 33 L st h := w_if_eq dX2_needlessOnes_30 rfl
theorem w_X2_needlessOnes_33 (d : Nat) (L : a_L) (st : List Value) (h : a_H) : a_run d MX2_needlessOnes 33 L st h = a_run d MX2_needlessOnes 34 L (.int (nI 1) :: st) h := w_iconst dX2_needlessOnes_33 rfl
theorem w_X2_needlessOnes_34 (d : Nat) (L : a_L) (st : List Value) (h : a_H) : a_run d MX2_needlessOnes 34 L st h = a_run d MX2_needlessOnes 38 L st h := w_goto dX2_needlessOnes_34 rfl
theorem w_X2_needlessOnes_37 (d : Nat) (L : a_L) (st : List Value) (h : a_H) : a_run d MX2_needlessOnes 37 L st h = a_run d MX2_needlessOnes 38 L (.int (nI 0) :: st) h := w_iconst dX2_needlessOnes_37 rfl
theorem w_X2_needlessOnes_38 (d : Nat) (L : a_L) (x y : Int32) (st : List Value) (h : a_H) : a_run d MX2_needlessOnes 38 L (.int y :: .int x :: st) h = a_run d MX2_needlessOnes 39 L (.int (x + y) :: st) h := w_iadd dX2_needlessOnes_38
theorem w_X2_needlessOnes_39 (d : Nat) (a0 a1 a2 : Option Value) (x : Int32) (st : List Value) (h : a_H) : a_run d MX2_needlessOnes 39 [a0, a1, a2] (.int x :: st) h = a_run d MX2_needlessOnes 40 [a0, some (.int x), a2] st h := w_stIn dX2_needlessOnes_39 (Nat.le_of_ble_eq_true rfl) rfl
theorem w_X2_needlessOnes_40 (d : Nat) (a0 a1 : Option Value) (x : Int32) (st : List Value) (h : a_H) : a_run d MX2_needlessOnes 40 [a0, a1, some (.int x)] st h = a_run d MX2_needlessOnes 43 [a0, a1, some (.int (x + nI 1))] st h := w_incL dX2_needlessOnes_40 rfl rfl rfl
theorem w_X2_needlessOnes_43 (d : Nat) (L : a_L) (st : List Value) (h : a_H) : a_run d MX2_needlessOnes 43 L st h = a_run d MX2_needlessOnes 4 L st h := w_goto dX2_needlessOnes_43 rfl
theorem w_X2_needlessOnes_46 (d : Nat) (a0 a2 : Option Value) (x : Int32) (st : List Value) (h : a_H) : a_run d MX2_needlessOnes 46 [a0, some (.int x), a2] st h = a_run d MX2_needlessOnes 47 [a0, some (.int x), a2] (.int x :: st) h := w_ldIn dX2_needlessOnes_46 rfl
theorem w_X2_needlessOnes_47 (d : Nat) (L : a_L) (x : Int32) (h : a_H) : a_run d MX2_needlessOnes 47 L [.int x] h = some (.inl (some (.int x)), h) := w_iret dX2_needlessOnes_47 (w_retI rfl)
theorem e_X2_endBoxes (d : Nat) (x0 : Nat) (x1 : Int32) (h : a_H) : a_call (d + 1) MX2_endBoxes [.ref x0, .int x1] h = a_run d MX2_endBoxes 0 [some (.ref x0), some (.int x1), none, none] [] h := a_call_run rfl (Nat.le_of_ble_eq_true rfl) rfl
theorem w_X2_endBoxes_0 (d : Nat) (L : a_L) (st : List Value) (h : a_H) : a_run d MX2_endBoxes 0 L st h = a_run d MX2_endBoxes 1 L (.int (nI 1) :: st) h := w_iconst dX2_endBoxes_0 rfl
theorem w_X2_endBoxes_1 (d : Nat) (a1 a2 a3 : Option Value) (x : Nat) (st : List Value) (h : a_H) : a_run d MX2_endBoxes 1 [some (.ref x), a1, a2, a3] st h = a_run d MX2_endBoxes 2 [some (.ref x), a1, a2, a3] (.ref x :: st) h := w_ldAn dX2_endBoxes_1 rfl
theorem w_X2_endBoxes_2 (d : Nat) (L : a_L) (i : Nat) (st : List Value) (h : a_H) : a_run d MX2_endBoxes 2 L (.ref i :: st) h = (a_gf h i 11 [1]).bind fun v => a_run d MX2_endBoxes 5 L (v :: st) h := w_getf dX2_endBoxes_2 rfl
theorem w_X2_endBoxes_5 (d : Nat) (L : a_L) (x y : Int32) (st : List Value) (h : a_H) : a_run d MX2_endBoxes 5 L (.int y :: .int x :: st) h = a_run d MX2_endBoxes 6 L (.int (x <<< (y &&& 31)) :: st) h := w_ishl dX2_endBoxes_5
theorem w_X2_endBoxes_6 (d : Nat) (L : a_L) (st : List Value) (h : a_H) : a_run d MX2_endBoxes 6 L st h = a_run d MX2_endBoxes 7 L (.int (nI 1) :: st) h := w_iconst dX2_endBoxes_6 rfl
theorem w_X2_endBoxes_7 (d : Nat) (L : a_L) (x y : Int32) (st : List Value) (h : a_H) : a_run d MX2_endBoxes 7 L (.int y :: .int x :: st) h = a_run d MX2_endBoxes 8 L (.int (x - y) :: st) h := w_isub dX2_endBoxes_7
theorem w_X2_endBoxes_8 (d : Nat) (a0 a1 a2 a3 : Option Value) (x : Int32) (st : List Value) (h : a_H) : a_run d MX2_endBoxes 8 [a0, a1, a2, a3] (.int x :: st) h = a_run d MX2_endBoxes 9 [a0, a1, some (.int x), a3] st h := w_stIn dX2_endBoxes_8 (Nat.le_of_ble_eq_true rfl) rfl
theorem w_X2_endBoxes_9 (d : Nat) (L : a_L) (st : List Value) (h : a_H) : a_run d MX2_endBoxes 9 L st h = a_run d MX2_endBoxes 10 L (.int (nI 0) :: st) h := w_iconst dX2_endBoxes_9 rfl
theorem w_X2_endBoxes_10 (d : Nat) (a0 a1 a2 a3 : Option Value) (x : Int32) (st : List Value) (h : a_H) : a_run d MX2_endBoxes 10 [a0, a1, a2, a3] (.int x :: st) h = a_run d MX2_endBoxes 11 [a0, a1, a2, some (.int x)] st h := w_stIn dX2_endBoxes_10 (Nat.le_of_ble_eq_true rfl) rfl
theorem w_X2_endBoxes_11 (d : Nat) (a0 a1 a2 : Option Value) (x : Int32) (st : List Value) (h : a_H) : a_run d MX2_endBoxes 11 [a0, a1, a2, some (.int x)] st h = a_run d MX2_endBoxes 12 [a0, a1, a2, some (.int x)] (.int x :: st) h := w_ldIn dX2_endBoxes_11 rfl
theorem w_X2_endBoxes_12 (d : Nat) (a1 a2 a3 : Option Value) (x : Nat) (st : List Value) (h : a_H) : a_run d MX2_endBoxes 12 [some (.ref x), a1, a2, a3] st h = a_run d MX2_endBoxes 13 [some (.ref x), a1, a2, a3] (.ref x :: st) h := w_ldAn dX2_endBoxes_12 rfl
theorem w_X2_endBoxes_13 (d : Nat) (L : a_L) (i : Nat) (st : List Value) (h : a_H) : a_run d MX2_endBoxes 13 L (.ref i :: st) h = (a_gf h i 12 [1]).bind fun v => a_run d MX2_endBoxes 16 L (v :: st) h := w_getf dX2_endBoxes_13 rfl
theorem w_X2_endBoxes_16 (d : Nat) (L : a_L) (x y : Int32) (st : List Value) (h : a_H) : a_run d MX2_endBoxes 16 L (.int y :: .int x :: st) h = if x < y then a_run d MX2_endBoxes 19 L st h else a_run d MX2_endBoxes 51 L st h := w_icmp_ge dX2_endBoxes_16 rfl
theorem w_X2_endBoxes_19 (d : Nat) (a0 a1 a3 : Option Value) (x : Int32) (st : List Value) (h : a_H) : a_run d MX2_endBoxes 19 [a0, a1, some (.int x), a3] st h = a_run d MX2_endBoxes 20 [a0, a1, some (.int x), a3] (.int x :: st) h := w_ldIn dX2_endBoxes_19 rfl
theorem w_X2_endBoxes_20 (d : Nat) (L : a_L) (st : List Value) (h : a_H) : a_run d MX2_endBoxes 20 L st h = a_run d MX2_endBoxes 21 L (.int (nI 1) :: st) h := w_iconst dX2_endBoxes_20 rfl
theorem w_X2_endBoxes_21 (d : Nat) (a0 a2 a3 : Option Value) (x : Int32) (st : List Value) (h : a_H) : a_run d MX2_endBoxes 21 [a0, some (.int x), a2, a3] st h = a_run d MX2_endBoxes 22 [a0, some (.int x), a2, a3] (.int x :: st) h := w_ldIn dX2_endBoxes_21 rfl
theorem w_X2_endBoxes_22 (d : Nat) (L : a_L) (x : Int32) (st : List Value) (h : a_H) : a_run d MX2_endBoxes 22 L (.int x :: st) h = if x = 0 then a_run d MX2_endBoxes 34 L st h else a_run d MX2_endBoxes 25 L st h := w_if_eq dX2_endBoxes_22 rfl
theorem w_X2_endBoxes_25 (d : Nat) (a1 a2 a3 : Option Value) (x : Nat) (st : List Value) (h : a_H) : a_run d MX2_endBoxes 25 [some (.ref x), a1, a2, a3] st h = a_run d MX2_endBoxes 26 [some (.ref x), a1, a2, a3] (.ref x :: st) h := w_ldAn dX2_endBoxes_25 rfl
theorem w_X2_endBoxes_26 (d : Nat) (L : a_L) (i : Nat) (st : List Value) (h : a_H) : a_run d MX2_endBoxes 26 L (.ref i :: st) h = (a_gf h i 1 [1]).bind fun v => a_run d MX2_endBoxes 29 L (v :: st) h := w_getf dX2_endBoxes_26 rfl
theorem w_X2_endBoxes_29 (d : Nat) (a0 a1 a2 : Option Value) (x : Int32) (st : List Value) (h : a_H) : a_run d MX2_endBoxes 29 [a0, a1, a2, some (.int x)] st h = a_run d MX2_endBoxes 30 [a0, a1, a2, some (.int x)] (.int x :: st) h := w_ldIn dX2_endBoxes_29 rfl
theorem w_X2_endBoxes_30 (d : Nat) (L : a_L) (x : Int32) (i : Nat) (st : List Value) (h : a_H) : a_run d MX2_endBoxes 30 L (.int x :: .ref i :: st) h = (a_rdi h i a_int x).bind fun v => a_run d MX2_endBoxes 31 L (v :: st) h := w_iald dX2_endBoxes_30
theorem w_X2_endBoxes_31 (d : Nat) (L : a_L) (st : List Value) (h : a_H) : a_run d MX2_endBoxes 31 L st h = a_run d MX2_endBoxes 40 L st h := w_goto dX2_endBoxes_31 rfl
theorem w_X2_endBoxes_34 (d : Nat) (a1 a2 a3 : Option Value) (x : Nat) (st : List Value) (h : a_H) : a_run d MX2_endBoxes 34 [some (.ref x), a1, a2, a3] st h = a_run d MX2_endBoxes 35 [some (.ref x), a1, a2, a3] (.ref x :: st) h := w_ldAn dX2_endBoxes_34 rfl
theorem w_X2_endBoxes_35 (d : Nat) (L : a_L) (i : Nat) (st : List Value) (h : a_H) : a_run d MX2_endBoxes 35 L (.ref i :: st) h = (a_gf h i 0 [1]).bind fun v => a_run d MX2_endBoxes 38 L (v :: st) h := w_getf dX2_endBoxes_35 rfl
theorem w_X2_endBoxes_38 (d : Nat) (a0 a1 a2 : Option Value) (x : Int32) (st : List Value) (h : a_H) : a_run d MX2_endBoxes 38 [a0, a1, a2, some (.int x)] st h = a_run d MX2_endBoxes 39 [a0, a1, a2, some (.int x)] (.int x :: st) h := w_ldIn dX2_endBoxes_38 rfl
theorem w_X2_endBoxes_39 (d : Nat) (L : a_L) (x : Int32) (i : Nat) (st : List Value) (h : a_H) : a_run d MX2_endBoxes 39 L (.int x :: .ref i :: st) h = (a_rdi h i a_int x).bind fun v => a_run d MX2_endBoxes 40 L (v :: st) h := w_iald dX2_endBoxes_39
theorem w_X2_endBoxes_40 (d : Nat) (L : a_L) (x y : Int32) (st : List Value) (h : a_H) : a_run d MX2_endBoxes 40 L (.int y :: .int x :: st) h = a_run d MX2_endBoxes 41 L (.int (x <<< (y &&& 31)) :: st) h := w_ishl dX2_endBoxes_40
theorem w_X2_endBoxes_41 (d : Nat) (L : a_L) (st : List Value) (h : a_H) : a_run d MX2_endBoxes 41 L st h = a_run d MX2_endBoxes 42 L (.int ((-1)) :: st) h := w_iconst dX2_endBoxes_41 rfl
theorem w_X2_endBoxes_42 (d : Nat) (L : a_L) (x y : Int32) (st : List Value) (h : a_H) : a_run d MX2_endBoxes 42 L (.int y :: .int x :: st) h = a_run d MX2_endBoxes 43 L (.int (x ^^^ y) :: st) h := w_ixor dX2_endBoxes_42
theorem w_X2_endBoxes_43 (d : Nat) (L : a_L) (x y : Int32) (st : List Value) (h : a_H) : a_run d MX2_endBoxes 43 L (.int y :: .int x :: st) h = a_run d MX2_endBoxes 44 L (.int (x &&& y) :: st) h := w_iand dX2_endBoxes_43
theorem w_X2_endBoxes_44 (d : Nat) (a0 a1 a2 a3 : Option Value) (x : Int32) (st : List Value) (h : a_H) : a_run d MX2_endBoxes 44 [a0, a1, a2, a3] (.int x :: st) h = a_run d MX2_endBoxes 45 [a0, a1, some (.int x), a3] st h := w_stIn dX2_endBoxes_44 (Nat.le_of_ble_eq_true rfl) rfl
theorem w_X2_endBoxes_45 (d : Nat) (a0 a1 a2 : Option Value) (x : Int32) (st : List Value) (h : a_H) : a_run d MX2_endBoxes 45 [a0, a1, a2, some (.int x)] st h = a_run d MX2_endBoxes 48 [a0, a1, a2, some (.int (x + nI 1))] st h := w_incL dX2_endBoxes_45 rfl rfl rfl
theorem w_X2_endBoxes_48 (d : Nat) (L : a_L) (st : List Value) (h : a_H) : a_run d MX2_endBoxes 48 L st h = a_run d MX2_endBoxes 11 L st h := w_goto dX2_endBoxes_48 rfl
theorem w_X2_endBoxes_51 (d : Nat) (a0 a1 a3 : Option Value) (x : Int32) (st : List Value) (h : a_H) : a_run d MX2_endBoxes 51 [a0, a1, some (.int x), a3] st h = a_run d MX2_endBoxes 52 [a0, a1, some (.int x), a3] (.int x :: st) h := w_ldIn dX2_endBoxes_51 rfl
theorem w_X2_endBoxes_52 (d : Nat) (L : a_L) (x : Int32) (h : a_H) : a_run d MX2_endBoxes 52 L [.int x] h = some (.inl (some (.int x)), h) := w_iret dX2_endBoxes_52 (w_retI rfl)
theorem e_X2_pointCount (d : Nat) (x0 : Nat) (h : a_H) : a_call (d + 1) MX2_pointCount [.ref x0] h = a_run d MX2_pointCount 0 [some (.ref x0), none, none] [] h := a_call_run rfl (Nat.le_of_ble_eq_true rfl) rfl
theorem w_X2_pointCount_0 (d : Nat) (L : a_L) (st : List Value) (h : a_H) : a_run d MX2_pointCount 0 L st h = a_run d MX2_pointCount 1 L (.int (nI 0) :: st) h := w_iconst dX2_pointCount_0 rfl
theorem w_X2_pointCount_1 (d : Nat) (a0 a1 a2 : Option Value) (x : Int32) (st : List Value) (h : a_H) : a_run d MX2_pointCount 1 [a0, a1, a2] (.int x :: st) h = a_run d MX2_pointCount 2 [a0, some (.int x), a2] st h := w_stIn dX2_pointCount_1 (Nat.le_of_ble_eq_true rfl) rfl
theorem w_X2_pointCount_2 (d : Nat) (L : a_L) (st : List Value) (h : a_H) : a_run d MX2_pointCount 2 L st h = a_run d MX2_pointCount 3 L (.int (nI 0) :: st) h := w_iconst dX2_pointCount_2 rfl
theorem w_X2_pointCount_3 (d : Nat) (a0 a1 a2 : Option Value) (x : Int32) (st : List Value) (h : a_H) : a_run d MX2_pointCount 3 [a0, a1, a2] (.int x :: st) h = a_run d MX2_pointCount 4 [a0, a1, some (.int x)] st h := w_stIn dX2_pointCount_3 (Nat.le_of_ble_eq_true rfl) rfl
theorem w_X2_pointCount_4 (d : Nat) (a0 a1 : Option Value) (x : Int32) (st : List Value) (h : a_H) : a_run d MX2_pointCount 4 [a0, a1, some (.int x)] st h = a_run d MX2_pointCount 5 [a0, a1, some (.int x)] (.int x :: st) h := w_ldIn dX2_pointCount_4 rfl
theorem w_X2_pointCount_5 (d : Nat) (a1 a2 : Option Value) (x : Nat) (st : List Value) (h : a_H) : a_run d MX2_pointCount 5 [some (.ref x), a1, a2] st h = a_run d MX2_pointCount 6 [some (.ref x), a1, a2] (.ref x :: st) h := w_ldAn dX2_pointCount_5 rfl
theorem w_X2_pointCount_6 (d : Nat) (L : a_L) (i : Nat) (st : List Value) (h : a_H) : a_run d MX2_pointCount 6 L (.ref i :: st) h = (a_gf h i 13 [1]).bind fun v => a_run d MX2_pointCount 9 L (v :: st) h := w_getf dX2_pointCount_6 rfl
theorem w_X2_pointCount_9 (d : Nat) (L : a_L) (x y : Int32) (st : List Value) (h : a_H) : a_run d MX2_pointCount 9 L (.int y :: .int x :: st) h = if x < y then a_run d MX2_pointCount 12 L st h else a_run d MX2_pointCount 27 L st h := w_icmp_ge dX2_pointCount_9 rfl
theorem w_X2_pointCount_12 (d : Nat) (a0 a2 : Option Value) (x : Int32) (st : List Value) (h : a_H) : a_run d MX2_pointCount 12 [a0, some (.int x), a2] st h = a_run d MX2_pointCount 13 [a0, some (.int x), a2] (.int x :: st) h := w_ldIn dX2_pointCount_12 rfl
theorem w_X2_pointCount_13 (d : Nat) (a1 a2 : Option Value) (x : Nat) (st : List Value) (h : a_H) : a_run d MX2_pointCount 13 [some (.ref x), a1, a2] st h = a_run d MX2_pointCount 14 [some (.ref x), a1, a2] (.ref x :: st) h := w_ldAn dX2_pointCount_13 rfl
theorem w_X2_pointCount_14 (d : Nat) (L : a_L) (i : Nat) (st : List Value) (h : a_H) : a_run d MX2_pointCount 14 L (.ref i :: st) h = (a_gf h i 5 [1]).bind fun v => a_run d MX2_pointCount 17 L (v :: st) h := w_getf dX2_pointCount_14 rfl
theorem w_X2_pointCount_17 (d : Nat) (a0 a1 : Option Value) (x : Int32) (st : List Value) (h : a_H) : a_run d MX2_pointCount 17 [a0, a1, some (.int x)] st h = a_run d MX2_pointCount 18 [a0, a1, some (.int x)] (.int x :: st) h := w_ldIn dX2_pointCount_17 rfl
theorem w_X2_pointCount_18 (d : Nat) (L : a_L) (x : Int32) (i : Nat) (st : List Value) (h : a_H) : a_run d MX2_pointCount 18 L (.int x :: .ref i :: st) h = (a_rdi h i a_int x).bind fun v => a_run d MX2_pointCount 19 L (v :: st) h := w_iald dX2_pointCount_18
theorem w_X2_pointCount_19 (d : Nat) (L : a_L) (x y : Int32) (st : List Value) (h : a_H) : a_run d MX2_pointCount 19 L (.int y :: .int x :: st) h = a_run d MX2_pointCount 20 L (.int (x + y) :: st) h := w_iadd dX2_pointCount_19
theorem w_X2_pointCount_20 (d : Nat) (a0 a1 a2 : Option Value) (x : Int32) (st : List Value) (h : a_H) : a_run d MX2_pointCount 20 [a0, a1, a2] (.int x :: st) h = a_run d MX2_pointCount 21 [a0, some (.int x), a2] st h := w_stIn dX2_pointCount_20 (Nat.le_of_ble_eq_true rfl) rfl
theorem w_X2_pointCount_21 (d : Nat) (a0 a1 : Option Value) (x : Int32) (st : List Value) (h : a_H) : a_run d MX2_pointCount 21 [a0, a1, some (.int x)] st h = a_run d MX2_pointCount 24 [a0, a1, some (.int (x + nI 1))] st h := w_incL dX2_pointCount_21 rfl rfl rfl
theorem w_X2_pointCount_24 (d : Nat) (L : a_L) (st : List Value) (h : a_H) : a_run d MX2_pointCount 24 L st h = a_run d MX2_pointCount 4 L st h := w_goto dX2_pointCount_24 rfl
theorem w_X2_pointCount_27 (d : Nat) (a0 a2 : Option Value) (x : Int32) (st : List Value) (h : a_H) : a_run d MX2_pointCount 27 [a0, some (.int x), a2] st h = a_run d MX2_pointCount 28 [a0, some (.int x), a2] (.int x :: st) h := w_ldIn dX2_pointCount_27 rfl
theorem w_X2_pointCount_28 (d : Nat) (L : a_L) (x : Int32) (h : a_H) : a_run d MX2_pointCount 28 L [.int x] h = some (.inl (some (.int x)), h) := w_iret dX2_pointCount_28 (w_retI rfl)
theorem e_X2_putIn (d : Nat) (x0 : Nat) (x1 : Int32) (h : a_H) : a_call (d + 1) MX2_putIn [.ref x0, .int x1] h = a_run d MX2_putIn 0 [some (.ref x0), some (.int x1), none, none, none, none, none, none] [] h := a_call_run rfl (Nat.le_of_ble_eq_true rfl) rfl
theorem w_X2_putIn_0 (d : Nat) (a1 a2 a3 a4 a5 a6 a7 : Option Value) (x : Nat) (st : List Value) (h : a_H) : a_run d MX2_putIn 0 [some (.ref x), a1, a2, a3, a4, a5, a6, a7] st h = a_run d MX2_putIn 1 [some (.ref x), a1, a2, a3, a4, a5, a6, a7] (.ref x :: st) h := w_ldAn dX2_putIn_0 rfl
theorem w_X2_putIn_1 (d : Nat) (a0 a2 a3 a4 a5 a6 a7 : Option Value) (x : Int32) (st : List Value) (h : a_H) : a_run d MX2_putIn 1 [a0, some (.int x), a2, a3, a4, a5, a6, a7] st h = a_run d MX2_putIn 2 [a0, some (.int x), a2, a3, a4, a5, a6, a7] (.int x :: st) h := w_ldIn dX2_putIn_1 rfl
theorem w_X2_putIn_2 (d : Nat) (L : a_L) (i : Nat) (v1 : Value) (st : List Value) (h : a_H) (hk : a_kls h i = some 1) (hc : a_cat st ≤ 8) : a_run d MX2_putIn 2 L (v1 :: .ref i :: st) h = a_cont d MX2_putIn (a_bk MX2_putIn 2 L st (a_call d MX2_ends [.ref i, v1] h)) := w_callV (as := [.ref i, v1]) dX2_putIn_2 rfl rfl rfl hc (a_rcv_of hk rfl)
theorem w_X2_putIn_5 (d : Nat) (L : a_L) (st : List Value) (h : a_H) : a_run d MX2_putIn 5 L st h = a_run d MX2_putIn 7 L (.int (nI 46) :: st) h := w_bipush dX2_putIn_5 rfl
theorem w_X2_putIn_7 (d : Nat) (L : a_L) (x : Int32) (st : List Value) (h : a_H) : a_run d MX2_putIn 7 L (.int x :: st) h = (a_newa h (newarray.typeOf .int) x).bind fun q => a_run d MX2_putIn 9 L (.ref q.1 :: st) q.2 := w_newa dX2_putIn_7
theorem w_X2_putIn_9 (d : Nat) (a0 a1 a2 a3 a4 a5 a6 a7 : Option Value) (x : Nat) (st : List Value) (h : a_H) : a_run d MX2_putIn 9 [a0, a1, a2, a3, a4, a5, a6, a7] (.ref x :: st) h = a_run d MX2_putIn 10 [a0, a1, some (.ref x), a3, a4, a5, a6, a7] st h := w_stAn dX2_putIn_9 (Nat.le_of_ble_eq_true rfl) rfl
theorem w_X2_putIn_9N (d : Nat) (a0 a1 a2 a3 a4 a5 a6 a7 : Option Value) (st : List Value) (h : a_H) : a_run d MX2_putIn 9 [a0, a1, a2, a3, a4, a5, a6, a7] (.null :: st) h = a_run d MX2_putIn 10 [a0, a1, some .null, a3, a4, a5, a6, a7] st h := w_stNn dX2_putIn_9 (Nat.le_of_ble_eq_true rfl) rfl
theorem w_X2_putIn_10 (d : Nat) (L : a_L) (st : List Value) (h : a_H) : a_run d MX2_putIn 10 L st h = a_run d MX2_putIn 11 L (.int (nI 0) :: st) h := w_iconst dX2_putIn_10 rfl
theorem w_X2_putIn_11 (d : Nat) (a0 a1 a2 a3 a4 a5 a6 a7 : Option Value) (x : Int32) (st : List Value) (h : a_H) : a_run d MX2_putIn 11 [a0, a1, a2, a3, a4, a5, a6, a7] (.int x :: st) h = a_run d MX2_putIn 12 [a0, a1, a2, some (.int x), a4, a5, a6, a7] st h := w_stIn dX2_putIn_11 (Nat.le_of_ble_eq_true rfl) rfl
theorem w_X2_putIn_12 (d : Nat) (L : a_L) (st : List Value) (h : a_H) : a_run d MX2_putIn 12 L st h = a_run d MX2_putIn 13 L (.int (nI 0) :: st) h := w_iconst dX2_putIn_12 rfl
theorem w_X2_putIn_13 (d : Nat) (a0 a1 a2 a3 a4 a5 a6 a7 : Option Value) (x : Int32) (st : List Value) (h : a_H) : a_run d MX2_putIn 13 [a0, a1, a2, a3, a4, a5, a6, a7] (.int x :: st) h = a_run d MX2_putIn 15 [a0, a1, a2, a3, some (.int x), a5, a6, a7] st h := w_stI dX2_putIn_13 (Nat.le_of_ble_eq_true rfl) rfl
theorem w_X2_putIn_15 (d : Nat) (a0 a1 a2 a3 a5 a6 a7 : Option Value) (x : Int32) (st : List Value) (h : a_H) : a_run d MX2_putIn 15 [a0, a1, a2, a3, some (.int x), a5, a6, a7] st h = a_run d MX2_putIn 17 [a0, a1, a2, a3, some (.int x), a5, a6, a7] (.int x :: st) h := w_ldI dX2_putIn_15 rfl
theorem w_X2_putIn_17 (d : Nat) (a1 a2 a3 a4 a5 a6 a7 : Option Value) (x : Nat) (st : List Value) (h : a_H) : a_run d MX2_putIn 17 [some (.ref x), a1, a2, a3, a4, a5, a6, a7] st h = a_run d MX2_putIn 18 [some (.ref x), a1, a2, a3, a4, a5, a6, a7] (.ref x :: st) h := w_ldAn dX2_putIn_17 rfl
theorem w_X2_putIn_18 (d : Nat) (L : a_L) (i : Nat) (st : List Value) (h : a_H) : a_run d MX2_putIn 18 L (.ref i :: st) h = (a_gf h i 5 [1]).bind fun v => a_run d MX2_putIn 21 L (v :: st) h := w_getf dX2_putIn_18 rfl
theorem w_X2_putIn_21 (d : Nat) (a0 a2 a3 a4 a5 a6 a7 : Option Value) (x : Int32) (st : List Value) (h : a_H) : a_run d MX2_putIn 21 [a0, some (.int x), a2, a3, a4, a5, a6, a7] st h = a_run d MX2_putIn 22 [a0, some (.int x), a2, a3, a4, a5, a6, a7] (.int x :: st) h := w_ldIn dX2_putIn_21 rfl
theorem w_X2_putIn_22 (d : Nat) (L : a_L) (x : Int32) (i : Nat) (st : List Value) (h : a_H) : a_run d MX2_putIn 22 L (.int x :: .ref i :: st) h = (a_rdi h i a_int x).bind fun v => a_run d MX2_putIn 23 L (v :: st) h := w_iald dX2_putIn_22
theorem w_X2_putIn_23 (d : Nat) (L : a_L) (x y : Int32) (st : List Value) (h : a_H) : a_run d MX2_putIn 23 L (.int y :: .int x :: st) h = if x < y then a_run d MX2_putIn 26 L st h else a_run d MX2_putIn 136 L st h := w_icmp_ge dX2_putIn_23 rfl
theorem w_X2_putIn_26 (d : Nat) (L : a_L) (st : List Value) (h : a_H) : a_run d MX2_putIn 26 L st h = a_run d MX2_putIn 27 L (.int (nI 0) :: st) h := w_iconst dX2_putIn_26 rfl
theorem w_X2_putIn_27 (d : Nat) (a0 a1 a2 a3 a4 a5 a6 a7 : Option Value) (x : Int32) (st : List Value) (h : a_H) : a_run d MX2_putIn 27 [a0, a1, a2, a3, a4, a5, a6, a7] (.int x :: st) h = a_run d MX2_putIn 29 [a0, a1, a2, a3, a4, some (.int x), a6, a7] st h := w_stI dX2_putIn_27 (Nat.le_of_ble_eq_true rfl) rfl
theorem w_X2_putIn_29 (d : Nat) (a0 a1 a2 a3 a4 a6 a7 : Option Value) (x : Int32) (st : List Value) (h : a_H) : a_run d MX2_putIn 29 [a0, a1, a2, a3, a4, some (.int x), a6, a7] st h = a_run d MX2_putIn 31 [a0, a1, a2, a3, a4, some (.int x), a6, a7] (.int x :: st) h := w_ldI dX2_putIn_29 rfl
theorem w_X2_putIn_31 (d : Nat) (a1 a2 a3 a4 a5 a6 a7 : Option Value) (x : Nat) (st : List Value) (h : a_H) : a_run d MX2_putIn 31 [some (.ref x), a1, a2, a3, a4, a5, a6, a7] st h = a_run d MX2_putIn 32 [some (.ref x), a1, a2, a3, a4, a5, a6, a7] (.ref x :: st) h := w_ldAn dX2_putIn_31 rfl
theorem w_X2_putIn_32 (d : Nat) (L : a_L) (i : Nat) (st : List Value) (h : a_H) : a_run d MX2_putIn 32 L (.ref i :: st) h = (a_gf h i 5 [1]).bind fun v => a_run d MX2_putIn 35 L (v :: st) h := w_getf dX2_putIn_32 rfl
theorem w_X2_putIn_35 (d : Nat) (a0 a2 a3 a4 a5 a6 a7 : Option Value) (x : Int32) (st : List Value) (h : a_H) : a_run d MX2_putIn 35 [a0, some (.int x), a2, a3, a4, a5, a6, a7] st h = a_run d MX2_putIn 36 [a0, some (.int x), a2, a3, a4, a5, a6, a7] (.int x :: st) h := w_ldIn dX2_putIn_35 rfl
theorem w_X2_putIn_36 (d : Nat) (L : a_L) (st : List Value) (h : a_H) : a_run d MX2_putIn 36 L st h = a_run d MX2_putIn 37 L (.int (nI 1) :: st) h := w_iconst dX2_putIn_36 rfl
theorem w_X2_putIn_37 (d : Nat) (L : a_L) (x y : Int32) (st : List Value) (h : a_H) : a_run d MX2_putIn 37 L (.int y :: .int x :: st) h = a_run d MX2_putIn 38 L (.int (x + y) :: st) h := w_iadd dX2_putIn_37
theorem w_X2_putIn_38 (d : Nat) (L : a_L) (x : Int32) (i : Nat) (st : List Value) (h : a_H) : a_run d MX2_putIn 38 L (.int x :: .ref i :: st) h = (a_rdi h i a_int x).bind fun v => a_run d MX2_putIn 39 L (v :: st) h := w_iald dX2_putIn_38
theorem w_X2_putIn_39 (d : Nat) (L : a_L) (x y : Int32) (st : List Value) (h : a_H) : a_run d MX2_putIn 39 L (.int y :: .int x :: st) h = if x < y then a_run d MX2_putIn 42 L st h else a_run d MX2_putIn 93 L st h := w_icmp_ge dX2_putIn_39 rfl
theorem w_X2_putIn_42 (d : Nat) (a1 a2 a3 a4 a5 a6 a7 : Option Value) (x : Nat) (st : List Value) (h : a_H) : a_run d MX2_putIn 42 [some (.ref x), a1, a2, a3, a4, a5, a6, a7] st h = a_run d MX2_putIn 43 [some (.ref x), a1, a2, a3, a4, a5, a6, a7] (.ref x :: st) h := w_ldAn dX2_putIn_42 rfl
theorem w_X2_putIn_43 (d : Nat) (a0 a1 a2 a3 a5 a6 a7 : Option Value) (x : Int32) (st : List Value) (h : a_H) : a_run d MX2_putIn 43 [a0, a1, a2, a3, some (.int x), a5, a6, a7] st h = a_run d MX2_putIn 45 [a0, a1, a2, a3, some (.int x), a5, a6, a7] (.int x :: st) h := w_ldI dX2_putIn_43 rfl
theorem w_X2_putIn_45 (d : Nat) (a0 a1 a2 a3 a4 a6 a7 : Option Value) (x : Int32) (st : List Value) (h : a_H) : a_run d MX2_putIn 45 [a0, a1, a2, a3, a4, some (.int x), a6, a7] st h = a_run d MX2_putIn 47 [a0, a1, a2, a3, a4, some (.int x), a6, a7] (.int x :: st) h := w_ldI dX2_putIn_45 rfl
theorem w_X2_putIn_47 (d : Nat) (L : a_L) (i : Nat) (v1 v2 : Value) (st : List Value) (h : a_H) (hk : a_kls h i = some 1) (hc : a_cat st ≤ 8) : a_run d MX2_putIn 47 L (v2 :: v1 :: .ref i :: st) h = a_cont d MX2_putIn (a_bk MX2_putIn 47 L st (a_call d MX2_lines [.ref i, v1, v2] h)) := w_callV (as := [.ref i, v1, v2]) dX2_putIn_47 rfl rfl rfl hc (a_rcv_of hk rfl)
theorem w_X2_putIn_50 (d : Nat) (a0 a1 a2 a3 a4 a5 a6 a7 : Option Value) (x : Int32) (st : List Value) (h : a_H) : a_run d MX2_putIn 50 [a0, a1, a2, a3, a4, a5, a6, a7] (.int x :: st) h = a_run d MX2_putIn 52 [a0, a1, a2, a3, a4, a5, some (.int x), a7] st h := w_stI dX2_putIn_50 (Nat.le_of_ble_eq_true rfl) rfl
theorem w_X2_putIn_52 (d : Nat) (a0 a1 a2 a3 a4 a6 a7 : Option Value) (x : Int32) (st : List Value) (h : a_H) : a_run d MX2_putIn 52 [a0, a1, a2, a3, a4, some (.int x), a6, a7] st h = a_run d MX2_putIn 54 [a0, a1, a2, a3, a4, some (.int x), a6, a7] (.int x :: st) h := w_ldI dX2_putIn_52 rfl
theorem w_X2_putIn_54 (d : Nat) (L : a_L) (st : List Value) (h : a_H) : a_run d MX2_putIn 54 L st h = a_run d MX2_putIn 55 L (.int (nI 1) :: st) h := w_iconst dX2_putIn_54 rfl
theorem w_X2_putIn_55 (d : Nat) (L : a_L) (x y : Int32) (st : List Value) (h : a_H) : a_run d MX2_putIn 55 L (.int y :: .int x :: st) h = a_run d MX2_putIn 56 L (.int (x + y) :: st) h := w_iadd dX2_putIn_55
theorem w_X2_putIn_56 (d : Nat) (a0 a1 a2 a3 a4 a5 a6 a7 : Option Value) (x : Int32) (st : List Value) (h : a_H) : a_run d MX2_putIn 56 [a0, a1, a2, a3, a4, a5, a6, a7] (.int x :: st) h = a_run d MX2_putIn 58 [a0, a1, a2, a3, a4, a5, a6, some (.int x)] st h := w_stI dX2_putIn_56 (Nat.le_of_ble_eq_true rfl) rfl
theorem w_X2_putIn_58 (d : Nat) (a0 a1 a2 a3 a4 a5 a6 : Option Value) (x : Int32) (st : List Value) (h : a_H) : a_run d MX2_putIn 58 [a0, a1, a2, a3, a4, a5, a6, some (.int x)] st h = a_run d MX2_putIn 60 [a0, a1, a2, a3, a4, a5, a6, some (.int x)] (.int x :: st) h := w_ldI dX2_putIn_58 rfl
theorem w_X2_putIn_60 (d : Nat) (a1 a2 a3 a4 a5 a6 a7 : Option Value) (x : Nat) (st : List Value) (h : a_H) : a_run d MX2_putIn 60 [some (.ref x), a1, a2, a3, a4, a5, a6, a7] st h = a_run d MX2_putIn 61 [some (.ref x), a1, a2, a3, a4, a5, a6, a7] (.ref x :: st) h := w_ldAn dX2_putIn_60 rfl
theorem w_X2_putIn_61 (d : Nat) (L : a_L) (i : Nat) (st : List Value) (h : a_H) : a_run d MX2_putIn 61 L (.ref i :: st) h = (a_gf h i 5 [1]).bind fun v => a_run d MX2_putIn 64 L (v :: st) h := w_getf dX2_putIn_61 rfl
theorem w_X2_putIn_64 (d : Nat) (a0 a2 a3 a4 a5 a6 a7 : Option Value) (x : Int32) (st : List Value) (h : a_H) : a_run d MX2_putIn 64 [a0, some (.int x), a2, a3, a4, a5, a6, a7] st h = a_run d MX2_putIn 65 [a0, some (.int x), a2, a3, a4, a5, a6, a7] (.int x :: st) h := w_ldIn dX2_putIn_64 rfl
theorem w_X2_putIn_65 (d : Nat) (L : a_L) (st : List Value) (h : a_H) : a_run d MX2_putIn 65 L st h = a_run d MX2_putIn 66 L (.int (nI 1) :: st) h := w_iconst dX2_putIn_65 rfl
theorem w_X2_putIn_66 (d : Nat) (L : a_L) (x y : Int32) (st : List Value) (h : a_H) : a_run d MX2_putIn 66 L (.int y :: .int x :: st) h = a_run d MX2_putIn 67 L (.int (x + y) :: st) h := w_iadd dX2_putIn_66
theorem w_X2_putIn_67 (d : Nat) (L : a_L) (x : Int32) (i : Nat) (st : List Value) (h : a_H) : a_run d MX2_putIn 67 L (.int x :: .ref i :: st) h = (a_rdi h i a_int x).bind fun v => a_run d MX2_putIn 68 L (v :: st) h := w_iald dX2_putIn_67
theorem w_X2_putIn_68 (d : Nat) (L : a_L) (x y : Int32) (st : List Value) (h : a_H) : a_run d MX2_putIn 68 L (.int y :: .int x :: st) h = if x < y then a_run d MX2_putIn 71 L st h else a_run d MX2_putIn 87 L st h := w_icmp_ge dX2_putIn_68 rfl
theorem w_X2_putIn_71 (d : Nat) (a0 a1 a2 a4 a5 a6 a7 : Option Value) (x : Int32) (st : List Value) (h : a_H) : a_run d MX2_putIn 71 [a0, a1, a2, some (.int x), a4, a5, a6, a7] st h = a_run d MX2_putIn 72 [a0, a1, a2, some (.int x), a4, a5, a6, a7] (.int x :: st) h := w_ldIn dX2_putIn_71 rfl
theorem w_X2_putIn_72 (d : Nat) (a0 a1 a2 a3 a4 a5 a7 : Option Value) (x : Int32) (st : List Value) (h : a_H) : a_run d MX2_putIn 72 [a0, a1, a2, a3, a4, a5, some (.int x), a7] st h = a_run d MX2_putIn 74 [a0, a1, a2, a3, a4, a5, some (.int x), a7] (.int x :: st) h := w_ldI dX2_putIn_72 rfl
theorem w_X2_putIn_74 (d : Nat) (a0 a1 a3 a4 a5 a6 a7 : Option Value) (x : Nat) (st : List Value) (h : a_H) : a_run d MX2_putIn 74 [a0, a1, some (.ref x), a3, a4, a5, a6, a7] st h = a_run d MX2_putIn 75 [a0, a1, some (.ref x), a3, a4, a5, a6, a7] (.ref x :: st) h := w_ldAn dX2_putIn_74 rfl
theorem w_X2_putIn_74N (d : Nat) (a0 a1 a3 a4 a5 a6 a7 : Option Value) (st : List Value) (h : a_H) : a_run d MX2_putIn 74 [a0, a1, some .null, a3, a4, a5, a6, a7] st h = a_run d MX2_putIn 75 [a0, a1, some .null, a3, a4, a5, a6, a7] (.null :: st) h := w_ldNn dX2_putIn_74 rfl
theorem w_X2_putIn_75 (d : Nat) (a0 a1 a2 a3 a4 a5 a6 : Option Value) (x : Int32) (st : List Value) (h : a_H) : a_run d MX2_putIn 75 [a0, a1, a2, a3, a4, a5, a6, some (.int x)] st h = a_run d MX2_putIn 77 [a0, a1, a2, a3, a4, a5, a6, some (.int x)] (.int x :: st) h := w_ldI dX2_putIn_75 rfl
theorem w_X2_putIn_77 (d : Nat) (L : a_L) (x : Int32) (i : Nat) (st : List Value) (h : a_H) : a_run d MX2_putIn 77 L (.int x :: .ref i :: st) h = (a_rdi h i a_int x).bind fun v => a_run d MX2_putIn 78 L (v :: st) h := w_iald dX2_putIn_77
theorem w_X2_putIn_78 (d : Nat) (L : a_L) (x y : Int32) (st : List Value) (h : a_H) : a_run d MX2_putIn 78 L (.int y :: .int x :: st) h = a_run d MX2_putIn 79 L (.int (x * y) :: st) h := w_imul dX2_putIn_78
theorem w_X2_putIn_79 (d : Nat) (L : a_L) (x y : Int32) (st : List Value) (h : a_H) : a_run d MX2_putIn 79 L (.int y :: .int x :: st) h = a_run d MX2_putIn 80 L (.int (x + y) :: st) h := w_iadd dX2_putIn_79
theorem w_X2_putIn_80 (d : Nat) (a0 a1 a2 a3 a4 a5 a6 a7 : Option Value) (x : Int32) (st : List Value) (h : a_H) : a_run d MX2_putIn 80 [a0, a1, a2, a3, a4, a5, a6, a7] (.int x :: st) h = a_run d MX2_putIn 81 [a0, a1, a2, some (.int x), a4, a5, a6, a7] st h := w_stIn dX2_putIn_80 (Nat.le_of_ble_eq_true rfl) rfl
theorem w_X2_putIn_81 (d : Nat) (a0 a1 a2 a3 a4 a5 a6 : Option Value) (x : Int32) (st : List Value) (h : a_H) : a_run d MX2_putIn 81 [a0, a1, a2, a3, a4, a5, a6, some (.int x)] st h = a_run d MX2_putIn 84 [a0, a1, a2, a3, a4, a5, a6, some (.int (x + nI 1))] st h := w_incL dX2_putIn_81 rfl rfl rfl
theorem w_X2_putIn_84 (d : Nat) (L : a_L) (st : List Value) (h : a_H) : a_run d MX2_putIn 84 L st h = a_run d MX2_putIn 58 L st h := w_goto dX2_putIn_84 rfl
theorem w_X2_putIn_87 (d : Nat) (a0 a1 a2 a3 a4 a6 a7 : Option Value) (x : Int32) (st : List Value) (h : a_H) : a_run d MX2_putIn 87 [a0, a1, a2, a3, a4, some (.int x), a6, a7] st h = a_run d MX2_putIn 90 [a0, a1, a2, a3, a4, some (.int (x + nI 1)), a6, a7] st h := w_incL dX2_putIn_87 rfl rfl rfl
theorem w_X2_putIn_90 (d : Nat) (L : a_L) (st : List Value) (h : a_H) : a_run d MX2_putIn 90 L st h = a_run d MX2_putIn 29 L st h := w_goto dX2_putIn_90 rfl
theorem w_X2_putIn_93 (d : Nat) (L : a_L) (st : List Value) (h : a_H) : a_run d MX2_putIn 93 L st h = a_run d MX2_putIn 94 L (.int (nI 0) :: st) h := w_iconst dX2_putIn_93 rfl
theorem w_X2_putIn_94 (d : Nat) (a0 a1 a2 a3 a4 a5 a6 a7 : Option Value) (x : Int32) (st : List Value) (h : a_H) : a_run d MX2_putIn 94 [a0, a1, a2, a3, a4, a5, a6, a7] (.int x :: st) h = a_run d MX2_putIn 96 [a0, a1, a2, a3, a4, some (.int x), a6, a7] st h := w_stI dX2_putIn_94 (Nat.le_of_ble_eq_true rfl) rfl
theorem w_X2_putIn_96 (d : Nat) (a0 a1 a2 a3 a4 a6 a7 : Option Value) (x : Int32) (st : List Value) (h : a_H) : a_run d MX2_putIn 96 [a0, a1, a2, a3, a4, some (.int x), a6, a7] st h = a_run d MX2_putIn 98 [a0, a1, a2, a3, a4, some (.int x), a6, a7] (.int x :: st) h := w_ldI dX2_putIn_96 rfl
theorem w_X2_putIn_98 (d : Nat) (a1 a2 a3 a4 a5 a6 a7 : Option Value) (x : Nat) (st : List Value) (h : a_H) : a_run d MX2_putIn 98 [some (.ref x), a1, a2, a3, a4, a5, a6, a7] st h = a_run d MX2_putIn 99 [some (.ref x), a1, a2, a3, a4, a5, a6, a7] (.ref x :: st) h := w_ldAn dX2_putIn_98 rfl
theorem w_X2_putIn_99 (d : Nat) (L : a_L) (i : Nat) (st : List Value) (h : a_H) : a_run d MX2_putIn 99 L (.ref i :: st) h = (a_gf h i 5 [1]).bind fun v => a_run d MX2_putIn 102 L (v :: st) h := w_getf dX2_putIn_99 rfl
theorem w_X2_putIn_102 (d : Nat) (a0 a2 a3 a4 a5 a6 a7 : Option Value) (x : Int32) (st : List Value) (h : a_H) : a_run d MX2_putIn 102 [a0, some (.int x), a2, a3, a4, a5, a6, a7] st h = a_run d MX2_putIn 103 [a0, some (.int x), a2, a3, a4, a5, a6, a7] (.int x :: st) h := w_ldIn dX2_putIn_102 rfl
theorem w_X2_putIn_103 (d : Nat) (L : a_L) (st : List Value) (h : a_H) : a_run d MX2_putIn 103 L st h = a_run d MX2_putIn 104 L (.int (nI 1) :: st) h := w_iconst dX2_putIn_103 rfl
theorem w_X2_putIn_104 (d : Nat) (L : a_L) (x y : Int32) (st : List Value) (h : a_H) : a_run d MX2_putIn 104 L (.int y :: .int x :: st) h = a_run d MX2_putIn 105 L (.int (x + y) :: st) h := w_iadd dX2_putIn_104
theorem w_X2_putIn_105 (d : Nat) (L : a_L) (x : Int32) (i : Nat) (st : List Value) (h : a_H) : a_run d MX2_putIn 105 L (.int x :: .ref i :: st) h = (a_rdi h i a_int x).bind fun v => a_run d MX2_putIn 106 L (v :: st) h := w_iald dX2_putIn_105
theorem w_X2_putIn_106 (d : Nat) (L : a_L) (x y : Int32) (st : List Value) (h : a_H) : a_run d MX2_putIn 106 L (.int y :: .int x :: st) h = if x < y then a_run d MX2_putIn 109 L st h else a_run d MX2_putIn 130 L st h := w_icmp_ge dX2_putIn_106 rfl
theorem w_X2_putIn_109 (d : Nat) (a0 a1 a3 a4 a5 a6 a7 : Option Value) (x : Nat) (st : List Value) (h : a_H) : a_run d MX2_putIn 109 [a0, a1, some (.ref x), a3, a4, a5, a6, a7] st h = a_run d MX2_putIn 110 [a0, a1, some (.ref x), a3, a4, a5, a6, a7] (.ref x :: st) h := w_ldAn dX2_putIn_109 rfl
theorem w_X2_putIn_109N (d : Nat) (a0 a1 a3 a4 a5 a6 a7 : Option Value) (st : List Value) (h : a_H) : a_run d MX2_putIn 109 [a0, a1, some .null, a3, a4, a5, a6, a7] st h = a_run d MX2_putIn 110 [a0, a1, some .null, a3, a4, a5, a6, a7] (.null :: st) h := w_ldNn dX2_putIn_109 rfl
theorem w_X2_putIn_110 (d : Nat) (a0 a1 a2 a3 a4 a6 a7 : Option Value) (x : Int32) (st : List Value) (h : a_H) : a_run d MX2_putIn 110 [a0, a1, a2, a3, a4, some (.int x), a6, a7] st h = a_run d MX2_putIn 112 [a0, a1, a2, a3, a4, some (.int x), a6, a7] (.int x :: st) h := w_ldI dX2_putIn_110 rfl
theorem w_X2_putIn_112 (d : Nat) (L : a_L) (x : Int32) (y : Nat) (st : List Value) (h : a_H) : a_run d MX2_putIn 112 L (.int x :: .ref y :: st) h = a_run d MX2_putIn 113 L (.int x :: .ref y :: .int x :: .ref y :: st) h := w_dup2 dX2_putIn_112
theorem w_X2_putIn_113 (d : Nat) (L : a_L) (x : Int32) (i : Nat) (st : List Value) (h : a_H) : a_run d MX2_putIn 113 L (.int x :: .ref i :: st) h = (a_rdi h i a_int x).bind fun v => a_run d MX2_putIn 114 L (v :: st) h := w_iald dX2_putIn_113
theorem w_X2_putIn_114 (d : Nat) (a1 a2 a3 a4 a5 a6 a7 : Option Value) (x : Nat) (st : List Value) (h : a_H) : a_run d MX2_putIn 114 [some (.ref x), a1, a2, a3, a4, a5, a6, a7] st h = a_run d MX2_putIn 115 [some (.ref x), a1, a2, a3, a4, a5, a6, a7] (.ref x :: st) h := w_ldAn dX2_putIn_114 rfl
theorem w_X2_putIn_115 (d : Nat) (a0 a1 a2 a3 a5 a6 a7 : Option Value) (x : Int32) (st : List Value) (h : a_H) : a_run d MX2_putIn 115 [a0, a1, a2, a3, some (.int x), a5, a6, a7] st h = a_run d MX2_putIn 117 [a0, a1, a2, a3, some (.int x), a5, a6, a7] (.int x :: st) h := w_ldI dX2_putIn_115 rfl
theorem w_X2_putIn_117 (d : Nat) (a0 a1 a2 a3 a4 a6 a7 : Option Value) (x : Int32) (st : List Value) (h : a_H) : a_run d MX2_putIn 117 [a0, a1, a2, a3, a4, some (.int x), a6, a7] st h = a_run d MX2_putIn 119 [a0, a1, a2, a3, a4, some (.int x), a6, a7] (.int x :: st) h := w_ldI dX2_putIn_117 rfl
theorem w_X2_putIn_119 (d : Nat) (L : a_L) (i : Nat) (v1 v2 : Value) (st : List Value) (h : a_H) (hk : a_kls h i = some 1) (hc : a_cat st ≤ 8) : a_run d MX2_putIn 119 L (v2 :: v1 :: .ref i :: st) h = a_cont d MX2_putIn (a_bk MX2_putIn 119 L st (a_call d MX2_lines [.ref i, v1, v2] h)) := w_callV (as := [.ref i, v1, v2]) dX2_putIn_119 rfl rfl rfl hc (a_rcv_of hk rfl)
theorem w_X2_putIn_122 (d : Nat) (L : a_L) (x y : Int32) (st : List Value) (h : a_H) : a_run d MX2_putIn 122 L (.int y :: .int x :: st) h = a_run d MX2_putIn 123 L (.int (x + y) :: st) h := w_iadd dX2_putIn_122
theorem w_X2_putIn_123 (d : Nat) (L : a_L) (x y : Int32) (i : Nat) (st : List Value) (h : a_H) : a_run d MX2_putIn 123 L (.int y :: .int x :: .ref i :: st) h = (a_wri h i a_int x y).bind fun h' => a_run d MX2_putIn 124 L st h' := w_iast dX2_putIn_123
theorem w_X2_putIn_124 (d : Nat) (a0 a1 a2 a3 a4 a6 a7 : Option Value) (x : Int32) (st : List Value) (h : a_H) : a_run d MX2_putIn 124 [a0, a1, a2, a3, a4, some (.int x), a6, a7] st h = a_run d MX2_putIn 127 [a0, a1, a2, a3, a4, some (.int (x + nI 1)), a6, a7] st h := w_incL dX2_putIn_124 rfl rfl rfl
theorem w_X2_putIn_127 (d : Nat) (L : a_L) (st : List Value) (h : a_H) : a_run d MX2_putIn 127 L st h = a_run d MX2_putIn 96 L st h := w_goto dX2_putIn_127 rfl
theorem w_X2_putIn_130 (d : Nat) (a0 a1 a2 a3 a5 a6 a7 : Option Value) (x : Int32) (st : List Value) (h : a_H) : a_run d MX2_putIn 130 [a0, a1, a2, a3, some (.int x), a5, a6, a7] st h = a_run d MX2_putIn 133 [a0, a1, a2, a3, some (.int (x + nI 1)), a5, a6, a7] st h := w_incL dX2_putIn_130 rfl rfl rfl
theorem w_X2_putIn_133 (d : Nat) (L : a_L) (st : List Value) (h : a_H) : a_run d MX2_putIn 133 L st h = a_run d MX2_putIn 15 L st h := w_goto dX2_putIn_133 rfl
theorem w_X2_putIn_136 (d : Nat) (a0 a1 a2 a4 a5 a6 a7 : Option Value) (x : Int32) (st : List Value) (h : a_H) : a_run d MX2_putIn 136 [a0, a1, a2, some (.int x), a4, a5, a6, a7] st h = a_run d MX2_putIn 137 [a0, a1, a2, some (.int x), a4, a5, a6, a7] (.int x :: st) h := w_ldIn dX2_putIn_136 rfl
theorem w_X2_putIn_137 (d : Nat) (L : a_L) (x : Int32) (h : a_H) : a_run d MX2_putIn 137 L [.int x] h = some (.inl (some (.int x)), h) := w_iret dX2_putIn_137 (w_retI rfl)
theorem e_X2_lines (d : Nat) (x0 : Nat) (x1 : Int32) (x2 : Int32) (h : a_H) : a_call (d + 1) MX2_lines [.ref x0, .int x1, .int x2] h = a_run d MX2_lines 0 [some (.ref x0), some (.int x1), some (.int x2), none, none] [] h := a_call_run rfl (Nat.le_of_ble_eq_true rfl) rfl
theorem w_X2_lines_0 (d : Nat) (L : a_L) (st : List Value) (h : a_H) : a_run d MX2_lines 0 L st h = a_run d MX2_lines 1 L (.int (nI 0) :: st) h := w_iconst dX2_lines_0 rfl
theorem w_X2_lines_1 (d : Nat) (a0 a1 a2 a3 a4 : Option Value) (x : Int32) (st : List Value) (h : a_H) : a_run d MX2_lines 1 [a0, a1, a2, a3, a4] (.int x :: st) h = a_run d MX2_lines 2 [a0, a1, a2, some (.int x), a4] st h := w_stIn dX2_lines_1 (Nat.le_of_ble_eq_true rfl) rfl
theorem w_X2_lines_2 (d : Nat) (L : a_L) (st : List Value) (h : a_H) : a_run d MX2_lines 2 L st h = a_run d MX2_lines 3 L (.int (nI 0) :: st) h := w_iconst dX2_lines_2 rfl
theorem w_X2_lines_3 (d : Nat) (a0 a1 a2 a3 a4 : Option Value) (x : Int32) (st : List Value) (h : a_H) : a_run d MX2_lines 3 [a0, a1, a2, a3, a4] (.int x :: st) h = a_run d MX2_lines 5 [a0, a1, a2, a3, some (.int x)] st h := w_stI dX2_lines_3 (Nat.le_of_ble_eq_true rfl) rfl
theorem w_X2_lines_5 (d : Nat) (a0 a1 a2 a3 : Option Value) (x : Int32) (st : List Value) (h : a_H) : a_run d MX2_lines 5 [a0, a1, a2, a3, some (.int x)] st h = a_run d MX2_lines 7 [a0, a1, a2, a3, some (.int x)] (.int x :: st) h := w_ldI dX2_lines_5 rfl
theorem w_X2_lines_7 (d : Nat) (a1 a2 a3 a4 : Option Value) (x : Nat) (st : List Value) (h : a_H) : a_run d MX2_lines 7 [some (.ref x), a1, a2, a3, a4] st h = a_run d MX2_lines 8 [some (.ref x), a1, a2, a3, a4] (.ref x :: st) h := w_ldAn dX2_lines_7 rfl
theorem w_X2_lines_8 (d : Nat) (L : a_L) (i : Nat) (st : List Value) (h : a_H) : a_run d MX2_lines 8 L (.ref i :: st) h = (a_gf h i 12 [1]).bind fun v => a_run d MX2_lines 11 L (v :: st) h := w_getf dX2_lines_8 rfl
theorem w_X2_lines_11 (d : Nat) (L : a_L) (x y : Int32) (st : List Value) (h : a_H) : a_run d MX2_lines 11 L (.int y :: .int x :: st) h = if x < y then a_run d MX2_lines 14 L st h else a_run d MX2_lines 50 L st h := w_icmp_ge dX2_lines_11 rfl
theorem w_X2_lines_14 (d : Nat) (a0 a1 a2 a4 : Option Value) (x : Int32) (st : List Value) (h : a_H) : a_run d MX2_lines 14 [a0, a1, a2, some (.int x), a4] st h = a_run d MX2_lines 15 [a0, a1, a2, some (.int x), a4] (.int x :: st) h := w_ldIn dX2_lines_14 rfl
theorem w_X2_lines_15 (d : Nat) (a1 a2 a3 a4 : Option Value) (x : Nat) (st : List Value) (h : a_H) : a_run d MX2_lines 15 [some (.ref x), a1, a2, a3, a4] st h = a_run d MX2_lines 16 [some (.ref x), a1, a2, a3, a4] (.ref x :: st) h := w_ldAn dX2_lines_15 rfl
theorem w_X2_lines_16 (d : Nat) (L : a_L) (i : Nat) (st : List Value) (h : a_H) : a_run d MX2_lines 16 L (.ref i :: st) h = (a_gf h i 6 [1]).bind fun v => a_run d MX2_lines 19 L (v :: st) h := w_getf dX2_lines_16 rfl
theorem w_X2_lines_19 (d : Nat) (a0 a1 a2 a3 : Option Value) (x : Int32) (st : List Value) (h : a_H) : a_run d MX2_lines 19 [a0, a1, a2, a3, some (.int x)] st h = a_run d MX2_lines 21 [a0, a1, a2, a3, some (.int x)] (.int x :: st) h := w_ldI dX2_lines_19 rfl
theorem w_X2_lines_21 (d : Nat) (L : a_L) (x : Int32) (i : Nat) (st : List Value) (h : a_H) : a_run d MX2_lines 21 L (.int x :: .ref i :: st) h = (a_rdi h i a_int x).bind fun v => a_run d MX2_lines 22 L (v :: st) h := w_iald dX2_lines_21
theorem w_X2_lines_22 (d : Nat) (a0 a2 a3 a4 : Option Value) (x : Int32) (st : List Value) (h : a_H) : a_run d MX2_lines 22 [a0, some (.int x), a2, a3, a4] st h = a_run d MX2_lines 23 [a0, some (.int x), a2, a3, a4] (.int x :: st) h := w_ldIn dX2_lines_22 rfl
theorem w_X2_lines_23 (d : Nat) (L : a_L) (x y : Int32) (st : List Value) (h : a_H) : a_run d MX2_lines 23 L (.int y :: .int x :: st) h = if x = y then a_run d MX2_lines 26 L st h else a_run d MX2_lines 41 L st h := w_icmp_ne dX2_lines_23 rfl
theorem w_X2_lines_26 (d : Nat) (a1 a2 a3 a4 : Option Value) (x : Nat) (st : List Value) (h : a_H) : a_run d MX2_lines 26 [some (.ref x), a1, a2, a3, a4] st h = a_run d MX2_lines 27 [some (.ref x), a1, a2, a3, a4] (.ref x :: st) h := w_ldAn dX2_lines_26 rfl
theorem w_X2_lines_27 (d : Nat) (L : a_L) (i : Nat) (st : List Value) (h : a_H) : a_run d MX2_lines 27 L (.ref i :: st) h = (a_gf h i 7 [1]).bind fun v => a_run d MX2_lines 30 L (v :: st) h := w_getf dX2_lines_27 rfl
theorem w_X2_lines_30 (d : Nat) (a0 a1 a2 a3 : Option Value) (x : Int32) (st : List Value) (h : a_H) : a_run d MX2_lines 30 [a0, a1, a2, a3, some (.int x)] st h = a_run d MX2_lines 32 [a0, a1, a2, a3, some (.int x)] (.int x :: st) h := w_ldI dX2_lines_30 rfl
theorem w_X2_lines_32 (d : Nat) (L : a_L) (x : Int32) (i : Nat) (st : List Value) (h : a_H) : a_run d MX2_lines 32 L (.int x :: .ref i :: st) h = (a_rdi h i a_int x).bind fun v => a_run d MX2_lines 33 L (v :: st) h := w_iald dX2_lines_32
theorem w_X2_lines_33 (d : Nat) (a0 a1 a3 a4 : Option Value) (x : Int32) (st : List Value) (h : a_H) : a_run d MX2_lines 33 [a0, a1, some (.int x), a3, a4] st h = a_run d MX2_lines 34 [a0, a1, some (.int x), a3, a4] (.int x :: st) h := w_ldIn dX2_lines_33 rfl
theorem w_X2_lines_34 (d : Nat) (L : a_L) (x y : Int32) (st : List Value) (h : a_H) : a_run d MX2_lines 34 L (.int y :: .int x :: st) h = if x = y then a_run d MX2_lines 37 L st h else a_run d MX2_lines 41 L st h := w_icmp_ne dX2_lines_34 rfl
theorem w_X2_lines_37 (d : Nat) (L : a_L) (st : List Value) (h : a_H) : a_run d MX2_lines 37 L st h = a_run d MX2_lines 38 L (.int (nI 1) :: st) h := w_iconst dX2_lines_37 rfl
theorem w_X2_lines_38 (d : Nat) (L : a_L) (st : List Value) (h : a_H) : a_run d MX2_lines 38 L st h = a_run d MX2_lines 42 L st h := w_goto dX2_lines_38 rfl
theorem w_X2_lines_41 (d : Nat) (L : a_L) (st : List Value) (h : a_H) : a_run d MX2_lines 41 L st h = a_run d MX2_lines 42 L (.int (nI 0) :: st) h := w_iconst dX2_lines_41 rfl
theorem w_X2_lines_42 (d : Nat) (L : a_L) (x y : Int32) (st : List Value) (h : a_H) : a_run d MX2_lines 42 L (.int y :: .int x :: st) h = a_run d MX2_lines 43 L (.int (x + y) :: st) h := w_iadd dX2_lines_42
theorem w_X2_lines_43 (d : Nat) (a0 a1 a2 a3 a4 : Option Value) (x : Int32) (st : List Value) (h : a_H) : a_run d MX2_lines 43 [a0, a1, a2, a3, a4] (.int x :: st) h = a_run d MX2_lines 44 [a0, a1, a2, some (.int x), a4] st h := w_stIn dX2_lines_43 (Nat.le_of_ble_eq_true rfl) rfl
theorem w_X2_lines_44 (d : Nat) (a0 a1 a2 a3 : Option Value) (x : Int32) (st : List Value) (h : a_H) : a_run d MX2_lines 44 [a0, a1, a2, a3, some (.int x)] st h = a_run d MX2_lines 47 [a0, a1, a2, a3, some (.int (x + nI 1))] st h := w_incL dX2_lines_44 rfl rfl rfl
theorem w_X2_lines_47 (d : Nat) (L : a_L) (st : List Value) (h : a_H) : a_run d MX2_lines 47 L st h = a_run d MX2_lines 5 L st h := w_goto dX2_lines_47 rfl
theorem w_X2_lines_50 (d : Nat) (a0 a1 a2 a4 : Option Value) (x : Int32) (st : List Value) (h : a_H) : a_run d MX2_lines 50 [a0, a1, a2, some (.int x), a4] st h = a_run d MX2_lines 51 [a0, a1, a2, some (.int x), a4] (.int x :: st) h := w_ldIn dX2_lines_50 rfl
theorem w_X2_lines_51 (d : Nat) (L : a_L) (x : Int32) (h : a_H) : a_run d MX2_lines 51 L [.int x] h = some (.inl (some (.int x)), h) := w_iret dX2_lines_51 (w_retI rfl)
theorem e_X2_columns (d : Nat) (x0 : Nat) (h : a_H) : a_call (d + 1) MX2_columns [.ref x0] h = a_run d MX2_columns 0 [some (.ref x0), none, none, none, none, none] [] h := a_call_run rfl (Nat.le_of_ble_eq_true rfl) rfl
theorem w_X2_columns_0 (d : Nat) (L : a_L) (st : List Value) (h : a_H) : a_run d MX2_columns 0 L st h = a_run d MX2_columns 3 L (.int (nI 1150) :: st) h := w_sipush dX2_columns_0 rfl
theorem w_X2_columns_3 (d : Nat) (L : a_L) (x : Int32) (st : List Value) (h : a_H) : a_run d MX2_columns 3 L (.int x :: st) h = (a_newa h (newarray.typeOf .int) x).bind fun q => a_run d MX2_columns 5 L (.ref q.1 :: st) q.2 := w_newa dX2_columns_3
theorem w_X2_columns_5 (d : Nat) (a0 a1 a2 a3 a4 a5 : Option Value) (x : Nat) (st : List Value) (h : a_H) : a_run d MX2_columns 5 [a0, a1, a2, a3, a4, a5] (.ref x :: st) h = a_run d MX2_columns 6 [a0, some (.ref x), a2, a3, a4, a5] st h := w_stAn dX2_columns_5 (Nat.le_of_ble_eq_true rfl) rfl
theorem w_X2_columns_5N (d : Nat) (a0 a1 a2 a3 a4 a5 : Option Value) (st : List Value) (h : a_H) : a_run d MX2_columns 5 [a0, a1, a2, a3, a4, a5] (.null :: st) h = a_run d MX2_columns 6 [a0, some .null, a2, a3, a4, a5] st h := w_stNn dX2_columns_5 (Nat.le_of_ble_eq_true rfl) rfl
theorem w_X2_columns_6 (d : Nat) (L : a_L) (st : List Value) (h : a_H) : a_run d MX2_columns 6 L st h = a_run d MX2_columns 7 L (.int (nI 0) :: st) h := w_iconst dX2_columns_6 rfl
theorem w_X2_columns_7 (d : Nat) (a0 a1 a2 a3 a4 a5 : Option Value) (x : Int32) (st : List Value) (h : a_H) : a_run d MX2_columns 7 [a0, a1, a2, a3, a4, a5] (.int x :: st) h = a_run d MX2_columns 8 [a0, a1, some (.int x), a3, a4, a5] st h := w_stIn dX2_columns_7 (Nat.le_of_ble_eq_true rfl) rfl
theorem w_X2_columns_8 (d : Nat) (a0 a1 a3 a4 a5 : Option Value) (x : Int32) (st : List Value) (h : a_H) : a_run d MX2_columns 8 [a0, a1, some (.int x), a3, a4, a5] st h = a_run d MX2_columns 9 [a0, a1, some (.int x), a3, a4, a5] (.int x :: st) h := w_ldIn dX2_columns_8 rfl
theorem w_X2_columns_9 (d : Nat) (a1 a2 a3 a4 a5 : Option Value) (x : Nat) (st : List Value) (h : a_H) : a_run d MX2_columns 9 [some (.ref x), a1, a2, a3, a4, a5] st h = a_run d MX2_columns 10 [some (.ref x), a1, a2, a3, a4, a5] (.ref x :: st) h := w_ldAn dX2_columns_9 rfl
theorem w_X2_columns_10 (d : Nat) (L : a_L) (i : Nat) (st : List Value) (h : a_H) : a_run d MX2_columns 10 L (.ref i :: st) h = (a_gf h i 13 [1]).bind fun v => a_run d MX2_columns 13 L (v :: st) h := w_getf dX2_columns_10 rfl
theorem w_X2_columns_13 (d : Nat) (L : a_L) (x y : Int32) (st : List Value) (h : a_H) : a_run d MX2_columns 13 L (.int y :: .int x :: st) h = if x < y then a_run d MX2_columns 16 L st h else a_run d MX2_columns 102 L st h := w_icmp_ge dX2_columns_13 rfl
theorem w_X2_columns_16 (d : Nat) (L : a_L) (st : List Value) (h : a_H) : a_run d MX2_columns 16 L st h = a_run d MX2_columns 17 L (.int (nI 0) :: st) h := w_iconst dX2_columns_16 rfl
theorem w_X2_columns_17 (d : Nat) (a0 a1 a2 a3 a4 a5 : Option Value) (x : Int32) (st : List Value) (h : a_H) : a_run d MX2_columns 17 [a0, a1, a2, a3, a4, a5] (.int x :: st) h = a_run d MX2_columns 18 [a0, a1, a2, some (.int x), a4, a5] st h := w_stIn dX2_columns_17 (Nat.le_of_ble_eq_true rfl) rfl
theorem w_X2_columns_18 (d : Nat) (a0 a1 a2 a4 a5 : Option Value) (x : Int32) (st : List Value) (h : a_H) : a_run d MX2_columns 18 [a0, a1, a2, some (.int x), a4, a5] st h = a_run d MX2_columns 19 [a0, a1, a2, some (.int x), a4, a5] (.int x :: st) h := w_ldIn dX2_columns_18 rfl
theorem w_X2_columns_19 (d : Nat) (a1 a2 a3 a4 a5 : Option Value) (x : Nat) (st : List Value) (h : a_H) : a_run d MX2_columns 19 [some (.ref x), a1, a2, a3, a4, a5] st h = a_run d MX2_columns 20 [some (.ref x), a1, a2, a3, a4, a5] (.ref x :: st) h := w_ldAn dX2_columns_19 rfl
theorem w_X2_columns_20 (d : Nat) (L : a_L) (i : Nat) (st : List Value) (h : a_H) : a_run d MX2_columns 20 L (.ref i :: st) h = (a_gf h i 5 [1]).bind fun v => a_run d MX2_columns 23 L (v :: st) h := w_getf dX2_columns_20 rfl
theorem w_X2_columns_23 (d : Nat) (a0 a1 a3 a4 a5 : Option Value) (x : Int32) (st : List Value) (h : a_H) : a_run d MX2_columns 23 [a0, a1, some (.int x), a3, a4, a5] st h = a_run d MX2_columns 24 [a0, a1, some (.int x), a3, a4, a5] (.int x :: st) h := w_ldIn dX2_columns_23 rfl
theorem w_X2_columns_24 (d : Nat) (L : a_L) (x : Int32) (i : Nat) (st : List Value) (h : a_H) : a_run d MX2_columns 24 L (.int x :: .ref i :: st) h = (a_rdi h i a_int x).bind fun v => a_run d MX2_columns 25 L (v :: st) h := w_iald dX2_columns_24
theorem w_X2_columns_25 (d : Nat) (L : a_L) (x y : Int32) (st : List Value) (h : a_H) : a_run d MX2_columns 25 L (.int y :: .int x :: st) h = if x < y then a_run d MX2_columns 28 L st h else a_run d MX2_columns 96 L st h := w_icmp_ge dX2_columns_25 rfl
theorem w_X2_columns_28 (d : Nat) (a0 a1 a2 a4 a5 : Option Value) (x : Int32) (st : List Value) (h : a_H) : a_run d MX2_columns 28 [a0, a1, a2, some (.int x), a4, a5] st h = a_run d MX2_columns 29 [a0, a1, a2, some (.int x), a4, a5] (.int x :: st) h := w_ldIn dX2_columns_28 rfl
theorem w_X2_columns_29 (d : Nat) (L : a_L) (x : Int32) (st : List Value) (h : a_H) : a_run d MX2_columns 29 L (.int x :: st) h = if x = 0 then a_run d MX2_columns 32 L st h else a_run d MX2_columns 36 L st h := w_if_ne dX2_columns_29 rfl
theorem w_X2_columns_32 (d : Nat) (L : a_L) (st : List Value) (h : a_H) : a_run d MX2_columns 32 L st h = a_run d MX2_columns 33 L (.int (nI 0) :: st) h := w_iconst dX2_columns_32 rfl
theorem w_X2_columns_33 (d : Nat) (L : a_L) (st : List Value) (h : a_H) : a_run d MX2_columns 33 L st h = a_run d MX2_columns 48 L st h := w_goto dX2_columns_33 rfl
theorem w_X2_columns_36 (d : Nat) (a0 a2 a3 a4 a5 : Option Value) (x : Nat) (st : List Value) (h : a_H) : a_run d MX2_columns 36 [a0, some (.ref x), a2, a3, a4, a5] st h = a_run d MX2_columns 37 [a0, some (.ref x), a2, a3, a4, a5] (.ref x :: st) h := w_ldAn dX2_columns_36 rfl
theorem w_X2_columns_36N (d : Nat) (a0 a2 a3 a4 a5 : Option Value) (st : List Value) (h : a_H) : a_run d MX2_columns 36 [a0, some .null, a2, a3, a4, a5] st h = a_run d MX2_columns 37 [a0, some .null, a2, a3, a4, a5] (.null :: st) h := w_ldNn dX2_columns_36 rfl
theorem w_X2_columns_37 (d : Nat) (a0 a1 a3 a4 a5 : Option Value) (x : Int32) (st : List Value) (h : a_H) : a_run d MX2_columns 37 [a0, a1, some (.int x), a3, a4, a5] st h = a_run d MX2_columns 38 [a0, a1, some (.int x), a3, a4, a5] (.int x :: st) h := w_ldIn dX2_columns_37 rfl
theorem w_X2_columns_38 (d : Nat) (L : a_L) (st : List Value) (h : a_H) : a_run d MX2_columns 38 L st h = a_run d MX2_columns 40 L (.int (nI 46) :: st) h := w_bipush dX2_columns_38 rfl
theorem w_X2_columns_40 (d : Nat) (L : a_L) (x y : Int32) (st : List Value) (h : a_H) : a_run d MX2_columns 40 L (.int y :: .int x :: st) h = a_run d MX2_columns 41 L (.int (x * y) :: st) h := w_imul dX2_columns_40
theorem w_X2_columns_41 (d : Nat) (a0 a1 a2 a4 a5 : Option Value) (x : Int32) (st : List Value) (h : a_H) : a_run d MX2_columns 41 [a0, a1, a2, some (.int x), a4, a5] st h = a_run d MX2_columns 42 [a0, a1, a2, some (.int x), a4, a5] (.int x :: st) h := w_ldIn dX2_columns_41 rfl
theorem w_X2_columns_42 (d : Nat) (L : a_L) (x y : Int32) (st : List Value) (h : a_H) : a_run d MX2_columns 42 L (.int y :: .int x :: st) h = a_run d MX2_columns 43 L (.int (x + y) :: st) h := w_iadd dX2_columns_42
theorem w_X2_columns_43 (d : Nat) (L : a_L) (st : List Value) (h : a_H) : a_run d MX2_columns 43 L st h = a_run d MX2_columns 44 L (.int (nI 1) :: st) h := w_iconst dX2_columns_43 rfl
theorem w_X2_columns_44 (d : Nat) (L : a_L) (x y : Int32) (st : List Value) (h : a_H) : a_run d MX2_columns 44 L (.int y :: .int x :: st) h = a_run d MX2_columns 45 L (.int (x - y) :: st) h := w_isub dX2_columns_44
theorem w_X2_columns_45 (d : Nat) (L : a_L) (x : Int32) (i : Nat) (st : List Value) (h : a_H) : a_run d MX2_columns 45 L (.int x :: .ref i :: st) h = (a_rdi h i a_int x).bind fun v => a_run d MX2_columns 46 L (v :: st) h := w_iald dX2_columns_45
theorem w_X2_columns_46 (d : Nat) (L : a_L) (st : List Value) (h : a_H) : a_run d MX2_columns 46 L st h = a_run d MX2_columns 47 L (.int (nI 1) :: st) h := w_iconst dX2_columns_46 rfl
theorem w_X2_columns_47 (d : Nat) (L : a_L) (x y : Int32) (st : List Value) (h : a_H) : a_run d MX2_columns 47 L (.int y :: .int x :: st) h = a_run d MX2_columns 48 L (.int (x + y) :: st) h := w_iadd dX2_columns_47
theorem w_X2_columns_48 (d : Nat) (a0 a1 a2 a3 a4 a5 : Option Value) (x : Int32) (st : List Value) (h : a_H) : a_run d MX2_columns 48 [a0, a1, a2, a3, a4, a5] (.int x :: st) h = a_run d MX2_columns 50 [a0, a1, a2, a3, some (.int x), a5] st h := w_stI dX2_columns_48 (Nat.le_of_ble_eq_true rfl) rfl
theorem w_X2_columns_50 (d : Nat) (a0 a1 a3 a4 a5 : Option Value) (x : Int32) (st : List Value) (h : a_H) : a_run d MX2_columns 50 [a0, a1, some (.int x), a3, a4, a5] st h = a_run d MX2_columns 51 [a0, a1, some (.int x), a3, a4, a5] (.int x :: st) h := w_ldIn dX2_columns_50 rfl
theorem w_X2_columns_51 (d : Nat) (L : a_L) (x : Int32) (st : List Value) (h : a_H) : a_run d MX2_columns 51 L (.int x :: st) h = if x = 0 then a_run d MX2_columns 54 L st h else a_run d MX2_columns 58 L st h := w_if_ne dX2_columns_51 rfl
theorem w_X2_columns_54 (d : Nat) (L : a_L) (st : List Value) (h : a_H) : a_run d MX2_columns 54 L st h = a_run d MX2_columns 55 L (.int (nI 0) :: st) h := w_iconst dX2_columns_54 rfl
theorem w_X2_columns_55 (d : Nat) (L : a_L) (st : List Value) (h : a_H) : a_run d MX2_columns 55 L st h = a_run d MX2_columns 73 L st h := w_goto dX2_columns_55 rfl
theorem w_X2_columns_58 (d : Nat) (a1 a2 a3 a4 a5 : Option Value) (x : Nat) (st : List Value) (h : a_H) : a_run d MX2_columns 58 [some (.ref x), a1, a2, a3, a4, a5] st h = a_run d MX2_columns 59 [some (.ref x), a1, a2, a3, a4, a5] (.ref x :: st) h := w_ldAn dX2_columns_58 rfl
theorem w_X2_columns_59 (d : Nat) (L : a_L) (st : List Value) (h : a_H) : a_run d MX2_columns 59 L st h = a_run d MX2_columns 60 L (.int (nI 0) :: st) h := w_iconst dX2_columns_59 rfl
theorem w_X2_columns_60 (d : Nat) (a1 a2 a3 a4 a5 : Option Value) (x : Nat) (st : List Value) (h : a_H) : a_run d MX2_columns 60 [some (.ref x), a1, a2, a3, a4, a5] st h = a_run d MX2_columns 61 [some (.ref x), a1, a2, a3, a4, a5] (.ref x :: st) h := w_ldAn dX2_columns_60 rfl
theorem w_X2_columns_61 (d : Nat) (a0 a1 a3 a4 a5 : Option Value) (x : Int32) (st : List Value) (h : a_H) : a_run d MX2_columns 61 [a0, a1, some (.int x), a3, a4, a5] st h = a_run d MX2_columns 62 [a0, a1, some (.int x), a3, a4, a5] (.int x :: st) h := w_ldIn dX2_columns_61 rfl
theorem w_X2_columns_62 (d : Nat) (a0 a1 a2 a4 a5 : Option Value) (x : Int32) (st : List Value) (h : a_H) : a_run d MX2_columns 62 [a0, a1, a2, some (.int x), a4, a5] st h = a_run d MX2_columns 63 [a0, a1, a2, some (.int x), a4, a5] (.int x :: st) h := w_ldIn dX2_columns_62 rfl
theorem w_X2_columns_63 (d : Nat) (L : a_L) (st : List Value) (h : a_H) : a_run d MX2_columns 63 L st h = a_run d MX2_columns 64 L (.int (nI 1) :: st) h := w_iconst dX2_columns_63 rfl
theorem w_X2_columns_64 (d : Nat) (a0 a2 a3 a4 a5 : Option Value) (x : Nat) (st : List Value) (h : a_H) : a_run d MX2_columns 64 [a0, some (.ref x), a2, a3, a4, a5] st h = a_run d MX2_columns 65 [a0, some (.ref x), a2, a3, a4, a5] (.ref x :: st) h := w_ldAn dX2_columns_64 rfl
theorem w_X2_columns_64N (d : Nat) (a0 a2 a3 a4 a5 : Option Value) (st : List Value) (h : a_H) : a_run d MX2_columns 64 [a0, some .null, a2, a3, a4, a5] st h = a_run d MX2_columns 65 [a0, some .null, a2, a3, a4, a5] (.null :: st) h := w_ldNn dX2_columns_64 rfl
theorem w_X2_columns_65 (d : Nat) (L : a_L) (i : Nat) (v1 v2 v3 v4 : Value) (st : List Value) (h : a_H) (hk : a_kls h i = some 1) (hc : a_cat st ≤ 8) : a_run d MX2_columns 65 L (v4 :: v3 :: v2 :: v1 :: .ref i :: st) h = a_cont d MX2_columns (a_bk MX2_columns 65 L st (a_call d MX2_neighbours [.ref i, v1, v2, v3, v4] h)) := w_callV (as := [.ref i, v1, v2, v3, v4]) dX2_columns_65 rfl rfl rfl hc (a_rcv_of hk rfl)
theorem w_X2_columns_68 (d : Nat) (L : a_L) (i : Nat) (v1 v2 : Value) (st : List Value) (h : a_H) (hk : a_kls h i = some 1) (hc : a_cat st ≤ 8) : a_run d MX2_columns 68 L (v2 :: v1 :: .ref i :: st) h = a_cont d MX2_columns (a_bk MX2_columns 68 L st (a_call d MX2_middle [.ref i, v1, v2] h)) := w_callV (as := [.ref i, v1, v2]) dX2_columns_68 rfl rfl rfl hc (a_rcv_of hk rfl)
theorem w_X2_columns_71 (d : Nat) (L : a_L) (st : List Value) (h : a_H) : a_run d MX2_columns 71 L st h = a_run d MX2_columns 72 L (.int (nI 2) :: st) h := w_iconst dX2_columns_71 rfl
theorem w_X2_columns_72 (d : Nat) (L : a_L) (x y : Int32) (st : List Value) (h : a_H) (hy : y ≠ 0) : a_run d MX2_columns 72 L (.int y :: .int x :: st) h = a_run d MX2_columns 73 L (.int (x / y) :: st) h := w_idiv dX2_columns_72 hy
theorem w_X2_columns_73 (d : Nat) (a0 a1 a2 a3 a4 a5 : Option Value) (x : Int32) (st : List Value) (h : a_H) : a_run d MX2_columns 73 [a0, a1, a2, a3, a4, a5] (.int x :: st) h = a_run d MX2_columns 75 [a0, a1, a2, a3, a4, some (.int x)] st h := w_stI dX2_columns_73 (Nat.le_of_ble_eq_true rfl) rfl
theorem w_X2_columns_75 (d : Nat) (a0 a2 a3 a4 a5 : Option Value) (x : Nat) (st : List Value) (h : a_H) : a_run d MX2_columns 75 [a0, some (.ref x), a2, a3, a4, a5] st h = a_run d MX2_columns 76 [a0, some (.ref x), a2, a3, a4, a5] (.ref x :: st) h := w_ldAn dX2_columns_75 rfl
theorem w_X2_columns_75N (d : Nat) (a0 a2 a3 a4 a5 : Option Value) (st : List Value) (h : a_H) : a_run d MX2_columns 75 [a0, some .null, a2, a3, a4, a5] st h = a_run d MX2_columns 76 [a0, some .null, a2, a3, a4, a5] (.null :: st) h := w_ldNn dX2_columns_75 rfl
theorem w_X2_columns_76 (d : Nat) (a0 a1 a3 a4 a5 : Option Value) (x : Int32) (st : List Value) (h : a_H) : a_run d MX2_columns 76 [a0, a1, some (.int x), a3, a4, a5] st h = a_run d MX2_columns 77 [a0, a1, some (.int x), a3, a4, a5] (.int x :: st) h := w_ldIn dX2_columns_76 rfl
theorem w_X2_columns_77 (d : Nat) (L : a_L) (st : List Value) (h : a_H) : a_run d MX2_columns 77 L st h = a_run d MX2_columns 79 L (.int (nI 46) :: st) h := w_bipush dX2_columns_77 rfl
theorem w_X2_columns_79 (d : Nat) (L : a_L) (x y : Int32) (st : List Value) (h : a_H) : a_run d MX2_columns 79 L (.int y :: .int x :: st) h = a_run d MX2_columns 80 L (.int (x * y) :: st) h := w_imul dX2_columns_79
theorem w_X2_columns_80 (d : Nat) (a0 a1 a2 a4 a5 : Option Value) (x : Int32) (st : List Value) (h : a_H) : a_run d MX2_columns 80 [a0, a1, a2, some (.int x), a4, a5] st h = a_run d MX2_columns 81 [a0, a1, a2, some (.int x), a4, a5] (.int x :: st) h := w_ldIn dX2_columns_80 rfl
theorem w_X2_columns_81 (d : Nat) (L : a_L) (x y : Int32) (st : List Value) (h : a_H) : a_run d MX2_columns 81 L (.int y :: .int x :: st) h = a_run d MX2_columns 82 L (.int (x + y) :: st) h := w_iadd dX2_columns_81
theorem w_X2_columns_82 (d : Nat) (a0 a1 a2 a3 a5 : Option Value) (x : Int32) (st : List Value) (h : a_H) : a_run d MX2_columns 82 [a0, a1, a2, a3, some (.int x), a5] st h = a_run d MX2_columns 84 [a0, a1, a2, a3, some (.int x), a5] (.int x :: st) h := w_ldI dX2_columns_82 rfl
theorem w_X2_columns_84 (d : Nat) (a0 a1 a2 a3 a4 : Option Value) (x : Int32) (st : List Value) (h : a_H) : a_run d MX2_columns 84 [a0, a1, a2, a3, a4, some (.int x)] st h = a_run d MX2_columns 86 [a0, a1, a2, a3, a4, some (.int x)] (.int x :: st) h := w_ldI dX2_columns_84 rfl
theorem w_X2_columns_86 (d : Nat) (L : a_L) (x y : Int32) (st : List Value) (h : a_H) (hc : a_cat st ≤ 8) : a_run d MX2_columns 86 L (.int y :: .int x :: st) h = a_run d MX2_columns 89 L (.int (if x < y then y else x) :: st) h := w_max dX2_columns_86 rfl hc
theorem w_X2_columns_89 (d : Nat) (L : a_L) (x y : Int32) (i : Nat) (st : List Value) (h : a_H) : a_run d MX2_columns 89 L (.int y :: .int x :: .ref i :: st) h = (a_wri h i a_int x y).bind fun h' => a_run d MX2_columns 90 L st h' := w_iast dX2_columns_89
theorem w_X2_columns_90 (d : Nat) (a0 a1 a2 a4 a5 : Option Value) (x : Int32) (st : List Value) (h : a_H) : a_run d MX2_columns 90 [a0, a1, a2, some (.int x), a4, a5] st h = a_run d MX2_columns 93 [a0, a1, a2, some (.int (x + nI 1)), a4, a5] st h := w_incL dX2_columns_90 rfl rfl rfl
theorem w_X2_columns_93 (d : Nat) (L : a_L) (st : List Value) (h : a_H) : a_run d MX2_columns 93 L st h = a_run d MX2_columns 18 L st h := w_goto dX2_columns_93 rfl
theorem w_X2_columns_96 (d : Nat) (a0 a1 a3 a4 a5 : Option Value) (x : Int32) (st : List Value) (h : a_H) : a_run d MX2_columns 96 [a0, a1, some (.int x), a3, a4, a5] st h = a_run d MX2_columns 99 [a0, a1, some (.int (x + nI 1)), a3, a4, a5] st h := w_incL dX2_columns_96 rfl rfl rfl
theorem w_X2_columns_99 (d : Nat) (L : a_L) (st : List Value) (h : a_H) : a_run d MX2_columns 99 L st h = a_run d MX2_columns 8 L st h := w_goto dX2_columns_99 rfl
theorem w_X2_columns_102 (d : Nat) (a0 a2 a3 a4 a5 : Option Value) (x : Nat) (st : List Value) (h : a_H) : a_run d MX2_columns 102 [a0, some (.ref x), a2, a3, a4, a5] st h = a_run d MX2_columns 103 [a0, some (.ref x), a2, a3, a4, a5] (.ref x :: st) h := w_ldAn dX2_columns_102 rfl
theorem w_X2_columns_102N (d : Nat) (a0 a2 a3 a4 a5 : Option Value) (st : List Value) (h : a_H) : a_run d MX2_columns 102 [a0, some .null, a2, a3, a4, a5] st h = a_run d MX2_columns 103 [a0, some .null, a2, a3, a4, a5] (.null :: st) h := w_ldNn dX2_columns_102 rfl
theorem w_X2_columns_103 (d : Nat) (L : a_L) (x : Nat) (h : a_H) : a_run d MX2_columns 103 L [.ref x] h = some (.inl (some (.ref x)), h) := w_aret dX2_columns_103 rfl
theorem w_X2_columns_103N (d : Nat) (L : a_L) (h : a_H) : a_run d MX2_columns 103 L [.null] h = some (.inl (some .null), h) := w_aretN dX2_columns_103 rfl
theorem e_X2_bendsBy (d : Nat) (x0 : Nat) (x1 : Int32) (x2 : Nat) (h : a_H) : a_call (d + 1) MX2_bendsBy [.ref x0, .int x1, .ref x2] h = a_run d MX2_bendsBy 0 [some (.ref x0), some (.int x1), some (.ref x2), none, none] [] h := a_call_run rfl (Nat.le_of_ble_eq_true rfl) rfl
theorem w_X2_bendsBy_0 (d : Nat) (L : a_L) (st : List Value) (h : a_H) : a_run d MX2_bendsBy 0 L st h = a_run d MX2_bendsBy 1 L (.int (nI 0) :: st) h := w_iconst dX2_bendsBy_0 rfl
theorem w_X2_bendsBy_1 (d : Nat) (a0 a1 a2 a3 a4 : Option Value) (x : Int32) (st : List Value) (h : a_H) : a_run d MX2_bendsBy 1 [a0, a1, a2, a3, a4] (.int x :: st) h = a_run d MX2_bendsBy 2 [a0, a1, a2, some (.int x), a4] st h := w_stIn dX2_bendsBy_1 (Nat.le_of_ble_eq_true rfl) rfl
theorem w_X2_bendsBy_2 (d : Nat) (a1 a2 a3 a4 : Option Value) (x : Nat) (st : List Value) (h : a_H) : a_run d MX2_bendsBy 2 [some (.ref x), a1, a2, a3, a4] st h = a_run d MX2_bendsBy 3 [some (.ref x), a1, a2, a3, a4] (.ref x :: st) h := w_ldAn dX2_bendsBy_2 rfl
theorem w_X2_bendsBy_3 (d : Nat) (L : a_L) (i : Nat) (st : List Value) (h : a_H) : a_run d MX2_bendsBy 3 L (.ref i :: st) h = (a_gf h i 3 [1]).bind fun v => a_run d MX2_bendsBy 6 L (v :: st) h := w_getf dX2_bendsBy_3 rfl
theorem w_X2_bendsBy_6 (d : Nat) (a1 a2 a3 a4 : Option Value) (x : Nat) (st : List Value) (h : a_H) : a_run d MX2_bendsBy 6 [some (.ref x), a1, a2, a3, a4] st h = a_run d MX2_bendsBy 7 [some (.ref x), a1, a2, a3, a4] (.ref x :: st) h := w_ldAn dX2_bendsBy_6 rfl
theorem w_X2_bendsBy_7 (d : Nat) (L : a_L) (i : Nat) (st : List Value) (h : a_H) : a_run d MX2_bendsBy 7 L (.ref i :: st) h = (a_gf h i 0 [1]).bind fun v => a_run d MX2_bendsBy 10 L (v :: st) h := w_getf dX2_bendsBy_7 rfl
theorem w_X2_bendsBy_10 (d : Nat) (a0 a2 a3 a4 : Option Value) (x : Int32) (st : List Value) (h : a_H) : a_run d MX2_bendsBy 10 [a0, some (.int x), a2, a3, a4] st h = a_run d MX2_bendsBy 11 [a0, some (.int x), a2, a3, a4] (.int x :: st) h := w_ldIn dX2_bendsBy_10 rfl
theorem w_X2_bendsBy_11 (d : Nat) (L : a_L) (x : Int32) (i : Nat) (st : List Value) (h : a_H) : a_run d MX2_bendsBy 11 L (.int x :: .ref i :: st) h = (a_rdi h i a_int x).bind fun v => a_run d MX2_bendsBy 12 L (v :: st) h := w_iald dX2_bendsBy_11
theorem w_X2_bendsBy_12 (d : Nat) (L : a_L) (x : Int32) (i : Nat) (st : List Value) (h : a_H) : a_run d MX2_bendsBy 12 L (.int x :: .ref i :: st) h = (a_rdi h i a_int x).bind fun v => a_run d MX2_bendsBy 13 L (v :: st) h := w_iald dX2_bendsBy_12
theorem w_X2_bendsBy_13 (d : Nat) (L : a_L) (st : List Value) (h : a_H) : a_run d MX2_bendsBy 13 L st h = a_run d MX2_bendsBy 14 L (.int (nI 1) :: st) h := w_iconst dX2_bendsBy_13 rfl
theorem w_X2_bendsBy_14 (d : Nat) (L : a_L) (x y : Int32) (st : List Value) (h : a_H) : a_run d MX2_bendsBy 14 L (.int y :: .int x :: st) h = a_run d MX2_bendsBy 15 L (.int (x + y) :: st) h := w_iadd dX2_bendsBy_14
theorem w_X2_bendsBy_15 (d : Nat) (a0 a1 a2 a3 a4 : Option Value) (x : Int32) (st : List Value) (h : a_H) : a_run d MX2_bendsBy 15 [a0, a1, a2, a3, a4] (.int x :: st) h = a_run d MX2_bendsBy 17 [a0, a1, a2, a3, some (.int x)] st h := w_stI dX2_bendsBy_15 (Nat.le_of_ble_eq_true rfl) rfl
theorem w_X2_bendsBy_17 (d : Nat) (a0 a1 a2 a3 : Option Value) (x : Int32) (st : List Value) (h : a_H) : a_run d MX2_bendsBy 17 [a0, a1, a2, a3, some (.int x)] st h = a_run d MX2_bendsBy 19 [a0, a1, a2, a3, some (.int x)] (.int x :: st) h := w_ldI dX2_bendsBy_17 rfl
theorem w_X2_bendsBy_19 (d : Nat) (a1 a2 a3 a4 : Option Value) (x : Nat) (st : List Value) (h : a_H) : a_run d MX2_bendsBy 19 [some (.ref x), a1, a2, a3, a4] st h = a_run d MX2_bendsBy 20 [some (.ref x), a1, a2, a3, a4] (.ref x :: st) h := w_ldAn dX2_bendsBy_19 rfl
theorem w_X2_bendsBy_20 (d : Nat) (L : a_L) (i : Nat) (st : List Value) (h : a_H) : a_run d MX2_bendsBy 20 L (.ref i :: st) h = (a_gf h i 3 [1]).bind fun v => a_run d MX2_bendsBy 23 L (v :: st) h := w_getf dX2_bendsBy_20 rfl
theorem w_X2_bendsBy_23 (d : Nat) (a1 a2 a3 a4 : Option Value) (x : Nat) (st : List Value) (h : a_H) : a_run d MX2_bendsBy 23 [some (.ref x), a1, a2, a3, a4] st h = a_run d MX2_bendsBy 24 [some (.ref x), a1, a2, a3, a4] (.ref x :: st) h := w_ldAn dX2_bendsBy_23 rfl
theorem w_X2_bendsBy_24 (d : Nat) (L : a_L) (i : Nat) (st : List Value) (h : a_H) : a_run d MX2_bendsBy 24 L (.ref i :: st) h = (a_gf h i 1 [1]).bind fun v => a_run d MX2_bendsBy 27 L (v :: st) h := w_getf dX2_bendsBy_24 rfl
theorem w_X2_bendsBy_27 (d : Nat) (a0 a2 a3 a4 : Option Value) (x : Int32) (st : List Value) (h : a_H) : a_run d MX2_bendsBy 27 [a0, some (.int x), a2, a3, a4] st h = a_run d MX2_bendsBy 28 [a0, some (.int x), a2, a3, a4] (.int x :: st) h := w_ldIn dX2_bendsBy_27 rfl
theorem w_X2_bendsBy_28 (d : Nat) (L : a_L) (x : Int32) (i : Nat) (st : List Value) (h : a_H) : a_run d MX2_bendsBy 28 L (.int x :: .ref i :: st) h = (a_rdi h i a_int x).bind fun v => a_run d MX2_bendsBy 29 L (v :: st) h := w_iald dX2_bendsBy_28
theorem w_X2_bendsBy_29 (d : Nat) (L : a_L) (x : Int32) (i : Nat) (st : List Value) (h : a_H) : a_run d MX2_bendsBy 29 L (.int x :: .ref i :: st) h = (a_rdi h i a_int x).bind fun v => a_run d MX2_bendsBy 30 L (v :: st) h := w_iald dX2_bendsBy_29
theorem w_X2_bendsBy_30 (d : Nat) (L : a_L) (x y : Int32) (st : List Value) (h : a_H) : a_run d MX2_bendsBy 30 L (.int y :: .int x :: st) h = if x < y then a_run d MX2_bendsBy 33 L st h else a_run d MX2_bendsBy 68 L st h := w_icmp_ge dX2_bendsBy_30 rfl
theorem w_X2_bendsBy_33 (d : Nat) (a0 a1 a2 a4 : Option Value) (x : Int32) (st : List Value) (h : a_H) : a_run d MX2_bendsBy 33 [a0, a1, a2, some (.int x), a4] st h = a_run d MX2_bendsBy 34 [a0, a1, a2, some (.int x), a4] (.int x :: st) h := w_ldIn dX2_bendsBy_33 rfl
theorem w_X2_bendsBy_34 (d : Nat) (a1 a2 a3 a4 : Option Value) (x : Nat) (st : List Value) (h : a_H) : a_run d MX2_bendsBy 34 [some (.ref x), a1, a2, a3, a4] st h = a_run d MX2_bendsBy 35 [some (.ref x), a1, a2, a3, a4] (.ref x :: st) h := w_ldAn dX2_bendsBy_34 rfl
theorem w_X2_bendsBy_35 (d : Nat) (a0 a2 a3 a4 : Option Value) (x : Int32) (st : List Value) (h : a_H) : a_run d MX2_bendsBy 35 [a0, some (.int x), a2, a3, a4] st h = a_run d MX2_bendsBy 36 [a0, some (.int x), a2, a3, a4] (.int x :: st) h := w_ldIn dX2_bendsBy_35 rfl
theorem w_X2_bendsBy_36 (d : Nat) (a0 a1 a2 a3 : Option Value) (x : Int32) (st : List Value) (h : a_H) : a_run d MX2_bendsBy 36 [a0, a1, a2, a3, some (.int x)] st h = a_run d MX2_bendsBy 38 [a0, a1, a2, a3, some (.int x)] (.int x :: st) h := w_ldI dX2_bendsBy_36 rfl
theorem w_X2_bendsBy_38 (d : Nat) (L : a_L) (st : List Value) (h : a_H) : a_run d MX2_bendsBy 38 L st h = a_run d MX2_bendsBy 39 L (.int (nI 1) :: st) h := w_iconst dX2_bendsBy_38 rfl
theorem w_X2_bendsBy_39 (d : Nat) (L : a_L) (x y : Int32) (st : List Value) (h : a_H) : a_run d MX2_bendsBy 39 L (.int y :: .int x :: st) h = a_run d MX2_bendsBy 40 L (.int (x - y) :: st) h := w_isub dX2_bendsBy_39
theorem w_X2_bendsBy_40 (d : Nat) (a0 a1 a3 a4 : Option Value) (x : Nat) (st : List Value) (h : a_H) : a_run d MX2_bendsBy 40 [a0, a1, some (.ref x), a3, a4] st h = a_run d MX2_bendsBy 41 [a0, a1, some (.ref x), a3, a4] (.ref x :: st) h := w_ldAn dX2_bendsBy_40 rfl
theorem w_X2_bendsBy_40N (d : Nat) (a0 a1 a3 a4 : Option Value) (st : List Value) (h : a_H) : a_run d MX2_bendsBy 40 [a0, a1, some .null, a3, a4] st h = a_run d MX2_bendsBy 41 [a0, a1, some .null, a3, a4] (.null :: st) h := w_ldNn dX2_bendsBy_40 rfl
theorem w_X2_bendsBy_41 (d : Nat) (L : a_L) (i : Nat) (v1 v2 v3 : Value) (st : List Value) (h : a_H) (hk : a_kls h i = some 1) (hc : a_cat st ≤ 8) : a_run d MX2_bendsBy 41 L (v3 :: v2 :: v1 :: .ref i :: st) h = a_cont d MX2_bendsBy (a_bk MX2_bendsBy 41 L st (a_call d MX2_growth [.ref i, v1, v2, v3] h)) := w_callV (as := [.ref i, v1, v2, v3]) dX2_bendsBy_41 rfl rfl rfl hc (a_rcv_of hk rfl)
theorem w_X2_bendsBy_44 (d : Nat) (a1 a2 a3 a4 : Option Value) (x : Nat) (st : List Value) (h : a_H) : a_run d MX2_bendsBy 44 [some (.ref x), a1, a2, a3, a4] st h = a_run d MX2_bendsBy 45 [some (.ref x), a1, a2, a3, a4] (.ref x :: st) h := w_ldAn dX2_bendsBy_44 rfl
theorem w_X2_bendsBy_45 (d : Nat) (a0 a2 a3 a4 : Option Value) (x : Int32) (st : List Value) (h : a_H) : a_run d MX2_bendsBy 45 [a0, some (.int x), a2, a3, a4] st h = a_run d MX2_bendsBy 46 [a0, some (.int x), a2, a3, a4] (.int x :: st) h := w_ldIn dX2_bendsBy_45 rfl
theorem w_X2_bendsBy_46 (d : Nat) (a0 a1 a2 a3 : Option Value) (x : Int32) (st : List Value) (h : a_H) : a_run d MX2_bendsBy 46 [a0, a1, a2, a3, some (.int x)] st h = a_run d MX2_bendsBy 48 [a0, a1, a2, a3, some (.int x)] (.int x :: st) h := w_ldI dX2_bendsBy_46 rfl
theorem w_X2_bendsBy_48 (d : Nat) (a0 a1 a3 a4 : Option Value) (x : Nat) (st : List Value) (h : a_H) : a_run d MX2_bendsBy 48 [a0, a1, some (.ref x), a3, a4] st h = a_run d MX2_bendsBy 49 [a0, a1, some (.ref x), a3, a4] (.ref x :: st) h := w_ldAn dX2_bendsBy_48 rfl
theorem w_X2_bendsBy_48N (d : Nat) (a0 a1 a3 a4 : Option Value) (st : List Value) (h : a_H) : a_run d MX2_bendsBy 48 [a0, a1, some .null, a3, a4] st h = a_run d MX2_bendsBy 49 [a0, a1, some .null, a3, a4] (.null :: st) h := w_ldNn dX2_bendsBy_48 rfl
theorem w_X2_bendsBy_49 (d : Nat) (L : a_L) (i : Nat) (v1 v2 v3 : Value) (st : List Value) (h : a_H) (hk : a_kls h i = some 1) (hc : a_cat st ≤ 8) : a_run d MX2_bendsBy 49 L (v3 :: v2 :: v1 :: .ref i :: st) h = a_cont d MX2_bendsBy (a_bk MX2_bendsBy 49 L st (a_call d MX2_growth [.ref i, v1, v2, v3] h)) := w_callV (as := [.ref i, v1, v2, v3]) dX2_bendsBy_49 rfl rfl rfl hc (a_rcv_of hk rfl)
theorem w_X2_bendsBy_52 (d : Nat) (L : a_L) (x y : Int32) (st : List Value) (h : a_H) : a_run d MX2_bendsBy 52 L (.int y :: .int x :: st) h = if x = y then a_run d MX2_bendsBy 55 L st h else a_run d MX2_bendsBy 59 L st h := w_icmp_ne dX2_bendsBy_52 rfl
theorem w_X2_bendsBy_55 (d : Nat) (L : a_L) (st : List Value) (h : a_H) : a_run d MX2_bendsBy 55 L st h = a_run d MX2_bendsBy 56 L (.int (nI 0) :: st) h := w_iconst dX2_bendsBy_55 rfl
theorem w_X2_bendsBy_56 (d : Nat) (L : a_L) (st : List Value) (h : a_H) : a_run d MX2_bendsBy 56 L st h = a_run d MX2_bendsBy 60 L st h := w_goto dX2_bendsBy_56 rfl
theorem w_X2_bendsBy_59 (d : Nat) (L : a_L) (st : List Value) (h : a_H) : a_run d MX2_bendsBy 59 L st h = a_run d MX2_bendsBy 60 L (.int (nI 1) :: st) h := w_iconst dX2_bendsBy_59 rfl
theorem w_X2_bendsBy_60 (d : Nat) (L : a_L) (x y : Int32) (st : List Value) (h : a_H) : a_run d MX2_bendsBy 60 L (.int y :: .int x :: st) h = a_run d MX2_bendsBy 61 L (.int (x + y) :: st) h := w_iadd dX2_bendsBy_60
theorem w_X2_bendsBy_61 (d : Nat) (a0 a1 a2 a3 a4 : Option Value) (x : Int32) (st : List Value) (h : a_H) : a_run d MX2_bendsBy 61 [a0, a1, a2, a3, a4] (.int x :: st) h = a_run d MX2_bendsBy 62 [a0, a1, a2, some (.int x), a4] st h := w_stIn dX2_bendsBy_61 (Nat.le_of_ble_eq_true rfl) rfl
theorem w_X2_bendsBy_62 (d : Nat) (a0 a1 a2 a3 : Option Value) (x : Int32) (st : List Value) (h : a_H) : a_run d MX2_bendsBy 62 [a0, a1, a2, a3, some (.int x)] st h = a_run d MX2_bendsBy 65 [a0, a1, a2, a3, some (.int (x + nI 1))] st h := w_incL dX2_bendsBy_62 rfl rfl rfl
theorem w_X2_bendsBy_65 (d : Nat) (L : a_L) (st : List Value) (h : a_H) : a_run d MX2_bendsBy 65 L st h = a_run d MX2_bendsBy 17 L st h := w_goto dX2_bendsBy_65 rfl
theorem w_X2_bendsBy_68 (d : Nat) (a0 a1 a2 a4 : Option Value) (x : Int32) (st : List Value) (h : a_H) : a_run d MX2_bendsBy 68 [a0, a1, a2, some (.int x), a4] st h = a_run d MX2_bendsBy 69 [a0, a1, a2, some (.int x), a4] (.int x :: st) h := w_ldIn dX2_bendsBy_68 rfl
theorem w_X2_bendsBy_69 (d : Nat) (L : a_L) (x : Int32) (h : a_H) : a_run d MX2_bendsBy 69 L [.int x] h = some (.inl (some (.int x)), h) := w_iret dX2_bendsBy_69 (w_retI rfl)
theorem e_X2_growth (d : Nat) (x0 : Nat) (x1 : Int32) (x2 : Int32) (x3 : Nat) (h : a_H) : a_call (d + 1) MX2_growth [.ref x0, .int x1, .int x2, .ref x3] h = a_run d MX2_growth 0 [some (.ref x0), some (.int x1), some (.int x2), some (.ref x3)] [] h := a_call_run rfl (Nat.le_of_ble_eq_true rfl) rfl
theorem w_X2_growth_0 (d : Nat) (a0 a1 a2 : Option Value) (x : Nat) (st : List Value) (h : a_H) : a_run d MX2_growth 0 [a0, a1, a2, some (.ref x)] st h = a_run d MX2_growth 1 [a0, a1, a2, some (.ref x)] (.ref x :: st) h := w_ldAn dX2_growth_0 rfl
theorem w_X2_growth_0N (d : Nat) (a0 a1 a2 : Option Value) (st : List Value) (h : a_H) : a_run d MX2_growth 0 [a0, a1, a2, some .null] st h = a_run d MX2_growth 1 [a0, a1, a2, some .null] (.null :: st) h := w_ldNn dX2_growth_0 rfl
theorem w_X2_growth_1 (d : Nat) (a0 a1 a3 : Option Value) (x : Int32) (st : List Value) (h : a_H) : a_run d MX2_growth 1 [a0, a1, some (.int x), a3] st h = a_run d MX2_growth 2 [a0, a1, some (.int x), a3] (.int x :: st) h := w_ldIn dX2_growth_1 rfl
theorem w_X2_growth_2 (d : Nat) (L : a_L) (st : List Value) (h : a_H) : a_run d MX2_growth 2 L st h = a_run d MX2_growth 3 L (.int (nI 1) :: st) h := w_iconst dX2_growth_2 rfl
theorem w_X2_growth_3 (d : Nat) (L : a_L) (x y : Int32) (st : List Value) (h : a_H) : a_run d MX2_growth 3 L (.int y :: .int x :: st) h = a_run d MX2_growth 4 L (.int (x + y) :: st) h := w_iadd dX2_growth_3
theorem w_X2_growth_4 (d : Nat) (L : a_L) (st : List Value) (h : a_H) : a_run d MX2_growth 4 L st h = a_run d MX2_growth 6 L (.int (nI 46) :: st) h := w_bipush dX2_growth_4 rfl
theorem w_X2_growth_6 (d : Nat) (L : a_L) (x y : Int32) (st : List Value) (h : a_H) : a_run d MX2_growth 6 L (.int y :: .int x :: st) h = a_run d MX2_growth 7 L (.int (x * y) :: st) h := w_imul dX2_growth_6
theorem w_X2_growth_7 (d : Nat) (a1 a2 a3 : Option Value) (x : Nat) (st : List Value) (h : a_H) : a_run d MX2_growth 7 [some (.ref x), a1, a2, a3] st h = a_run d MX2_growth 8 [some (.ref x), a1, a2, a3] (.ref x :: st) h := w_ldAn dX2_growth_7 rfl
theorem w_X2_growth_8 (d : Nat) (a0 a2 a3 : Option Value) (x : Int32) (st : List Value) (h : a_H) : a_run d MX2_growth 8 [a0, some (.int x), a2, a3] st h = a_run d MX2_growth 9 [a0, some (.int x), a2, a3] (.int x :: st) h := w_ldIn dX2_growth_8 rfl
theorem w_X2_growth_9 (d : Nat) (a0 a1 a3 : Option Value) (x : Int32) (st : List Value) (h : a_H) : a_run d MX2_growth 9 [a0, a1, some (.int x), a3] st h = a_run d MX2_growth 10 [a0, a1, some (.int x), a3] (.int x :: st) h := w_ldIn dX2_growth_9 rfl
theorem w_X2_growth_10 (d : Nat) (L : a_L) (st : List Value) (h : a_H) : a_run d MX2_growth 10 L st h = a_run d MX2_growth 11 L (.int (nI 1) :: st) h := w_iconst dX2_growth_10 rfl
theorem w_X2_growth_11 (d : Nat) (L : a_L) (x y : Int32) (st : List Value) (h : a_H) : a_run d MX2_growth 11 L (.int y :: .int x :: st) h = a_run d MX2_growth 12 L (.int (x + y) :: st) h := w_iadd dX2_growth_11
theorem w_X2_growth_12 (d : Nat) (L : a_L) (i : Nat) (v1 v2 : Value) (st : List Value) (h : a_H) (hk : a_kls h i = some 1) (hc : a_cat st ≤ 8) : a_run d MX2_growth 12 L (v2 :: v1 :: .ref i :: st) h = a_cont d MX2_growth (a_bk MX2_growth 12 L st (a_call d MX2_endOf [.ref i, v1, v2] h)) := w_callV (as := [.ref i, v1, v2]) dX2_growth_12 rfl rfl rfl hc (a_rcv_of hk rfl)
theorem w_X2_growth_15 (d : Nat) (L : a_L) (x y : Int32) (st : List Value) (h : a_H) : a_run d MX2_growth 15 L (.int y :: .int x :: st) h = a_run d MX2_growth 16 L (.int (x + y) :: st) h := w_iadd dX2_growth_15
theorem w_X2_growth_16 (d : Nat) (L : a_L) (x : Int32) (i : Nat) (st : List Value) (h : a_H) : a_run d MX2_growth 16 L (.int x :: .ref i :: st) h = (a_rdi h i a_int x).bind fun v => a_run d MX2_growth 17 L (v :: st) h := w_iald dX2_growth_16
theorem w_X2_growth_17 (d : Nat) (a0 a1 a2 : Option Value) (x : Nat) (st : List Value) (h : a_H) : a_run d MX2_growth 17 [a0, a1, a2, some (.ref x)] st h = a_run d MX2_growth 18 [a0, a1, a2, some (.ref x)] (.ref x :: st) h := w_ldAn dX2_growth_17 rfl
theorem w_X2_growth_17N (d : Nat) (a0 a1 a2 : Option Value) (st : List Value) (h : a_H) : a_run d MX2_growth 17 [a0, a1, a2, some .null] st h = a_run d MX2_growth 18 [a0, a1, a2, some .null] (.null :: st) h := w_ldNn dX2_growth_17 rfl
theorem w_X2_growth_18 (d : Nat) (a0 a1 a3 : Option Value) (x : Int32) (st : List Value) (h : a_H) : a_run d MX2_growth 18 [a0, a1, some (.int x), a3] st h = a_run d MX2_growth 19 [a0, a1, some (.int x), a3] (.int x :: st) h := w_ldIn dX2_growth_18 rfl
theorem w_X2_growth_19 (d : Nat) (L : a_L) (st : List Value) (h : a_H) : a_run d MX2_growth 19 L st h = a_run d MX2_growth 21 L (.int (nI 46) :: st) h := w_bipush dX2_growth_19 rfl
theorem w_X2_growth_21 (d : Nat) (L : a_L) (x y : Int32) (st : List Value) (h : a_H) : a_run d MX2_growth 21 L (.int y :: .int x :: st) h = a_run d MX2_growth 22 L (.int (x * y) :: st) h := w_imul dX2_growth_21
theorem w_X2_growth_22 (d : Nat) (a1 a2 a3 : Option Value) (x : Nat) (st : List Value) (h : a_H) : a_run d MX2_growth 22 [some (.ref x), a1, a2, a3] st h = a_run d MX2_growth 23 [some (.ref x), a1, a2, a3] (.ref x :: st) h := w_ldAn dX2_growth_22 rfl
theorem w_X2_growth_23 (d : Nat) (a0 a2 a3 : Option Value) (x : Int32) (st : List Value) (h : a_H) : a_run d MX2_growth 23 [a0, some (.int x), a2, a3] st h = a_run d MX2_growth 24 [a0, some (.int x), a2, a3] (.int x :: st) h := w_ldIn dX2_growth_23 rfl
theorem w_X2_growth_24 (d : Nat) (a0 a1 a3 : Option Value) (x : Int32) (st : List Value) (h : a_H) : a_run d MX2_growth 24 [a0, a1, some (.int x), a3] st h = a_run d MX2_growth 25 [a0, a1, some (.int x), a3] (.int x :: st) h := w_ldIn dX2_growth_24 rfl
theorem w_X2_growth_25 (d : Nat) (L : a_L) (i : Nat) (v1 v2 : Value) (st : List Value) (h : a_H) (hk : a_kls h i = some 1) (hc : a_cat st ≤ 8) : a_run d MX2_growth 25 L (v2 :: v1 :: .ref i :: st) h = a_cont d MX2_growth (a_bk MX2_growth 25 L st (a_call d MX2_endOf [.ref i, v1, v2] h)) := w_callV (as := [.ref i, v1, v2]) dX2_growth_25 rfl rfl rfl hc (a_rcv_of hk rfl)
theorem w_X2_growth_28 (d : Nat) (L : a_L) (x y : Int32) (st : List Value) (h : a_H) : a_run d MX2_growth 28 L (.int y :: .int x :: st) h = a_run d MX2_growth 29 L (.int (x + y) :: st) h := w_iadd dX2_growth_28
theorem w_X2_growth_29 (d : Nat) (L : a_L) (x : Int32) (i : Nat) (st : List Value) (h : a_H) : a_run d MX2_growth 29 L (.int x :: .ref i :: st) h = (a_rdi h i a_int x).bind fun v => a_run d MX2_growth 30 L (v :: st) h := w_iald dX2_growth_29
theorem w_X2_growth_30 (d : Nat) (L : a_L) (x y : Int32) (st : List Value) (h : a_H) : a_run d MX2_growth 30 L (.int y :: .int x :: st) h = a_run d MX2_growth 31 L (.int (x - y) :: st) h := w_isub dX2_growth_30
theorem w_X2_growth_31 (d : Nat) (L : a_L) (x : Int32) (h : a_H) : a_run d MX2_growth 31 L [.int x] h = some (.inl (some (.int x)), h) := w_iret dX2_growth_31 (w_retI rfl)
theorem e_X2_straights (d : Nat) (x0 : Nat) (x1 : Nat) (h : a_H) : a_call (d + 1) MX2_straights [.ref x0, .ref x1] h = a_run d MX2_straights 0 [some (.ref x0), some (.ref x1), none, none, none] [] h := a_call_run rfl (Nat.le_of_ble_eq_true rfl) rfl
theorem w_X2_straights_0 (d : Nat) (L : a_L) (st : List Value) (h : a_H) : a_run d MX2_straights 0 L st h = a_run d MX2_straights 1 L (.int (nI 0) :: st) h := w_iconst dX2_straights_0 rfl
theorem w_X2_straights_1 (d : Nat) (a0 a1 a2 a3 a4 : Option Value) (x : Int32) (st : List Value) (h : a_H) : a_run d MX2_straights 1 [a0, a1, a2, a3, a4] (.int x :: st) h = a_run d MX2_straights 2 [a0, a1, some (.int x), a3, a4] st h := w_stIn dX2_straights_1 (Nat.le_of_ble_eq_true rfl) rfl
theorem w_X2_straights_2 (d : Nat) (L : a_L) (st : List Value) (h : a_H) : a_run d MX2_straights 2 L st h = a_run d MX2_straights 3 L (.int (nI 0) :: st) h := w_iconst dX2_straights_2 rfl
theorem w_X2_straights_3 (d : Nat) (a0 a1 a2 a3 a4 : Option Value) (x : Int32) (st : List Value) (h : a_H) : a_run d MX2_straights 3 [a0, a1, a2, a3, a4] (.int x :: st) h = a_run d MX2_straights 4 [a0, a1, a2, some (.int x), a4] st h := w_stIn dX2_straights_3 (Nat.le_of_ble_eq_true rfl) rfl
theorem w_X2_straights_4 (d : Nat) (a0 a1 a2 a4 : Option Value) (x : Int32) (st : List Value) (h : a_H) : a_run d MX2_straights 4 [a0, a1, a2, some (.int x), a4] st h = a_run d MX2_straights 5 [a0, a1, a2, some (.int x), a4] (.int x :: st) h := w_ldIn dX2_straights_4 rfl
theorem w_X2_straights_5 (d : Nat) (a1 a2 a3 a4 : Option Value) (x : Nat) (st : List Value) (h : a_H) : a_run d MX2_straights 5 [some (.ref x), a1, a2, a3, a4] st h = a_run d MX2_straights 6 [some (.ref x), a1, a2, a3, a4] (.ref x :: st) h := w_ldAn dX2_straights_5 rfl
theorem w_X2_straights_6 (d : Nat) (L : a_L) (i : Nat) (st : List Value) (h : a_H) : a_run d MX2_straights 6 L (.ref i :: st) h = (a_gf h i 12 [1]).bind fun v => a_run d MX2_straights 9 L (v :: st) h := w_getf dX2_straights_6 rfl
theorem w_X2_straights_9 (d : Nat) (L : a_L) (x y : Int32) (st : List Value) (h : a_H) : a_run d MX2_straights 9 L (.int y :: .int x :: st) h = if x < y then a_run d MX2_straights 12 L st h else a_run d MX2_straights 72 L st h := w_icmp_ge dX2_straights_9 rfl
theorem w_X2_straights_12 (d : Nat) (a1 a2 a3 a4 : Option Value) (x : Nat) (st : List Value) (h : a_H) : a_run d MX2_straights 12 [some (.ref x), a1, a2, a3, a4] st h = a_run d MX2_straights 13 [some (.ref x), a1, a2, a3, a4] (.ref x :: st) h := w_ldAn dX2_straights_12 rfl
theorem w_X2_straights_13 (d : Nat) (L : a_L) (i : Nat) (st : List Value) (h : a_H) : a_run d MX2_straights 13 L (.ref i :: st) h = (a_gf h i 3 [1]).bind fun v => a_run d MX2_straights 16 L (v :: st) h := w_getf dX2_straights_13 rfl
theorem w_X2_straights_16 (d : Nat) (a1 a2 a3 a4 : Option Value) (x : Nat) (st : List Value) (h : a_H) : a_run d MX2_straights 16 [some (.ref x), a1, a2, a3, a4] st h = a_run d MX2_straights 17 [some (.ref x), a1, a2, a3, a4] (.ref x :: st) h := w_ldAn dX2_straights_16 rfl
theorem w_X2_straights_17 (d : Nat) (L : a_L) (i : Nat) (st : List Value) (h : a_H) : a_run d MX2_straights 17 L (.ref i :: st) h = (a_gf h i 0 [1]).bind fun v => a_run d MX2_straights 20 L (v :: st) h := w_getf dX2_straights_17 rfl
theorem w_X2_straights_20 (d : Nat) (a0 a1 a2 a4 : Option Value) (x : Int32) (st : List Value) (h : a_H) : a_run d MX2_straights 20 [a0, a1, a2, some (.int x), a4] st h = a_run d MX2_straights 21 [a0, a1, a2, some (.int x), a4] (.int x :: st) h := w_ldIn dX2_straights_20 rfl
theorem w_X2_straights_21 (d : Nat) (L : a_L) (x : Int32) (i : Nat) (st : List Value) (h : a_H) : a_run d MX2_straights 21 L (.int x :: .ref i :: st) h = (a_rdi h i a_int x).bind fun v => a_run d MX2_straights 22 L (v :: st) h := w_iald dX2_straights_21
theorem w_X2_straights_22 (d : Nat) (L : a_L) (x : Int32) (i : Nat) (st : List Value) (h : a_H) : a_run d MX2_straights 22 L (.int x :: .ref i :: st) h = (a_rdi h i a_int x).bind fun v => a_run d MX2_straights 23 L (v :: st) h := w_iald dX2_straights_22
theorem w_X2_straights_23 (d : Nat) (a0 a1 a2 a3 a4 : Option Value) (x : Int32) (st : List Value) (h : a_H) : a_run d MX2_straights 23 [a0, a1, a2, a3, a4] (.int x :: st) h = a_run d MX2_straights 25 [a0, a1, a2, a3, some (.int x)] st h := w_stI dX2_straights_23 (Nat.le_of_ble_eq_true rfl) rfl
theorem w_X2_straights_25 (d : Nat) (a0 a1 a2 a3 : Option Value) (x : Int32) (st : List Value) (h : a_H) : a_run d MX2_straights 25 [a0, a1, a2, a3, some (.int x)] st h = a_run d MX2_straights 27 [a0, a1, a2, a3, some (.int x)] (.int x :: st) h := w_ldI dX2_straights_25 rfl
theorem w_X2_straights_27 (d : Nat) (a1 a2 a3 a4 : Option Value) (x : Nat) (st : List Value) (h : a_H) : a_run d MX2_straights 27 [some (.ref x), a1, a2, a3, a4] st h = a_run d MX2_straights 28 [some (.ref x), a1, a2, a3, a4] (.ref x :: st) h := w_ldAn dX2_straights_27 rfl
theorem w_X2_straights_28 (d : Nat) (L : a_L) (i : Nat) (st : List Value) (h : a_H) : a_run d MX2_straights 28 L (.ref i :: st) h = (a_gf h i 3 [1]).bind fun v => a_run d MX2_straights 31 L (v :: st) h := w_getf dX2_straights_28 rfl
theorem w_X2_straights_31 (d : Nat) (a1 a2 a3 a4 : Option Value) (x : Nat) (st : List Value) (h : a_H) : a_run d MX2_straights 31 [some (.ref x), a1, a2, a3, a4] st h = a_run d MX2_straights 32 [some (.ref x), a1, a2, a3, a4] (.ref x :: st) h := w_ldAn dX2_straights_31 rfl
theorem w_X2_straights_32 (d : Nat) (L : a_L) (i : Nat) (st : List Value) (h : a_H) : a_run d MX2_straights 32 L (.ref i :: st) h = (a_gf h i 1 [1]).bind fun v => a_run d MX2_straights 35 L (v :: st) h := w_getf dX2_straights_32 rfl
theorem w_X2_straights_35 (d : Nat) (a0 a1 a2 a4 : Option Value) (x : Int32) (st : List Value) (h : a_H) : a_run d MX2_straights 35 [a0, a1, a2, some (.int x), a4] st h = a_run d MX2_straights 36 [a0, a1, a2, some (.int x), a4] (.int x :: st) h := w_ldIn dX2_straights_35 rfl
theorem w_X2_straights_36 (d : Nat) (L : a_L) (x : Int32) (i : Nat) (st : List Value) (h : a_H) : a_run d MX2_straights 36 L (.int x :: .ref i :: st) h = (a_rdi h i a_int x).bind fun v => a_run d MX2_straights 37 L (v :: st) h := w_iald dX2_straights_36
theorem w_X2_straights_37 (d : Nat) (L : a_L) (x : Int32) (i : Nat) (st : List Value) (h : a_H) : a_run d MX2_straights 37 L (.int x :: .ref i :: st) h = (a_rdi h i a_int x).bind fun v => a_run d MX2_straights 38 L (v :: st) h := w_iald dX2_straights_37
theorem w_X2_straights_38 (d : Nat) (L : a_L) (x y : Int32) (st : List Value) (h : a_H) : a_run d MX2_straights 38 L (.int y :: .int x :: st) h = if x < y then a_run d MX2_straights 41 L st h else a_run d MX2_straights 66 L st h := w_icmp_ge dX2_straights_38 rfl
theorem w_X2_straights_41 (d : Nat) (a0 a1 a3 a4 : Option Value) (x : Int32) (st : List Value) (h : a_H) : a_run d MX2_straights 41 [a0, a1, some (.int x), a3, a4] st h = a_run d MX2_straights 42 [a0, a1, some (.int x), a3, a4] (.int x :: st) h := w_ldIn dX2_straights_41 rfl
theorem w_X2_straights_42 (d : Nat) (a1 a2 a3 a4 : Option Value) (x : Nat) (st : List Value) (h : a_H) : a_run d MX2_straights 42 [some (.ref x), a1, a2, a3, a4] st h = a_run d MX2_straights 43 [some (.ref x), a1, a2, a3, a4] (.ref x :: st) h := w_ldAn dX2_straights_42 rfl
theorem w_X2_straights_43 (d : Nat) (a0 a1 a2 a4 : Option Value) (x : Int32) (st : List Value) (h : a_H) : a_run d MX2_straights 43 [a0, a1, a2, some (.int x), a4] st h = a_run d MX2_straights 44 [a0, a1, a2, some (.int x), a4] (.int x :: st) h := w_ldIn dX2_straights_43 rfl
theorem w_X2_straights_44 (d : Nat) (a0 a1 a2 a3 : Option Value) (x : Int32) (st : List Value) (h : a_H) : a_run d MX2_straights 44 [a0, a1, a2, a3, some (.int x)] st h = a_run d MX2_straights 46 [a0, a1, a2, a3, some (.int x)] (.int x :: st) h := w_ldI dX2_straights_44 rfl
theorem w_X2_straights_46 (d : Nat) (a0 a2 a3 a4 : Option Value) (x : Nat) (st : List Value) (h : a_H) : a_run d MX2_straights 46 [a0, some (.ref x), a2, a3, a4] st h = a_run d MX2_straights 47 [a0, some (.ref x), a2, a3, a4] (.ref x :: st) h := w_ldAn dX2_straights_46 rfl
theorem w_X2_straights_46N (d : Nat) (a0 a2 a3 a4 : Option Value) (st : List Value) (h : a_H) : a_run d MX2_straights 46 [a0, some .null, a2, a3, a4] st h = a_run d MX2_straights 47 [a0, some .null, a2, a3, a4] (.null :: st) h := w_ldNn dX2_straights_46 rfl
theorem w_X2_straights_47 (d : Nat) (L : a_L) (i : Nat) (v1 v2 v3 : Value) (st : List Value) (h : a_H) (hk : a_kls h i = some 1) (hc : a_cat st ≤ 8) : a_run d MX2_straights 47 L (v3 :: v2 :: v1 :: .ref i :: st) h = a_cont d MX2_straights (a_bk MX2_straights 47 L st (a_call d MX2_growth [.ref i, v1, v2, v3] h)) := w_callV (as := [.ref i, v1, v2, v3]) dX2_straights_47 rfl rfl rfl hc (a_rcv_of hk rfl)
theorem w_X2_straights_50 (d : Nat) (L : a_L) (x : Int32) (st : List Value) (h : a_H) : a_run d MX2_straights 50 L (.int x :: st) h = if x = 0 then a_run d MX2_straights 53 L st h else a_run d MX2_straights 57 L st h := w_if_ne dX2_straights_50 rfl
theorem w_X2_straights_53 (d : Nat) (L : a_L) (st : List Value) (h : a_H) : a_run d MX2_straights 53 L st h = a_run d MX2_straights 54 L (.int (nI 1) :: st) h := w_iconst dX2_straights_53 rfl
theorem w_X2_straights_54 (d : Nat) (L : a_L) (st : List Value) (h : a_H) : a_run d MX2_straights 54 L st h = a_run d MX2_straights 58 L st h := w_goto dX2_straights_54 rfl
theorem w_X2_straights_57 (d : Nat) (L : a_L) (st : List Value) (h : a_H) : a_run d MX2_straights 57 L st h = a_run d MX2_straights 58 L (.int (nI 0) :: st) h := w_iconst dX2_straights_57 rfl
theorem w_X2_straights_58 (d : Nat) (L : a_L) (x y : Int32) (st : List Value) (h : a_H) : a_run d MX2_straights 58 L (.int y :: .int x :: st) h = a_run d MX2_straights 59 L (.int (x + y) :: st) h := w_iadd dX2_straights_58
theorem w_X2_straights_59 (d : Nat) (a0 a1 a2 a3 a4 : Option Value) (x : Int32) (st : List Value) (h : a_H) : a_run d MX2_straights 59 [a0, a1, a2, a3, a4] (.int x :: st) h = a_run d MX2_straights 60 [a0, a1, some (.int x), a3, a4] st h := w_stIn dX2_straights_59 (Nat.le_of_ble_eq_true rfl) rfl
theorem w_X2_straights_60 (d : Nat) (a0 a1 a2 a3 : Option Value) (x : Int32) (st : List Value) (h : a_H) : a_run d MX2_straights 60 [a0, a1, a2, a3, some (.int x)] st h = a_run d MX2_straights 63 [a0, a1, a2, a3, some (.int (x + nI 1))] st h := w_incL dX2_straights_60 rfl rfl rfl
theorem w_X2_straights_63 (d : Nat) (L : a_L) (st : List Value) (h : a_H) : a_run d MX2_straights 63 L st h = a_run d MX2_straights 25 L st h := w_goto dX2_straights_63 rfl
theorem w_X2_straights_66 (d : Nat) (a0 a1 a2 a4 : Option Value) (x : Int32) (st : List Value) (h : a_H) : a_run d MX2_straights 66 [a0, a1, a2, some (.int x), a4] st h = a_run d MX2_straights 69 [a0, a1, a2, some (.int (x + nI 1)), a4] st h := w_incL dX2_straights_66 rfl rfl rfl
theorem w_X2_straights_69 (d : Nat) (L : a_L) (st : List Value) (h : a_H) : a_run d MX2_straights 69 L st h = a_run d MX2_straights 4 L st h := w_goto dX2_straights_69 rfl
theorem w_X2_straights_72 (d : Nat) (a0 a1 a3 a4 : Option Value) (x : Int32) (st : List Value) (h : a_H) : a_run d MX2_straights 72 [a0, a1, some (.int x), a3, a4] st h = a_run d MX2_straights 73 [a0, a1, some (.int x), a3, a4] (.int x :: st) h := w_ldIn dX2_straights_72 rfl
theorem w_X2_straights_73 (d : Nat) (L : a_L) (x : Int32) (h : a_H) : a_run d MX2_straights 73 L [.int x] h = some (.inl (some (.int x)), h) := w_iret dX2_straights_73 (w_retI rfl)
theorem e_X2_slants (d : Nat) (x0 : Nat) (x1 : Nat) (h : a_H) : a_call (d + 1) MX2_slants [.ref x0, .ref x1] h = a_run d MX2_slants 0 [some (.ref x0), some (.ref x1), none, none, none] [] h := a_call_run rfl (Nat.le_of_ble_eq_true rfl) rfl
theorem w_X2_slants_0 (d : Nat) (L : a_L) (st : List Value) (h : a_H) : a_run d MX2_slants 0 L st h = a_run d MX2_slants 1 L (.int (nI 0) :: st) h := w_iconst dX2_slants_0 rfl
theorem w_X2_slants_1 (d : Nat) (a0 a1 a2 a3 a4 : Option Value) (x : Int32) (st : List Value) (h : a_H) : a_run d MX2_slants 1 [a0, a1, a2, a3, a4] (.int x :: st) h = a_run d MX2_slants 2 [a0, a1, some (.int x), a3, a4] st h := w_stIn dX2_slants_1 (Nat.le_of_ble_eq_true rfl) rfl
theorem w_X2_slants_2 (d : Nat) (L : a_L) (st : List Value) (h : a_H) : a_run d MX2_slants 2 L st h = a_run d MX2_slants 3 L (.int (nI 0) :: st) h := w_iconst dX2_slants_2 rfl
theorem w_X2_slants_3 (d : Nat) (a0 a1 a2 a3 a4 : Option Value) (x : Int32) (st : List Value) (h : a_H) : a_run d MX2_slants 3 [a0, a1, a2, a3, a4] (.int x :: st) h = a_run d MX2_slants 4 [a0, a1, a2, some (.int x), a4] st h := w_stIn dX2_slants_3 (Nat.le_of_ble_eq_true rfl) rfl
theorem w_X2_slants_4 (d : Nat) (a0 a1 a2 a4 : Option Value) (x : Int32) (st : List Value) (h : a_H) : a_run d MX2_slants 4 [a0, a1, a2, some (.int x), a4] st h = a_run d MX2_slants 5 [a0, a1, a2, some (.int x), a4] (.int x :: st) h := w_ldIn dX2_slants_4 rfl
theorem w_X2_slants_5 (d : Nat) (a1 a2 a3 a4 : Option Value) (x : Nat) (st : List Value) (h : a_H) : a_run d MX2_slants 5 [some (.ref x), a1, a2, a3, a4] st h = a_run d MX2_slants 6 [some (.ref x), a1, a2, a3, a4] (.ref x :: st) h := w_ldAn dX2_slants_5 rfl
theorem w_X2_slants_6 (d : Nat) (L : a_L) (i : Nat) (st : List Value) (h : a_H) : a_run d MX2_slants 6 L (.ref i :: st) h = (a_gf h i 12 [1]).bind fun v => a_run d MX2_slants 9 L (v :: st) h := w_getf dX2_slants_6 rfl
theorem w_X2_slants_9 (d : Nat) (L : a_L) (x y : Int32) (st : List Value) (h : a_H) : a_run d MX2_slants 9 L (.int y :: .int x :: st) h = if x < y then a_run d MX2_slants 12 L st h else a_run d MX2_slants 67 L st h := w_icmp_ge dX2_slants_9 rfl
theorem w_X2_slants_12 (d : Nat) (a1 a2 a3 a4 : Option Value) (x : Nat) (st : List Value) (h : a_H) : a_run d MX2_slants 12 [some (.ref x), a1, a2, a3, a4] st h = a_run d MX2_slants 13 [some (.ref x), a1, a2, a3, a4] (.ref x :: st) h := w_ldAn dX2_slants_12 rfl
theorem w_X2_slants_13 (d : Nat) (L : a_L) (i : Nat) (st : List Value) (h : a_H) : a_run d MX2_slants 13 L (.ref i :: st) h = (a_gf h i 3 [1]).bind fun v => a_run d MX2_slants 16 L (v :: st) h := w_getf dX2_slants_13 rfl
theorem w_X2_slants_16 (d : Nat) (a1 a2 a3 a4 : Option Value) (x : Nat) (st : List Value) (h : a_H) : a_run d MX2_slants 16 [some (.ref x), a1, a2, a3, a4] st h = a_run d MX2_slants 17 [some (.ref x), a1, a2, a3, a4] (.ref x :: st) h := w_ldAn dX2_slants_16 rfl
theorem w_X2_slants_17 (d : Nat) (L : a_L) (i : Nat) (st : List Value) (h : a_H) : a_run d MX2_slants 17 L (.ref i :: st) h = (a_gf h i 0 [1]).bind fun v => a_run d MX2_slants 20 L (v :: st) h := w_getf dX2_slants_17 rfl
theorem w_X2_slants_20 (d : Nat) (a0 a1 a2 a4 : Option Value) (x : Int32) (st : List Value) (h : a_H) : a_run d MX2_slants 20 [a0, a1, a2, some (.int x), a4] st h = a_run d MX2_slants 21 [a0, a1, a2, some (.int x), a4] (.int x :: st) h := w_ldIn dX2_slants_20 rfl
theorem w_X2_slants_21 (d : Nat) (L : a_L) (x : Int32) (i : Nat) (st : List Value) (h : a_H) : a_run d MX2_slants 21 L (.int x :: .ref i :: st) h = (a_rdi h i a_int x).bind fun v => a_run d MX2_slants 22 L (v :: st) h := w_iald dX2_slants_21
theorem w_X2_slants_22 (d : Nat) (L : a_L) (x : Int32) (i : Nat) (st : List Value) (h : a_H) : a_run d MX2_slants 22 L (.int x :: .ref i :: st) h = (a_rdi h i a_int x).bind fun v => a_run d MX2_slants 23 L (v :: st) h := w_iald dX2_slants_22
theorem w_X2_slants_23 (d : Nat) (a0 a1 a2 a3 a4 : Option Value) (x : Int32) (st : List Value) (h : a_H) : a_run d MX2_slants 23 [a0, a1, a2, a3, a4] (.int x :: st) h = a_run d MX2_slants 25 [a0, a1, a2, a3, some (.int x)] st h := w_stI dX2_slants_23 (Nat.le_of_ble_eq_true rfl) rfl
theorem w_X2_slants_25 (d : Nat) (a0 a1 a2 a3 : Option Value) (x : Int32) (st : List Value) (h : a_H) : a_run d MX2_slants 25 [a0, a1, a2, a3, some (.int x)] st h = a_run d MX2_slants 27 [a0, a1, a2, a3, some (.int x)] (.int x :: st) h := w_ldI dX2_slants_25 rfl
theorem w_X2_slants_27 (d : Nat) (a1 a2 a3 a4 : Option Value) (x : Nat) (st : List Value) (h : a_H) : a_run d MX2_slants 27 [some (.ref x), a1, a2, a3, a4] st h = a_run d MX2_slants 28 [some (.ref x), a1, a2, a3, a4] (.ref x :: st) h := w_ldAn dX2_slants_27 rfl
theorem w_X2_slants_28 (d : Nat) (L : a_L) (i : Nat) (st : List Value) (h : a_H) : a_run d MX2_slants 28 L (.ref i :: st) h = (a_gf h i 3 [1]).bind fun v => a_run d MX2_slants 31 L (v :: st) h := w_getf dX2_slants_28 rfl
theorem w_X2_slants_31 (d : Nat) (a1 a2 a3 a4 : Option Value) (x : Nat) (st : List Value) (h : a_H) : a_run d MX2_slants 31 [some (.ref x), a1, a2, a3, a4] st h = a_run d MX2_slants 32 [some (.ref x), a1, a2, a3, a4] (.ref x :: st) h := w_ldAn dX2_slants_31 rfl
theorem w_X2_slants_32 (d : Nat) (L : a_L) (i : Nat) (st : List Value) (h : a_H) : a_run d MX2_slants 32 L (.ref i :: st) h = (a_gf h i 1 [1]).bind fun v => a_run d MX2_slants 35 L (v :: st) h := w_getf dX2_slants_32 rfl
theorem w_X2_slants_35 (d : Nat) (a0 a1 a2 a4 : Option Value) (x : Int32) (st : List Value) (h : a_H) : a_run d MX2_slants 35 [a0, a1, a2, some (.int x), a4] st h = a_run d MX2_slants 36 [a0, a1, a2, some (.int x), a4] (.int x :: st) h := w_ldIn dX2_slants_35 rfl
theorem w_X2_slants_36 (d : Nat) (L : a_L) (x : Int32) (i : Nat) (st : List Value) (h : a_H) : a_run d MX2_slants 36 L (.int x :: .ref i :: st) h = (a_rdi h i a_int x).bind fun v => a_run d MX2_slants 37 L (v :: st) h := w_iald dX2_slants_36
theorem w_X2_slants_37 (d : Nat) (L : a_L) (x : Int32) (i : Nat) (st : List Value) (h : a_H) : a_run d MX2_slants 37 L (.int x :: .ref i :: st) h = (a_rdi h i a_int x).bind fun v => a_run d MX2_slants 38 L (v :: st) h := w_iald dX2_slants_37
theorem w_X2_slants_38 (d : Nat) (L : a_L) (x y : Int32) (st : List Value) (h : a_H) : a_run d MX2_slants 38 L (.int y :: .int x :: st) h = if x < y then a_run d MX2_slants 41 L st h else a_run d MX2_slants 61 L st h := w_icmp_ge dX2_slants_38 rfl
theorem w_X2_slants_41 (d : Nat) (a0 a1 a3 a4 : Option Value) (x : Int32) (st : List Value) (h : a_H) : a_run d MX2_slants 41 [a0, a1, some (.int x), a3, a4] st h = a_run d MX2_slants 42 [a0, a1, some (.int x), a3, a4] (.int x :: st) h := w_ldIn dX2_slants_41 rfl
theorem w_X2_slants_42 (d : Nat) (a1 a2 a3 a4 : Option Value) (x : Nat) (st : List Value) (h : a_H) : a_run d MX2_slants 42 [some (.ref x), a1, a2, a3, a4] st h = a_run d MX2_slants 43 [some (.ref x), a1, a2, a3, a4] (.ref x :: st) h := w_ldAn dX2_slants_42 rfl
theorem w_X2_slants_43 (d : Nat) (a0 a1 a2 a4 : Option Value) (x : Int32) (st : List Value) (h : a_H) : a_run d MX2_slants 43 [a0, a1, a2, some (.int x), a4] st h = a_run d MX2_slants 44 [a0, a1, a2, some (.int x), a4] (.int x :: st) h := w_ldIn dX2_slants_43 rfl
theorem w_X2_slants_44 (d : Nat) (a0 a1 a2 a3 : Option Value) (x : Int32) (st : List Value) (h : a_H) : a_run d MX2_slants 44 [a0, a1, a2, a3, some (.int x)] st h = a_run d MX2_slants 46 [a0, a1, a2, a3, some (.int x)] (.int x :: st) h := w_ldI dX2_slants_44 rfl
theorem w_X2_slants_46 (d : Nat) (a0 a2 a3 a4 : Option Value) (x : Nat) (st : List Value) (h : a_H) : a_run d MX2_slants 46 [a0, some (.ref x), a2, a3, a4] st h = a_run d MX2_slants 47 [a0, some (.ref x), a2, a3, a4] (.ref x :: st) h := w_ldAn dX2_slants_46 rfl
theorem w_X2_slants_46N (d : Nat) (a0 a2 a3 a4 : Option Value) (st : List Value) (h : a_H) : a_run d MX2_slants 46 [a0, some .null, a2, a3, a4] st h = a_run d MX2_slants 47 [a0, some .null, a2, a3, a4] (.null :: st) h := w_ldNn dX2_slants_46 rfl
theorem w_X2_slants_47 (d : Nat) (L : a_L) (i : Nat) (v1 v2 v3 : Value) (st : List Value) (h : a_H) (hk : a_kls h i = some 1) (hc : a_cat st ≤ 8) : a_run d MX2_slants 47 L (v3 :: v2 :: v1 :: .ref i :: st) h = a_cont d MX2_slants (a_bk MX2_slants 47 L st (a_call d MX2_growth [.ref i, v1, v2, v3] h)) := w_callV (as := [.ref i, v1, v2, v3]) dX2_slants_47 rfl rfl rfl hc (a_rcv_of hk rfl)
theorem w_X2_slants_50 (d : Nat) (L : a_L) (x : Int32) (st : List Value) (h : a_H) (hc : a_cat st ≤ 8) : a_run d MX2_slants 50 L (.int x :: st) h = a_run d MX2_slants 53 L (.int (if 0 ≤ x then x else 0 - x) :: st) h := w_abs dX2_slants_50 rfl hc
theorem w_X2_slants_53 (d : Nat) (L : a_L) (x y : Int32) (st : List Value) (h : a_H) : a_run d MX2_slants 53 L (.int y :: .int x :: st) h = a_run d MX2_slants 54 L (.int (x + y) :: st) h := w_iadd dX2_slants_53
theorem w_X2_slants_54 (d : Nat) (a0 a1 a2 a3 a4 : Option Value) (x : Int32) (st : List Value) (h : a_H) : a_run d MX2_slants 54 [a0, a1, a2, a3, a4] (.int x :: st) h = a_run d MX2_slants 55 [a0, a1, some (.int x), a3, a4] st h := w_stIn dX2_slants_54 (Nat.le_of_ble_eq_true rfl) rfl
theorem w_X2_slants_55 (d : Nat) (a0 a1 a2 a3 : Option Value) (x : Int32) (st : List Value) (h : a_H) : a_run d MX2_slants 55 [a0, a1, a2, a3, some (.int x)] st h = a_run d MX2_slants 58 [a0, a1, a2, a3, some (.int (x + nI 1))] st h := w_incL dX2_slants_55 rfl rfl rfl
theorem w_X2_slants_58 (d : Nat) (L : a_L) (st : List Value) (h : a_H) : a_run d MX2_slants 58 L st h = a_run d MX2_slants 25 L st h := w_goto dX2_slants_58 rfl
theorem w_X2_slants_61 (d : Nat) (a0 a1 a2 a4 : Option Value) (x : Int32) (st : List Value) (h : a_H) : a_run d MX2_slants 61 [a0, a1, a2, some (.int x), a4] st h = a_run d MX2_slants 64 [a0, a1, a2, some (.int (x + nI 1)), a4] st h := w_incL dX2_slants_61 rfl rfl rfl
theorem w_X2_slants_64 (d : Nat) (L : a_L) (st : List Value) (h : a_H) : a_run d MX2_slants 64 L st h = a_run d MX2_slants 4 L st h := w_goto dX2_slants_64 rfl
theorem w_X2_slants_67 (d : Nat) (a0 a1 a3 a4 : Option Value) (x : Int32) (st : List Value) (h : a_H) : a_run d MX2_slants 67 [a0, a1, some (.int x), a3, a4] st h = a_run d MX2_slants 68 [a0, a1, some (.int x), a3, a4] (.int x :: st) h := w_ldIn dX2_slants_67 rfl
theorem w_X2_slants_68 (d : Nat) (L : a_L) (x : Int32) (h : a_H) : a_run d MX2_slants 68 L [.int x] h = some (.inl (some (.int x)), h) := w_iret dX2_slants_68 (w_retI rfl)
theorem e_X2_heard (d : Nat) (x0 : Nat) (x1 : Int32) (h : a_H) : a_call (d + 1) MX2_heard [.ref x0, .int x1] h = a_run d MX2_heard 0 [some (.ref x0), some (.int x1), none, none, none, none] [] h := a_call_run rfl (Nat.le_of_ble_eq_true rfl) rfl
theorem w_X2_heard_0 (d : Nat) (L : a_L) (st : List Value) (h : a_H) : a_run d MX2_heard 0 L st h = a_run d MX2_heard 2 L (.int (nI 16) :: st) h := w_bipush dX2_heard_0 rfl
theorem w_X2_heard_2 (d : Nat) (L : a_L) (x : Int32) (st : List Value) (h : a_H) : a_run d MX2_heard 2 L (.int x :: st) h = (a_newa h (newarray.typeOf .int) x).bind fun q => a_run d MX2_heard 4 L (.ref q.1 :: st) q.2 := w_newa dX2_heard_2
theorem w_X2_heard_4 (d : Nat) (a0 a1 a2 a3 a4 a5 : Option Value) (x : Nat) (st : List Value) (h : a_H) : a_run d MX2_heard 4 [a0, a1, a2, a3, a4, a5] (.ref x :: st) h = a_run d MX2_heard 5 [a0, a1, some (.ref x), a3, a4, a5] st h := w_stAn dX2_heard_4 (Nat.le_of_ble_eq_true rfl) rfl
theorem w_X2_heard_4N (d : Nat) (a0 a1 a2 a3 a4 a5 : Option Value) (st : List Value) (h : a_H) : a_run d MX2_heard 4 [a0, a1, a2, a3, a4, a5] (.null :: st) h = a_run d MX2_heard 5 [a0, a1, some .null, a3, a4, a5] st h := w_stNn dX2_heard_4 (Nat.le_of_ble_eq_true rfl) rfl
theorem w_X2_heard_5 (d : Nat) (L : a_L) (st : List Value) (h : a_H) : a_run d MX2_heard 5 L st h = a_run d MX2_heard 6 L (.int (nI 0) :: st) h := w_iconst dX2_heard_5 rfl
theorem w_X2_heard_6 (d : Nat) (a0 a1 a2 a3 a4 a5 : Option Value) (x : Int32) (st : List Value) (h : a_H) : a_run d MX2_heard 6 [a0, a1, a2, a3, a4, a5] (.int x :: st) h = a_run d MX2_heard 7 [a0, a1, a2, some (.int x), a4, a5] st h := w_stIn dX2_heard_6 (Nat.le_of_ble_eq_true rfl) rfl
theorem w_X2_heard_7 (d : Nat) (a0 a1 a2 a4 a5 : Option Value) (x : Int32) (st : List Value) (h : a_H) : a_run d MX2_heard 7 [a0, a1, a2, some (.int x), a4, a5] st h = a_run d MX2_heard 8 [a0, a1, a2, some (.int x), a4, a5] (.int x :: st) h := w_ldIn dX2_heard_7 rfl
theorem w_X2_heard_8 (d : Nat) (a1 a2 a3 a4 a5 : Option Value) (x : Nat) (st : List Value) (h : a_H) : a_run d MX2_heard 8 [some (.ref x), a1, a2, a3, a4, a5] st h = a_run d MX2_heard 9 [some (.ref x), a1, a2, a3, a4, a5] (.ref x :: st) h := w_ldAn dX2_heard_8 rfl
theorem w_X2_heard_9 (d : Nat) (L : a_L) (i : Nat) (st : List Value) (h : a_H) : a_run d MX2_heard 9 L (.ref i :: st) h = (a_gf h i 13 [1]).bind fun v => a_run d MX2_heard 12 L (v :: st) h := w_getf dX2_heard_9 rfl
theorem w_X2_heard_12 (d : Nat) (L : a_L) (x y : Int32) (st : List Value) (h : a_H) : a_run d MX2_heard 12 L (.int y :: .int x :: st) h = if x < y then a_run d MX2_heard 15 L st h else a_run d MX2_heard 102 L st h := w_icmp_ge dX2_heard_12 rfl
theorem w_X2_heard_15 (d : Nat) (L : a_L) (st : List Value) (h : a_H) : a_run d MX2_heard 15 L st h = a_run d MX2_heard 16 L (.int (nI 0) :: st) h := w_iconst dX2_heard_15 rfl
theorem w_X2_heard_16 (d : Nat) (a0 a1 a2 a3 a4 a5 : Option Value) (x : Int32) (st : List Value) (h : a_H) : a_run d MX2_heard 16 [a0, a1, a2, a3, a4, a5] (.int x :: st) h = a_run d MX2_heard 18 [a0, a1, a2, a3, some (.int x), a5] st h := w_stI dX2_heard_16 (Nat.le_of_ble_eq_true rfl) rfl
theorem w_X2_heard_18 (d : Nat) (a0 a1 a2 a3 a5 : Option Value) (x : Int32) (st : List Value) (h : a_H) : a_run d MX2_heard 18 [a0, a1, a2, a3, some (.int x), a5] st h = a_run d MX2_heard 20 [a0, a1, a2, a3, some (.int x), a5] (.int x :: st) h := w_ldI dX2_heard_18 rfl
theorem w_X2_heard_20 (d : Nat) (a1 a2 a3 a4 a5 : Option Value) (x : Nat) (st : List Value) (h : a_H) : a_run d MX2_heard 20 [some (.ref x), a1, a2, a3, a4, a5] st h = a_run d MX2_heard 21 [some (.ref x), a1, a2, a3, a4, a5] (.ref x :: st) h := w_ldAn dX2_heard_20 rfl
theorem w_X2_heard_21 (d : Nat) (L : a_L) (i : Nat) (st : List Value) (h : a_H) : a_run d MX2_heard 21 L (.ref i :: st) h = (a_gf h i 12 [1]).bind fun v => a_run d MX2_heard 24 L (v :: st) h := w_getf dX2_heard_21 rfl
theorem w_X2_heard_24 (d : Nat) (L : a_L) (x y : Int32) (st : List Value) (h : a_H) : a_run d MX2_heard 24 L (.int y :: .int x :: st) h = if x < y then a_run d MX2_heard 27 L st h else a_run d MX2_heard 96 L st h := w_icmp_ge dX2_heard_24 rfl
theorem w_X2_heard_27 (d : Nat) (a1 a2 a3 a4 a5 : Option Value) (x : Nat) (st : List Value) (h : a_H) : a_run d MX2_heard 27 [some (.ref x), a1, a2, a3, a4, a5] st h = a_run d MX2_heard 28 [some (.ref x), a1, a2, a3, a4, a5] (.ref x :: st) h := w_ldAn dX2_heard_27 rfl
theorem w_X2_heard_28 (d : Nat) (L : a_L) (i : Nat) (st : List Value) (h : a_H) : a_run d MX2_heard 28 L (.ref i :: st) h = (a_gf h i 3 [1]).bind fun v => a_run d MX2_heard 31 L (v :: st) h := w_getf dX2_heard_28 rfl
theorem w_X2_heard_31 (d : Nat) (a1 a2 a3 a4 a5 : Option Value) (x : Nat) (st : List Value) (h : a_H) : a_run d MX2_heard 31 [some (.ref x), a1, a2, a3, a4, a5] st h = a_run d MX2_heard 32 [some (.ref x), a1, a2, a3, a4, a5] (.ref x :: st) h := w_ldAn dX2_heard_31 rfl
theorem w_X2_heard_32 (d : Nat) (L : a_L) (i : Nat) (st : List Value) (h : a_H) : a_run d MX2_heard 32 L (.ref i :: st) h = (a_gf h i 1 [1]).bind fun v => a_run d MX2_heard 35 L (v :: st) h := w_getf dX2_heard_32 rfl
theorem w_X2_heard_35 (d : Nat) (a0 a1 a2 a3 a5 : Option Value) (x : Int32) (st : List Value) (h : a_H) : a_run d MX2_heard 35 [a0, a1, a2, a3, some (.int x), a5] st h = a_run d MX2_heard 37 [a0, a1, a2, a3, some (.int x), a5] (.int x :: st) h := w_ldI dX2_heard_35 rfl
theorem w_X2_heard_37 (d : Nat) (L : a_L) (x : Int32) (i : Nat) (st : List Value) (h : a_H) : a_run d MX2_heard 37 L (.int x :: .ref i :: st) h = (a_rdi h i a_int x).bind fun v => a_run d MX2_heard 38 L (v :: st) h := w_iald dX2_heard_37
theorem w_X2_heard_38 (d : Nat) (L : a_L) (x : Int32) (i : Nat) (st : List Value) (h : a_H) : a_run d MX2_heard 38 L (.int x :: .ref i :: st) h = (a_rdi h i a_int x).bind fun v => a_run d MX2_heard 39 L (v :: st) h := w_iald dX2_heard_38
theorem w_X2_heard_39 (d : Nat) (a0 a1 a2 a4 a5 : Option Value) (x : Int32) (st : List Value) (h : a_H) : a_run d MX2_heard 39 [a0, a1, a2, some (.int x), a4, a5] st h = a_run d MX2_heard 40 [a0, a1, a2, some (.int x), a4, a5] (.int x :: st) h := w_ldIn dX2_heard_39 rfl
theorem w_X2_heard_40 (d : Nat) (L : a_L) (x y : Int32) (st : List Value) (h : a_H) : a_run d MX2_heard 40 L (.int y :: .int x :: st) h = if x = y then a_run d MX2_heard 43 L st h else a_run d MX2_heard 47 L st h := w_icmp_ne dX2_heard_40 rfl
theorem w_X2_heard_43 (d : Nat) (L : a_L) (st : List Value) (h : a_H) : a_run d MX2_heard 43 L st h = a_run d MX2_heard 44 L (.int (nI 1) :: st) h := w_iconst dX2_heard_43 rfl
theorem w_X2_heard_44 (d : Nat) (L : a_L) (st : List Value) (h : a_H) : a_run d MX2_heard 44 L st h = a_run d MX2_heard 48 L st h := w_goto dX2_heard_44 rfl
theorem w_X2_heard_47 (d : Nat) (L : a_L) (st : List Value) (h : a_H) : a_run d MX2_heard 47 L st h = a_run d MX2_heard 48 L (.int (nI 0) :: st) h := w_iconst dX2_heard_47 rfl
theorem w_X2_heard_48 (d : Nat) (a0 a1 a2 a3 a4 a5 : Option Value) (x : Int32) (st : List Value) (h : a_H) : a_run d MX2_heard 48 [a0, a1, a2, a3, a4, a5] (.int x :: st) h = a_run d MX2_heard 50 [a0, a1, a2, a3, a4, some (.int x)] st h := w_stI dX2_heard_48 (Nat.le_of_ble_eq_true rfl) rfl
theorem w_X2_heard_50 (d : Nat) (a0 a1 a3 a4 a5 : Option Value) (x : Nat) (st : List Value) (h : a_H) : a_run d MX2_heard 50 [a0, a1, some (.ref x), a3, a4, a5] st h = a_run d MX2_heard 51 [a0, a1, some (.ref x), a3, a4, a5] (.ref x :: st) h := w_ldAn dX2_heard_50 rfl
theorem w_X2_heard_50N (d : Nat) (a0 a1 a3 a4 a5 : Option Value) (st : List Value) (h : a_H) : a_run d MX2_heard 50 [a0, a1, some .null, a3, a4, a5] st h = a_run d MX2_heard 51 [a0, a1, some .null, a3, a4, a5] (.null :: st) h := w_ldNn dX2_heard_50 rfl
theorem w_X2_heard_51 (d : Nat) (a1 a2 a3 a4 a5 : Option Value) (x : Nat) (st : List Value) (h : a_H) : a_run d MX2_heard 51 [some (.ref x), a1, a2, a3, a4, a5] st h = a_run d MX2_heard 52 [some (.ref x), a1, a2, a3, a4, a5] (.ref x :: st) h := w_ldAn dX2_heard_51 rfl
theorem w_X2_heard_52 (d : Nat) (L : a_L) (i : Nat) (st : List Value) (h : a_H) : a_run d MX2_heard 52 L (.ref i :: st) h = (a_gf h i 1 [1]).bind fun v => a_run d MX2_heard 55 L (v :: st) h := w_getf dX2_heard_52 rfl
theorem w_X2_heard_55 (d : Nat) (a0 a1 a2 a3 a5 : Option Value) (x : Int32) (st : List Value) (h : a_H) : a_run d MX2_heard 55 [a0, a1, a2, a3, some (.int x), a5] st h = a_run d MX2_heard 57 [a0, a1, a2, a3, some (.int x), a5] (.int x :: st) h := w_ldI dX2_heard_55 rfl
theorem w_X2_heard_57 (d : Nat) (L : a_L) (x : Int32) (i : Nat) (st : List Value) (h : a_H) : a_run d MX2_heard 57 L (.int x :: .ref i :: st) h = (a_rdi h i a_int x).bind fun v => a_run d MX2_heard 58 L (v :: st) h := w_iald dX2_heard_57
theorem w_X2_heard_58 (d : Nat) (L : a_L) (x : Int32) (y : Nat) (st : List Value) (h : a_H) : a_run d MX2_heard 58 L (.int x :: .ref y :: st) h = a_run d MX2_heard 59 L (.int x :: .ref y :: .int x :: .ref y :: st) h := w_dup2 dX2_heard_58
theorem w_X2_heard_59 (d : Nat) (L : a_L) (x : Int32) (i : Nat) (st : List Value) (h : a_H) : a_run d MX2_heard 59 L (.int x :: .ref i :: st) h = (a_rdi h i a_int x).bind fun v => a_run d MX2_heard 60 L (v :: st) h := w_iald dX2_heard_59
theorem w_X2_heard_60 (d : Nat) (a0 a1 a2 a3 a4 : Option Value) (x : Int32) (st : List Value) (h : a_H) : a_run d MX2_heard 60 [a0, a1, a2, a3, a4, some (.int x)] st h = a_run d MX2_heard 62 [a0, a1, a2, a3, a4, some (.int x)] (.int x :: st) h := w_ldI dX2_heard_60 rfl
theorem w_X2_heard_62 (d : Nat) (L : a_L) (x : Int32) (st : List Value) (h : a_H) : a_run d MX2_heard 62 L (.int x :: st) h = if x = 0 then a_run d MX2_heard 87 L st h else a_run d MX2_heard 65 L st h := w_if_eq dX2_heard_62 rfl
theorem w_X2_heard_65 (d : Nat) (a0 a1 a3 a4 a5 : Option Value) (x : Nat) (st : List Value) (h : a_H) : a_run d MX2_heard 65 [a0, a1, some (.ref x), a3, a4, a5] st h = a_run d MX2_heard 66 [a0, a1, some (.ref x), a3, a4, a5] (.ref x :: st) h := w_ldAn dX2_heard_65 rfl
theorem w_X2_heard_65N (d : Nat) (a0 a1 a3 a4 a5 : Option Value) (st : List Value) (h : a_H) : a_run d MX2_heard 65 [a0, a1, some .null, a3, a4, a5] st h = a_run d MX2_heard 66 [a0, a1, some .null, a3, a4, a5] (.null :: st) h := w_ldNn dX2_heard_65 rfl
theorem w_X2_heard_66 (d : Nat) (a1 a2 a3 a4 a5 : Option Value) (x : Nat) (st : List Value) (h : a_H) : a_run d MX2_heard 66 [some (.ref x), a1, a2, a3, a4, a5] st h = a_run d MX2_heard 67 [some (.ref x), a1, a2, a3, a4, a5] (.ref x :: st) h := w_ldAn dX2_heard_66 rfl
theorem w_X2_heard_67 (d : Nat) (L : a_L) (i : Nat) (st : List Value) (h : a_H) : a_run d MX2_heard 67 L (.ref i :: st) h = (a_gf h i 0 [1]).bind fun v => a_run d MX2_heard 70 L (v :: st) h := w_getf dX2_heard_67 rfl
theorem w_X2_heard_70 (d : Nat) (a0 a1 a2 a3 a5 : Option Value) (x : Int32) (st : List Value) (h : a_H) : a_run d MX2_heard 70 [a0, a1, a2, a3, some (.int x), a5] st h = a_run d MX2_heard 72 [a0, a1, a2, a3, some (.int x), a5] (.int x :: st) h := w_ldI dX2_heard_70 rfl
theorem w_X2_heard_72 (d : Nat) (L : a_L) (x : Int32) (i : Nat) (st : List Value) (h : a_H) : a_run d MX2_heard 72 L (.int x :: .ref i :: st) h = (a_rdi h i a_int x).bind fun v => a_run d MX2_heard 73 L (v :: st) h := w_iald dX2_heard_72
theorem w_X2_heard_73 (d : Nat) (L : a_L) (x : Int32) (i : Nat) (st : List Value) (h : a_H) : a_run d MX2_heard 73 L (.int x :: .ref i :: st) h = (a_rdi h i a_int x).bind fun v => a_run d MX2_heard 74 L (v :: st) h := w_iald dX2_heard_73
theorem w_X2_heard_74 (d : Nat) (L : a_L) (st : List Value) (h : a_H) : a_run d MX2_heard 74 L st h = a_run d MX2_heard 75 L (.int (nI 1) :: st) h := w_iconst dX2_heard_74 rfl
theorem w_X2_heard_75 (d : Nat) (a1 a2 a3 a4 a5 : Option Value) (x : Nat) (st : List Value) (h : a_H) : a_run d MX2_heard 75 [some (.ref x), a1, a2, a3, a4, a5] st h = a_run d MX2_heard 76 [some (.ref x), a1, a2, a3, a4, a5] (.ref x :: st) h := w_ldAn dX2_heard_75 rfl
theorem w_X2_heard_76 (d : Nat) (L : a_L) (i : Nat) (st : List Value) (h : a_H) : a_run d MX2_heard 76 L (.ref i :: st) h = (a_gf h i 0 [1]).bind fun v => a_run d MX2_heard 79 L (v :: st) h := w_getf dX2_heard_76 rfl
theorem w_X2_heard_79 (d : Nat) (a0 a1 a2 a3 a5 : Option Value) (x : Int32) (st : List Value) (h : a_H) : a_run d MX2_heard 79 [a0, a1, a2, a3, some (.int x), a5] st h = a_run d MX2_heard 81 [a0, a1, a2, a3, some (.int x), a5] (.int x :: st) h := w_ldI dX2_heard_79 rfl
theorem w_X2_heard_81 (d : Nat) (L : a_L) (x : Int32) (i : Nat) (st : List Value) (h : a_H) : a_run d MX2_heard 81 L (.int x :: .ref i :: st) h = (a_rdi h i a_int x).bind fun v => a_run d MX2_heard 82 L (v :: st) h := w_iald dX2_heard_81
theorem w_X2_heard_82 (d : Nat) (L : a_L) (x y : Int32) (st : List Value) (h : a_H) : a_run d MX2_heard 82 L (.int y :: .int x :: st) h = a_run d MX2_heard 83 L (.int (x <<< (y &&& 31)) :: st) h := w_ishl dX2_heard_82
theorem w_X2_heard_83 (d : Nat) (L : a_L) (x y : Int32) (st : List Value) (h : a_H) : a_run d MX2_heard 83 L (.int y :: .int x :: st) h = a_run d MX2_heard 84 L (.int (x ||| y) :: st) h := w_ior dX2_heard_83
theorem w_X2_heard_84 (d : Nat) (L : a_L) (st : List Value) (h : a_H) : a_run d MX2_heard 84 L st h = a_run d MX2_heard 88 L st h := w_goto dX2_heard_84 rfl
theorem w_X2_heard_87 (d : Nat) (L : a_L) (st : List Value) (h : a_H) : a_run d MX2_heard 87 L st h = a_run d MX2_heard 88 L (.int (nI 0) :: st) h := w_iconst dX2_heard_87 rfl
theorem w_X2_heard_88 (d : Nat) (L : a_L) (x y : Int32) (st : List Value) (h : a_H) : a_run d MX2_heard 88 L (.int y :: .int x :: st) h = a_run d MX2_heard 89 L (.int (x ||| y) :: st) h := w_ior dX2_heard_88
theorem w_X2_heard_89 (d : Nat) (L : a_L) (x y : Int32) (i : Nat) (st : List Value) (h : a_H) : a_run d MX2_heard 89 L (.int y :: .int x :: .ref i :: st) h = (a_wri h i a_int x y).bind fun h' => a_run d MX2_heard 90 L st h' := w_iast dX2_heard_89
theorem w_X2_heard_90 (d : Nat) (a0 a1 a2 a3 a5 : Option Value) (x : Int32) (st : List Value) (h : a_H) : a_run d MX2_heard 90 [a0, a1, a2, a3, some (.int x), a5] st h = a_run d MX2_heard 93 [a0, a1, a2, a3, some (.int (x + nI 1)), a5] st h := w_incL dX2_heard_90 rfl rfl rfl
theorem w_X2_heard_93 (d : Nat) (L : a_L) (st : List Value) (h : a_H) : a_run d MX2_heard 93 L st h = a_run d MX2_heard 18 L st h := w_goto dX2_heard_93 rfl
theorem w_X2_heard_96 (d : Nat) (a0 a1 a2 a4 a5 : Option Value) (x : Int32) (st : List Value) (h : a_H) : a_run d MX2_heard 96 [a0, a1, a2, some (.int x), a4, a5] st h = a_run d MX2_heard 99 [a0, a1, a2, some (.int (x + nI 1)), a4, a5] st h := w_incL dX2_heard_96 rfl rfl rfl
theorem w_X2_heard_99 (d : Nat) (L : a_L) (st : List Value) (h : a_H) : a_run d MX2_heard 99 L st h = a_run d MX2_heard 7 L st h := w_goto dX2_heard_99 rfl
theorem w_X2_heard_102 (d : Nat) (a0 a1 a3 a4 a5 : Option Value) (x : Nat) (st : List Value) (h : a_H) : a_run d MX2_heard 102 [a0, a1, some (.ref x), a3, a4, a5] st h = a_run d MX2_heard 103 [a0, a1, some (.ref x), a3, a4, a5] (.ref x :: st) h := w_ldAn dX2_heard_102 rfl
theorem w_X2_heard_102N (d : Nat) (a0 a1 a3 a4 a5 : Option Value) (st : List Value) (h : a_H) : a_run d MX2_heard 102 [a0, a1, some .null, a3, a4, a5] st h = a_run d MX2_heard 103 [a0, a1, some .null, a3, a4, a5] (.null :: st) h := w_ldNn dX2_heard_102 rfl
theorem w_X2_heard_103 (d : Nat) (a0 a2 a3 a4 a5 : Option Value) (x : Int32) (st : List Value) (h : a_H) : a_run d MX2_heard 103 [a0, some (.int x), a2, a3, a4, a5] st h = a_run d MX2_heard 104 [a0, some (.int x), a2, a3, a4, a5] (.int x :: st) h := w_ldIn dX2_heard_103 rfl
theorem w_X2_heard_104 (d : Nat) (L : a_L) (x : Int32) (i : Nat) (st : List Value) (h : a_H) : a_run d MX2_heard 104 L (.int x :: .ref i :: st) h = (a_rdi h i a_int x).bind fun v => a_run d MX2_heard 105 L (v :: st) h := w_iald dX2_heard_104
theorem w_X2_heard_105 (d : Nat) (L : a_L) (x : Int32) (h : a_H) : a_run d MX2_heard 105 L [.int x] h = some (.inl (some (.int x)), h) := w_iret dX2_heard_105 (w_retI rfl)
theorem e_X2_waysByLayers (d : Nat) (x0 : Nat) (x1 : Int32) (x2 : Int32) (h : a_H) : a_call (d + 1) MX2_waysByLayers [.ref x0, .int x1, .int x2] h = a_run d MX2_waysByLayers 0 [some (.ref x0), some (.int x1), some (.int x2), none, none, none] [] h := a_call_run rfl (Nat.le_of_ble_eq_true rfl) rfl
theorem w_X2_waysByLayers_0 (d : Nat) (L : a_L) (st : List Value) (h : a_H) : a_run d MX2_waysByLayers 0 L st h = a_run d MX2_waysByLayers 2 L (.int (nI 16) :: st) h := w_bipush dX2_waysByLayers_0 rfl
theorem w_X2_waysByLayers_2 (d : Nat) (L : a_L) (x : Int32) (st : List Value) (h : a_H) : a_run d MX2_waysByLayers 2 L (.int x :: st) h = (a_newa h (newarray.typeOf .int) x).bind fun q => a_run d MX2_waysByLayers 4 L (.ref q.1 :: st) q.2 := w_newa dX2_waysByLayers_2
theorem w_X2_waysByLayers_4 (d : Nat) (a0 a1 a2 a3 a4 a5 : Option Value) (x : Nat) (st : List Value) (h : a_H) : a_run d MX2_waysByLayers 4 [a0, a1, a2, a3, a4, a5] (.ref x :: st) h = a_run d MX2_waysByLayers 5 [a0, a1, a2, some (.ref x), a4, a5] st h := w_stAn dX2_waysByLayers_4 (Nat.le_of_ble_eq_true rfl) rfl
theorem w_X2_waysByLayers_4N (d : Nat) (a0 a1 a2 a3 a4 a5 : Option Value) (st : List Value) (h : a_H) : a_run d MX2_waysByLayers 4 [a0, a1, a2, a3, a4, a5] (.null :: st) h = a_run d MX2_waysByLayers 5 [a0, a1, a2, some .null, a4, a5] st h := w_stNn dX2_waysByLayers_4 (Nat.le_of_ble_eq_true rfl) rfl
theorem w_X2_waysByLayers_5 (d : Nat) (a0 a1 a2 a4 a5 : Option Value) (x : Nat) (st : List Value) (h : a_H) : a_run d MX2_waysByLayers 5 [a0, a1, a2, some (.ref x), a4, a5] st h = a_run d MX2_waysByLayers 6 [a0, a1, a2, some (.ref x), a4, a5] (.ref x :: st) h := w_ldAn dX2_waysByLayers_5 rfl
theorem w_X2_waysByLayers_5N (d : Nat) (a0 a1 a2 a4 a5 : Option Value) (st : List Value) (h : a_H) : a_run d MX2_waysByLayers 5 [a0, a1, a2, some .null, a4, a5] st h = a_run d MX2_waysByLayers 6 [a0, a1, a2, some .null, a4, a5] (.null :: st) h := w_ldNn dX2_waysByLayers_5 rfl
theorem w_X2_waysByLayers_6 (d : Nat) (a0 a2 a3 a4 a5 : Option Value) (x : Int32) (st : List Value) (h : a_H) : a_run d MX2_waysByLayers 6 [a0, some (.int x), a2, a3, a4, a5] st h = a_run d MX2_waysByLayers 7 [a0, some (.int x), a2, a3, a4, a5] (.int x :: st) h := w_ldIn dX2_waysByLayers_6 rfl
theorem w_X2_waysByLayers_7 (d : Nat) (L : a_L) (st : List Value) (h : a_H) : a_run d MX2_waysByLayers 7 L st h = a_run d MX2_waysByLayers 8 L (.int (nI 1) :: st) h := w_iconst dX2_waysByLayers_7 rfl
theorem w_X2_waysByLayers_8 (d : Nat) (L : a_L) (x y : Int32) (i : Nat) (st : List Value) (h : a_H) : a_run d MX2_waysByLayers 8 L (.int y :: .int x :: .ref i :: st) h = (a_wri h i a_int x y).bind fun h' => a_run d MX2_waysByLayers 9 L st h' := w_iast dX2_waysByLayers_8
theorem w_X2_waysByLayers_9 (d : Nat) (L : a_L) (st : List Value) (h : a_H) : a_run d MX2_waysByLayers 9 L st h = a_run d MX2_waysByLayers 10 L (.int (nI 0) :: st) h := w_iconst dX2_waysByLayers_9 rfl
theorem w_X2_waysByLayers_10 (d : Nat) (a0 a1 a2 a3 a4 a5 : Option Value) (x : Int32) (st : List Value) (h : a_H) : a_run d MX2_waysByLayers 10 [a0, a1, a2, a3, a4, a5] (.int x :: st) h = a_run d MX2_waysByLayers 12 [a0, a1, a2, a3, some (.int x), a5] st h := w_stI dX2_waysByLayers_10 (Nat.le_of_ble_eq_true rfl) rfl
theorem w_X2_waysByLayers_12 (d : Nat) (a0 a1 a2 a3 a5 : Option Value) (x : Int32) (st : List Value) (h : a_H) : a_run d MX2_waysByLayers 12 [a0, a1, a2, a3, some (.int x), a5] st h = a_run d MX2_waysByLayers 14 [a0, a1, a2, a3, some (.int x), a5] (.int x :: st) h := w_ldI dX2_waysByLayers_12 rfl
theorem w_X2_waysByLayers_14 (d : Nat) (a1 a2 a3 a4 a5 : Option Value) (x : Nat) (st : List Value) (h : a_H) : a_run d MX2_waysByLayers 14 [some (.ref x), a1, a2, a3, a4, a5] st h = a_run d MX2_waysByLayers 15 [some (.ref x), a1, a2, a3, a4, a5] (.ref x :: st) h := w_ldAn dX2_waysByLayers_14 rfl
theorem w_X2_waysByLayers_15 (d : Nat) (L : a_L) (i : Nat) (st : List Value) (h : a_H) : a_run d MX2_waysByLayers 15 L (.ref i :: st) h = (a_gf h i 13 [1]).bind fun v => a_run d MX2_waysByLayers 18 L (v :: st) h := w_getf dX2_waysByLayers_15 rfl
theorem w_X2_waysByLayers_18 (d : Nat) (L : a_L) (x y : Int32) (st : List Value) (h : a_H) : a_run d MX2_waysByLayers 18 L (.int y :: .int x :: st) h = if x < y then a_run d MX2_waysByLayers 21 L st h else a_run d MX2_waysByLayers 87 L st h := w_icmp_ge dX2_waysByLayers_18 rfl
theorem w_X2_waysByLayers_21 (d : Nat) (L : a_L) (st : List Value) (h : a_H) : a_run d MX2_waysByLayers 21 L st h = a_run d MX2_waysByLayers 22 L (.int (nI 0) :: st) h := w_iconst dX2_waysByLayers_21 rfl
theorem w_X2_waysByLayers_22 (d : Nat) (a0 a1 a2 a3 a4 a5 : Option Value) (x : Int32) (st : List Value) (h : a_H) : a_run d MX2_waysByLayers 22 [a0, a1, a2, a3, a4, a5] (.int x :: st) h = a_run d MX2_waysByLayers 24 [a0, a1, a2, a3, a4, some (.int x)] st h := w_stI dX2_waysByLayers_22 (Nat.le_of_ble_eq_true rfl) rfl
theorem w_X2_waysByLayers_24 (d : Nat) (a0 a1 a2 a3 a4 : Option Value) (x : Int32) (st : List Value) (h : a_H) : a_run d MX2_waysByLayers 24 [a0, a1, a2, a3, a4, some (.int x)] st h = a_run d MX2_waysByLayers 26 [a0, a1, a2, a3, a4, some (.int x)] (.int x :: st) h := w_ldI dX2_waysByLayers_24 rfl
theorem w_X2_waysByLayers_26 (d : Nat) (a1 a2 a3 a4 a5 : Option Value) (x : Nat) (st : List Value) (h : a_H) : a_run d MX2_waysByLayers 26 [some (.ref x), a1, a2, a3, a4, a5] st h = a_run d MX2_waysByLayers 27 [some (.ref x), a1, a2, a3, a4, a5] (.ref x :: st) h := w_ldAn dX2_waysByLayers_26 rfl
theorem w_X2_waysByLayers_27 (d : Nat) (L : a_L) (i : Nat) (st : List Value) (h : a_H) : a_run d MX2_waysByLayers 27 L (.ref i :: st) h = (a_gf h i 12 [1]).bind fun v => a_run d MX2_waysByLayers 30 L (v :: st) h := w_getf dX2_waysByLayers_27 rfl
theorem w_X2_waysByLayers_30 (d : Nat) (L : a_L) (x y : Int32) (st : List Value) (h : a_H) : a_run d MX2_waysByLayers 30 L (.int y :: .int x :: st) h = if x < y then a_run d MX2_waysByLayers 33 L st h else a_run d MX2_waysByLayers 81 L st h := w_icmp_ge dX2_waysByLayers_30 rfl
theorem w_X2_waysByLayers_33 (d : Nat) (a0 a1 a2 a4 a5 : Option Value) (x : Nat) (st : List Value) (h : a_H) : a_run d MX2_waysByLayers 33 [a0, a1, a2, some (.ref x), a4, a5] st h = a_run d MX2_waysByLayers 34 [a0, a1, a2, some (.ref x), a4, a5] (.ref x :: st) h := w_ldAn dX2_waysByLayers_33 rfl
theorem w_X2_waysByLayers_33N (d : Nat) (a0 a1 a2 a4 a5 : Option Value) (st : List Value) (h : a_H) : a_run d MX2_waysByLayers 33 [a0, a1, a2, some .null, a4, a5] st h = a_run d MX2_waysByLayers 34 [a0, a1, a2, some .null, a4, a5] (.null :: st) h := w_ldNn dX2_waysByLayers_33 rfl
theorem w_X2_waysByLayers_34 (d : Nat) (a1 a2 a3 a4 a5 : Option Value) (x : Nat) (st : List Value) (h : a_H) : a_run d MX2_waysByLayers 34 [some (.ref x), a1, a2, a3, a4, a5] st h = a_run d MX2_waysByLayers 35 [some (.ref x), a1, a2, a3, a4, a5] (.ref x :: st) h := w_ldAn dX2_waysByLayers_34 rfl
theorem w_X2_waysByLayers_35 (d : Nat) (L : a_L) (i : Nat) (st : List Value) (h : a_H) : a_run d MX2_waysByLayers 35 L (.ref i :: st) h = (a_gf h i 1 [1]).bind fun v => a_run d MX2_waysByLayers 38 L (v :: st) h := w_getf dX2_waysByLayers_35 rfl
theorem w_X2_waysByLayers_38 (d : Nat) (a0 a1 a2 a3 a4 : Option Value) (x : Int32) (st : List Value) (h : a_H) : a_run d MX2_waysByLayers 38 [a0, a1, a2, a3, a4, some (.int x)] st h = a_run d MX2_waysByLayers 40 [a0, a1, a2, a3, a4, some (.int x)] (.int x :: st) h := w_ldI dX2_waysByLayers_38 rfl
theorem w_X2_waysByLayers_40 (d : Nat) (L : a_L) (x : Int32) (i : Nat) (st : List Value) (h : a_H) : a_run d MX2_waysByLayers 40 L (.int x :: .ref i :: st) h = (a_rdi h i a_int x).bind fun v => a_run d MX2_waysByLayers 41 L (v :: st) h := w_iald dX2_waysByLayers_40
theorem w_X2_waysByLayers_41 (d : Nat) (L : a_L) (x : Int32) (y : Nat) (st : List Value) (h : a_H) : a_run d MX2_waysByLayers 41 L (.int x :: .ref y :: st) h = a_run d MX2_waysByLayers 42 L (.int x :: .ref y :: .int x :: .ref y :: st) h := w_dup2 dX2_waysByLayers_41
theorem w_X2_waysByLayers_42 (d : Nat) (L : a_L) (x : Int32) (i : Nat) (st : List Value) (h : a_H) : a_run d MX2_waysByLayers 42 L (.int x :: .ref i :: st) h = (a_rdi h i a_int x).bind fun v => a_run d MX2_waysByLayers 43 L (v :: st) h := w_iald dX2_waysByLayers_42
theorem w_X2_waysByLayers_43 (d : Nat) (a1 a2 a3 a4 a5 : Option Value) (x : Nat) (st : List Value) (h : a_H) : a_run d MX2_waysByLayers 43 [some (.ref x), a1, a2, a3, a4, a5] st h = a_run d MX2_waysByLayers 44 [some (.ref x), a1, a2, a3, a4, a5] (.ref x :: st) h := w_ldAn dX2_waysByLayers_43 rfl
theorem w_X2_waysByLayers_44 (d : Nat) (L : a_L) (i : Nat) (st : List Value) (h : a_H) : a_run d MX2_waysByLayers 44 L (.ref i :: st) h = (a_gf h i 3 [1]).bind fun v => a_run d MX2_waysByLayers 47 L (v :: st) h := w_getf dX2_waysByLayers_44 rfl
theorem w_X2_waysByLayers_47 (d : Nat) (a1 a2 a3 a4 a5 : Option Value) (x : Nat) (st : List Value) (h : a_H) : a_run d MX2_waysByLayers 47 [some (.ref x), a1, a2, a3, a4, a5] st h = a_run d MX2_waysByLayers 48 [some (.ref x), a1, a2, a3, a4, a5] (.ref x :: st) h := w_ldAn dX2_waysByLayers_47 rfl
theorem w_X2_waysByLayers_48 (d : Nat) (L : a_L) (i : Nat) (st : List Value) (h : a_H) : a_run d MX2_waysByLayers 48 L (.ref i :: st) h = (a_gf h i 1 [1]).bind fun v => a_run d MX2_waysByLayers 51 L (v :: st) h := w_getf dX2_waysByLayers_48 rfl
theorem w_X2_waysByLayers_51 (d : Nat) (a0 a1 a2 a3 a4 : Option Value) (x : Int32) (st : List Value) (h : a_H) : a_run d MX2_waysByLayers 51 [a0, a1, a2, a3, a4, some (.int x)] st h = a_run d MX2_waysByLayers 53 [a0, a1, a2, a3, a4, some (.int x)] (.int x :: st) h := w_ldI dX2_waysByLayers_51 rfl
theorem w_X2_waysByLayers_53 (d : Nat) (L : a_L) (x : Int32) (i : Nat) (st : List Value) (h : a_H) : a_run d MX2_waysByLayers 53 L (.int x :: .ref i :: st) h = (a_rdi h i a_int x).bind fun v => a_run d MX2_waysByLayers 54 L (v :: st) h := w_iald dX2_waysByLayers_53
theorem w_X2_waysByLayers_54 (d : Nat) (L : a_L) (x : Int32) (i : Nat) (st : List Value) (h : a_H) : a_run d MX2_waysByLayers 54 L (.int x :: .ref i :: st) h = (a_rdi h i a_int x).bind fun v => a_run d MX2_waysByLayers 55 L (v :: st) h := w_iald dX2_waysByLayers_54
theorem w_X2_waysByLayers_55 (d : Nat) (a0 a1 a2 a3 a5 : Option Value) (x : Int32) (st : List Value) (h : a_H) : a_run d MX2_waysByLayers 55 [a0, a1, a2, a3, some (.int x), a5] st h = a_run d MX2_waysByLayers 57 [a0, a1, a2, a3, some (.int x), a5] (.int x :: st) h := w_ldI dX2_waysByLayers_55 rfl
theorem w_X2_waysByLayers_57 (d : Nat) (L : a_L) (x y : Int32) (st : List Value) (h : a_H) : a_run d MX2_waysByLayers 57 L (.int y :: .int x :: st) h = if x = y then a_run d MX2_waysByLayers 60 L st h else a_run d MX2_waysByLayers 72 L st h := w_icmp_ne dX2_waysByLayers_57 rfl
theorem w_X2_waysByLayers_60 (d : Nat) (a0 a1 a2 a4 a5 : Option Value) (x : Nat) (st : List Value) (h : a_H) : a_run d MX2_waysByLayers 60 [a0, a1, a2, some (.ref x), a4, a5] st h = a_run d MX2_waysByLayers 61 [a0, a1, a2, some (.ref x), a4, a5] (.ref x :: st) h := w_ldAn dX2_waysByLayers_60 rfl
theorem w_X2_waysByLayers_60N (d : Nat) (a0 a1 a2 a4 a5 : Option Value) (st : List Value) (h : a_H) : a_run d MX2_waysByLayers 60 [a0, a1, a2, some .null, a4, a5] st h = a_run d MX2_waysByLayers 61 [a0, a1, a2, some .null, a4, a5] (.null :: st) h := w_ldNn dX2_waysByLayers_60 rfl
theorem w_X2_waysByLayers_61 (d : Nat) (a1 a2 a3 a4 a5 : Option Value) (x : Nat) (st : List Value) (h : a_H) : a_run d MX2_waysByLayers 61 [some (.ref x), a1, a2, a3, a4, a5] st h = a_run d MX2_waysByLayers 62 [some (.ref x), a1, a2, a3, a4, a5] (.ref x :: st) h := w_ldAn dX2_waysByLayers_61 rfl
theorem w_X2_waysByLayers_62 (d : Nat) (L : a_L) (i : Nat) (st : List Value) (h : a_H) : a_run d MX2_waysByLayers 62 L (.ref i :: st) h = (a_gf h i 0 [1]).bind fun v => a_run d MX2_waysByLayers 65 L (v :: st) h := w_getf dX2_waysByLayers_62 rfl
theorem w_X2_waysByLayers_65 (d : Nat) (a0 a1 a2 a3 a4 : Option Value) (x : Int32) (st : List Value) (h : a_H) : a_run d MX2_waysByLayers 65 [a0, a1, a2, a3, a4, some (.int x)] st h = a_run d MX2_waysByLayers 67 [a0, a1, a2, a3, a4, some (.int x)] (.int x :: st) h := w_ldI dX2_waysByLayers_65 rfl
theorem w_X2_waysByLayers_67 (d : Nat) (L : a_L) (x : Int32) (i : Nat) (st : List Value) (h : a_H) : a_run d MX2_waysByLayers 67 L (.int x :: .ref i :: st) h = (a_rdi h i a_int x).bind fun v => a_run d MX2_waysByLayers 68 L (v :: st) h := w_iald dX2_waysByLayers_67
theorem w_X2_waysByLayers_68 (d : Nat) (L : a_L) (x : Int32) (i : Nat) (st : List Value) (h : a_H) : a_run d MX2_waysByLayers 68 L (.int x :: .ref i :: st) h = (a_rdi h i a_int x).bind fun v => a_run d MX2_waysByLayers 69 L (v :: st) h := w_iald dX2_waysByLayers_68
theorem w_X2_waysByLayers_69 (d : Nat) (L : a_L) (st : List Value) (h : a_H) : a_run d MX2_waysByLayers 69 L st h = a_run d MX2_waysByLayers 73 L st h := w_goto dX2_waysByLayers_69 rfl
theorem w_X2_waysByLayers_72 (d : Nat) (L : a_L) (st : List Value) (h : a_H) : a_run d MX2_waysByLayers 72 L st h = a_run d MX2_waysByLayers 73 L (.int (nI 0) :: st) h := w_iconst dX2_waysByLayers_72 rfl
theorem w_X2_waysByLayers_73 (d : Nat) (L : a_L) (x y : Int32) (st : List Value) (h : a_H) : a_run d MX2_waysByLayers 73 L (.int y :: .int x :: st) h = a_run d MX2_waysByLayers 74 L (.int (x + y) :: st) h := w_iadd dX2_waysByLayers_73
theorem w_X2_waysByLayers_74 (d : Nat) (L : a_L) (x y : Int32) (i : Nat) (st : List Value) (h : a_H) : a_run d MX2_waysByLayers 74 L (.int y :: .int x :: .ref i :: st) h = (a_wri h i a_int x y).bind fun h' => a_run d MX2_waysByLayers 75 L st h' := w_iast dX2_waysByLayers_74
theorem w_X2_waysByLayers_75 (d : Nat) (a0 a1 a2 a3 a4 : Option Value) (x : Int32) (st : List Value) (h : a_H) : a_run d MX2_waysByLayers 75 [a0, a1, a2, a3, a4, some (.int x)] st h = a_run d MX2_waysByLayers 78 [a0, a1, a2, a3, a4, some (.int (x + nI 1))] st h := w_incL dX2_waysByLayers_75 rfl rfl rfl
theorem w_X2_waysByLayers_78 (d : Nat) (L : a_L) (st : List Value) (h : a_H) : a_run d MX2_waysByLayers 78 L st h = a_run d MX2_waysByLayers 24 L st h := w_goto dX2_waysByLayers_78 rfl
theorem w_X2_waysByLayers_81 (d : Nat) (a0 a1 a2 a3 a5 : Option Value) (x : Int32) (st : List Value) (h : a_H) : a_run d MX2_waysByLayers 81 [a0, a1, a2, a3, some (.int x), a5] st h = a_run d MX2_waysByLayers 84 [a0, a1, a2, a3, some (.int (x + nI 1)), a5] st h := w_incL dX2_waysByLayers_81 rfl rfl rfl
theorem w_X2_waysByLayers_84 (d : Nat) (L : a_L) (st : List Value) (h : a_H) : a_run d MX2_waysByLayers 84 L st h = a_run d MX2_waysByLayers 12 L st h := w_goto dX2_waysByLayers_84 rfl
theorem w_X2_waysByLayers_87 (d : Nat) (a0 a1 a2 a4 a5 : Option Value) (x : Nat) (st : List Value) (h : a_H) : a_run d MX2_waysByLayers 87 [a0, a1, a2, some (.ref x), a4, a5] st h = a_run d MX2_waysByLayers 88 [a0, a1, a2, some (.ref x), a4, a5] (.ref x :: st) h := w_ldAn dX2_waysByLayers_87 rfl
theorem w_X2_waysByLayers_87N (d : Nat) (a0 a1 a2 a4 a5 : Option Value) (st : List Value) (h : a_H) : a_run d MX2_waysByLayers 87 [a0, a1, a2, some .null, a4, a5] st h = a_run d MX2_waysByLayers 88 [a0, a1, a2, some .null, a4, a5] (.null :: st) h := w_ldNn dX2_waysByLayers_87 rfl
theorem w_X2_waysByLayers_88 (d : Nat) (a0 a1 a3 a4 a5 : Option Value) (x : Int32) (st : List Value) (h : a_H) : a_run d MX2_waysByLayers 88 [a0, a1, some (.int x), a3, a4, a5] st h = a_run d MX2_waysByLayers 89 [a0, a1, some (.int x), a3, a4, a5] (.int x :: st) h := w_ldIn dX2_waysByLayers_88 rfl
theorem w_X2_waysByLayers_89 (d : Nat) (L : a_L) (x : Int32) (i : Nat) (st : List Value) (h : a_H) : a_run d MX2_waysByLayers 89 L (.int x :: .ref i :: st) h = (a_rdi h i a_int x).bind fun v => a_run d MX2_waysByLayers 90 L (v :: st) h := w_iald dX2_waysByLayers_89
theorem w_X2_waysByLayers_90 (d : Nat) (L : a_L) (x : Int32) (h : a_H) : a_run d MX2_waysByLayers 90 L [.int x] h = some (.inl (some (.int x)), h) := w_iret dX2_waysByLayers_90 (w_retI rfl)
theorem e_X2_waysBack (d : Nat) (x0 : Nat) (x1 : Int32) (x2 : Int32) (h : a_H) : a_call (d + 1) MX2_waysBack [.ref x0, .int x1, .int x2] h = a_run d MX2_waysBack 0 [some (.ref x0), some (.int x1), some (.int x2), none, none] [] h := a_call_run rfl (Nat.le_of_ble_eq_true rfl) rfl
theorem w_X2_waysBack_0 (d : Nat) (a0 a2 a3 a4 : Option Value) (x : Int32) (st : List Value) (h : a_H) : a_run d MX2_waysBack 0 [a0, some (.int x), a2, a3, a4] st h = a_run d MX2_waysBack 1 [a0, some (.int x), a2, a3, a4] (.int x :: st) h := w_ldIn dX2_waysBack_0 rfl
theorem w_X2_waysBack_1 (d : Nat) (a0 a1 a3 a4 : Option Value) (x : Int32) (st : List Value) (h : a_H) : a_run d MX2_waysBack 1 [a0, a1, some (.int x), a3, a4] st h = a_run d MX2_waysBack 2 [a0, a1, some (.int x), a3, a4] (.int x :: st) h := w_ldIn dX2_waysBack_1 rfl
theorem w_X2_waysBack_2 (d : Nat) (L : a_L) (x y : Int32) (st : List Value) (h : a_H) : a_run d MX2_waysBack 2 L (.int y :: .int x :: st) h = if x = y then a_run d MX2_waysBack 5 L st h else a_run d MX2_waysBack 9 L st h := w_icmp_ne dX2_waysBack_2 rfl
theorem w_X2_waysBack_5 (d : Nat) (L : a_L) (st : List Value) (h : a_H) : a_run d MX2_waysBack 5 L st h = a_run d MX2_waysBack 6 L (.int (nI 1) :: st) h := w_iconst dX2_waysBack_5 rfl
theorem w_X2_waysBack_6 (d : Nat) (L : a_L) (st : List Value) (h : a_H) : a_run d MX2_waysBack 6 L st h = a_run d MX2_waysBack 10 L st h := w_goto dX2_waysBack_6 rfl
theorem w_X2_waysBack_9 (d : Nat) (L : a_L) (st : List Value) (h : a_H) : a_run d MX2_waysBack 9 L st h = a_run d MX2_waysBack 10 L (.int (nI 0) :: st) h := w_iconst dX2_waysBack_9 rfl
theorem w_X2_waysBack_10 (d : Nat) (a0 a1 a2 a3 a4 : Option Value) (x : Int32) (st : List Value) (h : a_H) : a_run d MX2_waysBack 10 [a0, a1, a2, a3, a4] (.int x :: st) h = a_run d MX2_waysBack 11 [a0, a1, a2, some (.int x), a4] st h := w_stIn dX2_waysBack_10 (Nat.le_of_ble_eq_true rfl) rfl
theorem w_X2_waysBack_11 (d : Nat) (L : a_L) (st : List Value) (h : a_H) : a_run d MX2_waysBack 11 L st h = a_run d MX2_waysBack 12 L (.int (nI 0) :: st) h := w_iconst dX2_waysBack_11 rfl
theorem w_X2_waysBack_12 (d : Nat) (a0 a1 a2 a3 a4 : Option Value) (x : Int32) (st : List Value) (h : a_H) : a_run d MX2_waysBack 12 [a0, a1, a2, a3, a4] (.int x :: st) h = a_run d MX2_waysBack 14 [a0, a1, a2, a3, some (.int x)] st h := w_stI dX2_waysBack_12 (Nat.le_of_ble_eq_true rfl) rfl
theorem w_X2_waysBack_14 (d : Nat) (a0 a1 a2 a3 : Option Value) (x : Int32) (st : List Value) (h : a_H) : a_run d MX2_waysBack 14 [a0, a1, a2, a3, some (.int x)] st h = a_run d MX2_waysBack 16 [a0, a1, a2, a3, some (.int x)] (.int x :: st) h := w_ldI dX2_waysBack_14 rfl
theorem w_X2_waysBack_16 (d : Nat) (a1 a2 a3 a4 : Option Value) (x : Nat) (st : List Value) (h : a_H) : a_run d MX2_waysBack 16 [some (.ref x), a1, a2, a3, a4] st h = a_run d MX2_waysBack 17 [some (.ref x), a1, a2, a3, a4] (.ref x :: st) h := w_ldAn dX2_waysBack_16 rfl
theorem w_X2_waysBack_17 (d : Nat) (L : a_L) (i : Nat) (st : List Value) (h : a_H) : a_run d MX2_waysBack 17 L (.ref i :: st) h = (a_gf h i 12 [1]).bind fun v => a_run d MX2_waysBack 20 L (v :: st) h := w_getf dX2_waysBack_17 rfl
theorem w_X2_waysBack_20 (d : Nat) (L : a_L) (x y : Int32) (st : List Value) (h : a_H) : a_run d MX2_waysBack 20 L (.int y :: .int x :: st) h = if x < y then a_run d MX2_waysBack 23 L st h else a_run d MX2_waysBack 59 L st h := w_icmp_ge dX2_waysBack_20 rfl
theorem w_X2_waysBack_23 (d : Nat) (a0 a1 a2 a4 : Option Value) (x : Int32) (st : List Value) (h : a_H) : a_run d MX2_waysBack 23 [a0, a1, a2, some (.int x), a4] st h = a_run d MX2_waysBack 24 [a0, a1, a2, some (.int x), a4] (.int x :: st) h := w_ldIn dX2_waysBack_23 rfl
theorem w_X2_waysBack_24 (d : Nat) (a1 a2 a3 a4 : Option Value) (x : Nat) (st : List Value) (h : a_H) : a_run d MX2_waysBack 24 [some (.ref x), a1, a2, a3, a4] st h = a_run d MX2_waysBack 25 [some (.ref x), a1, a2, a3, a4] (.ref x :: st) h := w_ldAn dX2_waysBack_24 rfl
theorem w_X2_waysBack_25 (d : Nat) (L : a_L) (i : Nat) (st : List Value) (h : a_H) : a_run d MX2_waysBack 25 L (.ref i :: st) h = (a_gf h i 1 [1]).bind fun v => a_run d MX2_waysBack 28 L (v :: st) h := w_getf dX2_waysBack_25 rfl
theorem w_X2_waysBack_28 (d : Nat) (a0 a1 a2 a3 : Option Value) (x : Int32) (st : List Value) (h : a_H) : a_run d MX2_waysBack 28 [a0, a1, a2, a3, some (.int x)] st h = a_run d MX2_waysBack 30 [a0, a1, a2, a3, some (.int x)] (.int x :: st) h := w_ldI dX2_waysBack_28 rfl
theorem w_X2_waysBack_30 (d : Nat) (L : a_L) (x : Int32) (i : Nat) (st : List Value) (h : a_H) : a_run d MX2_waysBack 30 L (.int x :: .ref i :: st) h = (a_rdi h i a_int x).bind fun v => a_run d MX2_waysBack 31 L (v :: st) h := w_iald dX2_waysBack_30
theorem w_X2_waysBack_31 (d : Nat) (a0 a1 a3 a4 : Option Value) (x : Int32) (st : List Value) (h : a_H) : a_run d MX2_waysBack 31 [a0, a1, some (.int x), a3, a4] st h = a_run d MX2_waysBack 32 [a0, a1, some (.int x), a3, a4] (.int x :: st) h := w_ldIn dX2_waysBack_31 rfl
theorem w_X2_waysBack_32 (d : Nat) (L : a_L) (x y : Int32) (st : List Value) (h : a_H) : a_run d MX2_waysBack 32 L (.int y :: .int x :: st) h = if x = y then a_run d MX2_waysBack 35 L st h else a_run d MX2_waysBack 50 L st h := w_icmp_ne dX2_waysBack_32 rfl
theorem w_X2_waysBack_35 (d : Nat) (a1 a2 a3 a4 : Option Value) (x : Nat) (st : List Value) (h : a_H) : a_run d MX2_waysBack 35 [some (.ref x), a1, a2, a3, a4] st h = a_run d MX2_waysBack 36 [some (.ref x), a1, a2, a3, a4] (.ref x :: st) h := w_ldAn dX2_waysBack_35 rfl
theorem w_X2_waysBack_36 (d : Nat) (a0 a2 a3 a4 : Option Value) (x : Int32) (st : List Value) (h : a_H) : a_run d MX2_waysBack 36 [a0, some (.int x), a2, a3, a4] st h = a_run d MX2_waysBack 37 [a0, some (.int x), a2, a3, a4] (.int x :: st) h := w_ldIn dX2_waysBack_36 rfl
theorem w_X2_waysBack_37 (d : Nat) (a1 a2 a3 a4 : Option Value) (x : Nat) (st : List Value) (h : a_H) : a_run d MX2_waysBack 37 [some (.ref x), a1, a2, a3, a4] st h = a_run d MX2_waysBack 38 [some (.ref x), a1, a2, a3, a4] (.ref x :: st) h := w_ldAn dX2_waysBack_37 rfl
theorem w_X2_waysBack_38 (d : Nat) (L : a_L) (i : Nat) (st : List Value) (h : a_H) : a_run d MX2_waysBack 38 L (.ref i :: st) h = (a_gf h i 0 [1]).bind fun v => a_run d MX2_waysBack 41 L (v :: st) h := w_getf dX2_waysBack_38 rfl
theorem w_X2_waysBack_41 (d : Nat) (a0 a1 a2 a3 : Option Value) (x : Int32) (st : List Value) (h : a_H) : a_run d MX2_waysBack 41 [a0, a1, a2, a3, some (.int x)] st h = a_run d MX2_waysBack 43 [a0, a1, a2, a3, some (.int x)] (.int x :: st) h := w_ldI dX2_waysBack_41 rfl
theorem w_X2_waysBack_43 (d : Nat) (L : a_L) (x : Int32) (i : Nat) (st : List Value) (h : a_H) : a_run d MX2_waysBack 43 L (.int x :: .ref i :: st) h = (a_rdi h i a_int x).bind fun v => a_run d MX2_waysBack 44 L (v :: st) h := w_iald dX2_waysBack_43
theorem w_X2_waysBack_44 (d : Nat) (L : a_L) (i : Nat) (v1 v2 : Value) (st : List Value) (h : a_H) (hk : a_kls h i = some 1) (hc : a_cat st ≤ 8) : a_run d MX2_waysBack 44 L (v2 :: v1 :: .ref i :: st) h = a_cont d MX2_waysBack (a_bk MX2_waysBack 44 L st (a_call d MX2_waysBack [.ref i, v1, v2] h)) := w_callV (as := [.ref i, v1, v2]) dX2_waysBack_44 rfl rfl rfl hc (a_rcv_of hk rfl)
theorem w_X2_waysBack_47 (d : Nat) (L : a_L) (st : List Value) (h : a_H) : a_run d MX2_waysBack 47 L st h = a_run d MX2_waysBack 51 L st h := w_goto dX2_waysBack_47 rfl
theorem w_X2_waysBack_50 (d : Nat) (L : a_L) (st : List Value) (h : a_H) : a_run d MX2_waysBack 50 L st h = a_run d MX2_waysBack 51 L (.int (nI 0) :: st) h := w_iconst dX2_waysBack_50 rfl
theorem w_X2_waysBack_51 (d : Nat) (L : a_L) (x y : Int32) (st : List Value) (h : a_H) : a_run d MX2_waysBack 51 L (.int y :: .int x :: st) h = a_run d MX2_waysBack 52 L (.int (x + y) :: st) h := w_iadd dX2_waysBack_51
theorem w_X2_waysBack_52 (d : Nat) (a0 a1 a2 a3 a4 : Option Value) (x : Int32) (st : List Value) (h : a_H) : a_run d MX2_waysBack 52 [a0, a1, a2, a3, a4] (.int x :: st) h = a_run d MX2_waysBack 53 [a0, a1, a2, some (.int x), a4] st h := w_stIn dX2_waysBack_52 (Nat.le_of_ble_eq_true rfl) rfl
theorem w_X2_waysBack_53 (d : Nat) (a0 a1 a2 a3 : Option Value) (x : Int32) (st : List Value) (h : a_H) : a_run d MX2_waysBack 53 [a0, a1, a2, a3, some (.int x)] st h = a_run d MX2_waysBack 56 [a0, a1, a2, a3, some (.int (x + nI 1))] st h := w_incL dX2_waysBack_53 rfl rfl rfl
theorem w_X2_waysBack_56 (d : Nat) (L : a_L) (st : List Value) (h : a_H) : a_run d MX2_waysBack 56 L st h = a_run d MX2_waysBack 14 L st h := w_goto dX2_waysBack_56 rfl
theorem w_X2_waysBack_59 (d : Nat) (a0 a1 a2 a4 : Option Value) (x : Int32) (st : List Value) (h : a_H) : a_run d MX2_waysBack 59 [a0, a1, a2, some (.int x), a4] st h = a_run d MX2_waysBack 60 [a0, a1, a2, some (.int x), a4] (.int x :: st) h := w_ldIn dX2_waysBack_59 rfl
theorem w_X2_waysBack_60 (d : Nat) (L : a_L) (x : Int32) (h : a_H) : a_run d MX2_waysBack 60 L [.int x] h = some (.inl (some (.int x)), h) := w_iret dX2_waysBack_60 (w_retI rfl)
theorem e_X2_arrowsOn (d : Nat) (x0 : Nat) (x1 : Int32) (x2 : Int32) (x3 : Int32) (h : a_H) : a_call (d + 1) MX2_arrowsOn [.ref x0, .int x1, .int x2, .int x3] h = a_run d MX2_arrowsOn 0 [some (.ref x0), some (.int x1), some (.int x2), some (.int x3), none, none, none, none, none, none] [] h := a_call_run rfl (Nat.le_of_ble_eq_true rfl) rfl
theorem w_X2_arrowsOn_0 (d : Nat) (L : a_L) (st : List Value) (h : a_H) : a_run d MX2_arrowsOn 0 L st h = a_run d MX2_arrowsOn 2 L (.int (nI 16) :: st) h := w_bipush dX2_arrowsOn_0 rfl
theorem w_X2_arrowsOn_2 (d : Nat) (L : a_L) (x : Int32) (st : List Value) (h : a_H) : a_run d MX2_arrowsOn 2 L (.int x :: st) h = (a_newa h (newarray.typeOf .int) x).bind fun q => a_run d MX2_arrowsOn 4 L (.ref q.1 :: st) q.2 := w_newa dX2_arrowsOn_2
theorem w_X2_arrowsOn_4 (d : Nat) (a0 a1 a2 a3 a4 a5 a6 a7 a8 a9 : Option Value) (x : Nat) (st : List Value) (h : a_H) : a_run d MX2_arrowsOn 4 [a0, a1, a2, a3, a4, a5, a6, a7, a8, a9] (.ref x :: st) h = a_run d MX2_arrowsOn 6 [a0, a1, a2, a3, some (.ref x), a5, a6, a7, a8, a9] st h := w_stA dX2_arrowsOn_4 (Nat.le_of_ble_eq_true rfl) rfl
theorem w_X2_arrowsOn_4N (d : Nat) (a0 a1 a2 a3 a4 a5 a6 a7 a8 a9 : Option Value) (st : List Value) (h : a_H) : a_run d MX2_arrowsOn 4 [a0, a1, a2, a3, a4, a5, a6, a7, a8, a9] (.null :: st) h = a_run d MX2_arrowsOn 6 [a0, a1, a2, a3, some .null, a5, a6, a7, a8, a9] st h := w_stN dX2_arrowsOn_4 (Nat.le_of_ble_eq_true rfl) rfl
theorem w_X2_arrowsOn_6 (d : Nat) (L : a_L) (st : List Value) (h : a_H) : a_run d MX2_arrowsOn 6 L st h = a_run d MX2_arrowsOn 7 L (.int (nI 0) :: st) h := w_iconst dX2_arrowsOn_6 rfl
theorem w_X2_arrowsOn_7 (d : Nat) (a0 a1 a2 a3 a4 a5 a6 a7 a8 a9 : Option Value) (x : Int32) (st : List Value) (h : a_H) : a_run d MX2_arrowsOn 7 [a0, a1, a2, a3, a4, a5, a6, a7, a8, a9] (.int x :: st) h = a_run d MX2_arrowsOn 9 [a0, a1, a2, a3, a4, some (.int x), a6, a7, a8, a9] st h := w_stI dX2_arrowsOn_7 (Nat.le_of_ble_eq_true rfl) rfl
theorem w_X2_arrowsOn_9 (d : Nat) (a0 a1 a2 a3 a4 a6 a7 a8 a9 : Option Value) (x : Int32) (st : List Value) (h : a_H) : a_run d MX2_arrowsOn 9 [a0, a1, a2, a3, a4, some (.int x), a6, a7, a8, a9] st h = a_run d MX2_arrowsOn 11 [a0, a1, a2, a3, a4, some (.int x), a6, a7, a8, a9] (.int x :: st) h := w_ldI dX2_arrowsOn_9 rfl
theorem w_X2_arrowsOn_11 (d : Nat) (L : a_L) (st : List Value) (h : a_H) : a_run d MX2_arrowsOn 11 L st h = a_run d MX2_arrowsOn 13 L (.int (nI 16) :: st) h := w_bipush dX2_arrowsOn_11 rfl
theorem w_X2_arrowsOn_13 (d : Nat) (L : a_L) (x y : Int32) (st : List Value) (h : a_H) : a_run d MX2_arrowsOn 13 L (.int y :: .int x :: st) h = if x < y then a_run d MX2_arrowsOn 16 L st h else a_run d MX2_arrowsOn 38 L st h := w_icmp_ge dX2_arrowsOn_13 rfl
theorem w_X2_arrowsOn_16 (d : Nat) (a0 a1 a2 a3 a5 a6 a7 a8 a9 : Option Value) (x : Nat) (st : List Value) (h : a_H) : a_run d MX2_arrowsOn 16 [a0, a1, a2, a3, some (.ref x), a5, a6, a7, a8, a9] st h = a_run d MX2_arrowsOn 18 [a0, a1, a2, a3, some (.ref x), a5, a6, a7, a8, a9] (.ref x :: st) h := w_ldA dX2_arrowsOn_16 rfl
theorem w_X2_arrowsOn_16N (d : Nat) (a0 a1 a2 a3 a5 a6 a7 a8 a9 : Option Value) (st : List Value) (h : a_H) : a_run d MX2_arrowsOn 16 [a0, a1, a2, a3, some .null, a5, a6, a7, a8, a9] st h = a_run d MX2_arrowsOn 18 [a0, a1, a2, a3, some .null, a5, a6, a7, a8, a9] (.null :: st) h := w_ldN dX2_arrowsOn_16 rfl
theorem w_X2_arrowsOn_18 (d : Nat) (a0 a1 a2 a3 a4 a6 a7 a8 a9 : Option Value) (x : Int32) (st : List Value) (h : a_H) : a_run d MX2_arrowsOn 18 [a0, a1, a2, a3, a4, some (.int x), a6, a7, a8, a9] st h = a_run d MX2_arrowsOn 20 [a0, a1, a2, a3, a4, some (.int x), a6, a7, a8, a9] (.int x :: st) h := w_ldI dX2_arrowsOn_18 rfl
theorem w_X2_arrowsOn_20 (d : Nat) (a0 a1 a2 a3 a4 a6 a7 a8 a9 : Option Value) (x : Int32) (st : List Value) (h : a_H) : a_run d MX2_arrowsOn 20 [a0, a1, a2, a3, a4, some (.int x), a6, a7, a8, a9] st h = a_run d MX2_arrowsOn 22 [a0, a1, a2, a3, a4, some (.int x), a6, a7, a8, a9] (.int x :: st) h := w_ldI dX2_arrowsOn_20 rfl
theorem w_X2_arrowsOn_22 (d : Nat) (a0 a2 a3 a4 a5 a6 a7 a8 a9 : Option Value) (x : Int32) (st : List Value) (h : a_H) : a_run d MX2_arrowsOn 22 [a0, some (.int x), a2, a3, a4, a5, a6, a7, a8, a9] st h = a_run d MX2_arrowsOn 23 [a0, some (.int x), a2, a3, a4, a5, a6, a7, a8, a9] (.int x :: st) h := w_ldIn dX2_arrowsOn_22 rfl
theorem w_X2_arrowsOn_23 (d : Nat) (L : a_L) (x y : Int32) (st : List Value) (h : a_H) : a_run d MX2_arrowsOn 23 L (.int y :: .int x :: st) h = if x = y then a_run d MX2_arrowsOn 26 L st h else a_run d MX2_arrowsOn 30 L st h := w_icmp_ne dX2_arrowsOn_23 rfl
theorem w_X2_arrowsOn_26 (d : Nat) (L : a_L) (st : List Value) (h : a_H) : a_run d MX2_arrowsOn 26 L st h = a_run d MX2_arrowsOn 27 L (.int (nI 0) :: st) h := w_iconst dX2_arrowsOn_26 rfl
theorem w_X2_arrowsOn_27 (d : Nat) (L : a_L) (st : List Value) (h : a_H) : a_run d MX2_arrowsOn 27 L st h = a_run d MX2_arrowsOn 31 L st h := w_goto dX2_arrowsOn_27 rfl
theorem w_X2_arrowsOn_30 (d : Nat) (L : a_L) (st : List Value) (h : a_H) : a_run d MX2_arrowsOn 30 L st h = a_run d MX2_arrowsOn 31 L (.int ((-1)) :: st) h := w_iconst dX2_arrowsOn_30 rfl
theorem w_X2_arrowsOn_31 (d : Nat) (L : a_L) (x y : Int32) (i : Nat) (st : List Value) (h : a_H) : a_run d MX2_arrowsOn 31 L (.int y :: .int x :: .ref i :: st) h = (a_wri h i a_int x y).bind fun h' => a_run d MX2_arrowsOn 32 L st h' := w_iast dX2_arrowsOn_31
theorem w_X2_arrowsOn_32 (d : Nat) (a0 a1 a2 a3 a4 a6 a7 a8 a9 : Option Value) (x : Int32) (st : List Value) (h : a_H) : a_run d MX2_arrowsOn 32 [a0, a1, a2, a3, a4, some (.int x), a6, a7, a8, a9] st h = a_run d MX2_arrowsOn 35 [a0, a1, a2, a3, a4, some (.int (x + nI 1)), a6, a7, a8, a9] st h := w_incL dX2_arrowsOn_32 rfl rfl rfl
theorem w_X2_arrowsOn_35 (d : Nat) (L : a_L) (st : List Value) (h : a_H) : a_run d MX2_arrowsOn 35 L st h = a_run d MX2_arrowsOn 9 L st h := w_goto dX2_arrowsOn_35 rfl
theorem w_X2_arrowsOn_38 (d : Nat) (L : a_L) (st : List Value) (h : a_H) : a_run d MX2_arrowsOn 38 L st h = a_run d MX2_arrowsOn 39 L (.int (nI 0) :: st) h := w_iconst dX2_arrowsOn_38 rfl
theorem w_X2_arrowsOn_39 (d : Nat) (a0 a1 a2 a3 a4 a5 a6 a7 a8 a9 : Option Value) (x : Int32) (st : List Value) (h : a_H) : a_run d MX2_arrowsOn 39 [a0, a1, a2, a3, a4, a5, a6, a7, a8, a9] (.int x :: st) h = a_run d MX2_arrowsOn 41 [a0, a1, a2, a3, a4, some (.int x), a6, a7, a8, a9] st h := w_stI dX2_arrowsOn_39 (Nat.le_of_ble_eq_true rfl) rfl
theorem w_X2_arrowsOn_41 (d : Nat) (a0 a1 a2 a3 a4 a6 a7 a8 a9 : Option Value) (x : Int32) (st : List Value) (h : a_H) : a_run d MX2_arrowsOn 41 [a0, a1, a2, a3, a4, some (.int x), a6, a7, a8, a9] st h = a_run d MX2_arrowsOn 43 [a0, a1, a2, a3, a4, some (.int x), a6, a7, a8, a9] (.int x :: st) h := w_ldI dX2_arrowsOn_41 rfl
theorem w_X2_arrowsOn_43 (d : Nat) (a1 a2 a3 a4 a5 a6 a7 a8 a9 : Option Value) (x : Nat) (st : List Value) (h : a_H) : a_run d MX2_arrowsOn 43 [some (.ref x), a1, a2, a3, a4, a5, a6, a7, a8, a9] st h = a_run d MX2_arrowsOn 44 [some (.ref x), a1, a2, a3, a4, a5, a6, a7, a8, a9] (.ref x :: st) h := w_ldAn dX2_arrowsOn_43 rfl
theorem w_X2_arrowsOn_44 (d : Nat) (L : a_L) (i : Nat) (st : List Value) (h : a_H) : a_run d MX2_arrowsOn 44 L (.ref i :: st) h = (a_gf h i 13 [1]).bind fun v => a_run d MX2_arrowsOn 47 L (v :: st) h := w_getf dX2_arrowsOn_44 rfl
theorem w_X2_arrowsOn_47 (d : Nat) (L : a_L) (x y : Int32) (st : List Value) (h : a_H) : a_run d MX2_arrowsOn 47 L (.int y :: .int x :: st) h = if x < y then a_run d MX2_arrowsOn 50 L st h else a_run d MX2_arrowsOn 177 L st h := w_icmp_ge dX2_arrowsOn_47 rfl
theorem w_X2_arrowsOn_50 (d : Nat) (L : a_L) (st : List Value) (h : a_H) : a_run d MX2_arrowsOn 50 L st h = a_run d MX2_arrowsOn 51 L (.int (nI 0) :: st) h := w_iconst dX2_arrowsOn_50 rfl
theorem w_X2_arrowsOn_51 (d : Nat) (a0 a1 a2 a3 a4 a5 a6 a7 a8 a9 : Option Value) (x : Int32) (st : List Value) (h : a_H) : a_run d MX2_arrowsOn 51 [a0, a1, a2, a3, a4, a5, a6, a7, a8, a9] (.int x :: st) h = a_run d MX2_arrowsOn 53 [a0, a1, a2, a3, a4, a5, some (.int x), a7, a8, a9] st h := w_stI dX2_arrowsOn_51 (Nat.le_of_ble_eq_true rfl) rfl
theorem w_X2_arrowsOn_53 (d : Nat) (a0 a1 a2 a3 a4 a5 a7 a8 a9 : Option Value) (x : Int32) (st : List Value) (h : a_H) : a_run d MX2_arrowsOn 53 [a0, a1, a2, a3, a4, a5, some (.int x), a7, a8, a9] st h = a_run d MX2_arrowsOn 55 [a0, a1, a2, a3, a4, a5, some (.int x), a7, a8, a9] (.int x :: st) h := w_ldI dX2_arrowsOn_53 rfl
theorem w_X2_arrowsOn_55 (d : Nat) (a1 a2 a3 a4 a5 a6 a7 a8 a9 : Option Value) (x : Nat) (st : List Value) (h : a_H) : a_run d MX2_arrowsOn 55 [some (.ref x), a1, a2, a3, a4, a5, a6, a7, a8, a9] st h = a_run d MX2_arrowsOn 56 [some (.ref x), a1, a2, a3, a4, a5, a6, a7, a8, a9] (.ref x :: st) h := w_ldAn dX2_arrowsOn_55 rfl
theorem w_X2_arrowsOn_56 (d : Nat) (L : a_L) (i : Nat) (st : List Value) (h : a_H) : a_run d MX2_arrowsOn 56 L (.ref i :: st) h = (a_gf h i 12 [1]).bind fun v => a_run d MX2_arrowsOn 59 L (v :: st) h := w_getf dX2_arrowsOn_56 rfl
theorem w_X2_arrowsOn_59 (d : Nat) (L : a_L) (x y : Int32) (st : List Value) (h : a_H) : a_run d MX2_arrowsOn 59 L (.int y :: .int x :: st) h = if x < y then a_run d MX2_arrowsOn 62 L st h else a_run d MX2_arrowsOn 171 L st h := w_icmp_ge dX2_arrowsOn_59 rfl
theorem w_X2_arrowsOn_62 (d : Nat) (a1 a2 a3 a4 a5 a6 a7 a8 a9 : Option Value) (x : Nat) (st : List Value) (h : a_H) : a_run d MX2_arrowsOn 62 [some (.ref x), a1, a2, a3, a4, a5, a6, a7, a8, a9] st h = a_run d MX2_arrowsOn 63 [some (.ref x), a1, a2, a3, a4, a5, a6, a7, a8, a9] (.ref x :: st) h := w_ldAn dX2_arrowsOn_62 rfl
theorem w_X2_arrowsOn_63 (d : Nat) (L : a_L) (i : Nat) (st : List Value) (h : a_H) : a_run d MX2_arrowsOn 63 L (.ref i :: st) h = (a_gf h i 1 [1]).bind fun v => a_run d MX2_arrowsOn 66 L (v :: st) h := w_getf dX2_arrowsOn_63 rfl
theorem w_X2_arrowsOn_66 (d : Nat) (a0 a1 a2 a3 a4 a5 a7 a8 a9 : Option Value) (x : Int32) (st : List Value) (h : a_H) : a_run d MX2_arrowsOn 66 [a0, a1, a2, a3, a4, a5, some (.int x), a7, a8, a9] st h = a_run d MX2_arrowsOn 68 [a0, a1, a2, a3, a4, a5, some (.int x), a7, a8, a9] (.int x :: st) h := w_ldI dX2_arrowsOn_66 rfl
theorem w_X2_arrowsOn_68 (d : Nat) (L : a_L) (x : Int32) (i : Nat) (st : List Value) (h : a_H) : a_run d MX2_arrowsOn 68 L (.int x :: .ref i :: st) h = (a_rdi h i a_int x).bind fun v => a_run d MX2_arrowsOn 69 L (v :: st) h := w_iald dX2_arrowsOn_68
theorem w_X2_arrowsOn_69 (d : Nat) (a0 a1 a2 a3 a4 a5 a6 a7 a8 a9 : Option Value) (x : Int32) (st : List Value) (h : a_H) : a_run d MX2_arrowsOn 69 [a0, a1, a2, a3, a4, a5, a6, a7, a8, a9] (.int x :: st) h = a_run d MX2_arrowsOn 71 [a0, a1, a2, a3, a4, a5, a6, some (.int x), a8, a9] st h := w_stI dX2_arrowsOn_69 (Nat.le_of_ble_eq_true rfl) rfl
theorem w_X2_arrowsOn_71 (d : Nat) (a0 a1 a2 a3 a5 a6 a7 a8 a9 : Option Value) (x : Nat) (st : List Value) (h : a_H) : a_run d MX2_arrowsOn 71 [a0, a1, a2, a3, some (.ref x), a5, a6, a7, a8, a9] st h = a_run d MX2_arrowsOn 73 [a0, a1, a2, a3, some (.ref x), a5, a6, a7, a8, a9] (.ref x :: st) h := w_ldA dX2_arrowsOn_71 rfl
theorem w_X2_arrowsOn_71N (d : Nat) (a0 a1 a2 a3 a5 a6 a7 a8 a9 : Option Value) (st : List Value) (h : a_H) : a_run d MX2_arrowsOn 71 [a0, a1, a2, a3, some .null, a5, a6, a7, a8, a9] st h = a_run d MX2_arrowsOn 73 [a0, a1, a2, a3, some .null, a5, a6, a7, a8, a9] (.null :: st) h := w_ldN dX2_arrowsOn_71 rfl
theorem w_X2_arrowsOn_73 (d : Nat) (a1 a2 a3 a4 a5 a6 a7 a8 a9 : Option Value) (x : Nat) (st : List Value) (h : a_H) : a_run d MX2_arrowsOn 73 [some (.ref x), a1, a2, a3, a4, a5, a6, a7, a8, a9] st h = a_run d MX2_arrowsOn 74 [some (.ref x), a1, a2, a3, a4, a5, a6, a7, a8, a9] (.ref x :: st) h := w_ldAn dX2_arrowsOn_73 rfl
theorem w_X2_arrowsOn_74 (d : Nat) (L : a_L) (i : Nat) (st : List Value) (h : a_H) : a_run d MX2_arrowsOn 74 L (.ref i :: st) h = (a_gf h i 0 [1]).bind fun v => a_run d MX2_arrowsOn 77 L (v :: st) h := w_getf dX2_arrowsOn_74 rfl
theorem w_X2_arrowsOn_77 (d : Nat) (a0 a1 a2 a3 a4 a5 a7 a8 a9 : Option Value) (x : Int32) (st : List Value) (h : a_H) : a_run d MX2_arrowsOn 77 [a0, a1, a2, a3, a4, a5, some (.int x), a7, a8, a9] st h = a_run d MX2_arrowsOn 79 [a0, a1, a2, a3, a4, a5, some (.int x), a7, a8, a9] (.int x :: st) h := w_ldI dX2_arrowsOn_77 rfl
theorem w_X2_arrowsOn_79 (d : Nat) (L : a_L) (x : Int32) (i : Nat) (st : List Value) (h : a_H) : a_run d MX2_arrowsOn 79 L (.int x :: .ref i :: st) h = (a_rdi h i a_int x).bind fun v => a_run d MX2_arrowsOn 80 L (v :: st) h := w_iald dX2_arrowsOn_79
theorem w_X2_arrowsOn_80 (d : Nat) (L : a_L) (x : Int32) (i : Nat) (st : List Value) (h : a_H) : a_run d MX2_arrowsOn 80 L (.int x :: .ref i :: st) h = (a_rdi h i a_int x).bind fun v => a_run d MX2_arrowsOn 81 L (v :: st) h := w_iald dX2_arrowsOn_80
theorem w_X2_arrowsOn_81 (d : Nat) (L : a_L) (st : List Value) (h : a_H) : a_run d MX2_arrowsOn 81 L st h = a_run d MX2_arrowsOn 82 L (.int (nI 1) :: st) h := w_iconst dX2_arrowsOn_81 rfl
theorem w_X2_arrowsOn_82 (d : Nat) (L : a_L) (x y : Int32) (st : List Value) (h : a_H) : a_run d MX2_arrowsOn 82 L (.int y :: .int x :: st) h = a_run d MX2_arrowsOn 83 L (.int (x + y) :: st) h := w_iadd dX2_arrowsOn_82
theorem w_X2_arrowsOn_83 (d : Nat) (a0 a1 a2 a3 a4 a5 a6 a7 a8 a9 : Option Value) (x : Int32) (st : List Value) (h : a_H) : a_run d MX2_arrowsOn 83 [a0, a1, a2, a3, a4, a5, a6, a7, a8, a9] (.int x :: st) h = a_run d MX2_arrowsOn 85 [a0, a1, a2, a3, a4, a5, a6, a7, some (.int x), a9] st h := w_stI dX2_arrowsOn_83 (Nat.le_of_ble_eq_true rfl) rfl
theorem w_X2_arrowsOn_85 (d : Nat) (a1 a2 a3 a4 a5 a6 a7 a8 a9 : Option Value) (x : Nat) (st : List Value) (h : a_H) : a_run d MX2_arrowsOn 85 [some (.ref x), a1, a2, a3, a4, a5, a6, a7, a8, a9] st h = a_run d MX2_arrowsOn 86 [some (.ref x), a1, a2, a3, a4, a5, a6, a7, a8, a9] (.ref x :: st) h := w_ldAn dX2_arrowsOn_85 rfl
theorem w_X2_arrowsOn_86 (d : Nat) (L : a_L) (i : Nat) (st : List Value) (h : a_H) : a_run d MX2_arrowsOn 86 L (.ref i :: st) h = (a_gf h i 3 [1]).bind fun v => a_run d MX2_arrowsOn 89 L (v :: st) h := w_getf dX2_arrowsOn_86 rfl
theorem w_X2_arrowsOn_89 (d : Nat) (a0 a1 a2 a3 a4 a5 a6 a8 a9 : Option Value) (x : Int32) (st : List Value) (h : a_H) : a_run d MX2_arrowsOn 89 [a0, a1, a2, a3, a4, a5, a6, some (.int x), a8, a9] st h = a_run d MX2_arrowsOn 91 [a0, a1, a2, a3, a4, a5, a6, some (.int x), a8, a9] (.int x :: st) h := w_ldI dX2_arrowsOn_89 rfl
theorem w_X2_arrowsOn_91 (d : Nat) (L : a_L) (x : Int32) (i : Nat) (st : List Value) (h : a_H) : a_run d MX2_arrowsOn 91 L (.int x :: .ref i :: st) h = (a_rdi h i a_int x).bind fun v => a_run d MX2_arrowsOn 92 L (v :: st) h := w_iald dX2_arrowsOn_91
theorem w_X2_arrowsOn_92 (d : Nat) (a0 a1 a2 a3 a4 a6 a7 a8 a9 : Option Value) (x : Int32) (st : List Value) (h : a_H) : a_run d MX2_arrowsOn 92 [a0, a1, a2, a3, a4, some (.int x), a6, a7, a8, a9] st h = a_run d MX2_arrowsOn 94 [a0, a1, a2, a3, a4, some (.int x), a6, a7, a8, a9] (.int x :: st) h := w_ldI dX2_arrowsOn_92 rfl
theorem w_X2_arrowsOn_94 (d : Nat) (L : a_L) (x y : Int32) (st : List Value) (h : a_H) : a_run d MX2_arrowsOn 94 L (.int y :: .int x :: st) h = if x = y then a_run d MX2_arrowsOn 97 L st h else a_run d MX2_arrowsOn 142 L st h := w_icmp_ne dX2_arrowsOn_94 rfl
theorem w_X2_arrowsOn_97 (d : Nat) (a0 a1 a2 a3 a4 a5 a6 a7 a9 : Option Value) (x : Int32) (st : List Value) (h : a_H) : a_run d MX2_arrowsOn 97 [a0, a1, a2, a3, a4, a5, a6, a7, some (.int x), a9] st h = a_run d MX2_arrowsOn 99 [a0, a1, a2, a3, a4, a5, a6, a7, some (.int x), a9] (.int x :: st) h := w_ldI dX2_arrowsOn_97 rfl
theorem w_X2_arrowsOn_99 (d : Nat) (L : a_L) (x : Int32) (st : List Value) (h : a_H) : a_run d MX2_arrowsOn 99 L (.int x :: st) h = if 0 < x then a_run d MX2_arrowsOn 102 L st h else a_run d MX2_arrowsOn 142 L st h := w_if_le dX2_arrowsOn_99 rfl
theorem w_X2_arrowsOn_102 (d : Nat) (a0 a1 a2 a3 a5 a6 a7 a8 a9 : Option Value) (x : Nat) (st : List Value) (h : a_H) : a_run d MX2_arrowsOn 102 [a0, a1, a2, a3, some (.ref x), a5, a6, a7, a8, a9] st h = a_run d MX2_arrowsOn 104 [a0, a1, a2, a3, some (.ref x), a5, a6, a7, a8, a9] (.ref x :: st) h := w_ldA dX2_arrowsOn_102 rfl
theorem w_X2_arrowsOn_102N (d : Nat) (a0 a1 a2 a3 a5 a6 a7 a8 a9 : Option Value) (st : List Value) (h : a_H) : a_run d MX2_arrowsOn 102 [a0, a1, a2, a3, some .null, a5, a6, a7, a8, a9] st h = a_run d MX2_arrowsOn 104 [a0, a1, a2, a3, some .null, a5, a6, a7, a8, a9] (.null :: st) h := w_ldN dX2_arrowsOn_102 rfl
theorem w_X2_arrowsOn_104 (d : Nat) (a0 a1 a2 a3 a4 a5 a6 a8 a9 : Option Value) (x : Int32) (st : List Value) (h : a_H) : a_run d MX2_arrowsOn 104 [a0, a1, a2, a3, a4, a5, a6, some (.int x), a8, a9] st h = a_run d MX2_arrowsOn 106 [a0, a1, a2, a3, a4, a5, a6, some (.int x), a8, a9] (.int x :: st) h := w_ldI dX2_arrowsOn_104 rfl
theorem w_X2_arrowsOn_106 (d : Nat) (L : a_L) (x : Int32) (i : Nat) (st : List Value) (h : a_H) : a_run d MX2_arrowsOn 106 L (.int x :: .ref i :: st) h = (a_rdi h i a_int x).bind fun v => a_run d MX2_arrowsOn 107 L (v :: st) h := w_iald dX2_arrowsOn_106
theorem w_X2_arrowsOn_107 (d : Nat) (L : a_L) (st : List Value) (h : a_H) : a_run d MX2_arrowsOn 107 L st h = a_run d MX2_arrowsOn 108 L (.int ((-1)) :: st) h := w_iconst dX2_arrowsOn_107 rfl
theorem w_X2_arrowsOn_108 (d : Nat) (L : a_L) (x y : Int32) (st : List Value) (h : a_H) : a_run d MX2_arrowsOn 108 L (.int y :: .int x :: st) h = if x = y then a_run d MX2_arrowsOn 138 L st h else a_run d MX2_arrowsOn 111 L st h := w_icmp_eq dX2_arrowsOn_108 rfl
theorem w_X2_arrowsOn_111 (d : Nat) (a0 a1 a2 a4 a5 a6 a7 a8 a9 : Option Value) (x : Int32) (st : List Value) (h : a_H) : a_run d MX2_arrowsOn 111 [a0, a1, a2, some (.int x), a4, a5, a6, a7, a8, a9] st h = a_run d MX2_arrowsOn 112 [a0, a1, a2, some (.int x), a4, a5, a6, a7, a8, a9] (.int x :: st) h := w_ldIn dX2_arrowsOn_111 rfl
theorem w_X2_arrowsOn_112 (d : Nat) (L : a_L) (x : Int32) (st : List Value) (h : a_H) : a_run d MX2_arrowsOn 112 L (.int x :: st) h = if x = 0 then a_run d MX2_arrowsOn 128 L st h else a_run d MX2_arrowsOn 115 L st h := w_if_eq dX2_arrowsOn_112 rfl
theorem w_X2_arrowsOn_115 (d : Nat) (a0 a1 a2 a3 a4 a5 a6 a7 a9 : Option Value) (x : Int32) (st : List Value) (h : a_H) : a_run d MX2_arrowsOn 115 [a0, a1, a2, a3, a4, a5, a6, a7, some (.int x), a9] st h = a_run d MX2_arrowsOn 117 [a0, a1, a2, a3, a4, a5, a6, a7, some (.int x), a9] (.int x :: st) h := w_ldI dX2_arrowsOn_115 rfl
theorem w_X2_arrowsOn_117 (d : Nat) (a0 a1 a2 a3 a5 a6 a7 a8 a9 : Option Value) (x : Nat) (st : List Value) (h : a_H) : a_run d MX2_arrowsOn 117 [a0, a1, a2, a3, some (.ref x), a5, a6, a7, a8, a9] st h = a_run d MX2_arrowsOn 119 [a0, a1, a2, a3, some (.ref x), a5, a6, a7, a8, a9] (.ref x :: st) h := w_ldA dX2_arrowsOn_117 rfl
theorem w_X2_arrowsOn_117N (d : Nat) (a0 a1 a2 a3 a5 a6 a7 a8 a9 : Option Value) (st : List Value) (h : a_H) : a_run d MX2_arrowsOn 117 [a0, a1, a2, a3, some .null, a5, a6, a7, a8, a9] st h = a_run d MX2_arrowsOn 119 [a0, a1, a2, a3, some .null, a5, a6, a7, a8, a9] (.null :: st) h := w_ldN dX2_arrowsOn_117 rfl
theorem w_X2_arrowsOn_119 (d : Nat) (a0 a1 a2 a3 a4 a5 a6 a8 a9 : Option Value) (x : Int32) (st : List Value) (h : a_H) : a_run d MX2_arrowsOn 119 [a0, a1, a2, a3, a4, a5, a6, some (.int x), a8, a9] st h = a_run d MX2_arrowsOn 121 [a0, a1, a2, a3, a4, a5, a6, some (.int x), a8, a9] (.int x :: st) h := w_ldI dX2_arrowsOn_119 rfl
theorem w_X2_arrowsOn_121 (d : Nat) (L : a_L) (x : Int32) (i : Nat) (st : List Value) (h : a_H) : a_run d MX2_arrowsOn 121 L (.int x :: .ref i :: st) h = (a_rdi h i a_int x).bind fun v => a_run d MX2_arrowsOn 122 L (v :: st) h := w_iald dX2_arrowsOn_121
theorem w_X2_arrowsOn_122 (d : Nat) (L : a_L) (x y : Int32) (st : List Value) (h : a_H) : a_run d MX2_arrowsOn 122 L (.int y :: .int x :: st) h = if x < y then a_run d MX2_arrowsOn 125 L st h else a_run d MX2_arrowsOn 142 L st h := w_icmp_ge dX2_arrowsOn_122 rfl
theorem w_X2_arrowsOn_125 (d : Nat) (L : a_L) (st : List Value) (h : a_H) : a_run d MX2_arrowsOn 125 L st h = a_run d MX2_arrowsOn 138 L st h := w_goto dX2_arrowsOn_125 rfl
theorem w_X2_arrowsOn_128 (d : Nat) (a0 a1 a2 a3 a4 a5 a6 a7 a9 : Option Value) (x : Int32) (st : List Value) (h : a_H) : a_run d MX2_arrowsOn 128 [a0, a1, a2, a3, a4, a5, a6, a7, some (.int x), a9] st h = a_run d MX2_arrowsOn 130 [a0, a1, a2, a3, a4, a5, a6, a7, some (.int x), a9] (.int x :: st) h := w_ldI dX2_arrowsOn_128 rfl
theorem w_X2_arrowsOn_130 (d : Nat) (a0 a1 a2 a3 a5 a6 a7 a8 a9 : Option Value) (x : Nat) (st : List Value) (h : a_H) : a_run d MX2_arrowsOn 130 [a0, a1, a2, a3, some (.ref x), a5, a6, a7, a8, a9] st h = a_run d MX2_arrowsOn 132 [a0, a1, a2, a3, some (.ref x), a5, a6, a7, a8, a9] (.ref x :: st) h := w_ldA dX2_arrowsOn_130 rfl
theorem w_X2_arrowsOn_130N (d : Nat) (a0 a1 a2 a3 a5 a6 a7 a8 a9 : Option Value) (st : List Value) (h : a_H) : a_run d MX2_arrowsOn 130 [a0, a1, a2, a3, some .null, a5, a6, a7, a8, a9] st h = a_run d MX2_arrowsOn 132 [a0, a1, a2, a3, some .null, a5, a6, a7, a8, a9] (.null :: st) h := w_ldN dX2_arrowsOn_130 rfl
theorem w_X2_arrowsOn_132 (d : Nat) (a0 a1 a2 a3 a4 a5 a6 a8 a9 : Option Value) (x : Int32) (st : List Value) (h : a_H) : a_run d MX2_arrowsOn 132 [a0, a1, a2, a3, a4, a5, a6, some (.int x), a8, a9] st h = a_run d MX2_arrowsOn 134 [a0, a1, a2, a3, a4, a5, a6, some (.int x), a8, a9] (.int x :: st) h := w_ldI dX2_arrowsOn_132 rfl
theorem w_X2_arrowsOn_134 (d : Nat) (L : a_L) (x : Int32) (i : Nat) (st : List Value) (h : a_H) : a_run d MX2_arrowsOn 134 L (.int x :: .ref i :: st) h = (a_rdi h i a_int x).bind fun v => a_run d MX2_arrowsOn 135 L (v :: st) h := w_iald dX2_arrowsOn_134
theorem w_X2_arrowsOn_135 (d : Nat) (L : a_L) (x y : Int32) (st : List Value) (h : a_H) : a_run d MX2_arrowsOn 135 L (.int y :: .int x :: st) h = if y < x then a_run d MX2_arrowsOn 138 L st h else a_run d MX2_arrowsOn 142 L st h := w_icmp_le dX2_arrowsOn_135 rfl
theorem w_X2_arrowsOn_138 (d : Nat) (L : a_L) (st : List Value) (h : a_H) : a_run d MX2_arrowsOn 138 L st h = a_run d MX2_arrowsOn 139 L (.int (nI 1) :: st) h := w_iconst dX2_arrowsOn_138 rfl
theorem w_X2_arrowsOn_139 (d : Nat) (L : a_L) (st : List Value) (h : a_H) : a_run d MX2_arrowsOn 139 L st h = a_run d MX2_arrowsOn 143 L st h := w_goto dX2_arrowsOn_139 rfl
theorem w_X2_arrowsOn_142 (d : Nat) (L : a_L) (st : List Value) (h : a_H) : a_run d MX2_arrowsOn 142 L st h = a_run d MX2_arrowsOn 143 L (.int (nI 0) :: st) h := w_iconst dX2_arrowsOn_142 rfl
theorem w_X2_arrowsOn_143 (d : Nat) (a0 a1 a2 a3 a4 a5 a6 a7 a8 a9 : Option Value) (x : Int32) (st : List Value) (h : a_H) : a_run d MX2_arrowsOn 143 [a0, a1, a2, a3, a4, a5, a6, a7, a8, a9] (.int x :: st) h = a_run d MX2_arrowsOn 145 [a0, a1, a2, a3, a4, a5, a6, a7, a8, some (.int x)] st h := w_stI dX2_arrowsOn_143 (Nat.le_of_ble_eq_true rfl) rfl
theorem w_X2_arrowsOn_145 (d : Nat) (a0 a1 a2 a3 a5 a6 a7 a8 a9 : Option Value) (x : Nat) (st : List Value) (h : a_H) : a_run d MX2_arrowsOn 145 [a0, a1, a2, a3, some (.ref x), a5, a6, a7, a8, a9] st h = a_run d MX2_arrowsOn 147 [a0, a1, a2, a3, some (.ref x), a5, a6, a7, a8, a9] (.ref x :: st) h := w_ldA dX2_arrowsOn_145 rfl
theorem w_X2_arrowsOn_145N (d : Nat) (a0 a1 a2 a3 a5 a6 a7 a8 a9 : Option Value) (st : List Value) (h : a_H) : a_run d MX2_arrowsOn 145 [a0, a1, a2, a3, some .null, a5, a6, a7, a8, a9] st h = a_run d MX2_arrowsOn 147 [a0, a1, a2, a3, some .null, a5, a6, a7, a8, a9] (.null :: st) h := w_ldN dX2_arrowsOn_145 rfl
theorem w_X2_arrowsOn_147 (d : Nat) (a0 a1 a2 a3 a4 a5 a6 a8 a9 : Option Value) (x : Int32) (st : List Value) (h : a_H) : a_run d MX2_arrowsOn 147 [a0, a1, a2, a3, a4, a5, a6, some (.int x), a8, a9] st h = a_run d MX2_arrowsOn 149 [a0, a1, a2, a3, a4, a5, a6, some (.int x), a8, a9] (.int x :: st) h := w_ldI dX2_arrowsOn_147 rfl
theorem w_X2_arrowsOn_149 (d : Nat) (a0 a1 a2 a3 a4 a5 a6 a7 a8 : Option Value) (x : Int32) (st : List Value) (h : a_H) : a_run d MX2_arrowsOn 149 [a0, a1, a2, a3, a4, a5, a6, a7, a8, some (.int x)] st h = a_run d MX2_arrowsOn 151 [a0, a1, a2, a3, a4, a5, a6, a7, a8, some (.int x)] (.int x :: st) h := w_ldI dX2_arrowsOn_149 rfl
theorem w_X2_arrowsOn_151 (d : Nat) (L : a_L) (x : Int32) (st : List Value) (h : a_H) : a_run d MX2_arrowsOn 151 L (.int x :: st) h = if x = 0 then a_run d MX2_arrowsOn 159 L st h else a_run d MX2_arrowsOn 154 L st h := w_if_eq dX2_arrowsOn_151 rfl
theorem w_X2_arrowsOn_154 (d : Nat) (a0 a1 a2 a3 a4 a5 a6 a7 a9 : Option Value) (x : Int32) (st : List Value) (h : a_H) : a_run d MX2_arrowsOn 154 [a0, a1, a2, a3, a4, a5, a6, a7, some (.int x), a9] st h = a_run d MX2_arrowsOn 156 [a0, a1, a2, a3, a4, a5, a6, a7, some (.int x), a9] (.int x :: st) h := w_ldI dX2_arrowsOn_154 rfl
theorem w_X2_arrowsOn_156 (d : Nat) (L : a_L) (st : List Value) (h : a_H) : a_run d MX2_arrowsOn 156 L st h = a_run d MX2_arrowsOn 164 L st h := w_goto dX2_arrowsOn_156 rfl
theorem w_X2_arrowsOn_159 (d : Nat) (a0 a1 a2 a3 a5 a6 a7 a8 a9 : Option Value) (x : Nat) (st : List Value) (h : a_H) : a_run d MX2_arrowsOn 159 [a0, a1, a2, a3, some (.ref x), a5, a6, a7, a8, a9] st h = a_run d MX2_arrowsOn 161 [a0, a1, a2, a3, some (.ref x), a5, a6, a7, a8, a9] (.ref x :: st) h := w_ldA dX2_arrowsOn_159 rfl
theorem w_X2_arrowsOn_159N (d : Nat) (a0 a1 a2 a3 a5 a6 a7 a8 a9 : Option Value) (st : List Value) (h : a_H) : a_run d MX2_arrowsOn 159 [a0, a1, a2, a3, some .null, a5, a6, a7, a8, a9] st h = a_run d MX2_arrowsOn 161 [a0, a1, a2, a3, some .null, a5, a6, a7, a8, a9] (.null :: st) h := w_ldN dX2_arrowsOn_159 rfl
theorem w_X2_arrowsOn_161 (d : Nat) (a0 a1 a2 a3 a4 a5 a6 a8 a9 : Option Value) (x : Int32) (st : List Value) (h : a_H) : a_run d MX2_arrowsOn 161 [a0, a1, a2, a3, a4, a5, a6, some (.int x), a8, a9] st h = a_run d MX2_arrowsOn 163 [a0, a1, a2, a3, a4, a5, a6, some (.int x), a8, a9] (.int x :: st) h := w_ldI dX2_arrowsOn_161 rfl
theorem w_X2_arrowsOn_163 (d : Nat) (L : a_L) (x : Int32) (i : Nat) (st : List Value) (h : a_H) : a_run d MX2_arrowsOn 163 L (.int x :: .ref i :: st) h = (a_rdi h i a_int x).bind fun v => a_run d MX2_arrowsOn 164 L (v :: st) h := w_iald dX2_arrowsOn_163
theorem w_X2_arrowsOn_164 (d : Nat) (L : a_L) (x y : Int32) (i : Nat) (st : List Value) (h : a_H) : a_run d MX2_arrowsOn 164 L (.int y :: .int x :: .ref i :: st) h = (a_wri h i a_int x y).bind fun h' => a_run d MX2_arrowsOn 165 L st h' := w_iast dX2_arrowsOn_164
theorem w_X2_arrowsOn_165 (d : Nat) (a0 a1 a2 a3 a4 a5 a7 a8 a9 : Option Value) (x : Int32) (st : List Value) (h : a_H) : a_run d MX2_arrowsOn 165 [a0, a1, a2, a3, a4, a5, some (.int x), a7, a8, a9] st h = a_run d MX2_arrowsOn 168 [a0, a1, a2, a3, a4, a5, some (.int (x + nI 1)), a7, a8, a9] st h := w_incL dX2_arrowsOn_165 rfl rfl rfl
theorem w_X2_arrowsOn_168 (d : Nat) (L : a_L) (st : List Value) (h : a_H) : a_run d MX2_arrowsOn 168 L st h = a_run d MX2_arrowsOn 53 L st h := w_goto dX2_arrowsOn_168 rfl
theorem w_X2_arrowsOn_171 (d : Nat) (a0 a1 a2 a3 a4 a6 a7 a8 a9 : Option Value) (x : Int32) (st : List Value) (h : a_H) : a_run d MX2_arrowsOn 171 [a0, a1, a2, a3, a4, some (.int x), a6, a7, a8, a9] st h = a_run d MX2_arrowsOn 174 [a0, a1, a2, a3, a4, some (.int (x + nI 1)), a6, a7, a8, a9] st h := w_incL dX2_arrowsOn_171 rfl rfl rfl
theorem w_X2_arrowsOn_174 (d : Nat) (L : a_L) (st : List Value) (h : a_H) : a_run d MX2_arrowsOn 174 L st h = a_run d MX2_arrowsOn 41 L st h := w_goto dX2_arrowsOn_174 rfl
theorem w_X2_arrowsOn_177 (d : Nat) (a0 a1 a2 a3 a5 a6 a7 a8 a9 : Option Value) (x : Nat) (st : List Value) (h : a_H) : a_run d MX2_arrowsOn 177 [a0, a1, a2, a3, some (.ref x), a5, a6, a7, a8, a9] st h = a_run d MX2_arrowsOn 179 [a0, a1, a2, a3, some (.ref x), a5, a6, a7, a8, a9] (.ref x :: st) h := w_ldA dX2_arrowsOn_177 rfl
theorem w_X2_arrowsOn_177N (d : Nat) (a0 a1 a2 a3 a5 a6 a7 a8 a9 : Option Value) (st : List Value) (h : a_H) : a_run d MX2_arrowsOn 177 [a0, a1, a2, a3, some .null, a5, a6, a7, a8, a9] st h = a_run d MX2_arrowsOn 179 [a0, a1, a2, a3, some .null, a5, a6, a7, a8, a9] (.null :: st) h := w_ldN dX2_arrowsOn_177 rfl
theorem w_X2_arrowsOn_179 (d : Nat) (a0 a1 a3 a4 a5 a6 a7 a8 a9 : Option Value) (x : Int32) (st : List Value) (h : a_H) : a_run d MX2_arrowsOn 179 [a0, a1, some (.int x), a3, a4, a5, a6, a7, a8, a9] st h = a_run d MX2_arrowsOn 180 [a0, a1, some (.int x), a3, a4, a5, a6, a7, a8, a9] (.int x :: st) h := w_ldIn dX2_arrowsOn_179 rfl
theorem w_X2_arrowsOn_180 (d : Nat) (L : a_L) (x : Int32) (i : Nat) (st : List Value) (h : a_H) : a_run d MX2_arrowsOn 180 L (.int x :: .ref i :: st) h = (a_rdi h i a_int x).bind fun v => a_run d MX2_arrowsOn 181 L (v :: st) h := w_iald dX2_arrowsOn_180
theorem w_X2_arrowsOn_181 (d : Nat) (L : a_L) (x : Int32) (h : a_H) : a_run d MX2_arrowsOn 181 L [.int x] h = some (.inl (some (.int x)), h) := w_iret dX2_arrowsOn_181 (w_retI rfl)
theorem e_X2_back (d : Nat) (x0 : Nat) (x1 : Int32) (h : a_H) : a_call (d + 1) MX2_back [.ref x0, .int x1] h = a_run d MX2_back 0 [some (.ref x0), some (.int x1), none, none] [] h := a_call_run rfl (Nat.le_of_ble_eq_true rfl) rfl
theorem w_X2_back_0 (d : Nat) (a1 a2 a3 : Option Value) (x : Nat) (st : List Value) (h : a_H) : a_run d MX2_back 0 [some (.ref x), a1, a2, a3] st h = a_run d MX2_back 1 [some (.ref x), a1, a2, a3] (.ref x :: st) h := w_ldAn dX2_back_0 rfl
theorem w_X2_back_1 (d : Nat) (L : a_L) (i : Nat) (st : List Value) (h : a_H) : a_run d MX2_back 1 L (.ref i :: st) h = (a_gf h i 2 [1]).bind fun v => a_run d MX2_back 4 L (v :: st) h := w_getf dX2_back_1 rfl
theorem w_X2_back_4 (d : Nat) (a0 a2 a3 : Option Value) (x : Int32) (st : List Value) (h : a_H) : a_run d MX2_back 4 [a0, some (.int x), a2, a3] st h = a_run d MX2_back 5 [a0, some (.int x), a2, a3] (.int x :: st) h := w_ldIn dX2_back_4 rfl
theorem w_X2_back_5 (d : Nat) (L : a_L) (x : Int32) (i : Nat) (st : List Value) (h : a_H) : a_run d MX2_back 5 L (.int x :: .ref i :: st) h = (a_rdi h i a_int x).bind fun v => a_run d MX2_back 6 L (v :: st) h := w_iald dX2_back_5
theorem w_X2_back_6 (d : Nat) (a0 a1 a2 a3 : Option Value) (x : Int32) (st : List Value) (h : a_H) : a_run d MX2_back 6 [a0, a1, a2, a3] (.int x :: st) h = a_run d MX2_back 7 [a0, a1, some (.int x), a3] st h := w_stIn dX2_back_6 (Nat.le_of_ble_eq_true rfl) rfl
theorem w_X2_back_7 (d : Nat) (L : a_L) (st : List Value) (h : a_H) : a_run d MX2_back 7 L st h = a_run d MX2_back 8 L (.int (nI 0) :: st) h := w_iconst dX2_back_7 rfl
theorem w_X2_back_8 (d : Nat) (a0 a1 a2 a3 : Option Value) (x : Int32) (st : List Value) (h : a_H) : a_run d MX2_back 8 [a0, a1, a2, a3] (.int x :: st) h = a_run d MX2_back 9 [a0, a1, a2, some (.int x)] st h := w_stIn dX2_back_8 (Nat.le_of_ble_eq_true rfl) rfl
theorem w_X2_back_9 (d : Nat) (a0 a1 a2 : Option Value) (x : Int32) (st : List Value) (h : a_H) : a_run d MX2_back 9 [a0, a1, a2, some (.int x)] st h = a_run d MX2_back 10 [a0, a1, a2, some (.int x)] (.int x :: st) h := w_ldIn dX2_back_9 rfl
theorem w_X2_back_10 (d : Nat) (a1 a2 a3 : Option Value) (x : Nat) (st : List Value) (h : a_H) : a_run d MX2_back 10 [some (.ref x), a1, a2, a3] st h = a_run d MX2_back 11 [some (.ref x), a1, a2, a3] (.ref x :: st) h := w_ldAn dX2_back_10 rfl
theorem w_X2_back_11 (d : Nat) (L : a_L) (i : Nat) (st : List Value) (h : a_H) : a_run d MX2_back 11 L (.ref i :: st) h = (a_gf h i 12 [1]).bind fun v => a_run d MX2_back 14 L (v :: st) h := w_getf dX2_back_11 rfl
theorem w_X2_back_14 (d : Nat) (L : a_L) (x y : Int32) (st : List Value) (h : a_H) : a_run d MX2_back 14 L (.int y :: .int x :: st) h = if x < y then a_run d MX2_back 17 L st h else a_run d MX2_back 54 L st h := w_icmp_ge dX2_back_14 rfl
theorem w_X2_back_17 (d : Nat) (a1 a2 a3 : Option Value) (x : Nat) (st : List Value) (h : a_H) : a_run d MX2_back 17 [some (.ref x), a1, a2, a3] st h = a_run d MX2_back 18 [some (.ref x), a1, a2, a3] (.ref x :: st) h := w_ldAn dX2_back_17 rfl
theorem w_X2_back_18 (d : Nat) (L : a_L) (i : Nat) (st : List Value) (h : a_H) : a_run d MX2_back 18 L (.ref i :: st) h = (a_gf h i 1 [1]).bind fun v => a_run d MX2_back 21 L (v :: st) h := w_getf dX2_back_18 rfl
theorem w_X2_back_21 (d : Nat) (a0 a1 a2 : Option Value) (x : Int32) (st : List Value) (h : a_H) : a_run d MX2_back 21 [a0, a1, a2, some (.int x)] st h = a_run d MX2_back 22 [a0, a1, a2, some (.int x)] (.int x :: st) h := w_ldIn dX2_back_21 rfl
theorem w_X2_back_22 (d : Nat) (L : a_L) (x : Int32) (i : Nat) (st : List Value) (h : a_H) : a_run d MX2_back 22 L (.int x :: .ref i :: st) h = (a_rdi h i a_int x).bind fun v => a_run d MX2_back 23 L (v :: st) h := w_iald dX2_back_22
theorem w_X2_back_23 (d : Nat) (a0 a2 a3 : Option Value) (x : Int32) (st : List Value) (h : a_H) : a_run d MX2_back 23 [a0, some (.int x), a2, a3] st h = a_run d MX2_back 24 [a0, some (.int x), a2, a3] (.int x :: st) h := w_ldIn dX2_back_23 rfl
theorem w_X2_back_24 (d : Nat) (L : a_L) (x y : Int32) (st : List Value) (h : a_H) : a_run d MX2_back 24 L (.int y :: .int x :: st) h = if x = y then a_run d MX2_back 27 L st h else a_run d MX2_back 46 L st h := w_icmp_ne dX2_back_24 rfl
theorem w_X2_back_27 (d : Nat) (a0 a1 a3 : Option Value) (x : Int32) (st : List Value) (h : a_H) : a_run d MX2_back 27 [a0, a1, some (.int x), a3] st h = a_run d MX2_back 28 [a0, a1, some (.int x), a3] (.int x :: st) h := w_ldIn dX2_back_27 rfl
theorem w_X2_back_28 (d : Nat) (a1 a2 a3 : Option Value) (x : Nat) (st : List Value) (h : a_H) : a_run d MX2_back 28 [some (.ref x), a1, a2, a3] st h = a_run d MX2_back 29 [some (.ref x), a1, a2, a3] (.ref x :: st) h := w_ldAn dX2_back_28 rfl
theorem w_X2_back_29 (d : Nat) (a1 a2 a3 : Option Value) (x : Nat) (st : List Value) (h : a_H) : a_run d MX2_back 29 [some (.ref x), a1, a2, a3] st h = a_run d MX2_back 30 [some (.ref x), a1, a2, a3] (.ref x :: st) h := w_ldAn dX2_back_29 rfl
theorem w_X2_back_30 (d : Nat) (L : a_L) (i : Nat) (st : List Value) (h : a_H) : a_run d MX2_back 30 L (.ref i :: st) h = (a_gf h i 0 [1]).bind fun v => a_run d MX2_back 33 L (v :: st) h := w_getf dX2_back_30 rfl
theorem w_X2_back_33 (d : Nat) (a0 a1 a2 : Option Value) (x : Int32) (st : List Value) (h : a_H) : a_run d MX2_back 33 [a0, a1, a2, some (.int x)] st h = a_run d MX2_back 34 [a0, a1, a2, some (.int x)] (.int x :: st) h := w_ldIn dX2_back_33 rfl
theorem w_X2_back_34 (d : Nat) (L : a_L) (x : Int32) (i : Nat) (st : List Value) (h : a_H) : a_run d MX2_back 34 L (.int x :: .ref i :: st) h = (a_rdi h i a_int x).bind fun v => a_run d MX2_back 35 L (v :: st) h := w_iald dX2_back_34
theorem w_X2_back_35 (d : Nat) (L : a_L) (i : Nat) (v1 : Value) (st : List Value) (h : a_H) (hk : a_kls h i = some 1) (hc : a_cat st ≤ 8) : a_run d MX2_back 35 L (v1 :: .ref i :: st) h = a_cont d MX2_back (a_bk MX2_back 35 L st (a_call d MX2_back [.ref i, v1] h)) := w_callV (as := [.ref i, v1]) dX2_back_35 rfl rfl rfl hc (a_rcv_of hk rfl)
theorem w_X2_back_38 (d : Nat) (L : a_L) (st : List Value) (h : a_H) : a_run d MX2_back 38 L st h = a_run d MX2_back 39 L (.int (nI 1) :: st) h := w_iconst dX2_back_38 rfl
theorem w_X2_back_39 (d : Nat) (L : a_L) (x y : Int32) (st : List Value) (h : a_H) : a_run d MX2_back 39 L (.int y :: .int x :: st) h = a_run d MX2_back 40 L (.int (x + y) :: st) h := w_iadd dX2_back_39
theorem w_X2_back_40 (d : Nat) (L : a_L) (x y : Int32) (st : List Value) (h : a_H) (hc : a_cat st ≤ 8) : a_run d MX2_back 40 L (.int y :: .int x :: st) h = a_run d MX2_back 43 L (.int (if x < y then y else x) :: st) h := w_max dX2_back_40 rfl hc
theorem w_X2_back_43 (d : Nat) (L : a_L) (st : List Value) (h : a_H) : a_run d MX2_back 43 L st h = a_run d MX2_back 47 L st h := w_goto dX2_back_43 rfl
theorem w_X2_back_46 (d : Nat) (a0 a1 a3 : Option Value) (x : Int32) (st : List Value) (h : a_H) : a_run d MX2_back 46 [a0, a1, some (.int x), a3] st h = a_run d MX2_back 47 [a0, a1, some (.int x), a3] (.int x :: st) h := w_ldIn dX2_back_46 rfl
theorem w_X2_back_47 (d : Nat) (a0 a1 a2 a3 : Option Value) (x : Int32) (st : List Value) (h : a_H) : a_run d MX2_back 47 [a0, a1, a2, a3] (.int x :: st) h = a_run d MX2_back 48 [a0, a1, some (.int x), a3] st h := w_stIn dX2_back_47 (Nat.le_of_ble_eq_true rfl) rfl
theorem w_X2_back_48 (d : Nat) (a0 a1 a2 : Option Value) (x : Int32) (st : List Value) (h : a_H) : a_run d MX2_back 48 [a0, a1, a2, some (.int x)] st h = a_run d MX2_back 51 [a0, a1, a2, some (.int (x + nI 1))] st h := w_incL dX2_back_48 rfl rfl rfl
theorem w_X2_back_51 (d : Nat) (L : a_L) (st : List Value) (h : a_H) : a_run d MX2_back 51 L st h = a_run d MX2_back 9 L st h := w_goto dX2_back_51 rfl
theorem w_X2_back_54 (d : Nat) (a0 a1 a3 : Option Value) (x : Int32) (st : List Value) (h : a_H) : a_run d MX2_back 54 [a0, a1, some (.int x), a3] st h = a_run d MX2_back 55 [a0, a1, some (.int x), a3] (.int x :: st) h := w_ldIn dX2_back_54 rfl
theorem w_X2_back_55 (d : Nat) (L : a_L) (x : Int32) (h : a_H) : a_run d MX2_back 55 L [.int x] h = some (.inl (some (.int x)), h) := w_iret dX2_back_55 (w_retI rfl)
theorem e_X2_crossingsBy (d : Nat) (x0 : Nat) (x1 : Int32) (h : a_H) : a_call (d + 1) MX2_crossingsBy [.ref x0, .int x1] h = a_run d MX2_crossingsBy 0 [some (.ref x0), some (.int x1), none, none, none] [] h := a_call_run rfl (Nat.le_of_ble_eq_true rfl) rfl
theorem w_X2_crossingsBy_0 (d : Nat) (L : a_L) (st : List Value) (h : a_H) : a_run d MX2_crossingsBy 0 L st h = a_run d MX2_crossingsBy 1 L (.int (nI 0) :: st) h := w_iconst dX2_crossingsBy_0 rfl
theorem w_X2_crossingsBy_1 (d : Nat) (a0 a1 a2 a3 a4 : Option Value) (x : Int32) (st : List Value) (h : a_H) : a_run d MX2_crossingsBy 1 [a0, a1, a2, a3, a4] (.int x :: st) h = a_run d MX2_crossingsBy 2 [a0, a1, some (.int x), a3, a4] st h := w_stIn dX2_crossingsBy_1 (Nat.le_of_ble_eq_true rfl) rfl
theorem w_X2_crossingsBy_2 (d : Nat) (a1 a2 a3 a4 : Option Value) (x : Nat) (st : List Value) (h : a_H) : a_run d MX2_crossingsBy 2 [some (.ref x), a1, a2, a3, a4] st h = a_run d MX2_crossingsBy 3 [some (.ref x), a1, a2, a3, a4] (.ref x :: st) h := w_ldAn dX2_crossingsBy_2 rfl
theorem w_X2_crossingsBy_3 (d : Nat) (L : a_L) (i : Nat) (st : List Value) (h : a_H) : a_run d MX2_crossingsBy 3 L (.ref i :: st) h = (a_gf h i 3 [1]).bind fun v => a_run d MX2_crossingsBy 6 L (v :: st) h := w_getf dX2_crossingsBy_3 rfl
theorem w_X2_crossingsBy_6 (d : Nat) (a1 a2 a3 a4 : Option Value) (x : Nat) (st : List Value) (h : a_H) : a_run d MX2_crossingsBy 6 [some (.ref x), a1, a2, a3, a4] st h = a_run d MX2_crossingsBy 7 [some (.ref x), a1, a2, a3, a4] (.ref x :: st) h := w_ldAn dX2_crossingsBy_6 rfl
theorem w_X2_crossingsBy_7 (d : Nat) (L : a_L) (i : Nat) (st : List Value) (h : a_H) : a_run d MX2_crossingsBy 7 L (.ref i :: st) h = (a_gf h i 0 [1]).bind fun v => a_run d MX2_crossingsBy 10 L (v :: st) h := w_getf dX2_crossingsBy_7 rfl
theorem w_X2_crossingsBy_10 (d : Nat) (a0 a2 a3 a4 : Option Value) (x : Int32) (st : List Value) (h : a_H) : a_run d MX2_crossingsBy 10 [a0, some (.int x), a2, a3, a4] st h = a_run d MX2_crossingsBy 11 [a0, some (.int x), a2, a3, a4] (.int x :: st) h := w_ldIn dX2_crossingsBy_10 rfl
theorem w_X2_crossingsBy_11 (d : Nat) (L : a_L) (x : Int32) (i : Nat) (st : List Value) (h : a_H) : a_run d MX2_crossingsBy 11 L (.int x :: .ref i :: st) h = (a_rdi h i a_int x).bind fun v => a_run d MX2_crossingsBy 12 L (v :: st) h := w_iald dX2_crossingsBy_11
theorem w_X2_crossingsBy_12 (d : Nat) (L : a_L) (x : Int32) (i : Nat) (st : List Value) (h : a_H) : a_run d MX2_crossingsBy 12 L (.int x :: .ref i :: st) h = (a_rdi h i a_int x).bind fun v => a_run d MX2_crossingsBy 13 L (v :: st) h := w_iald dX2_crossingsBy_12
theorem w_X2_crossingsBy_13 (d : Nat) (a0 a1 a2 a3 a4 : Option Value) (x : Int32) (st : List Value) (h : a_H) : a_run d MX2_crossingsBy 13 [a0, a1, a2, a3, a4] (.int x :: st) h = a_run d MX2_crossingsBy 14 [a0, a1, a2, some (.int x), a4] st h := w_stIn dX2_crossingsBy_13 (Nat.le_of_ble_eq_true rfl) rfl
theorem w_X2_crossingsBy_14 (d : Nat) (a0 a1 a2 a4 : Option Value) (x : Int32) (st : List Value) (h : a_H) : a_run d MX2_crossingsBy 14 [a0, a1, a2, some (.int x), a4] st h = a_run d MX2_crossingsBy 15 [a0, a1, a2, some (.int x), a4] (.int x :: st) h := w_ldIn dX2_crossingsBy_14 rfl
theorem w_X2_crossingsBy_15 (d : Nat) (a1 a2 a3 a4 : Option Value) (x : Nat) (st : List Value) (h : a_H) : a_run d MX2_crossingsBy 15 [some (.ref x), a1, a2, a3, a4] st h = a_run d MX2_crossingsBy 16 [some (.ref x), a1, a2, a3, a4] (.ref x :: st) h := w_ldAn dX2_crossingsBy_15 rfl
theorem w_X2_crossingsBy_16 (d : Nat) (L : a_L) (i : Nat) (st : List Value) (h : a_H) : a_run d MX2_crossingsBy 16 L (.ref i :: st) h = (a_gf h i 3 [1]).bind fun v => a_run d MX2_crossingsBy 19 L (v :: st) h := w_getf dX2_crossingsBy_16 rfl
theorem w_X2_crossingsBy_19 (d : Nat) (a1 a2 a3 a4 : Option Value) (x : Nat) (st : List Value) (h : a_H) : a_run d MX2_crossingsBy 19 [some (.ref x), a1, a2, a3, a4] st h = a_run d MX2_crossingsBy 20 [some (.ref x), a1, a2, a3, a4] (.ref x :: st) h := w_ldAn dX2_crossingsBy_19 rfl
theorem w_X2_crossingsBy_20 (d : Nat) (L : a_L) (i : Nat) (st : List Value) (h : a_H) : a_run d MX2_crossingsBy 20 L (.ref i :: st) h = (a_gf h i 1 [1]).bind fun v => a_run d MX2_crossingsBy 23 L (v :: st) h := w_getf dX2_crossingsBy_20 rfl
theorem w_X2_crossingsBy_23 (d : Nat) (a0 a2 a3 a4 : Option Value) (x : Int32) (st : List Value) (h : a_H) : a_run d MX2_crossingsBy 23 [a0, some (.int x), a2, a3, a4] st h = a_run d MX2_crossingsBy 24 [a0, some (.int x), a2, a3, a4] (.int x :: st) h := w_ldIn dX2_crossingsBy_23 rfl
theorem w_X2_crossingsBy_24 (d : Nat) (L : a_L) (x : Int32) (i : Nat) (st : List Value) (h : a_H) : a_run d MX2_crossingsBy 24 L (.int x :: .ref i :: st) h = (a_rdi h i a_int x).bind fun v => a_run d MX2_crossingsBy 25 L (v :: st) h := w_iald dX2_crossingsBy_24
theorem w_X2_crossingsBy_25 (d : Nat) (L : a_L) (x : Int32) (i : Nat) (st : List Value) (h : a_H) : a_run d MX2_crossingsBy 25 L (.int x :: .ref i :: st) h = (a_rdi h i a_int x).bind fun v => a_run d MX2_crossingsBy 26 L (v :: st) h := w_iald dX2_crossingsBy_25
theorem w_X2_crossingsBy_26 (d : Nat) (L : a_L) (x y : Int32) (st : List Value) (h : a_H) : a_run d MX2_crossingsBy 26 L (.int y :: .int x :: st) h = if x < y then a_run d MX2_crossingsBy 29 L st h else a_run d MX2_crossingsBy 76 L st h := w_icmp_ge dX2_crossingsBy_26 rfl
theorem w_X2_crossingsBy_29 (d : Nat) (a1 a2 a3 a4 : Option Value) (x : Nat) (st : List Value) (h : a_H) : a_run d MX2_crossingsBy 29 [some (.ref x), a1, a2, a3, a4] st h = a_run d MX2_crossingsBy 30 [some (.ref x), a1, a2, a3, a4] (.ref x :: st) h := w_ldAn dX2_crossingsBy_29 rfl
theorem w_X2_crossingsBy_30 (d : Nat) (a0 a1 a2 a4 : Option Value) (x : Int32) (st : List Value) (h : a_H) : a_run d MX2_crossingsBy 30 [a0, a1, a2, some (.int x), a4] st h = a_run d MX2_crossingsBy 31 [a0, a1, a2, some (.int x), a4] (.int x :: st) h := w_ldIn dX2_crossingsBy_30 rfl
theorem w_X2_crossingsBy_31 (d : Nat) (L : a_L) (i : Nat) (v1 : Value) (st : List Value) (h : a_H) (hk : a_kls h i = some 1) (hc : a_cat st ≤ 8) : a_run d MX2_crossingsBy 31 L (v1 :: .ref i :: st) h = a_cont d MX2_crossingsBy (a_bk MX2_crossingsBy 31 L st (a_call d MX2_ends [.ref i, v1] h)) := w_callV (as := [.ref i, v1]) dX2_crossingsBy_31 rfl rfl rfl hc (a_rcv_of hk rfl)
theorem w_X2_crossingsBy_34 (d : Nat) (L : a_L) (st : List Value) (h : a_H) : a_run d MX2_crossingsBy 34 L st h = a_run d MX2_crossingsBy 35 L (.int (nI 0) :: st) h := w_iconst dX2_crossingsBy_34 rfl
theorem w_X2_crossingsBy_35 (d : Nat) (a0 a1 a2 a3 a4 : Option Value) (x : Int32) (st : List Value) (h : a_H) : a_run d MX2_crossingsBy 35 [a0, a1, a2, a3, a4] (.int x :: st) h = a_run d MX2_crossingsBy 37 [a0, a1, a2, a3, some (.int x)] st h := w_stI dX2_crossingsBy_35 (Nat.le_of_ble_eq_true rfl) rfl
theorem w_X2_crossingsBy_37 (d : Nat) (a0 a1 a2 a3 : Option Value) (x : Int32) (st : List Value) (h : a_H) : a_run d MX2_crossingsBy 37 [a0, a1, a2, a3, some (.int x)] st h = a_run d MX2_crossingsBy 39 [a0, a1, a2, a3, some (.int x)] (.int x :: st) h := w_ldI dX2_crossingsBy_37 rfl
theorem w_X2_crossingsBy_39 (d : Nat) (a1 a2 a3 a4 : Option Value) (x : Nat) (st : List Value) (h : a_H) : a_run d MX2_crossingsBy 39 [some (.ref x), a1, a2, a3, a4] st h = a_run d MX2_crossingsBy 40 [some (.ref x), a1, a2, a3, a4] (.ref x :: st) h := w_ldAn dX2_crossingsBy_39 rfl
theorem w_X2_crossingsBy_40 (d : Nat) (L : a_L) (i : Nat) (st : List Value) (h : a_H) : a_run d MX2_crossingsBy 40 L (.ref i :: st) h = (a_gf h i 12 [1]).bind fun v => a_run d MX2_crossingsBy 43 L (v :: st) h := w_getf dX2_crossingsBy_40 rfl
theorem w_X2_crossingsBy_43 (d : Nat) (L : a_L) (x y : Int32) (st : List Value) (h : a_H) : a_run d MX2_crossingsBy 43 L (.int y :: .int x :: st) h = if x < y then a_run d MX2_crossingsBy 46 L st h else a_run d MX2_crossingsBy 70 L st h := w_icmp_ge dX2_crossingsBy_43 rfl
theorem w_X2_crossingsBy_46 (d : Nat) (a0 a1 a3 a4 : Option Value) (x : Int32) (st : List Value) (h : a_H) : a_run d MX2_crossingsBy 46 [a0, a1, some (.int x), a3, a4] st h = a_run d MX2_crossingsBy 47 [a0, a1, some (.int x), a3, a4] (.int x :: st) h := w_ldIn dX2_crossingsBy_46 rfl
theorem w_X2_crossingsBy_47 (d : Nat) (a1 a2 a3 a4 : Option Value) (x : Nat) (st : List Value) (h : a_H) : a_run d MX2_crossingsBy 47 [some (.ref x), a1, a2, a3, a4] st h = a_run d MX2_crossingsBy 48 [some (.ref x), a1, a2, a3, a4] (.ref x :: st) h := w_ldAn dX2_crossingsBy_47 rfl
theorem w_X2_crossingsBy_48 (d : Nat) (a0 a2 a3 a4 : Option Value) (x : Int32) (st : List Value) (h : a_H) : a_run d MX2_crossingsBy 48 [a0, some (.int x), a2, a3, a4] st h = a_run d MX2_crossingsBy 49 [a0, some (.int x), a2, a3, a4] (.int x :: st) h := w_ldIn dX2_crossingsBy_48 rfl
theorem w_X2_crossingsBy_49 (d : Nat) (a0 a1 a2 a3 : Option Value) (x : Int32) (st : List Value) (h : a_H) : a_run d MX2_crossingsBy 49 [a0, a1, a2, a3, some (.int x)] st h = a_run d MX2_crossingsBy 51 [a0, a1, a2, a3, some (.int x)] (.int x :: st) h := w_ldI dX2_crossingsBy_49 rfl
theorem w_X2_crossingsBy_51 (d : Nat) (L : a_L) (i : Nat) (v1 v2 : Value) (st : List Value) (h : a_H) (hk : a_kls h i = some 1) (hc : a_cat st ≤ 8) : a_run d MX2_crossingsBy 51 L (v2 :: v1 :: .ref i :: st) h = a_cont d MX2_crossingsBy (a_bk MX2_crossingsBy 51 L st (a_call d MX2_doCross [.ref i, v1, v2] h)) := w_callV (as := [.ref i, v1, v2]) dX2_crossingsBy_51 rfl rfl rfl hc (a_rcv_of hk rfl)
theorem w_X2_crossingsBy_54 (d : Nat) (L : a_L) (x : Int32) (st : List Value) (h : a_H) : a_run d MX2_crossingsBy 54 L (.int x :: st) h = if x = 0 then a_run d MX2_crossingsBy 61 L st h else a_run d MX2_crossingsBy 57 L st h := w_if_eq dX2_crossingsBy_54 rfl
theorem w_X2_crossingsBy_57 (d : Nat) (L : a_L) (st : List Value) (h : a_H) : a_run d MX2_crossingsBy 57 L st h = a_run d MX2_crossingsBy 58 L (.int (nI 1) :: st) h := w_iconst dX2_crossingsBy_57 rfl
theorem w_X2_crossingsBy_58 (d : Nat) (L : a_L) (st : List Value) (h : a_H) : a_run d MX2_crossingsBy 58 L st h = a_run d MX2_crossingsBy 62 L st h := w_goto dX2_crossingsBy_58 rfl
theorem w_X2_crossingsBy_61 (d : Nat) (L : a_L) (st : List Value) (h : a_H) : a_run d MX2_crossingsBy 61 L st h = a_run d MX2_crossingsBy 62 L (.int (nI 0) :: st) h := w_iconst dX2_crossingsBy_61 rfl
theorem w_X2_crossingsBy_62 (d : Nat) (L : a_L) (x y : Int32) (st : List Value) (h : a_H) : a_run d MX2_crossingsBy 62 L (.int y :: .int x :: st) h = a_run d MX2_crossingsBy 63 L (.int (x + y) :: st) h := w_iadd dX2_crossingsBy_62
theorem w_X2_crossingsBy_63 (d : Nat) (a0 a1 a2 a3 a4 : Option Value) (x : Int32) (st : List Value) (h : a_H) : a_run d MX2_crossingsBy 63 [a0, a1, a2, a3, a4] (.int x :: st) h = a_run d MX2_crossingsBy 64 [a0, a1, some (.int x), a3, a4] st h := w_stIn dX2_crossingsBy_63 (Nat.le_of_ble_eq_true rfl) rfl
theorem w_X2_crossingsBy_64 (d : Nat) (a0 a1 a2 a3 : Option Value) (x : Int32) (st : List Value) (h : a_H) : a_run d MX2_crossingsBy 64 [a0, a1, a2, a3, some (.int x)] st h = a_run d MX2_crossingsBy 67 [a0, a1, a2, a3, some (.int (x + nI 1))] st h := w_incL dX2_crossingsBy_64 rfl rfl rfl
theorem w_X2_crossingsBy_67 (d : Nat) (L : a_L) (st : List Value) (h : a_H) : a_run d MX2_crossingsBy 67 L st h = a_run d MX2_crossingsBy 37 L st h := w_goto dX2_crossingsBy_67 rfl
theorem w_X2_crossingsBy_70 (d : Nat) (a0 a1 a2 a4 : Option Value) (x : Int32) (st : List Value) (h : a_H) : a_run d MX2_crossingsBy 70 [a0, a1, a2, some (.int x), a4] st h = a_run d MX2_crossingsBy 73 [a0, a1, a2, some (.int (x + nI 1)), a4] st h := w_incL dX2_crossingsBy_70 rfl rfl rfl
theorem w_X2_crossingsBy_73 (d : Nat) (L : a_L) (st : List Value) (h : a_H) : a_run d MX2_crossingsBy 73 L st h = a_run d MX2_crossingsBy 14 L st h := w_goto dX2_crossingsBy_73 rfl
theorem w_X2_crossingsBy_76 (d : Nat) (a0 a1 a3 a4 : Option Value) (x : Int32) (st : List Value) (h : a_H) : a_run d MX2_crossingsBy 76 [a0, a1, some (.int x), a3, a4] st h = a_run d MX2_crossingsBy 77 [a0, a1, some (.int x), a3, a4] (.int x :: st) h := w_ldIn dX2_crossingsBy_76 rfl
theorem w_X2_crossingsBy_77 (d : Nat) (L : a_L) (x : Int32) (h : a_H) : a_run d MX2_crossingsBy 77 L [.int x] h = some (.inl (some (.int x)), h) := w_iret dX2_crossingsBy_77 (w_retI rfl)
