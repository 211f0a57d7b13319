set_option maxRecDepth 100000
def ML_law : a_M := (x, cL_law, 8, ret, [], 12, 0)
set_option maxRecDepth 100000
def dkwL_law_117 : List UInt8 := [153, 0, 5, 3, 172, 167, 0, 3, 132, 5, 4, 167, 244, 112, 4, 172]
abbrev dktL_law_117 : List UInt8 := dkwL_law_117 ++ []
def dkwL_law_116 : List UInt8 := [182, 0, 149, 21, 6, 159, 0, 5, 3, 172, 21, 6, 154, 0, 15, 45, 3, 47, 21, 7, 133, 148]
abbrev dktL_law_116 : List UInt8 := dkwL_law_116 ++ dktL_law_117
def dkwL_law_115 : List UInt8 := [153, 0, 5, 3, 172, 167, 0, 47, 43, 45, 184, 1, 115, 54, 6, 44, 182, 1, 117, 54, 7, 44]
abbrev dktL_law_115 : List UInt8 := dkwL_law_115 ++ dktL_law_116
def dkwL_law_114 : List UInt8 := [182, 0, 149, 21, 6, 159, 0, 5, 3, 172, 21, 6, 154, 0, 15, 45, 3, 47, 21, 7, 133, 148]
abbrev dktL_law_114 : List UInt8 := dkwL_law_114 ++ dktL_law_115
def dkwL_law_113 : List UInt8 := [153, 0, 5, 3, 172, 167, 0, 91, 43, 45, 184, 1, 112, 54, 6, 44, 182, 1, 114, 54, 7, 44]
abbrev dktL_law_113 : List UInt8 := dkwL_law_113 ++ dktL_law_114
def dkwL_law_112 : List UInt8 := [182, 0, 149, 21, 6, 159, 0, 5, 3, 172, 21, 6, 154, 0, 15, 45, 3, 47, 21, 7, 133, 148]
abbrev dktL_law_112 : List UInt8 := dkwL_law_112 ++ dktL_law_113
def dkwL_law_111 : List UInt8 := [153, 0, 5, 3, 172, 167, 0, 135, 43, 45, 184, 1, 109, 54, 6, 44, 182, 1, 111, 54, 7, 44]
abbrev dktL_law_111 : List UInt8 := dkwL_law_111 ++ dktL_law_112
def dkwL_law_110 : List UInt8 := [182, 0, 149, 21, 6, 159, 0, 5, 3, 172, 21, 6, 154, 0, 15, 45, 3, 47, 21, 7, 133, 148]
abbrev dktL_law_110 : List UInt8 := dkwL_law_110 ++ dktL_law_111
def dkwL_law_109 : List UInt8 := [182, 1, 105, 159, 0, 181, 3, 172, 43, 45, 184, 1, 106, 54, 6, 44, 182, 1, 108, 54, 7, 44]
abbrev dktL_law_109 : List UInt8 := dkwL_law_109 ++ dktL_law_110
def dkwL_law_108 : List UInt8 := [154, 0, 15, 45, 3, 47, 21, 7, 133, 148, 153, 0, 5, 3, 172, 167, 0, 192, 43, 182, 1, 102, 44]
abbrev dktL_law_108 : List UInt8 := dkwL_law_108 ++ dktL_law_109
def dkwL_law_107 : List UInt8 := [21, 5, 4, 96, 46, 182, 1, 101, 54, 7, 44, 182, 0, 149, 21, 6, 159, 0, 5, 3, 172, 21, 6]
abbrev dktL_law_107 : List UInt8 := dkwL_law_107 ++ dktL_law_108
def dkwL_law_106 : List UInt8 := [153, 0, 5, 3, 172, 167, 0, 248, 43, 42, 21, 5, 4, 96, 46, 45, 184, 1, 99, 54, 6, 44, 42]
abbrev dktL_law_106 : List UInt8 := dkwL_law_106 ++ dktL_law_107
def dkwL_law_105 : List UInt8 := [182, 0, 149, 21, 6, 159, 0, 5, 3, 172, 21, 6, 154, 0, 15, 45, 3, 47, 21, 7, 133, 148]
abbrev dktL_law_105 : List UInt8 := dkwL_law_105 ++ dktL_law_106
def dkwL_law_104 : List UInt8 := [44, 182, 1, 95, 159, 1, 38, 3, 172, 43, 45, 184, 1, 96, 54, 6, 44, 182, 1, 98, 54, 7, 44]
abbrev dktL_law_104 : List UInt8 := dkwL_law_104 ++ dktL_law_105
def dkwL_law_103 : List UInt8 := [21, 6, 154, 0, 15, 45, 3, 47, 21, 7, 133, 148, 153, 0, 5, 3, 172, 167, 1, 49, 43, 182, 1, 92]
abbrev dktL_law_103 : List UInt8 := dkwL_law_103 ++ dktL_law_104
def dkwL_law_102 : List UInt8 := [43, 45, 184, 1, 89, 54, 6, 44, 182, 1, 91, 54, 7, 44, 182, 0, 149, 21, 6, 159, 0, 5, 3, 172]
abbrev dktL_law_102 : List UInt8 := dkwL_law_102 ++ dktL_law_103
def dkwL_law_101 : List UInt8 := [23, 7, 149, 154, 0, 5, 3, 172, 167, 1, 106, 43, 182, 1, 85, 44, 182, 1, 88, 159, 1, 95, 3, 172]
abbrev dktL_law_101 : List UInt8 := dkwL_law_101 ++ dktL_law_102
def dkwL_law_100 : List UInt8 := [25, 4, 3, 48, 23, 7, 149, 153, 0, 25, 25, 4, 3, 48, 25, 4, 3, 48, 149, 153, 0, 11, 23, 7]
abbrev dktL_law_100 : List UInt8 := dkwL_law_100 ++ dktL_law_101
def dkwL_law_99 : List UInt8 := [54, 6, 44, 182, 1, 84, 56, 7, 44, 182, 0, 149, 21, 6, 159, 0, 5, 3, 172, 21, 6, 154, 0, 35]
abbrev dktL_law_99 : List UInt8 := dkwL_law_99 ++ dktL_law_100
def dkwL_law_98 : List UInt8 := [159, 1, 186, 3, 172, 43, 182, 1, 77, 44, 182, 1, 80, 159, 1, 173, 3, 172, 43, 25, 4, 184, 1, 81]
abbrev dktL_law_98 : List UInt8 := dkwL_law_98 ++ dktL_law_99
def dkwL_law_97 : List UInt8 := [172, 43, 182, 1, 69, 44, 182, 1, 72, 159, 1, 199, 3, 172, 43, 182, 1, 73, 44, 182, 1, 76]
abbrev dktL_law_97 : List UInt8 := dkwL_law_97 ++ dktL_law_98
def dkwL_law_96 : List UInt8 := [182, 1, 61, 44, 182, 1, 64, 159, 1, 225, 3, 172, 43, 182, 1, 65, 44, 182, 1, 68, 159, 1, 212, 3]
abbrev dktL_law_96 : List UInt8 := dkwL_law_96 ++ dktL_law_97
def dkwL_law_95 : List UInt8 := [153, 0, 5, 3, 172, 167, 1, 249, 43, 182, 1, 57, 44, 182, 1, 60, 159, 1, 238, 3, 172, 43]
abbrev dktL_law_95 : List UInt8 := dkwL_law_95 ++ dktL_law_96
def dkwL_law_94 : List UInt8 := [182, 0, 149, 21, 6, 159, 0, 5, 3, 172, 21, 6, 154, 0, 15, 45, 3, 47, 21, 7, 133, 148]
abbrev dktL_law_94 : List UInt8 := dkwL_law_94 ++ dktL_law_95
def dkwL_law_93 : List UInt8 := [21, 5, 4, 96, 46, 45, 184, 1, 54, 54, 6, 44, 42, 21, 5, 4, 96, 46, 182, 1, 56, 54, 7, 44]
abbrev dktL_law_93 : List UInt8 := dkwL_law_93 ++ dktL_law_94
def dkwL_law_92 : List UInt8 := [172, 21, 6, 154, 0, 15, 45, 3, 47, 21, 7, 133, 148, 153, 0, 5, 3, 172, 167, 2, 49, 43, 42]
abbrev dktL_law_92 : List UInt8 := dkwL_law_92 ++ dktL_law_93
def dkwL_law_91 : List UInt8 := [4, 96, 46, 42, 21, 5, 5, 96, 46, 182, 1, 53, 54, 7, 44, 182, 0, 149, 21, 6, 159, 0, 5, 3]
abbrev dktL_law_91 : List UInt8 := dkwL_law_91 ++ dktL_law_92
def dkwL_law_90 : List UInt8 := [172, 43, 42, 21, 5, 4, 96, 46, 42, 21, 5, 5, 96, 46, 45, 184, 1, 51, 54, 6, 44, 42, 21, 5]
abbrev dktL_law_90 : List UInt8 := dkwL_law_90 ++ dktL_law_91
def dkwL_law_89 : List UInt8 := [182, 1, 43, 44, 182, 1, 46, 159, 2, 132, 3, 172, 43, 182, 1, 47, 44, 182, 1, 50, 159, 2, 119, 3]
abbrev dktL_law_89 : List UInt8 := dkwL_law_89 ++ dktL_law_90
def dkwL_law_88 : List UInt8 := [172, 21, 6, 154, 0, 15, 45, 3, 47, 21, 7, 133, 148, 153, 0, 5, 3, 172, 167, 2, 143, 43]
abbrev dktL_law_88 : List UInt8 := dkwL_law_88 ++ dktL_law_89
def dkwL_law_87 : List UInt8 := [54, 6, 44, 42, 21, 5, 4, 96, 46, 182, 1, 42, 54, 7, 44, 182, 0, 149, 21, 6, 159, 0, 5, 3]
abbrev dktL_law_87 : List UInt8 := dkwL_law_87 ++ dktL_law_88
def dkwL_law_86 : List UInt8 := [47, 21, 7, 133, 148, 153, 0, 5, 3, 172, 167, 2, 199, 43, 42, 21, 5, 4, 96, 46, 45, 184, 1, 40]
abbrev dktL_law_86 : List UInt8 := dkwL_law_86 ++ dktL_law_87
def dkwL_law_85 : List UInt8 := [46, 182, 1, 39, 54, 7, 44, 182, 0, 149, 21, 6, 159, 0, 5, 3, 172, 21, 6, 154, 0, 15, 45, 3]
abbrev dktL_law_85 : List UInt8 := dkwL_law_85 ++ dktL_law_86
def dkwL_law_84 : List UInt8 := [159, 3, 1, 3, 172, 43, 42, 21, 5, 4, 96, 46, 45, 184, 1, 37, 54, 6, 44, 42, 21, 5, 4, 96]
abbrev dktL_law_84 : List UInt8 := dkwL_law_84 ++ dktL_law_85
def dkwL_law_83 : List UInt8 := [167, 3, 25, 43, 182, 1, 29, 44, 182, 1, 32, 159, 3, 14, 3, 172, 43, 182, 1, 33, 44, 182, 1, 36]
abbrev dktL_law_83 : List UInt8 := dkwL_law_83 ++ dktL_law_84
def dkwL_law_82 : List UInt8 := [159, 0, 5, 3, 172, 21, 6, 154, 0, 15, 45, 3, 47, 21, 7, 133, 148, 153, 0, 5, 3, 172]
abbrev dktL_law_82 : List UInt8 := dkwL_law_82 ++ dktL_law_83
def dkwL_law_81 : List UInt8 := [167, 3, 69, 43, 45, 184, 1, 26, 54, 6, 44, 182, 1, 28, 54, 7, 44, 182, 0, 149, 21, 6]
abbrev dktL_law_81 : List UInt8 := dkwL_law_81 ++ dktL_law_82
def dkwL_law_80 : List UInt8 := [159, 0, 5, 3, 172, 21, 6, 154, 0, 15, 45, 3, 47, 21, 7, 133, 148, 153, 0, 5, 3, 172]
abbrev dktL_law_80 : List UInt8 := dkwL_law_80 ++ dktL_law_81
def dkwL_law_79 : List UInt8 := [21, 5, 4, 96, 46, 42, 21, 5, 5, 96, 46, 182, 1, 25, 54, 7, 44, 182, 0, 149, 21, 6]
abbrev dktL_law_79 : List UInt8 := dkwL_law_79 ++ dktL_law_80
def dkwL_law_78 : List UInt8 := [167, 3, 137, 43, 42, 21, 5, 4, 96, 46, 42, 21, 5, 5, 96, 46, 45, 184, 1, 23, 54, 6, 44, 42]
abbrev dktL_law_78 : List UInt8 := dkwL_law_78 ++ dktL_law_79
def dkwL_law_77 : List UInt8 := [159, 0, 5, 3, 172, 21, 6, 154, 0, 15, 45, 3, 47, 21, 7, 133, 148, 153, 0, 5, 3, 172]
abbrev dktL_law_77 : List UInt8 := dkwL_law_77 ++ dktL_law_78
def dkwL_law_76 : List UInt8 := [21, 5, 4, 96, 46, 42, 21, 5, 5, 96, 46, 182, 1, 22, 54, 7, 44, 182, 0, 149, 21, 6]
abbrev dktL_law_76 : List UInt8 := dkwL_law_76 ++ dktL_law_77
def dkwL_law_75 : List UInt8 := [167, 3, 205, 43, 42, 21, 5, 4, 96, 46, 42, 21, 5, 5, 96, 46, 45, 184, 1, 20, 54, 6, 44, 42]
abbrev dktL_law_75 : List UInt8 := dkwL_law_75 ++ dktL_law_76
def dkwL_law_74 : List UInt8 := [21, 6, 159, 0, 5, 3, 172, 21, 6, 154, 0, 15, 45, 3, 47, 21, 7, 133, 148, 153, 0, 5, 3, 172]
abbrev dktL_law_74 : List UInt8 := dkwL_law_74 ++ dktL_law_75
def dkwL_law_73 : List UInt8 := [46, 45, 184, 1, 17, 54, 6, 44, 42, 21, 5, 4, 96, 46, 182, 1, 19, 54, 7, 44, 182, 0, 149]
abbrev dktL_law_73 : List UInt8 := dkwL_law_73 ++ dktL_law_74
def dkwL_law_72 : List UInt8 := [154, 0, 15, 45, 3, 47, 21, 7, 133, 148, 153, 0, 5, 3, 172, 167, 4, 5, 43, 42, 21, 5, 4, 96]
abbrev dktL_law_72 : List UInt8 := dkwL_law_72 ++ dktL_law_73
def dkwL_law_71 : List UInt8 := [42, 21, 5, 5, 96, 46, 182, 1, 16, 54, 7, 44, 182, 0, 149, 21, 6, 159, 0, 5, 3, 172, 21, 6]
abbrev dktL_law_71 : List UInt8 := dkwL_law_71 ++ dktL_law_72
def dkwL_law_70 : List UInt8 := [21, 5, 4, 96, 46, 42, 21, 5, 5, 96, 46, 45, 184, 1, 14, 54, 6, 44, 42, 21, 5, 4, 96, 46]
abbrev dktL_law_70 : List UInt8 := dkwL_law_70 ++ dktL_law_71
def dkwL_law_69 : List UInt8 := [153, 0, 5, 3, 172, 167, 4, 86, 43, 182, 1, 10, 44, 182, 1, 13, 159, 4, 75, 3, 172, 43, 42]
abbrev dktL_law_69 : List UInt8 := dkwL_law_69 ++ dktL_law_70
def dkwL_law_68 : List UInt8 := [182, 0, 149, 21, 6, 159, 0, 5, 3, 172, 21, 6, 154, 0, 15, 45, 3, 47, 21, 7, 133, 148]
abbrev dktL_law_68 : List UInt8 := dkwL_law_68 ++ dktL_law_69
def dkwL_law_67 : List UInt8 := [21, 5, 4, 96, 46, 45, 184, 1, 7, 54, 6, 44, 42, 21, 5, 4, 96, 46, 182, 1, 9, 54, 7, 44]
abbrev dktL_law_67 : List UInt8 := dkwL_law_67 ++ dktL_law_68
def dkwL_law_66 : List UInt8 := [172, 21, 6, 154, 0, 15, 45, 3, 47, 21, 7, 133, 148, 153, 0, 5, 3, 172, 167, 4, 142, 43, 42]
abbrev dktL_law_66 : List UInt8 := dkwL_law_66 ++ dktL_law_67
def dkwL_law_65 : List UInt8 := [54, 6, 44, 42, 21, 5, 4, 96, 46, 182, 1, 6, 54, 7, 44, 182, 0, 149, 21, 6, 159, 0, 5, 3]
abbrev dktL_law_65 : List UInt8 := dkwL_law_65 ++ dktL_law_66
def dkwL_law_64 : List UInt8 := [182, 1, 0, 44, 182, 1, 3, 159, 4, 200, 3, 172, 43, 42, 21, 5, 4, 96, 46, 45, 184, 1, 4]
abbrev dktL_law_64 : List UInt8 := dkwL_law_64 ++ dktL_law_65
def dkwL_law_63 : List UInt8 := [172, 21, 6, 154, 0, 15, 45, 3, 47, 21, 7, 133, 148, 153, 0, 5, 3, 172, 167, 4, 211, 43]
abbrev dktL_law_63 : List UInt8 := dkwL_law_63 ++ dktL_law_64
def dkwL_law_62 : List UInt8 := [54, 6, 44, 42, 21, 5, 4, 96, 46, 182, 0, 255, 54, 7, 44, 182, 0, 149, 21, 6, 159, 0, 5, 3]
abbrev dktL_law_62 : List UInt8 := dkwL_law_62 ++ dktL_law_63
def dkwL_law_61 : List UInt8 := [21, 7, 133, 148, 153, 0, 5, 3, 172, 167, 5, 11, 43, 42, 21, 5, 4, 96, 46, 45, 184, 0, 253]
abbrev dktL_law_61 : List UInt8 := dkwL_law_61 ++ dktL_law_62
def dkwL_law_60 : List UInt8 := [182, 0, 252, 54, 7, 44, 182, 0, 149, 21, 6, 159, 0, 5, 3, 172, 21, 6, 154, 0, 15, 45, 3, 47]
abbrev dktL_law_60 : List UInt8 := dkwL_law_60 ++ dktL_law_61
def dkwL_law_59 : List UInt8 := [167, 5, 67, 43, 42, 21, 5, 4, 96, 46, 45, 184, 0, 250, 54, 6, 44, 42, 21, 5, 4, 96, 46]
abbrev dktL_law_59 : List UInt8 := dkwL_law_59 ++ dktL_law_60
def dkwL_law_58 : List UInt8 := [159, 0, 5, 3, 172, 21, 6, 154, 0, 15, 45, 3, 47, 21, 7, 133, 148, 153, 0, 5, 3, 172]
abbrev dktL_law_58 : List UInt8 := dkwL_law_58 ++ dktL_law_59
def dkwL_law_57 : List UInt8 := [184, 0, 247, 54, 6, 44, 42, 21, 5, 4, 96, 46, 182, 0, 249, 54, 7, 44, 182, 0, 149, 21, 6]
abbrev dktL_law_57 : List UInt8 := dkwL_law_57 ++ dktL_law_58
def dkwL_law_56 : List UInt8 := [172, 43, 182, 0, 243, 44, 182, 0, 246, 159, 5, 125, 3, 172, 43, 42, 21, 5, 4, 96, 46, 45]
abbrev dktL_law_56 : List UInt8 := dkwL_law_56 ++ dktL_law_57
def dkwL_law_55 : List UInt8 := [21, 7, 133, 148, 153, 0, 5, 3, 172, 167, 5, 149, 43, 182, 0, 239, 44, 182, 0, 242, 159, 5, 138, 3]
abbrev dktL_law_55 : List UInt8 := dkwL_law_55 ++ dktL_law_56
def dkwL_law_54 : List UInt8 := [182, 0, 238, 54, 7, 44, 182, 0, 149, 21, 6, 159, 0, 5, 3, 172, 21, 6, 154, 0, 15, 45, 3, 47]
abbrev dktL_law_54 : List UInt8 := dkwL_law_54 ++ dktL_law_55
def dkwL_law_53 : List UInt8 := [5, 96, 46, 45, 184, 0, 236, 54, 6, 44, 42, 21, 5, 4, 96, 46, 42, 21, 5, 5, 96, 46]
abbrev dktL_law_53 : List UInt8 := dkwL_law_53 ++ dktL_law_54
def dkwL_law_52 : List UInt8 := [3, 47, 21, 7, 133, 148, 153, 0, 5, 3, 172, 167, 5, 217, 43, 42, 21, 5, 4, 96, 46, 42, 21, 5]
abbrev dktL_law_52 : List UInt8 := dkwL_law_52 ++ dktL_law_53
def dkwL_law_51 : List UInt8 := [96, 46, 182, 0, 235, 54, 7, 44, 182, 0, 149, 21, 6, 159, 0, 5, 3, 172, 21, 6, 154, 0, 15, 45]
abbrev dktL_law_51 : List UInt8 := dkwL_law_51 ++ dktL_law_52
def dkwL_law_50 : List UInt8 := [46, 42, 21, 5, 5, 96, 46, 45, 184, 0, 233, 54, 6, 44, 42, 21, 5, 4, 96, 46, 42, 21, 5, 5]
abbrev dktL_law_50 : List UInt8 := dkwL_law_50 ++ dktL_law_51
def dkwL_law_49 : List UInt8 := [154, 0, 15, 45, 3, 47, 21, 7, 133, 148, 153, 0, 5, 3, 172, 167, 6, 29, 43, 42, 21, 5, 4, 96]
abbrev dktL_law_49 : List UInt8 := dkwL_law_49 ++ dktL_law_50
def dkwL_law_48 : List UInt8 := [21, 5, 5, 96, 46, 182, 0, 232, 54, 7, 44, 182, 0, 149, 21, 6, 159, 0, 5, 3, 172, 21, 6]
abbrev dktL_law_48 : List UInt8 := dkwL_law_48 ++ dktL_law_49
def dkwL_law_47 : List UInt8 := [4, 96, 46, 42, 21, 5, 5, 96, 46, 45, 184, 0, 230, 54, 6, 44, 42, 21, 5, 4, 96, 46, 42]
abbrev dktL_law_47 : List UInt8 := dkwL_law_47 ++ dktL_law_48
def dkwL_law_46 : List UInt8 := [21, 6, 154, 0, 15, 45, 3, 47, 21, 7, 133, 148, 153, 0, 5, 3, 172, 167, 6, 97, 43, 42, 21, 5]
abbrev dktL_law_46 : List UInt8 := dkwL_law_46 ++ dktL_law_47
def dkwL_law_45 : List UInt8 := [46, 42, 21, 5, 5, 96, 46, 182, 0, 229, 54, 7, 44, 182, 0, 149, 21, 6, 159, 0, 5, 3, 172]
abbrev dktL_law_45 : List UInt8 := dkwL_law_45 ++ dktL_law_46
def dkwL_law_44 : List UInt8 := [42, 21, 5, 4, 96, 46, 42, 21, 5, 5, 96, 46, 45, 184, 0, 227, 54, 6, 44, 42, 21, 5, 4, 96]
abbrev dktL_law_44 : List UInt8 := dkwL_law_44 ++ dktL_law_45
def dkwL_law_43 : List UInt8 := [9, 148, 153, 0, 5, 3, 172, 167, 6, 178, 43, 182, 0, 223, 44, 182, 0, 226, 159, 6, 167, 3, 172, 43]
abbrev dktL_law_43 : List UInt8 := dkwL_law_43 ++ dktL_law_44
def dkwL_law_42 : List UInt8 := [21, 6, 159, 0, 5, 3, 172, 21, 6, 154, 0, 22, 45, 3, 47, 21, 7, 153, 0, 7, 10, 167, 0, 4]
abbrev dktL_law_42 : List UInt8 := dkwL_law_42 ++ dktL_law_43
def dkwL_law_41 : List UInt8 := [46, 45, 184, 0, 220, 54, 6, 44, 42, 21, 5, 4, 96, 46, 182, 0, 222, 54, 7, 44, 182, 0, 149]
abbrev dktL_law_41 : List UInt8 := dkwL_law_41 ++ dktL_law_42
def dkwL_law_40 : List UInt8 := [154, 0, 15, 45, 3, 47, 21, 7, 133, 148, 153, 0, 5, 3, 172, 167, 6, 241, 43, 42, 21, 5, 4, 96]
abbrev dktL_law_40 : List UInt8 := dkwL_law_40 ++ dktL_law_41
def dkwL_law_39 : List UInt8 := [21, 5, 4, 96, 46, 182, 0, 219, 54, 7, 44, 182, 0, 149, 21, 6, 159, 0, 5, 3, 172, 21, 6]
abbrev dktL_law_39 : List UInt8 := dkwL_law_39 ++ dktL_law_40
def dkwL_law_38 : List UInt8 := [153, 0, 5, 3, 172, 167, 7, 41, 43, 42, 21, 5, 4, 96, 46, 45, 184, 0, 217, 54, 6, 44, 42]
abbrev dktL_law_38 : List UInt8 := dkwL_law_38 ++ dktL_law_39
def dkwL_law_37 : List UInt8 := [159, 0, 5, 3, 172, 21, 6, 154, 0, 22, 45, 3, 47, 21, 7, 153, 0, 7, 10, 167, 0, 4, 9, 148]
abbrev dktL_law_37 : List UInt8 := dkwL_law_37 ++ dktL_law_38
def dkwL_law_36 : List UInt8 := [21, 5, 4, 96, 46, 42, 21, 5, 5, 96, 46, 182, 0, 216, 54, 7, 44, 182, 0, 149, 21, 6]
abbrev dktL_law_36 : List UInt8 := dkwL_law_36 ++ dktL_law_37
def dkwL_law_35 : List UInt8 := [167, 7, 116, 43, 42, 21, 5, 4, 96, 46, 42, 21, 5, 5, 96, 46, 45, 184, 0, 214, 54, 6, 44, 42]
abbrev dktL_law_35 : List UInt8 := dkwL_law_35 ++ dktL_law_36
def dkwL_law_34 : List UInt8 := [21, 6, 159, 0, 5, 3, 172, 21, 6, 154, 0, 15, 45, 3, 47, 21, 7, 133, 148, 153, 0, 5, 3, 172]
abbrev dktL_law_34 : List UInt8 := dkwL_law_34 ++ dktL_law_35
def dkwL_law_33 : List UInt8 := [96, 46, 42, 21, 5, 5, 96, 46, 42, 21, 5, 6, 96, 46, 182, 0, 213, 54, 7, 44, 182, 0, 149]
abbrev dktL_law_33 : List UInt8 := dkwL_law_33 ++ dktL_law_34
def dkwL_law_32 : List UInt8 := [46, 42, 21, 5, 5, 96, 46, 42, 21, 5, 6, 96, 46, 45, 184, 0, 211, 54, 6, 44, 42, 21, 5, 4]
abbrev dktL_law_32 : List UInt8 := dkwL_law_32 ++ dktL_law_33
def dkwL_law_31 : List UInt8 := [154, 0, 15, 45, 3, 47, 21, 7, 133, 148, 153, 0, 5, 3, 172, 167, 7, 196, 43, 42, 21, 5, 4, 96]
abbrev dktL_law_31 : List UInt8 := dkwL_law_31 ++ dktL_law_32
def dkwL_law_30 : List UInt8 := [42, 21, 5, 5, 96, 46, 182, 0, 210, 54, 7, 44, 182, 0, 149, 21, 6, 159, 0, 5, 3, 172, 21, 6]
abbrev dktL_law_30 : List UInt8 := dkwL_law_30 ++ dktL_law_31
def dkwL_law_29 : List UInt8 := [21, 5, 4, 96, 46, 42, 21, 5, 5, 96, 46, 45, 184, 0, 208, 54, 6, 44, 42, 21, 5, 4, 96, 46]
abbrev dktL_law_29 : List UInt8 := dkwL_law_29 ++ dktL_law_30
def dkwL_law_28 : List UInt8 := [172, 21, 6, 154, 0, 15, 45, 3, 47, 21, 7, 133, 148, 153, 0, 5, 3, 172, 167, 8, 8, 43, 42]
abbrev dktL_law_28 : List UInt8 := dkwL_law_28 ++ dktL_law_29
def dkwL_law_27 : List UInt8 := [54, 6, 44, 42, 21, 5, 4, 96, 46, 182, 0, 207, 54, 7, 44, 182, 0, 149, 21, 6, 159, 0, 5, 3]
abbrev dktL_law_27 : List UInt8 := dkwL_law_27 ++ dktL_law_28
def dkwL_law_26 : List UInt8 := [47, 21, 7, 133, 148, 153, 0, 5, 3, 172, 167, 8, 64, 43, 42, 21, 5, 4, 96, 46, 45, 184, 0, 205]
abbrev dktL_law_26 : List UInt8 := dkwL_law_26 ++ dktL_law_27
def dkwL_law_25 : List UInt8 := [46, 182, 0, 204, 54, 7, 44, 182, 0, 149, 21, 6, 159, 0, 5, 3, 172, 21, 6, 154, 0, 15, 45, 3]
abbrev dktL_law_25 : List UInt8 := dkwL_law_25 ++ dktL_law_26
def dkwL_law_24 : List UInt8 := [159, 8, 122, 3, 172, 43, 42, 21, 5, 4, 96, 46, 45, 184, 0, 202, 54, 6, 44, 42, 21, 5, 4, 96]
abbrev dktL_law_24 : List UInt8 := dkwL_law_24 ++ dktL_law_25
def dkwL_law_23 : List UInt8 := [172, 43, 182, 0, 194, 44, 182, 0, 197, 159, 8, 135, 3, 172, 43, 182, 0, 198, 44, 182, 0, 201]
abbrev dktL_law_23 : List UInt8 := dkwL_law_23 ++ dktL_law_24
def dkwL_law_22 : List UInt8 := [182, 0, 186, 44, 182, 0, 189, 159, 8, 161, 3, 172, 43, 182, 0, 190, 44, 182, 0, 193, 159, 8, 148, 3]
abbrev dktL_law_22 : List UInt8 := dkwL_law_22 ++ dktL_law_23
def dkwL_law_21 : List UInt8 := [148, 153, 0, 5, 3, 172, 167, 8, 185, 43, 182, 0, 182, 44, 182, 0, 185, 159, 8, 174, 3, 172, 43]
abbrev dktL_law_21 : List UInt8 := dkwL_law_21 ++ dktL_law_22
def dkwL_law_20 : List UInt8 := [54, 7, 44, 182, 0, 149, 21, 6, 159, 0, 5, 3, 172, 21, 6, 154, 0, 15, 45, 3, 47, 21, 7, 133]
abbrev dktL_law_20 : List UInt8 := dkwL_law_20 ++ dktL_law_21
def dkwL_law_19 : List UInt8 := [54, 6, 44, 42, 21, 5, 4, 96, 46, 42, 21, 5, 5, 96, 46, 42, 21, 5, 6, 96, 46, 182, 0, 181]
abbrev dktL_law_19 : List UInt8 := dkwL_law_19 ++ dktL_law_20
def dkwL_law_18 : List UInt8 := [172, 43, 42, 21, 5, 4, 96, 46, 42, 21, 5, 5, 96, 46, 42, 21, 5, 6, 96, 46, 45, 184, 0, 179]
abbrev dktL_law_18 : List UInt8 := dkwL_law_18 ++ dktL_law_19
def dkwL_law_17 : List UInt8 := [182, 0, 171, 44, 182, 0, 174, 159, 9, 24, 3, 172, 43, 182, 0, 175, 44, 182, 0, 178, 159, 9, 11, 3]
abbrev dktL_law_17 : List UInt8 := dkwL_law_17 ++ dktL_law_18
def dkwL_law_16 : List UInt8 := [148, 153, 0, 5, 3, 172, 167, 9, 48, 43, 182, 0, 167, 44, 182, 0, 170, 159, 9, 37, 3, 172, 43]
abbrev dktL_law_16 : List UInt8 := dkwL_law_16 ++ dktL_law_17
def dkwL_law_15 : List UInt8 := [54, 7, 44, 182, 0, 149, 21, 6, 159, 0, 5, 3, 172, 21, 6, 154, 0, 15, 45, 3, 47, 21, 7, 133]
abbrev dktL_law_15 : List UInt8 := dkwL_law_15 ++ dktL_law_16
def dkwL_law_14 : List UInt8 := [46, 45, 184, 0, 164, 54, 6, 44, 42, 21, 5, 4, 96, 46, 42, 21, 5, 5, 96, 46, 182, 0, 166]
abbrev dktL_law_14 : List UInt8 := dkwL_law_14 ++ dktL_law_15
def dkwL_law_13 : List UInt8 := [21, 7, 133, 148, 153, 0, 5, 3, 172, 167, 9, 116, 43, 42, 21, 5, 4, 96, 46, 42, 21, 5, 5, 96]
abbrev dktL_law_13 : List UInt8 := dkwL_law_13 ++ dktL_law_14
def dkwL_law_12 : List UInt8 := [182, 0, 163, 54, 7, 44, 182, 0, 149, 21, 6, 159, 0, 5, 3, 172, 21, 6, 154, 0, 15, 45, 3, 47]
abbrev dktL_law_12 : List UInt8 := dkwL_law_12 ++ dktL_law_13
def dkwL_law_11 : List UInt8 := [167, 9, 172, 43, 42, 21, 5, 4, 96, 46, 45, 184, 0, 160, 54, 6, 44, 42, 21, 5, 4, 96, 46]
abbrev dktL_law_11 : List UInt8 := dkwL_law_11 ++ dktL_law_12
def dkwL_law_10 : List UInt8 := [21, 6, 159, 0, 5, 3, 172, 21, 6, 154, 0, 15, 45, 3, 47, 21, 7, 133, 148, 153, 0, 5, 3, 172]
abbrev dktL_law_10 : List UInt8 := dkwL_law_10 ++ dktL_law_11
def dkwL_law_9 : List UInt8 := [96, 46, 42, 21, 5, 5, 96, 46, 42, 21, 5, 6, 96, 46, 182, 0, 159, 54, 7, 44, 182, 0, 149]
abbrev dktL_law_9 : List UInt8 := dkwL_law_9 ++ dktL_law_10
def dkwL_law_8 : List UInt8 := [46, 42, 21, 5, 5, 96, 46, 42, 21, 5, 6, 96, 46, 45, 184, 0, 156, 54, 6, 44, 42, 21, 5, 4]
abbrev dktL_law_8 : List UInt8 := dkwL_law_8 ++ dktL_law_9
def dkwL_law_7 : List UInt8 := [154, 0, 15, 45, 3, 47, 21, 7, 133, 148, 153, 0, 5, 3, 172, 167, 9, 252, 43, 42, 21, 5, 4, 96]
abbrev dktL_law_7 : List UInt8 := dkwL_law_7 ++ dktL_law_8
def dkwL_law_6 : List UInt8 := [21, 5, 5, 96, 46, 182, 0, 155, 54, 7, 44, 182, 0, 149, 21, 6, 159, 0, 5, 3, 172, 21, 6]
abbrev dktL_law_6 : List UInt8 := dkwL_law_6 ++ dktL_law_7
def dkwL_law_5 : List UInt8 := [4, 96, 46, 42, 21, 5, 5, 96, 46, 45, 184, 0, 152, 54, 6, 44, 42, 21, 5, 4, 96, 46, 42]
abbrev dktL_law_5 : List UInt8 := dkwL_law_5 ++ dktL_law_6
def dkwL_law_4 : List UInt8 := [21, 6, 154, 0, 15, 45, 3, 47, 21, 7, 133, 148, 153, 0, 5, 3, 172, 167, 10, 64, 43, 42, 21, 5]
abbrev dktL_law_4 : List UInt8 := dkwL_law_4 ++ dktL_law_5
def dkwL_law_3 : List UInt8 := [43, 45, 184, 0, 143, 54, 6, 44, 182, 0, 148, 54, 7, 44, 182, 0, 149, 21, 6, 159, 0, 5, 3, 172]
abbrev dktL_law_3 : List UInt8 := dkwL_law_3 ++ dktL_law_4
def dkwL_law_2 : List UInt8 := [170, 0, 0, 0, 0, 0, 11, 125, 0, 0, 0, 0, 0, 0, 0, 64, 0, 0, 1, 20, 0, 0, 1, 64, 0, 0, 1, 132, 0, 0, 1, 212, 0, 0, 2, 12, 0, 0, 2, 80, 0, 0, 2, 93, 0, 0, 2, 106, 0, 0, 2, 119, 0, 0, 2, 199, 0, 0, 2, 212, 0, 0, 2, 225, 0, 0, 2, 238, 0, 0, 2, 251, 0, 0, 3, 8, 0, 0, 3, 64, 0, 0, 3, 120, 0, 0, 3, 188, 0, 0, 4, 12, 0, 0, 4, 87, 0, 0, 4, 143, 0, 0, 4, 206, 0, 0, 4, 219, 0, 0, 5, 31, 0, 0, 5, 99, 0, 0, 5, 167, 0, 0, 5, 235, 0, 0, 5, 248, 0, 0, 6, 5, 0, 0, 6, 61, 0, 0, 6, 117, 0, 0, 6, 173, 0, 0, 6, 186, 0, 0, 6, 242, 0, 0, 7, 42, 0, 0, 7, 55, 0, 0, 7, 123, 0, 0, 7, 179, 0, 0, 7, 247, 0, 0, 8, 59, 0, 0, 8, 103, 0, 0, 8, 116, 0, 0, 8, 129, 0, 0, 8, 185, 0, 0, 8, 241, 0, 0, 8, 254, 0, 0, 9, 11, 0, 0, 9, 79, 0, 0, 9, 135, 0, 0, 9, 148, 0, 0, 9, 161, 0, 0, 9, 174, 0, 0, 9, 187, 0, 0, 9, 200, 0, 0, 9, 213, 0, 0, 10, 22, 0, 0, 10, 35, 0, 0, 10, 79, 0, 0, 10, 92, 0, 0, 10, 136, 0, 0, 10, 192, 0, 0, 10, 205, 0, 0, 10, 249, 0, 0, 11, 37, 0, 0, 11, 81]
abbrev dktL_law_2 : List UInt8 := dkwL_law_2 ++ dktL_law_3
def dkwL_law_1 : List UInt8 := [58, 4, 3, 54, 5, 21, 5, 42, 190, 7, 100, 163, 11, 141, 42, 21, 5, 46, 16, 127, 126]
abbrev dktL_law_1 : List UInt8 := dkwL_law_1 ++ dktL_law_2
def dkwL_law_0 : List UInt8 := [187, 0, 8, 89, 183, 0, 139, 76, 187, 0, 140, 89, 183, 0, 142, 77, 4, 188, 11, 78, 4, 188, 6]
abbrev dktL_law_0 : List UInt8 := dkwL_law_0 ++ dktL_law_1
theorem dksL_law_0 : cL_law.data.toList.drop 0 = dktL_law_0 := by decide +kernel
theorem dksL_law_1 : cL_law.data.toList.drop 23 = dktL_law_1 := dk_seg dksL_law_0 23 rfl rfl
theorem dksL_law_2 : cL_law.data.toList.drop 44 = dktL_law_2 := dk_seg dksL_law_1 21 rfl rfl
theorem dksL_law_3 : cL_law.data.toList.drop 320 = dktL_law_3 := dk_seg dksL_law_2 276 rfl rfl
theorem dksL_law_4 : cL_law.data.toList.drop 344 = dktL_law_4 := dk_seg dksL_law_3 24 rfl rfl
theorem dksL_law_5 : cL_law.data.toList.drop 368 = dktL_law_5 := dk_seg dksL_law_4 24 rfl rfl
theorem dksL_law_6 : cL_law.data.toList.drop 391 = dktL_law_6 := dk_seg dksL_law_5 23 rfl rfl
theorem dksL_law_7 : cL_law.data.toList.drop 414 = dktL_law_7 := dk_seg dksL_law_6 23 rfl rfl
theorem dksL_law_8 : cL_law.data.toList.drop 438 = dktL_law_8 := dk_seg dksL_law_7 24 rfl rfl
theorem dksL_law_9 : cL_law.data.toList.drop 462 = dktL_law_9 := dk_seg dksL_law_8 24 rfl rfl
theorem dksL_law_10 : cL_law.data.toList.drop 485 = dktL_law_10 := dk_seg dksL_law_9 23 rfl rfl
theorem dksL_law_11 : cL_law.data.toList.drop 509 = dktL_law_11 := dk_seg dksL_law_10 24 rfl rfl
theorem dksL_law_12 : cL_law.data.toList.drop 532 = dktL_law_12 := dk_seg dksL_law_11 23 rfl rfl
theorem dksL_law_13 : cL_law.data.toList.drop 556 = dktL_law_13 := dk_seg dksL_law_12 24 rfl rfl
theorem dksL_law_14 : cL_law.data.toList.drop 580 = dktL_law_14 := dk_seg dksL_law_13 24 rfl rfl
theorem dksL_law_15 : cL_law.data.toList.drop 603 = dktL_law_15 := dk_seg dksL_law_14 23 rfl rfl
theorem dksL_law_16 : cL_law.data.toList.drop 627 = dktL_law_16 := dk_seg dksL_law_15 24 rfl rfl
theorem dksL_law_17 : cL_law.data.toList.drop 650 = dktL_law_17 := dk_seg dksL_law_16 23 rfl rfl
theorem dksL_law_18 : cL_law.data.toList.drop 674 = dktL_law_18 := dk_seg dksL_law_17 24 rfl rfl
theorem dksL_law_19 : cL_law.data.toList.drop 698 = dktL_law_19 := dk_seg dksL_law_18 24 rfl rfl
theorem dksL_law_20 : cL_law.data.toList.drop 722 = dktL_law_20 := dk_seg dksL_law_19 24 rfl rfl
theorem dksL_law_21 : cL_law.data.toList.drop 746 = dktL_law_21 := dk_seg dksL_law_20 24 rfl rfl
theorem dksL_law_22 : cL_law.data.toList.drop 769 = dktL_law_22 := dk_seg dksL_law_21 23 rfl rfl
theorem dksL_law_23 : cL_law.data.toList.drop 793 = dktL_law_23 := dk_seg dksL_law_22 24 rfl rfl
theorem dksL_law_24 : cL_law.data.toList.drop 815 = dktL_law_24 := dk_seg dksL_law_23 22 rfl rfl
theorem dksL_law_25 : cL_law.data.toList.drop 839 = dktL_law_25 := dk_seg dksL_law_24 24 rfl rfl
theorem dksL_law_26 : cL_law.data.toList.drop 863 = dktL_law_26 := dk_seg dksL_law_25 24 rfl rfl
theorem dksL_law_27 : cL_law.data.toList.drop 887 = dktL_law_27 := dk_seg dksL_law_26 24 rfl rfl
theorem dksL_law_28 : cL_law.data.toList.drop 911 = dktL_law_28 := dk_seg dksL_law_27 24 rfl rfl
theorem dksL_law_29 : cL_law.data.toList.drop 934 = dktL_law_29 := dk_seg dksL_law_28 23 rfl rfl
theorem dksL_law_30 : cL_law.data.toList.drop 958 = dktL_law_30 := dk_seg dksL_law_29 24 rfl rfl
theorem dksL_law_31 : cL_law.data.toList.drop 982 = dktL_law_31 := dk_seg dksL_law_30 24 rfl rfl
theorem dksL_law_32 : cL_law.data.toList.drop 1006 = dktL_law_32 := dk_seg dksL_law_31 24 rfl rfl
theorem dksL_law_33 : cL_law.data.toList.drop 1030 = dktL_law_33 := dk_seg dksL_law_32 24 rfl rfl
theorem dksL_law_34 : cL_law.data.toList.drop 1053 = dktL_law_34 := dk_seg dksL_law_33 23 rfl rfl
theorem dksL_law_35 : cL_law.data.toList.drop 1077 = dktL_law_35 := dk_seg dksL_law_34 24 rfl rfl
theorem dksL_law_36 : cL_law.data.toList.drop 1101 = dktL_law_36 := dk_seg dksL_law_35 24 rfl rfl
theorem dksL_law_37 : cL_law.data.toList.drop 1123 = dktL_law_37 := dk_seg dksL_law_36 22 rfl rfl
theorem dksL_law_38 : cL_law.data.toList.drop 1147 = dktL_law_38 := dk_seg dksL_law_37 24 rfl rfl
theorem dksL_law_39 : cL_law.data.toList.drop 1170 = dktL_law_39 := dk_seg dksL_law_38 23 rfl rfl
theorem dksL_law_40 : cL_law.data.toList.drop 1193 = dktL_law_40 := dk_seg dksL_law_39 23 rfl rfl
theorem dksL_law_41 : cL_law.data.toList.drop 1217 = dktL_law_41 := dk_seg dksL_law_40 24 rfl rfl
theorem dksL_law_42 : cL_law.data.toList.drop 1240 = dktL_law_42 := dk_seg dksL_law_41 23 rfl rfl
theorem dksL_law_43 : cL_law.data.toList.drop 1264 = dktL_law_43 := dk_seg dksL_law_42 24 rfl rfl
theorem dksL_law_44 : cL_law.data.toList.drop 1288 = dktL_law_44 := dk_seg dksL_law_43 24 rfl rfl
theorem dksL_law_45 : cL_law.data.toList.drop 1312 = dktL_law_45 := dk_seg dksL_law_44 24 rfl rfl
theorem dksL_law_46 : cL_law.data.toList.drop 1335 = dktL_law_46 := dk_seg dksL_law_45 23 rfl rfl
theorem dksL_law_47 : cL_law.data.toList.drop 1359 = dktL_law_47 := dk_seg dksL_law_46 24 rfl rfl
theorem dksL_law_48 : cL_law.data.toList.drop 1382 = dktL_law_48 := dk_seg dksL_law_47 23 rfl rfl
theorem dksL_law_49 : cL_law.data.toList.drop 1405 = dktL_law_49 := dk_seg dksL_law_48 23 rfl rfl
theorem dksL_law_50 : cL_law.data.toList.drop 1429 = dktL_law_50 := dk_seg dksL_law_49 24 rfl rfl
theorem dksL_law_51 : cL_law.data.toList.drop 1453 = dktL_law_51 := dk_seg dksL_law_50 24 rfl rfl
theorem dksL_law_52 : cL_law.data.toList.drop 1477 = dktL_law_52 := dk_seg dksL_law_51 24 rfl rfl
theorem dksL_law_53 : cL_law.data.toList.drop 1501 = dktL_law_53 := dk_seg dksL_law_52 24 rfl rfl
theorem dksL_law_54 : cL_law.data.toList.drop 1523 = dktL_law_54 := dk_seg dksL_law_53 22 rfl rfl
theorem dksL_law_55 : cL_law.data.toList.drop 1547 = dktL_law_55 := dk_seg dksL_law_54 24 rfl rfl
theorem dksL_law_56 : cL_law.data.toList.drop 1571 = dktL_law_56 := dk_seg dksL_law_55 24 rfl rfl
theorem dksL_law_57 : cL_law.data.toList.drop 1593 = dktL_law_57 := dk_seg dksL_law_56 22 rfl rfl
theorem dksL_law_58 : cL_law.data.toList.drop 1616 = dktL_law_58 := dk_seg dksL_law_57 23 rfl rfl
theorem dksL_law_59 : cL_law.data.toList.drop 1638 = dktL_law_59 := dk_seg dksL_law_58 22 rfl rfl
theorem dksL_law_60 : cL_law.data.toList.drop 1661 = dktL_law_60 := dk_seg dksL_law_59 23 rfl rfl
theorem dksL_law_61 : cL_law.data.toList.drop 1685 = dktL_law_61 := dk_seg dksL_law_60 24 rfl rfl
theorem dksL_law_62 : cL_law.data.toList.drop 1708 = dktL_law_62 := dk_seg dksL_law_61 23 rfl rfl
theorem dksL_law_63 : cL_law.data.toList.drop 1732 = dktL_law_63 := dk_seg dksL_law_62 24 rfl rfl
theorem dksL_law_64 : cL_law.data.toList.drop 1754 = dktL_law_64 := dk_seg dksL_law_63 22 rfl rfl
theorem dksL_law_65 : cL_law.data.toList.drop 1777 = dktL_law_65 := dk_seg dksL_law_64 23 rfl rfl
theorem dksL_law_66 : cL_law.data.toList.drop 1801 = dktL_law_66 := dk_seg dksL_law_65 24 rfl rfl
theorem dksL_law_67 : cL_law.data.toList.drop 1824 = dktL_law_67 := dk_seg dksL_law_66 23 rfl rfl
theorem dksL_law_68 : cL_law.data.toList.drop 1848 = dktL_law_68 := dk_seg dksL_law_67 24 rfl rfl
theorem dksL_law_69 : cL_law.data.toList.drop 1870 = dktL_law_69 := dk_seg dksL_law_68 22 rfl rfl
theorem dksL_law_70 : cL_law.data.toList.drop 1893 = dktL_law_70 := dk_seg dksL_law_69 23 rfl rfl
theorem dksL_law_71 : cL_law.data.toList.drop 1917 = dktL_law_71 := dk_seg dksL_law_70 24 rfl rfl
theorem dksL_law_72 : cL_law.data.toList.drop 1941 = dktL_law_72 := dk_seg dksL_law_71 24 rfl rfl
theorem dksL_law_73 : cL_law.data.toList.drop 1965 = dktL_law_73 := dk_seg dksL_law_72 24 rfl rfl
theorem dksL_law_74 : cL_law.data.toList.drop 1988 = dktL_law_74 := dk_seg dksL_law_73 23 rfl rfl
theorem dksL_law_75 : cL_law.data.toList.drop 2012 = dktL_law_75 := dk_seg dksL_law_74 24 rfl rfl
theorem dksL_law_76 : cL_law.data.toList.drop 2036 = dktL_law_76 := dk_seg dksL_law_75 24 rfl rfl
theorem dksL_law_77 : cL_law.data.toList.drop 2058 = dktL_law_77 := dk_seg dksL_law_76 22 rfl rfl
theorem dksL_law_78 : cL_law.data.toList.drop 2080 = dktL_law_78 := dk_seg dksL_law_77 22 rfl rfl
theorem dksL_law_79 : cL_law.data.toList.drop 2104 = dktL_law_79 := dk_seg dksL_law_78 24 rfl rfl
theorem dksL_law_80 : cL_law.data.toList.drop 2126 = dktL_law_80 := dk_seg dksL_law_79 22 rfl rfl
theorem dksL_law_81 : cL_law.data.toList.drop 2148 = dktL_law_81 := dk_seg dksL_law_80 22 rfl rfl
theorem dksL_law_82 : cL_law.data.toList.drop 2170 = dktL_law_82 := dk_seg dksL_law_81 22 rfl rfl
theorem dksL_law_83 : cL_law.data.toList.drop 2192 = dktL_law_83 := dk_seg dksL_law_82 22 rfl rfl
theorem dksL_law_84 : cL_law.data.toList.drop 2216 = dktL_law_84 := dk_seg dksL_law_83 24 rfl rfl
theorem dksL_law_85 : cL_law.data.toList.drop 2240 = dktL_law_85 := dk_seg dksL_law_84 24 rfl rfl
theorem dksL_law_86 : cL_law.data.toList.drop 2264 = dktL_law_86 := dk_seg dksL_law_85 24 rfl rfl
theorem dksL_law_87 : cL_law.data.toList.drop 2288 = dktL_law_87 := dk_seg dksL_law_86 24 rfl rfl
theorem dksL_law_88 : cL_law.data.toList.drop 2312 = dktL_law_88 := dk_seg dksL_law_87 24 rfl rfl
theorem dksL_law_89 : cL_law.data.toList.drop 2334 = dktL_law_89 := dk_seg dksL_law_88 22 rfl rfl
theorem dksL_law_90 : cL_law.data.toList.drop 2358 = dktL_law_90 := dk_seg dksL_law_89 24 rfl rfl
theorem dksL_law_91 : cL_law.data.toList.drop 2382 = dktL_law_91 := dk_seg dksL_law_90 24 rfl rfl
theorem dksL_law_92 : cL_law.data.toList.drop 2406 = dktL_law_92 := dk_seg dksL_law_91 24 rfl rfl
theorem dksL_law_93 : cL_law.data.toList.drop 2429 = dktL_law_93 := dk_seg dksL_law_92 23 rfl rfl
theorem dksL_law_94 : cL_law.data.toList.drop 2453 = dktL_law_94 := dk_seg dksL_law_93 24 rfl rfl
theorem dksL_law_95 : cL_law.data.toList.drop 2475 = dktL_law_95 := dk_seg dksL_law_94 22 rfl rfl
theorem dksL_law_96 : cL_law.data.toList.drop 2497 = dktL_law_96 := dk_seg dksL_law_95 22 rfl rfl
theorem dksL_law_97 : cL_law.data.toList.drop 2521 = dktL_law_97 := dk_seg dksL_law_96 24 rfl rfl
theorem dksL_law_98 : cL_law.data.toList.drop 2543 = dktL_law_98 := dk_seg dksL_law_97 22 rfl rfl
theorem dksL_law_99 : cL_law.data.toList.drop 2567 = dktL_law_99 := dk_seg dksL_law_98 24 rfl rfl
theorem dksL_law_100 : cL_law.data.toList.drop 2591 = dktL_law_100 := dk_seg dksL_law_99 24 rfl rfl
theorem dksL_law_101 : cL_law.data.toList.drop 2615 = dktL_law_101 := dk_seg dksL_law_100 24 rfl rfl
theorem dksL_law_102 : cL_law.data.toList.drop 2639 = dktL_law_102 := dk_seg dksL_law_101 24 rfl rfl
theorem dksL_law_103 : cL_law.data.toList.drop 2663 = dktL_law_103 := dk_seg dksL_law_102 24 rfl rfl
theorem dksL_law_104 : cL_law.data.toList.drop 2687 = dktL_law_104 := dk_seg dksL_law_103 24 rfl rfl
theorem dksL_law_105 : cL_law.data.toList.drop 2710 = dktL_law_105 := dk_seg dksL_law_104 23 rfl rfl
theorem dksL_law_106 : cL_law.data.toList.drop 2732 = dktL_law_106 := dk_seg dksL_law_105 22 rfl rfl
theorem dksL_law_107 : cL_law.data.toList.drop 2755 = dktL_law_107 := dk_seg dksL_law_106 23 rfl rfl
theorem dksL_law_108 : cL_law.data.toList.drop 2778 = dktL_law_108 := dk_seg dksL_law_107 23 rfl rfl
theorem dksL_law_109 : cL_law.data.toList.drop 2801 = dktL_law_109 := dk_seg dksL_law_108 23 rfl rfl
theorem dksL_law_110 : cL_law.data.toList.drop 2823 = dktL_law_110 := dk_seg dksL_law_109 22 rfl rfl
theorem dksL_law_111 : cL_law.data.toList.drop 2845 = dktL_law_111 := dk_seg dksL_law_110 22 rfl rfl
theorem dksL_law_112 : cL_law.data.toList.drop 2867 = dktL_law_112 := dk_seg dksL_law_111 22 rfl rfl
theorem dksL_law_113 : cL_law.data.toList.drop 2889 = dktL_law_113 := dk_seg dksL_law_112 22 rfl rfl
theorem dksL_law_114 : cL_law.data.toList.drop 2911 = dktL_law_114 := dk_seg dksL_law_113 22 rfl rfl
theorem dksL_law_115 : cL_law.data.toList.drop 2933 = dktL_law_115 := dk_seg dksL_law_114 22 rfl rfl
theorem dksL_law_116 : cL_law.data.toList.drop 2955 = dktL_law_116 := dk_seg dksL_law_115 22 rfl rfl
theorem dksL_law_117 : cL_law.data.toList.drop 2977 = dktL_law_117 := dk_seg dksL_law_116 22 rfl rfl
theorem dL_law_0 : decode cL_law 0 = .ok (.new 8, 3) := dk_187 0 8 (dk_at dksL_law_0 0 rfl rfl)
theorem dL_law_3 : decode cL_law 3 = .ok (.dup, 1) := dk_89 (dk_at dksL_law_0 3 rfl rfl)
theorem dL_law_4 : decode cL_law 4 = .ok (.invokespecial 139, 3) := dk_183 0 139 (dk_at dksL_law_0 4 rfl rfl)
theorem dL_law_7 : decode cL_law 7 = .ok (.astore_n 1, 1) := dk_76 (dk_at dksL_law_0 7 rfl rfl)
theorem dL_law_8 : decode cL_law 8 = .ok (.new 140, 3) := dk_187 0 140 (dk_at dksL_law_0 8 rfl rfl)
theorem dL_law_11 : decode cL_law 11 = .ok (.dup, 1) := dk_89 (dk_at dksL_law_0 11 rfl rfl)
theorem dL_law_12 : decode cL_law 12 = .ok (.invokespecial 142, 3) := dk_183 0 142 (dk_at dksL_law_0 12 rfl rfl)
theorem dL_law_15 : decode cL_law 15 = .ok (.astore_n 2, 1) := dk_77 (dk_at dksL_law_0 15 rfl rfl)
theorem dL_law_16 : decode cL_law 16 = .ok (.iconst 1, 1) := dk_4 (dk_at dksL_law_0 16 rfl rfl)
theorem dL_law_17 : decode cL_law 17 = .ok (.newarray .long, 2) := dk_188_11 (dk_at dksL_law_0 17 rfl rfl)
theorem dL_law_19 : decode cL_law 19 = .ok (.astore_n 3, 1) := dk_78 (dk_at dksL_law_0 19 rfl rfl)
theorem dL_law_20 : decode cL_law 20 = .ok (.iconst 1, 1) := dk_4 (dk_at dksL_law_0 20 rfl rfl)
theorem dL_law_21 : decode cL_law 21 = .ok (.newarray .float, 2) := dk_188_6 (dk_at dksL_law_0 21 rfl rfl)
theorem dL_law_23 : decode cL_law 23 = .ok (.astore 4, 2) := dk_58 4 (dk_at dksL_law_1 0 rfl rfl)
theorem dL_law_25 : decode cL_law 25 = .ok (.iconst 0, 1) := dk_3 (dk_at dksL_law_1 2 rfl rfl)
theorem dL_law_26 : decode cL_law 26 = .ok (.istore 5, 2) := dk_54 5 (dk_at dksL_law_1 3 rfl rfl)
theorem dL_law_28 : decode cL_law 28 = .ok (.iload 5, 2) := dk_21 5 (dk_at dksL_law_1 5 rfl rfl)
theorem dL_law_30 : decode cL_law 30 = .ok (.aload_n 0, 1) := dk_42 (dk_at dksL_law_1 7 rfl rfl)
theorem dL_law_31 : decode cL_law 31 = .ok (.arraylength, 1) := dk_190 (dk_at dksL_law_1 8 rfl rfl)
theorem dL_law_32 : decode cL_law 32 = .ok (.iconst 4, 1) := dk_7 (dk_at dksL_law_1 9 rfl rfl)
theorem dL_law_33 : decode cL_law 33 = .ok (.isub, 1) := dk_100 (dk_at dksL_law_1 10 rfl rfl)
theorem dL_law_34 : decode cL_law 34 = .ok (.if_icmp .gt 2957, 3) := dk_163 11 141 (dk_at dksL_law_1 11 rfl rfl)
theorem dL_law_37 : decode cL_law 37 = .ok (.aload_n 0, 1) := dk_42 (dk_at dksL_law_1 14 rfl rfl)
theorem dL_law_38 : decode cL_law 38 = .ok (.iload 5, 2) := dk_21 5 (dk_at dksL_law_1 15 rfl rfl)
theorem dL_law_40 : decode cL_law 40 = .ok (.iaload, 1) := dk_46 (dk_at dksL_law_1 17 rfl rfl)
theorem dL_law_41 : decode cL_law 41 = .ok (.bipush 127, 2) := dk_16 127 (dk_at dksL_law_1 18 rfl rfl)
theorem dL_law_43 : decode cL_law 43 = .ok (.iand, 1) := dk_126 (dk_at dksL_law_1 20 rfl rfl)
theorem dL_law_44 : decode cL_law 44 = .ok (.tableswitch 2941 0 64 #[276, 320, 388, 468, 524, 592, 605, 618, 631, 711, 724, 737, 750, 763, 776, 832, 888, 956, 1036, 1111, 1167, 1230, 1243, 1311, 1379, 1447, 1515, 1528, 1541, 1597, 1653, 1709, 1722, 1778, 1834, 1847, 1915, 1971, 2039, 2107, 2151, 2164, 2177, 2233, 2289, 2302, 2315, 2383, 2439, 2452, 2465, 2478, 2491, 2504, 2517, 2582, 2595, 2639, 2652, 2696, 2752, 2765, 2809, 2853, 2897], 276) := by decide +kernel
theorem dL_law_320 : decode cL_law 320 = .ok (.aload_n 1, 1) := dk_43 (dk_at dksL_law_3 0 rfl rfl)
theorem dL_law_321 : decode cL_law 321 = .ok (.aload_n 3, 1) := dk_45 (dk_at dksL_law_3 1 rfl rfl)
theorem dL_law_322 : decode cL_law 322 = .ok (.invokestatic 143, 3) := dk_184 0 143 (dk_at dksL_law_3 2 rfl rfl)
theorem dL_law_325 : decode cL_law 325 = .ok (.istore 6, 2) := dk_54 6 (dk_at dksL_law_3 5 rfl rfl)
theorem dL_law_327 : decode cL_law 327 = .ok (.aload_n 2, 1) := dk_44 (dk_at dksL_law_3 7 rfl rfl)
theorem dL_law_328 : decode cL_law 328 = .ok (.invokevirtual 148, 3) := dk_182 0 148 (dk_at dksL_law_3 8 rfl rfl)
theorem dL_law_331 : decode cL_law 331 = .ok (.istore 7, 2) := dk_54 7 (dk_at dksL_law_3 11 rfl rfl)
theorem dL_law_333 : decode cL_law 333 = .ok (.aload_n 2, 1) := dk_44 (dk_at dksL_law_3 13 rfl rfl)
theorem dL_law_334 : decode cL_law 334 = .ok (.invokevirtual 149, 3) := dk_182 0 149 (dk_at dksL_law_3 14 rfl rfl)
theorem dL_law_337 : decode cL_law 337 = .ok (.iload 6, 2) := dk_21 6 (dk_at dksL_law_3 17 rfl rfl)
theorem dL_law_339 : decode cL_law 339 = .ok (.if_icmp .eq 5, 3) := dk_159 0 5 (dk_at dksL_law_3 19 rfl rfl)
theorem dL_law_342 : decode cL_law 342 = .ok (.iconst 0, 1) := dk_3 (dk_at dksL_law_3 22 rfl rfl)
theorem dL_law_343 : decode cL_law 343 = .ok (.ireturn, 1) := dk_172 (dk_at dksL_law_3 23 rfl rfl)
theorem dL_law_344 : decode cL_law 344 = .ok (.iload 6, 2) := dk_21 6 (dk_at dksL_law_4 0 rfl rfl)
theorem dL_law_346 : decode cL_law 346 = .ok (.ifCond .ne 15, 3) := dk_154 0 15 (dk_at dksL_law_4 2 rfl rfl)
theorem dL_law_349 : decode cL_law 349 = .ok (.aload_n 3, 1) := dk_45 (dk_at dksL_law_4 5 rfl rfl)
theorem dL_law_350 : decode cL_law 350 = .ok (.iconst 0, 1) := dk_3 (dk_at dksL_law_4 6 rfl rfl)
theorem dL_law_351 : decode cL_law 351 = .ok (.laload, 1) := dk_47 (dk_at dksL_law_4 7 rfl rfl)
theorem dL_law_352 : decode cL_law 352 = .ok (.iload 7, 2) := dk_21 7 (dk_at dksL_law_4 8 rfl rfl)
theorem dL_law_354 : decode cL_law 354 = .ok (.i2l, 1) := dk_133 (dk_at dksL_law_4 10 rfl rfl)
theorem dL_law_355 : decode cL_law 355 = .ok (.lcmp, 1) := dk_148 (dk_at dksL_law_4 11 rfl rfl)
theorem dL_law_356 : decode cL_law 356 = .ok (.ifCond .eq 5, 3) := dk_153 0 5 (dk_at dksL_law_4 12 rfl rfl)
theorem dL_law_359 : decode cL_law 359 = .ok (.iconst 0, 1) := dk_3 (dk_at dksL_law_4 15 rfl rfl)
theorem dL_law_360 : decode cL_law 360 = .ok (.ireturn, 1) := dk_172 (dk_at dksL_law_4 16 rfl rfl)
theorem dL_law_361 : decode cL_law 361 = .ok (.goto 2624, 3) := dk_167 10 64 (dk_at dksL_law_4 17 rfl rfl)
theorem dL_law_364 : decode cL_law 364 = .ok (.aload_n 1, 1) := dk_43 (dk_at dksL_law_4 20 rfl rfl)
theorem dL_law_365 : decode cL_law 365 = .ok (.aload_n 0, 1) := dk_42 (dk_at dksL_law_4 21 rfl rfl)
theorem dL_law_366 : decode cL_law 366 = .ok (.iload 5, 2) := dk_21 5 (dk_at dksL_law_4 22 rfl rfl)
theorem dL_law_368 : decode cL_law 368 = .ok (.iconst 1, 1) := dk_4 (dk_at dksL_law_5 0 rfl rfl)
theorem dL_law_369 : decode cL_law 369 = .ok (.iadd, 1) := dk_96 (dk_at dksL_law_5 1 rfl rfl)
theorem dL_law_370 : decode cL_law 370 = .ok (.iaload, 1) := dk_46 (dk_at dksL_law_5 2 rfl rfl)
theorem dL_law_371 : decode cL_law 371 = .ok (.aload_n 0, 1) := dk_42 (dk_at dksL_law_5 3 rfl rfl)
theorem dL_law_372 : decode cL_law 372 = .ok (.iload 5, 2) := dk_21 5 (dk_at dksL_law_5 4 rfl rfl)
theorem dL_law_374 : decode cL_law 374 = .ok (.iconst 2, 1) := dk_5 (dk_at dksL_law_5 6 rfl rfl)
theorem dL_law_375 : decode cL_law 375 = .ok (.iadd, 1) := dk_96 (dk_at dksL_law_5 7 rfl rfl)
theorem dL_law_376 : decode cL_law 376 = .ok (.iaload, 1) := dk_46 (dk_at dksL_law_5 8 rfl rfl)
theorem dL_law_377 : decode cL_law 377 = .ok (.aload_n 3, 1) := dk_45 (dk_at dksL_law_5 9 rfl rfl)
theorem dL_law_378 : decode cL_law 378 = .ok (.invokestatic 152, 3) := dk_184 0 152 (dk_at dksL_law_5 10 rfl rfl)
theorem dL_law_381 : decode cL_law 381 = .ok (.istore 6, 2) := dk_54 6 (dk_at dksL_law_5 13 rfl rfl)
theorem dL_law_383 : decode cL_law 383 = .ok (.aload_n 2, 1) := dk_44 (dk_at dksL_law_5 15 rfl rfl)
theorem dL_law_384 : decode cL_law 384 = .ok (.aload_n 0, 1) := dk_42 (dk_at dksL_law_5 16 rfl rfl)
theorem dL_law_385 : decode cL_law 385 = .ok (.iload 5, 2) := dk_21 5 (dk_at dksL_law_5 17 rfl rfl)
theorem dL_law_387 : decode cL_law 387 = .ok (.iconst 1, 1) := dk_4 (dk_at dksL_law_5 19 rfl rfl)
theorem dL_law_388 : decode cL_law 388 = .ok (.iadd, 1) := dk_96 (dk_at dksL_law_5 20 rfl rfl)
theorem dL_law_389 : decode cL_law 389 = .ok (.iaload, 1) := dk_46 (dk_at dksL_law_5 21 rfl rfl)
theorem dL_law_390 : decode cL_law 390 = .ok (.aload_n 0, 1) := dk_42 (dk_at dksL_law_5 22 rfl rfl)
theorem dL_law_391 : decode cL_law 391 = .ok (.iload 5, 2) := dk_21 5 (dk_at dksL_law_6 0 rfl rfl)
theorem dL_law_393 : decode cL_law 393 = .ok (.iconst 2, 1) := dk_5 (dk_at dksL_law_6 2 rfl rfl)
theorem dL_law_394 : decode cL_law 394 = .ok (.iadd, 1) := dk_96 (dk_at dksL_law_6 3 rfl rfl)
theorem dL_law_395 : decode cL_law 395 = .ok (.iaload, 1) := dk_46 (dk_at dksL_law_6 4 rfl rfl)
theorem dL_law_396 : decode cL_law 396 = .ok (.invokevirtual 155, 3) := dk_182 0 155 (dk_at dksL_law_6 5 rfl rfl)
theorem dL_law_399 : decode cL_law 399 = .ok (.istore 7, 2) := dk_54 7 (dk_at dksL_law_6 8 rfl rfl)
theorem dL_law_401 : decode cL_law 401 = .ok (.aload_n 2, 1) := dk_44 (dk_at dksL_law_6 10 rfl rfl)
theorem dL_law_402 : decode cL_law 402 = .ok (.invokevirtual 149, 3) := dk_182 0 149 (dk_at dksL_law_6 11 rfl rfl)
theorem dL_law_405 : decode cL_law 405 = .ok (.iload 6, 2) := dk_21 6 (dk_at dksL_law_6 14 rfl rfl)
theorem dL_law_407 : decode cL_law 407 = .ok (.if_icmp .eq 5, 3) := dk_159 0 5 (dk_at dksL_law_6 16 rfl rfl)
theorem dL_law_410 : decode cL_law 410 = .ok (.iconst 0, 1) := dk_3 (dk_at dksL_law_6 19 rfl rfl)
theorem dL_law_411 : decode cL_law 411 = .ok (.ireturn, 1) := dk_172 (dk_at dksL_law_6 20 rfl rfl)
theorem dL_law_412 : decode cL_law 412 = .ok (.iload 6, 2) := dk_21 6 (dk_at dksL_law_6 21 rfl rfl)
theorem dL_law_414 : decode cL_law 414 = .ok (.ifCond .ne 15, 3) := dk_154 0 15 (dk_at dksL_law_7 0 rfl rfl)
theorem dL_law_417 : decode cL_law 417 = .ok (.aload_n 3, 1) := dk_45 (dk_at dksL_law_7 3 rfl rfl)
theorem dL_law_418 : decode cL_law 418 = .ok (.iconst 0, 1) := dk_3 (dk_at dksL_law_7 4 rfl rfl)
theorem dL_law_419 : decode cL_law 419 = .ok (.laload, 1) := dk_47 (dk_at dksL_law_7 5 rfl rfl)
theorem dL_law_420 : decode cL_law 420 = .ok (.iload 7, 2) := dk_21 7 (dk_at dksL_law_7 6 rfl rfl)
theorem dL_law_422 : decode cL_law 422 = .ok (.i2l, 1) := dk_133 (dk_at dksL_law_7 8 rfl rfl)
theorem dL_law_423 : decode cL_law 423 = .ok (.lcmp, 1) := dk_148 (dk_at dksL_law_7 9 rfl rfl)
theorem dL_law_424 : decode cL_law 424 = .ok (.ifCond .eq 5, 3) := dk_153 0 5 (dk_at dksL_law_7 10 rfl rfl)
theorem dL_law_427 : decode cL_law 427 = .ok (.iconst 0, 1) := dk_3 (dk_at dksL_law_7 13 rfl rfl)
theorem dL_law_428 : decode cL_law 428 = .ok (.ireturn, 1) := dk_172 (dk_at dksL_law_7 14 rfl rfl)
theorem dL_law_429 : decode cL_law 429 = .ok (.goto 2556, 3) := dk_167 9 252 (dk_at dksL_law_7 15 rfl rfl)
theorem dL_law_432 : decode cL_law 432 = .ok (.aload_n 1, 1) := dk_43 (dk_at dksL_law_7 18 rfl rfl)
theorem dL_law_433 : decode cL_law 433 = .ok (.aload_n 0, 1) := dk_42 (dk_at dksL_law_7 19 rfl rfl)
theorem dL_law_434 : decode cL_law 434 = .ok (.iload 5, 2) := dk_21 5 (dk_at dksL_law_7 20 rfl rfl)
theorem dL_law_436 : decode cL_law 436 = .ok (.iconst 1, 1) := dk_4 (dk_at dksL_law_7 22 rfl rfl)
theorem dL_law_437 : decode cL_law 437 = .ok (.iadd, 1) := dk_96 (dk_at dksL_law_7 23 rfl rfl)
theorem dL_law_438 : decode cL_law 438 = .ok (.iaload, 1) := dk_46 (dk_at dksL_law_8 0 rfl rfl)
theorem dL_law_439 : decode cL_law 439 = .ok (.aload_n 0, 1) := dk_42 (dk_at dksL_law_8 1 rfl rfl)
theorem dL_law_440 : decode cL_law 440 = .ok (.iload 5, 2) := dk_21 5 (dk_at dksL_law_8 2 rfl rfl)
theorem dL_law_442 : decode cL_law 442 = .ok (.iconst 2, 1) := dk_5 (dk_at dksL_law_8 4 rfl rfl)
theorem dL_law_443 : decode cL_law 443 = .ok (.iadd, 1) := dk_96 (dk_at dksL_law_8 5 rfl rfl)
theorem dL_law_444 : decode cL_law 444 = .ok (.iaload, 1) := dk_46 (dk_at dksL_law_8 6 rfl rfl)
theorem dL_law_445 : decode cL_law 445 = .ok (.aload_n 0, 1) := dk_42 (dk_at dksL_law_8 7 rfl rfl)
theorem dL_law_446 : decode cL_law 446 = .ok (.iload 5, 2) := dk_21 5 (dk_at dksL_law_8 8 rfl rfl)
theorem dL_law_448 : decode cL_law 448 = .ok (.iconst 3, 1) := dk_6 (dk_at dksL_law_8 10 rfl rfl)
theorem dL_law_449 : decode cL_law 449 = .ok (.iadd, 1) := dk_96 (dk_at dksL_law_8 11 rfl rfl)
theorem dL_law_450 : decode cL_law 450 = .ok (.iaload, 1) := dk_46 (dk_at dksL_law_8 12 rfl rfl)
theorem dL_law_451 : decode cL_law 451 = .ok (.aload_n 3, 1) := dk_45 (dk_at dksL_law_8 13 rfl rfl)
theorem dL_law_452 : decode cL_law 452 = .ok (.invokestatic 156, 3) := dk_184 0 156 (dk_at dksL_law_8 14 rfl rfl)
theorem dL_law_455 : decode cL_law 455 = .ok (.istore 6, 2) := dk_54 6 (dk_at dksL_law_8 17 rfl rfl)
theorem dL_law_457 : decode cL_law 457 = .ok (.aload_n 2, 1) := dk_44 (dk_at dksL_law_8 19 rfl rfl)
theorem dL_law_458 : decode cL_law 458 = .ok (.aload_n 0, 1) := dk_42 (dk_at dksL_law_8 20 rfl rfl)
theorem dL_law_459 : decode cL_law 459 = .ok (.iload 5, 2) := dk_21 5 (dk_at dksL_law_8 21 rfl rfl)
theorem dL_law_461 : decode cL_law 461 = .ok (.iconst 1, 1) := dk_4 (dk_at dksL_law_8 23 rfl rfl)
theorem dL_law_462 : decode cL_law 462 = .ok (.iadd, 1) := dk_96 (dk_at dksL_law_9 0 rfl rfl)
theorem dL_law_463 : decode cL_law 463 = .ok (.iaload, 1) := dk_46 (dk_at dksL_law_9 1 rfl rfl)
theorem dL_law_464 : decode cL_law 464 = .ok (.aload_n 0, 1) := dk_42 (dk_at dksL_law_9 2 rfl rfl)
theorem dL_law_465 : decode cL_law 465 = .ok (.iload 5, 2) := dk_21 5 (dk_at dksL_law_9 3 rfl rfl)
theorem dL_law_467 : decode cL_law 467 = .ok (.iconst 2, 1) := dk_5 (dk_at dksL_law_9 5 rfl rfl)
theorem dL_law_468 : decode cL_law 468 = .ok (.iadd, 1) := dk_96 (dk_at dksL_law_9 6 rfl rfl)
theorem dL_law_469 : decode cL_law 469 = .ok (.iaload, 1) := dk_46 (dk_at dksL_law_9 7 rfl rfl)
theorem dL_law_470 : decode cL_law 470 = .ok (.aload_n 0, 1) := dk_42 (dk_at dksL_law_9 8 rfl rfl)
theorem dL_law_471 : decode cL_law 471 = .ok (.iload 5, 2) := dk_21 5 (dk_at dksL_law_9 9 rfl rfl)
theorem dL_law_473 : decode cL_law 473 = .ok (.iconst 3, 1) := dk_6 (dk_at dksL_law_9 11 rfl rfl)
theorem dL_law_474 : decode cL_law 474 = .ok (.iadd, 1) := dk_96 (dk_at dksL_law_9 12 rfl rfl)
theorem dL_law_475 : decode cL_law 475 = .ok (.iaload, 1) := dk_46 (dk_at dksL_law_9 13 rfl rfl)
theorem dL_law_476 : decode cL_law 476 = .ok (.invokevirtual 159, 3) := dk_182 0 159 (dk_at dksL_law_9 14 rfl rfl)
theorem dL_law_479 : decode cL_law 479 = .ok (.istore 7, 2) := dk_54 7 (dk_at dksL_law_9 17 rfl rfl)
theorem dL_law_481 : decode cL_law 481 = .ok (.aload_n 2, 1) := dk_44 (dk_at dksL_law_9 19 rfl rfl)
theorem dL_law_482 : decode cL_law 482 = .ok (.invokevirtual 149, 3) := dk_182 0 149 (dk_at dksL_law_9 20 rfl rfl)
theorem dL_law_485 : decode cL_law 485 = .ok (.iload 6, 2) := dk_21 6 (dk_at dksL_law_10 0 rfl rfl)
theorem dL_law_487 : decode cL_law 487 = .ok (.if_icmp .eq 5, 3) := dk_159 0 5 (dk_at dksL_law_10 2 rfl rfl)
theorem dL_law_490 : decode cL_law 490 = .ok (.iconst 0, 1) := dk_3 (dk_at dksL_law_10 5 rfl rfl)
theorem dL_law_491 : decode cL_law 491 = .ok (.ireturn, 1) := dk_172 (dk_at dksL_law_10 6 rfl rfl)
theorem dL_law_492 : decode cL_law 492 = .ok (.iload 6, 2) := dk_21 6 (dk_at dksL_law_10 7 rfl rfl)
theorem dL_law_494 : decode cL_law 494 = .ok (.ifCond .ne 15, 3) := dk_154 0 15 (dk_at dksL_law_10 9 rfl rfl)
theorem dL_law_497 : decode cL_law 497 = .ok (.aload_n 3, 1) := dk_45 (dk_at dksL_law_10 12 rfl rfl)
theorem dL_law_498 : decode cL_law 498 = .ok (.iconst 0, 1) := dk_3 (dk_at dksL_law_10 13 rfl rfl)
theorem dL_law_499 : decode cL_law 499 = .ok (.laload, 1) := dk_47 (dk_at dksL_law_10 14 rfl rfl)
theorem dL_law_500 : decode cL_law 500 = .ok (.iload 7, 2) := dk_21 7 (dk_at dksL_law_10 15 rfl rfl)
theorem dL_law_502 : decode cL_law 502 = .ok (.i2l, 1) := dk_133 (dk_at dksL_law_10 17 rfl rfl)
theorem dL_law_503 : decode cL_law 503 = .ok (.lcmp, 1) := dk_148 (dk_at dksL_law_10 18 rfl rfl)
theorem dL_law_504 : decode cL_law 504 = .ok (.ifCond .eq 5, 3) := dk_153 0 5 (dk_at dksL_law_10 19 rfl rfl)
theorem dL_law_507 : decode cL_law 507 = .ok (.iconst 0, 1) := dk_3 (dk_at dksL_law_10 22 rfl rfl)
theorem dL_law_508 : decode cL_law 508 = .ok (.ireturn, 1) := dk_172 (dk_at dksL_law_10 23 rfl rfl)
theorem dL_law_509 : decode cL_law 509 = .ok (.goto 2476, 3) := dk_167 9 172 (dk_at dksL_law_11 0 rfl rfl)
theorem dL_law_512 : decode cL_law 512 = .ok (.aload_n 1, 1) := dk_43 (dk_at dksL_law_11 3 rfl rfl)
theorem dL_law_513 : decode cL_law 513 = .ok (.aload_n 0, 1) := dk_42 (dk_at dksL_law_11 4 rfl rfl)
theorem dL_law_514 : decode cL_law 514 = .ok (.iload 5, 2) := dk_21 5 (dk_at dksL_law_11 5 rfl rfl)
theorem dL_law_516 : decode cL_law 516 = .ok (.iconst 1, 1) := dk_4 (dk_at dksL_law_11 7 rfl rfl)
theorem dL_law_517 : decode cL_law 517 = .ok (.iadd, 1) := dk_96 (dk_at dksL_law_11 8 rfl rfl)
theorem dL_law_518 : decode cL_law 518 = .ok (.iaload, 1) := dk_46 (dk_at dksL_law_11 9 rfl rfl)
theorem dL_law_519 : decode cL_law 519 = .ok (.aload_n 3, 1) := dk_45 (dk_at dksL_law_11 10 rfl rfl)
theorem dL_law_520 : decode cL_law 520 = .ok (.invokestatic 160, 3) := dk_184 0 160 (dk_at dksL_law_11 11 rfl rfl)
theorem dL_law_523 : decode cL_law 523 = .ok (.istore 6, 2) := dk_54 6 (dk_at dksL_law_11 14 rfl rfl)
theorem dL_law_525 : decode cL_law 525 = .ok (.aload_n 2, 1) := dk_44 (dk_at dksL_law_11 16 rfl rfl)
theorem dL_law_526 : decode cL_law 526 = .ok (.aload_n 0, 1) := dk_42 (dk_at dksL_law_11 17 rfl rfl)
theorem dL_law_527 : decode cL_law 527 = .ok (.iload 5, 2) := dk_21 5 (dk_at dksL_law_11 18 rfl rfl)
theorem dL_law_529 : decode cL_law 529 = .ok (.iconst 1, 1) := dk_4 (dk_at dksL_law_11 20 rfl rfl)
theorem dL_law_530 : decode cL_law 530 = .ok (.iadd, 1) := dk_96 (dk_at dksL_law_11 21 rfl rfl)
theorem dL_law_531 : decode cL_law 531 = .ok (.iaload, 1) := dk_46 (dk_at dksL_law_11 22 rfl rfl)
theorem dL_law_532 : decode cL_law 532 = .ok (.invokevirtual 163, 3) := dk_182 0 163 (dk_at dksL_law_12 0 rfl rfl)
theorem dL_law_535 : decode cL_law 535 = .ok (.istore 7, 2) := dk_54 7 (dk_at dksL_law_12 3 rfl rfl)
theorem dL_law_537 : decode cL_law 537 = .ok (.aload_n 2, 1) := dk_44 (dk_at dksL_law_12 5 rfl rfl)
theorem dL_law_538 : decode cL_law 538 = .ok (.invokevirtual 149, 3) := dk_182 0 149 (dk_at dksL_law_12 6 rfl rfl)
theorem dL_law_541 : decode cL_law 541 = .ok (.iload 6, 2) := dk_21 6 (dk_at dksL_law_12 9 rfl rfl)
theorem dL_law_543 : decode cL_law 543 = .ok (.if_icmp .eq 5, 3) := dk_159 0 5 (dk_at dksL_law_12 11 rfl rfl)
theorem dL_law_546 : decode cL_law 546 = .ok (.iconst 0, 1) := dk_3 (dk_at dksL_law_12 14 rfl rfl)
theorem dL_law_547 : decode cL_law 547 = .ok (.ireturn, 1) := dk_172 (dk_at dksL_law_12 15 rfl rfl)
theorem dL_law_548 : decode cL_law 548 = .ok (.iload 6, 2) := dk_21 6 (dk_at dksL_law_12 16 rfl rfl)
theorem dL_law_550 : decode cL_law 550 = .ok (.ifCond .ne 15, 3) := dk_154 0 15 (dk_at dksL_law_12 18 rfl rfl)
theorem dL_law_553 : decode cL_law 553 = .ok (.aload_n 3, 1) := dk_45 (dk_at dksL_law_12 21 rfl rfl)
theorem dL_law_554 : decode cL_law 554 = .ok (.iconst 0, 1) := dk_3 (dk_at dksL_law_12 22 rfl rfl)
theorem dL_law_555 : decode cL_law 555 = .ok (.laload, 1) := dk_47 (dk_at dksL_law_12 23 rfl rfl)
theorem dL_law_556 : decode cL_law 556 = .ok (.iload 7, 2) := dk_21 7 (dk_at dksL_law_13 0 rfl rfl)
theorem dL_law_558 : decode cL_law 558 = .ok (.i2l, 1) := dk_133 (dk_at dksL_law_13 2 rfl rfl)
theorem dL_law_559 : decode cL_law 559 = .ok (.lcmp, 1) := dk_148 (dk_at dksL_law_13 3 rfl rfl)
theorem dL_law_560 : decode cL_law 560 = .ok (.ifCond .eq 5, 3) := dk_153 0 5 (dk_at dksL_law_13 4 rfl rfl)
theorem dL_law_563 : decode cL_law 563 = .ok (.iconst 0, 1) := dk_3 (dk_at dksL_law_13 7 rfl rfl)
theorem dL_law_564 : decode cL_law 564 = .ok (.ireturn, 1) := dk_172 (dk_at dksL_law_13 8 rfl rfl)
theorem dL_law_565 : decode cL_law 565 = .ok (.goto 2420, 3) := dk_167 9 116 (dk_at dksL_law_13 9 rfl rfl)
theorem dL_law_568 : decode cL_law 568 = .ok (.aload_n 1, 1) := dk_43 (dk_at dksL_law_13 12 rfl rfl)
theorem dL_law_569 : decode cL_law 569 = .ok (.aload_n 0, 1) := dk_42 (dk_at dksL_law_13 13 rfl rfl)
theorem dL_law_570 : decode cL_law 570 = .ok (.iload 5, 2) := dk_21 5 (dk_at dksL_law_13 14 rfl rfl)
theorem dL_law_572 : decode cL_law 572 = .ok (.iconst 1, 1) := dk_4 (dk_at dksL_law_13 16 rfl rfl)
theorem dL_law_573 : decode cL_law 573 = .ok (.iadd, 1) := dk_96 (dk_at dksL_law_13 17 rfl rfl)
theorem dL_law_574 : decode cL_law 574 = .ok (.iaload, 1) := dk_46 (dk_at dksL_law_13 18 rfl rfl)
theorem dL_law_575 : decode cL_law 575 = .ok (.aload_n 0, 1) := dk_42 (dk_at dksL_law_13 19 rfl rfl)
theorem dL_law_576 : decode cL_law 576 = .ok (.iload 5, 2) := dk_21 5 (dk_at dksL_law_13 20 rfl rfl)
theorem dL_law_578 : decode cL_law 578 = .ok (.iconst 2, 1) := dk_5 (dk_at dksL_law_13 22 rfl rfl)
theorem dL_law_579 : decode cL_law 579 = .ok (.iadd, 1) := dk_96 (dk_at dksL_law_13 23 rfl rfl)
theorem dL_law_580 : decode cL_law 580 = .ok (.iaload, 1) := dk_46 (dk_at dksL_law_14 0 rfl rfl)
theorem dL_law_581 : decode cL_law 581 = .ok (.aload_n 3, 1) := dk_45 (dk_at dksL_law_14 1 rfl rfl)
theorem dL_law_582 : decode cL_law 582 = .ok (.invokestatic 164, 3) := dk_184 0 164 (dk_at dksL_law_14 2 rfl rfl)
theorem dL_law_585 : decode cL_law 585 = .ok (.istore 6, 2) := dk_54 6 (dk_at dksL_law_14 5 rfl rfl)
theorem dL_law_587 : decode cL_law 587 = .ok (.aload_n 2, 1) := dk_44 (dk_at dksL_law_14 7 rfl rfl)
theorem dL_law_588 : decode cL_law 588 = .ok (.aload_n 0, 1) := dk_42 (dk_at dksL_law_14 8 rfl rfl)
theorem dL_law_589 : decode cL_law 589 = .ok (.iload 5, 2) := dk_21 5 (dk_at dksL_law_14 9 rfl rfl)
theorem dL_law_591 : decode cL_law 591 = .ok (.iconst 1, 1) := dk_4 (dk_at dksL_law_14 11 rfl rfl)
theorem dL_law_592 : decode cL_law 592 = .ok (.iadd, 1) := dk_96 (dk_at dksL_law_14 12 rfl rfl)
theorem dL_law_593 : decode cL_law 593 = .ok (.iaload, 1) := dk_46 (dk_at dksL_law_14 13 rfl rfl)
theorem dL_law_594 : decode cL_law 594 = .ok (.aload_n 0, 1) := dk_42 (dk_at dksL_law_14 14 rfl rfl)
theorem dL_law_595 : decode cL_law 595 = .ok (.iload 5, 2) := dk_21 5 (dk_at dksL_law_14 15 rfl rfl)
theorem dL_law_597 : decode cL_law 597 = .ok (.iconst 2, 1) := dk_5 (dk_at dksL_law_14 17 rfl rfl)
theorem dL_law_598 : decode cL_law 598 = .ok (.iadd, 1) := dk_96 (dk_at dksL_law_14 18 rfl rfl)
theorem dL_law_599 : decode cL_law 599 = .ok (.iaload, 1) := dk_46 (dk_at dksL_law_14 19 rfl rfl)
theorem dL_law_600 : decode cL_law 600 = .ok (.invokevirtual 166, 3) := dk_182 0 166 (dk_at dksL_law_14 20 rfl rfl)
theorem dL_law_603 : decode cL_law 603 = .ok (.istore 7, 2) := dk_54 7 (dk_at dksL_law_15 0 rfl rfl)
theorem dL_law_605 : decode cL_law 605 = .ok (.aload_n 2, 1) := dk_44 (dk_at dksL_law_15 2 rfl rfl)
theorem dL_law_606 : decode cL_law 606 = .ok (.invokevirtual 149, 3) := dk_182 0 149 (dk_at dksL_law_15 3 rfl rfl)
theorem dL_law_609 : decode cL_law 609 = .ok (.iload 6, 2) := dk_21 6 (dk_at dksL_law_15 6 rfl rfl)
theorem dL_law_611 : decode cL_law 611 = .ok (.if_icmp .eq 5, 3) := dk_159 0 5 (dk_at dksL_law_15 8 rfl rfl)
theorem dL_law_614 : decode cL_law 614 = .ok (.iconst 0, 1) := dk_3 (dk_at dksL_law_15 11 rfl rfl)
theorem dL_law_615 : decode cL_law 615 = .ok (.ireturn, 1) := dk_172 (dk_at dksL_law_15 12 rfl rfl)
theorem dL_law_616 : decode cL_law 616 = .ok (.iload 6, 2) := dk_21 6 (dk_at dksL_law_15 13 rfl rfl)
theorem dL_law_618 : decode cL_law 618 = .ok (.ifCond .ne 15, 3) := dk_154 0 15 (dk_at dksL_law_15 15 rfl rfl)
theorem dL_law_621 : decode cL_law 621 = .ok (.aload_n 3, 1) := dk_45 (dk_at dksL_law_15 18 rfl rfl)
theorem dL_law_622 : decode cL_law 622 = .ok (.iconst 0, 1) := dk_3 (dk_at dksL_law_15 19 rfl rfl)
theorem dL_law_623 : decode cL_law 623 = .ok (.laload, 1) := dk_47 (dk_at dksL_law_15 20 rfl rfl)
theorem dL_law_624 : decode cL_law 624 = .ok (.iload 7, 2) := dk_21 7 (dk_at dksL_law_15 21 rfl rfl)
theorem dL_law_626 : decode cL_law 626 = .ok (.i2l, 1) := dk_133 (dk_at dksL_law_15 23 rfl rfl)
theorem dL_law_627 : decode cL_law 627 = .ok (.lcmp, 1) := dk_148 (dk_at dksL_law_16 0 rfl rfl)
theorem dL_law_628 : decode cL_law 628 = .ok (.ifCond .eq 5, 3) := dk_153 0 5 (dk_at dksL_law_16 1 rfl rfl)
theorem dL_law_631 : decode cL_law 631 = .ok (.iconst 0, 1) := dk_3 (dk_at dksL_law_16 4 rfl rfl)
theorem dL_law_632 : decode cL_law 632 = .ok (.ireturn, 1) := dk_172 (dk_at dksL_law_16 5 rfl rfl)
theorem dL_law_633 : decode cL_law 633 = .ok (.goto 2352, 3) := dk_167 9 48 (dk_at dksL_law_16 6 rfl rfl)
theorem dL_law_636 : decode cL_law 636 = .ok (.aload_n 1, 1) := dk_43 (dk_at dksL_law_16 9 rfl rfl)
theorem dL_law_637 : decode cL_law 637 = .ok (.invokevirtual 167, 3) := dk_182 0 167 (dk_at dksL_law_16 10 rfl rfl)
theorem dL_law_640 : decode cL_law 640 = .ok (.aload_n 2, 1) := dk_44 (dk_at dksL_law_16 13 rfl rfl)
theorem dL_law_641 : decode cL_law 641 = .ok (.invokevirtual 170, 3) := dk_182 0 170 (dk_at dksL_law_16 14 rfl rfl)
theorem dL_law_644 : decode cL_law 644 = .ok (.if_icmp .eq 2341, 3) := dk_159 9 37 (dk_at dksL_law_16 17 rfl rfl)
theorem dL_law_647 : decode cL_law 647 = .ok (.iconst 0, 1) := dk_3 (dk_at dksL_law_16 20 rfl rfl)
theorem dL_law_648 : decode cL_law 648 = .ok (.ireturn, 1) := dk_172 (dk_at dksL_law_16 21 rfl rfl)
theorem dL_law_649 : decode cL_law 649 = .ok (.aload_n 1, 1) := dk_43 (dk_at dksL_law_16 22 rfl rfl)
theorem dL_law_650 : decode cL_law 650 = .ok (.invokevirtual 171, 3) := dk_182 0 171 (dk_at dksL_law_17 0 rfl rfl)
theorem dL_law_653 : decode cL_law 653 = .ok (.aload_n 2, 1) := dk_44 (dk_at dksL_law_17 3 rfl rfl)
theorem dL_law_654 : decode cL_law 654 = .ok (.invokevirtual 174, 3) := dk_182 0 174 (dk_at dksL_law_17 4 rfl rfl)
theorem dL_law_657 : decode cL_law 657 = .ok (.if_icmp .eq 2328, 3) := dk_159 9 24 (dk_at dksL_law_17 7 rfl rfl)
theorem dL_law_660 : decode cL_law 660 = .ok (.iconst 0, 1) := dk_3 (dk_at dksL_law_17 10 rfl rfl)
theorem dL_law_661 : decode cL_law 661 = .ok (.ireturn, 1) := dk_172 (dk_at dksL_law_17 11 rfl rfl)
theorem dL_law_662 : decode cL_law 662 = .ok (.aload_n 1, 1) := dk_43 (dk_at dksL_law_17 12 rfl rfl)
theorem dL_law_663 : decode cL_law 663 = .ok (.invokevirtual 175, 3) := dk_182 0 175 (dk_at dksL_law_17 13 rfl rfl)
theorem dL_law_666 : decode cL_law 666 = .ok (.aload_n 2, 1) := dk_44 (dk_at dksL_law_17 16 rfl rfl)
theorem dL_law_667 : decode cL_law 667 = .ok (.invokevirtual 178, 3) := dk_182 0 178 (dk_at dksL_law_17 17 rfl rfl)
theorem dL_law_670 : decode cL_law 670 = .ok (.if_icmp .eq 2315, 3) := dk_159 9 11 (dk_at dksL_law_17 20 rfl rfl)
theorem dL_law_673 : decode cL_law 673 = .ok (.iconst 0, 1) := dk_3 (dk_at dksL_law_17 23 rfl rfl)
theorem dL_law_674 : decode cL_law 674 = .ok (.ireturn, 1) := dk_172 (dk_at dksL_law_18 0 rfl rfl)
theorem dL_law_675 : decode cL_law 675 = .ok (.aload_n 1, 1) := dk_43 (dk_at dksL_law_18 1 rfl rfl)
theorem dL_law_676 : decode cL_law 676 = .ok (.aload_n 0, 1) := dk_42 (dk_at dksL_law_18 2 rfl rfl)
theorem dL_law_677 : decode cL_law 677 = .ok (.iload 5, 2) := dk_21 5 (dk_at dksL_law_18 3 rfl rfl)
theorem dL_law_679 : decode cL_law 679 = .ok (.iconst 1, 1) := dk_4 (dk_at dksL_law_18 5 rfl rfl)
theorem dL_law_680 : decode cL_law 680 = .ok (.iadd, 1) := dk_96 (dk_at dksL_law_18 6 rfl rfl)
theorem dL_law_681 : decode cL_law 681 = .ok (.iaload, 1) := dk_46 (dk_at dksL_law_18 7 rfl rfl)
theorem dL_law_682 : decode cL_law 682 = .ok (.aload_n 0, 1) := dk_42 (dk_at dksL_law_18 8 rfl rfl)
theorem dL_law_683 : decode cL_law 683 = .ok (.iload 5, 2) := dk_21 5 (dk_at dksL_law_18 9 rfl rfl)
theorem dL_law_685 : decode cL_law 685 = .ok (.iconst 2, 1) := dk_5 (dk_at dksL_law_18 11 rfl rfl)
theorem dL_law_686 : decode cL_law 686 = .ok (.iadd, 1) := dk_96 (dk_at dksL_law_18 12 rfl rfl)
theorem dL_law_687 : decode cL_law 687 = .ok (.iaload, 1) := dk_46 (dk_at dksL_law_18 13 rfl rfl)
theorem dL_law_688 : decode cL_law 688 = .ok (.aload_n 0, 1) := dk_42 (dk_at dksL_law_18 14 rfl rfl)
theorem dL_law_689 : decode cL_law 689 = .ok (.iload 5, 2) := dk_21 5 (dk_at dksL_law_18 15 rfl rfl)
theorem dL_law_691 : decode cL_law 691 = .ok (.iconst 3, 1) := dk_6 (dk_at dksL_law_18 17 rfl rfl)
theorem dL_law_692 : decode cL_law 692 = .ok (.iadd, 1) := dk_96 (dk_at dksL_law_18 18 rfl rfl)
theorem dL_law_693 : decode cL_law 693 = .ok (.iaload, 1) := dk_46 (dk_at dksL_law_18 19 rfl rfl)
theorem dL_law_694 : decode cL_law 694 = .ok (.aload_n 3, 1) := dk_45 (dk_at dksL_law_18 20 rfl rfl)
theorem dL_law_695 : decode cL_law 695 = .ok (.invokestatic 179, 3) := dk_184 0 179 (dk_at dksL_law_18 21 rfl rfl)
theorem dL_law_698 : decode cL_law 698 = .ok (.istore 6, 2) := dk_54 6 (dk_at dksL_law_19 0 rfl rfl)
theorem dL_law_700 : decode cL_law 700 = .ok (.aload_n 2, 1) := dk_44 (dk_at dksL_law_19 2 rfl rfl)
theorem dL_law_701 : decode cL_law 701 = .ok (.aload_n 0, 1) := dk_42 (dk_at dksL_law_19 3 rfl rfl)
theorem dL_law_702 : decode cL_law 702 = .ok (.iload 5, 2) := dk_21 5 (dk_at dksL_law_19 4 rfl rfl)
theorem dL_law_704 : decode cL_law 704 = .ok (.iconst 1, 1) := dk_4 (dk_at dksL_law_19 6 rfl rfl)
theorem dL_law_705 : decode cL_law 705 = .ok (.iadd, 1) := dk_96 (dk_at dksL_law_19 7 rfl rfl)
theorem dL_law_706 : decode cL_law 706 = .ok (.iaload, 1) := dk_46 (dk_at dksL_law_19 8 rfl rfl)
theorem dL_law_707 : decode cL_law 707 = .ok (.aload_n 0, 1) := dk_42 (dk_at dksL_law_19 9 rfl rfl)
theorem dL_law_708 : decode cL_law 708 = .ok (.iload 5, 2) := dk_21 5 (dk_at dksL_law_19 10 rfl rfl)
theorem dL_law_710 : decode cL_law 710 = .ok (.iconst 2, 1) := dk_5 (dk_at dksL_law_19 12 rfl rfl)
theorem dL_law_711 : decode cL_law 711 = .ok (.iadd, 1) := dk_96 (dk_at dksL_law_19 13 rfl rfl)
theorem dL_law_712 : decode cL_law 712 = .ok (.iaload, 1) := dk_46 (dk_at dksL_law_19 14 rfl rfl)
theorem dL_law_713 : decode cL_law 713 = .ok (.aload_n 0, 1) := dk_42 (dk_at dksL_law_19 15 rfl rfl)
theorem dL_law_714 : decode cL_law 714 = .ok (.iload 5, 2) := dk_21 5 (dk_at dksL_law_19 16 rfl rfl)
theorem dL_law_716 : decode cL_law 716 = .ok (.iconst 3, 1) := dk_6 (dk_at dksL_law_19 18 rfl rfl)
theorem dL_law_717 : decode cL_law 717 = .ok (.iadd, 1) := dk_96 (dk_at dksL_law_19 19 rfl rfl)
theorem dL_law_718 : decode cL_law 718 = .ok (.iaload, 1) := dk_46 (dk_at dksL_law_19 20 rfl rfl)
theorem dL_law_719 : decode cL_law 719 = .ok (.invokevirtual 181, 3) := dk_182 0 181 (dk_at dksL_law_19 21 rfl rfl)
theorem dL_law_722 : decode cL_law 722 = .ok (.istore 7, 2) := dk_54 7 (dk_at dksL_law_20 0 rfl rfl)
theorem dL_law_724 : decode cL_law 724 = .ok (.aload_n 2, 1) := dk_44 (dk_at dksL_law_20 2 rfl rfl)
theorem dL_law_725 : decode cL_law 725 = .ok (.invokevirtual 149, 3) := dk_182 0 149 (dk_at dksL_law_20 3 rfl rfl)
theorem dL_law_728 : decode cL_law 728 = .ok (.iload 6, 2) := dk_21 6 (dk_at dksL_law_20 6 rfl rfl)
theorem dL_law_730 : decode cL_law 730 = .ok (.if_icmp .eq 5, 3) := dk_159 0 5 (dk_at dksL_law_20 8 rfl rfl)
theorem dL_law_733 : decode cL_law 733 = .ok (.iconst 0, 1) := dk_3 (dk_at dksL_law_20 11 rfl rfl)
theorem dL_law_734 : decode cL_law 734 = .ok (.ireturn, 1) := dk_172 (dk_at dksL_law_20 12 rfl rfl)
theorem dL_law_735 : decode cL_law 735 = .ok (.iload 6, 2) := dk_21 6 (dk_at dksL_law_20 13 rfl rfl)
theorem dL_law_737 : decode cL_law 737 = .ok (.ifCond .ne 15, 3) := dk_154 0 15 (dk_at dksL_law_20 15 rfl rfl)
theorem dL_law_740 : decode cL_law 740 = .ok (.aload_n 3, 1) := dk_45 (dk_at dksL_law_20 18 rfl rfl)
theorem dL_law_741 : decode cL_law 741 = .ok (.iconst 0, 1) := dk_3 (dk_at dksL_law_20 19 rfl rfl)
theorem dL_law_742 : decode cL_law 742 = .ok (.laload, 1) := dk_47 (dk_at dksL_law_20 20 rfl rfl)
theorem dL_law_743 : decode cL_law 743 = .ok (.iload 7, 2) := dk_21 7 (dk_at dksL_law_20 21 rfl rfl)
theorem dL_law_745 : decode cL_law 745 = .ok (.i2l, 1) := dk_133 (dk_at dksL_law_20 23 rfl rfl)
theorem dL_law_746 : decode cL_law 746 = .ok (.lcmp, 1) := dk_148 (dk_at dksL_law_21 0 rfl rfl)
theorem dL_law_747 : decode cL_law 747 = .ok (.ifCond .eq 5, 3) := dk_153 0 5 (dk_at dksL_law_21 1 rfl rfl)
theorem dL_law_750 : decode cL_law 750 = .ok (.iconst 0, 1) := dk_3 (dk_at dksL_law_21 4 rfl rfl)
theorem dL_law_751 : decode cL_law 751 = .ok (.ireturn, 1) := dk_172 (dk_at dksL_law_21 5 rfl rfl)
theorem dL_law_752 : decode cL_law 752 = .ok (.goto 2233, 3) := dk_167 8 185 (dk_at dksL_law_21 6 rfl rfl)
theorem dL_law_755 : decode cL_law 755 = .ok (.aload_n 1, 1) := dk_43 (dk_at dksL_law_21 9 rfl rfl)
theorem dL_law_756 : decode cL_law 756 = .ok (.invokevirtual 182, 3) := dk_182 0 182 (dk_at dksL_law_21 10 rfl rfl)
theorem dL_law_759 : decode cL_law 759 = .ok (.aload_n 2, 1) := dk_44 (dk_at dksL_law_21 13 rfl rfl)
theorem dL_law_760 : decode cL_law 760 = .ok (.invokevirtual 185, 3) := dk_182 0 185 (dk_at dksL_law_21 14 rfl rfl)
theorem dL_law_763 : decode cL_law 763 = .ok (.if_icmp .eq 2222, 3) := dk_159 8 174 (dk_at dksL_law_21 17 rfl rfl)
theorem dL_law_766 : decode cL_law 766 = .ok (.iconst 0, 1) := dk_3 (dk_at dksL_law_21 20 rfl rfl)
theorem dL_law_767 : decode cL_law 767 = .ok (.ireturn, 1) := dk_172 (dk_at dksL_law_21 21 rfl rfl)
theorem dL_law_768 : decode cL_law 768 = .ok (.aload_n 1, 1) := dk_43 (dk_at dksL_law_21 22 rfl rfl)
theorem dL_law_769 : decode cL_law 769 = .ok (.invokevirtual 186, 3) := dk_182 0 186 (dk_at dksL_law_22 0 rfl rfl)
theorem dL_law_772 : decode cL_law 772 = .ok (.aload_n 2, 1) := dk_44 (dk_at dksL_law_22 3 rfl rfl)
theorem dL_law_773 : decode cL_law 773 = .ok (.invokevirtual 189, 3) := dk_182 0 189 (dk_at dksL_law_22 4 rfl rfl)
theorem dL_law_776 : decode cL_law 776 = .ok (.if_icmp .eq 2209, 3) := dk_159 8 161 (dk_at dksL_law_22 7 rfl rfl)
theorem dL_law_779 : decode cL_law 779 = .ok (.iconst 0, 1) := dk_3 (dk_at dksL_law_22 10 rfl rfl)
theorem dL_law_780 : decode cL_law 780 = .ok (.ireturn, 1) := dk_172 (dk_at dksL_law_22 11 rfl rfl)
theorem dL_law_781 : decode cL_law 781 = .ok (.aload_n 1, 1) := dk_43 (dk_at dksL_law_22 12 rfl rfl)
theorem dL_law_782 : decode cL_law 782 = .ok (.invokevirtual 190, 3) := dk_182 0 190 (dk_at dksL_law_22 13 rfl rfl)
theorem dL_law_785 : decode cL_law 785 = .ok (.aload_n 2, 1) := dk_44 (dk_at dksL_law_22 16 rfl rfl)
theorem dL_law_786 : decode cL_law 786 = .ok (.invokevirtual 193, 3) := dk_182 0 193 (dk_at dksL_law_22 17 rfl rfl)
theorem dL_law_789 : decode cL_law 789 = .ok (.if_icmp .eq 2196, 3) := dk_159 8 148 (dk_at dksL_law_22 20 rfl rfl)
theorem dL_law_792 : decode cL_law 792 = .ok (.iconst 0, 1) := dk_3 (dk_at dksL_law_22 23 rfl rfl)
theorem dL_law_793 : decode cL_law 793 = .ok (.ireturn, 1) := dk_172 (dk_at dksL_law_23 0 rfl rfl)
theorem dL_law_794 : decode cL_law 794 = .ok (.aload_n 1, 1) := dk_43 (dk_at dksL_law_23 1 rfl rfl)
theorem dL_law_795 : decode cL_law 795 = .ok (.invokevirtual 194, 3) := dk_182 0 194 (dk_at dksL_law_23 2 rfl rfl)
theorem dL_law_798 : decode cL_law 798 = .ok (.aload_n 2, 1) := dk_44 (dk_at dksL_law_23 5 rfl rfl)
theorem dL_law_799 : decode cL_law 799 = .ok (.invokevirtual 197, 3) := dk_182 0 197 (dk_at dksL_law_23 6 rfl rfl)
theorem dL_law_802 : decode cL_law 802 = .ok (.if_icmp .eq 2183, 3) := dk_159 8 135 (dk_at dksL_law_23 9 rfl rfl)
theorem dL_law_805 : decode cL_law 805 = .ok (.iconst 0, 1) := dk_3 (dk_at dksL_law_23 12 rfl rfl)
theorem dL_law_806 : decode cL_law 806 = .ok (.ireturn, 1) := dk_172 (dk_at dksL_law_23 13 rfl rfl)
theorem dL_law_807 : decode cL_law 807 = .ok (.aload_n 1, 1) := dk_43 (dk_at dksL_law_23 14 rfl rfl)
theorem dL_law_808 : decode cL_law 808 = .ok (.invokevirtual 198, 3) := dk_182 0 198 (dk_at dksL_law_23 15 rfl rfl)
theorem dL_law_811 : decode cL_law 811 = .ok (.aload_n 2, 1) := dk_44 (dk_at dksL_law_23 18 rfl rfl)
theorem dL_law_812 : decode cL_law 812 = .ok (.invokevirtual 201, 3) := dk_182 0 201 (dk_at dksL_law_23 19 rfl rfl)
theorem dL_law_815 : decode cL_law 815 = .ok (.if_icmp .eq 2170, 3) := dk_159 8 122 (dk_at dksL_law_24 0 rfl rfl)
theorem dL_law_818 : decode cL_law 818 = .ok (.iconst 0, 1) := dk_3 (dk_at dksL_law_24 3 rfl rfl)
theorem dL_law_819 : decode cL_law 819 = .ok (.ireturn, 1) := dk_172 (dk_at dksL_law_24 4 rfl rfl)
theorem dL_law_820 : decode cL_law 820 = .ok (.aload_n 1, 1) := dk_43 (dk_at dksL_law_24 5 rfl rfl)
theorem dL_law_821 : decode cL_law 821 = .ok (.aload_n 0, 1) := dk_42 (dk_at dksL_law_24 6 rfl rfl)
theorem dL_law_822 : decode cL_law 822 = .ok (.iload 5, 2) := dk_21 5 (dk_at dksL_law_24 7 rfl rfl)
theorem dL_law_824 : decode cL_law 824 = .ok (.iconst 1, 1) := dk_4 (dk_at dksL_law_24 9 rfl rfl)
theorem dL_law_825 : decode cL_law 825 = .ok (.iadd, 1) := dk_96 (dk_at dksL_law_24 10 rfl rfl)
theorem dL_law_826 : decode cL_law 826 = .ok (.iaload, 1) := dk_46 (dk_at dksL_law_24 11 rfl rfl)
theorem dL_law_827 : decode cL_law 827 = .ok (.aload_n 3, 1) := dk_45 (dk_at dksL_law_24 12 rfl rfl)
theorem dL_law_828 : decode cL_law 828 = .ok (.invokestatic 202, 3) := dk_184 0 202 (dk_at dksL_law_24 13 rfl rfl)
theorem dL_law_831 : decode cL_law 831 = .ok (.istore 6, 2) := dk_54 6 (dk_at dksL_law_24 16 rfl rfl)
theorem dL_law_833 : decode cL_law 833 = .ok (.aload_n 2, 1) := dk_44 (dk_at dksL_law_24 18 rfl rfl)
theorem dL_law_834 : decode cL_law 834 = .ok (.aload_n 0, 1) := dk_42 (dk_at dksL_law_24 19 rfl rfl)
theorem dL_law_835 : decode cL_law 835 = .ok (.iload 5, 2) := dk_21 5 (dk_at dksL_law_24 20 rfl rfl)
theorem dL_law_837 : decode cL_law 837 = .ok (.iconst 1, 1) := dk_4 (dk_at dksL_law_24 22 rfl rfl)
theorem dL_law_838 : decode cL_law 838 = .ok (.iadd, 1) := dk_96 (dk_at dksL_law_24 23 rfl rfl)
theorem dL_law_839 : decode cL_law 839 = .ok (.iaload, 1) := dk_46 (dk_at dksL_law_25 0 rfl rfl)
theorem dL_law_840 : decode cL_law 840 = .ok (.invokevirtual 204, 3) := dk_182 0 204 (dk_at dksL_law_25 1 rfl rfl)
theorem dL_law_843 : decode cL_law 843 = .ok (.istore 7, 2) := dk_54 7 (dk_at dksL_law_25 4 rfl rfl)
theorem dL_law_845 : decode cL_law 845 = .ok (.aload_n 2, 1) := dk_44 (dk_at dksL_law_25 6 rfl rfl)
theorem dL_law_846 : decode cL_law 846 = .ok (.invokevirtual 149, 3) := dk_182 0 149 (dk_at dksL_law_25 7 rfl rfl)
theorem dL_law_849 : decode cL_law 849 = .ok (.iload 6, 2) := dk_21 6 (dk_at dksL_law_25 10 rfl rfl)
theorem dL_law_851 : decode cL_law 851 = .ok (.if_icmp .eq 5, 3) := dk_159 0 5 (dk_at dksL_law_25 12 rfl rfl)
theorem dL_law_854 : decode cL_law 854 = .ok (.iconst 0, 1) := dk_3 (dk_at dksL_law_25 15 rfl rfl)
theorem dL_law_855 : decode cL_law 855 = .ok (.ireturn, 1) := dk_172 (dk_at dksL_law_25 16 rfl rfl)
theorem dL_law_856 : decode cL_law 856 = .ok (.iload 6, 2) := dk_21 6 (dk_at dksL_law_25 17 rfl rfl)
theorem dL_law_858 : decode cL_law 858 = .ok (.ifCond .ne 15, 3) := dk_154 0 15 (dk_at dksL_law_25 19 rfl rfl)
theorem dL_law_861 : decode cL_law 861 = .ok (.aload_n 3, 1) := dk_45 (dk_at dksL_law_25 22 rfl rfl)
theorem dL_law_862 : decode cL_law 862 = .ok (.iconst 0, 1) := dk_3 (dk_at dksL_law_25 23 rfl rfl)
theorem dL_law_863 : decode cL_law 863 = .ok (.laload, 1) := dk_47 (dk_at dksL_law_26 0 rfl rfl)
theorem dL_law_864 : decode cL_law 864 = .ok (.iload 7, 2) := dk_21 7 (dk_at dksL_law_26 1 rfl rfl)
theorem dL_law_866 : decode cL_law 866 = .ok (.i2l, 1) := dk_133 (dk_at dksL_law_26 3 rfl rfl)
theorem dL_law_867 : decode cL_law 867 = .ok (.lcmp, 1) := dk_148 (dk_at dksL_law_26 4 rfl rfl)
theorem dL_law_868 : decode cL_law 868 = .ok (.ifCond .eq 5, 3) := dk_153 0 5 (dk_at dksL_law_26 5 rfl rfl)
theorem dL_law_871 : decode cL_law 871 = .ok (.iconst 0, 1) := dk_3 (dk_at dksL_law_26 8 rfl rfl)
theorem dL_law_872 : decode cL_law 872 = .ok (.ireturn, 1) := dk_172 (dk_at dksL_law_26 9 rfl rfl)
theorem dL_law_873 : decode cL_law 873 = .ok (.goto 2112, 3) := dk_167 8 64 (dk_at dksL_law_26 10 rfl rfl)
theorem dL_law_876 : decode cL_law 876 = .ok (.aload_n 1, 1) := dk_43 (dk_at dksL_law_26 13 rfl rfl)
theorem dL_law_877 : decode cL_law 877 = .ok (.aload_n 0, 1) := dk_42 (dk_at dksL_law_26 14 rfl rfl)
theorem dL_law_878 : decode cL_law 878 = .ok (.iload 5, 2) := dk_21 5 (dk_at dksL_law_26 15 rfl rfl)
theorem dL_law_880 : decode cL_law 880 = .ok (.iconst 1, 1) := dk_4 (dk_at dksL_law_26 17 rfl rfl)
theorem dL_law_881 : decode cL_law 881 = .ok (.iadd, 1) := dk_96 (dk_at dksL_law_26 18 rfl rfl)
theorem dL_law_882 : decode cL_law 882 = .ok (.iaload, 1) := dk_46 (dk_at dksL_law_26 19 rfl rfl)
theorem dL_law_883 : decode cL_law 883 = .ok (.aload_n 3, 1) := dk_45 (dk_at dksL_law_26 20 rfl rfl)
theorem dL_law_884 : decode cL_law 884 = .ok (.invokestatic 205, 3) := dk_184 0 205 (dk_at dksL_law_26 21 rfl rfl)
theorem dL_law_887 : decode cL_law 887 = .ok (.istore 6, 2) := dk_54 6 (dk_at dksL_law_27 0 rfl rfl)
theorem dL_law_889 : decode cL_law 889 = .ok (.aload_n 2, 1) := dk_44 (dk_at dksL_law_27 2 rfl rfl)
theorem dL_law_890 : decode cL_law 890 = .ok (.aload_n 0, 1) := dk_42 (dk_at dksL_law_27 3 rfl rfl)
theorem dL_law_891 : decode cL_law 891 = .ok (.iload 5, 2) := dk_21 5 (dk_at dksL_law_27 4 rfl rfl)
theorem dL_law_893 : decode cL_law 893 = .ok (.iconst 1, 1) := dk_4 (dk_at dksL_law_27 6 rfl rfl)
theorem dL_law_894 : decode cL_law 894 = .ok (.iadd, 1) := dk_96 (dk_at dksL_law_27 7 rfl rfl)
theorem dL_law_895 : decode cL_law 895 = .ok (.iaload, 1) := dk_46 (dk_at dksL_law_27 8 rfl rfl)
theorem dL_law_896 : decode cL_law 896 = .ok (.invokevirtual 207, 3) := dk_182 0 207 (dk_at dksL_law_27 9 rfl rfl)
theorem dL_law_899 : decode cL_law 899 = .ok (.istore 7, 2) := dk_54 7 (dk_at dksL_law_27 12 rfl rfl)
theorem dL_law_901 : decode cL_law 901 = .ok (.aload_n 2, 1) := dk_44 (dk_at dksL_law_27 14 rfl rfl)
theorem dL_law_902 : decode cL_law 902 = .ok (.invokevirtual 149, 3) := dk_182 0 149 (dk_at dksL_law_27 15 rfl rfl)
theorem dL_law_905 : decode cL_law 905 = .ok (.iload 6, 2) := dk_21 6 (dk_at dksL_law_27 18 rfl rfl)
theorem dL_law_907 : decode cL_law 907 = .ok (.if_icmp .eq 5, 3) := dk_159 0 5 (dk_at dksL_law_27 20 rfl rfl)
theorem dL_law_910 : decode cL_law 910 = .ok (.iconst 0, 1) := dk_3 (dk_at dksL_law_27 23 rfl rfl)
theorem dL_law_911 : decode cL_law 911 = .ok (.ireturn, 1) := dk_172 (dk_at dksL_law_28 0 rfl rfl)
theorem dL_law_912 : decode cL_law 912 = .ok (.iload 6, 2) := dk_21 6 (dk_at dksL_law_28 1 rfl rfl)
theorem dL_law_914 : decode cL_law 914 = .ok (.ifCond .ne 15, 3) := dk_154 0 15 (dk_at dksL_law_28 3 rfl rfl)
theorem dL_law_917 : decode cL_law 917 = .ok (.aload_n 3, 1) := dk_45 (dk_at dksL_law_28 6 rfl rfl)
theorem dL_law_918 : decode cL_law 918 = .ok (.iconst 0, 1) := dk_3 (dk_at dksL_law_28 7 rfl rfl)
theorem dL_law_919 : decode cL_law 919 = .ok (.laload, 1) := dk_47 (dk_at dksL_law_28 8 rfl rfl)
theorem dL_law_920 : decode cL_law 920 = .ok (.iload 7, 2) := dk_21 7 (dk_at dksL_law_28 9 rfl rfl)
theorem dL_law_922 : decode cL_law 922 = .ok (.i2l, 1) := dk_133 (dk_at dksL_law_28 11 rfl rfl)
theorem dL_law_923 : decode cL_law 923 = .ok (.lcmp, 1) := dk_148 (dk_at dksL_law_28 12 rfl rfl)
theorem dL_law_924 : decode cL_law 924 = .ok (.ifCond .eq 5, 3) := dk_153 0 5 (dk_at dksL_law_28 13 rfl rfl)
theorem dL_law_927 : decode cL_law 927 = .ok (.iconst 0, 1) := dk_3 (dk_at dksL_law_28 16 rfl rfl)
theorem dL_law_928 : decode cL_law 928 = .ok (.ireturn, 1) := dk_172 (dk_at dksL_law_28 17 rfl rfl)
theorem dL_law_929 : decode cL_law 929 = .ok (.goto 2056, 3) := dk_167 8 8 (dk_at dksL_law_28 18 rfl rfl)
theorem dL_law_932 : decode cL_law 932 = .ok (.aload_n 1, 1) := dk_43 (dk_at dksL_law_28 21 rfl rfl)
theorem dL_law_933 : decode cL_law 933 = .ok (.aload_n 0, 1) := dk_42 (dk_at dksL_law_28 22 rfl rfl)
theorem dL_law_934 : decode cL_law 934 = .ok (.iload 5, 2) := dk_21 5 (dk_at dksL_law_29 0 rfl rfl)
theorem dL_law_936 : decode cL_law 936 = .ok (.iconst 1, 1) := dk_4 (dk_at dksL_law_29 2 rfl rfl)
theorem dL_law_937 : decode cL_law 937 = .ok (.iadd, 1) := dk_96 (dk_at dksL_law_29 3 rfl rfl)
theorem dL_law_938 : decode cL_law 938 = .ok (.iaload, 1) := dk_46 (dk_at dksL_law_29 4 rfl rfl)
theorem dL_law_939 : decode cL_law 939 = .ok (.aload_n 0, 1) := dk_42 (dk_at dksL_law_29 5 rfl rfl)
theorem dL_law_940 : decode cL_law 940 = .ok (.iload 5, 2) := dk_21 5 (dk_at dksL_law_29 6 rfl rfl)
theorem dL_law_942 : decode cL_law 942 = .ok (.iconst 2, 1) := dk_5 (dk_at dksL_law_29 8 rfl rfl)
theorem dL_law_943 : decode cL_law 943 = .ok (.iadd, 1) := dk_96 (dk_at dksL_law_29 9 rfl rfl)
theorem dL_law_944 : decode cL_law 944 = .ok (.iaload, 1) := dk_46 (dk_at dksL_law_29 10 rfl rfl)
theorem dL_law_945 : decode cL_law 945 = .ok (.aload_n 3, 1) := dk_45 (dk_at dksL_law_29 11 rfl rfl)
theorem dL_law_946 : decode cL_law 946 = .ok (.invokestatic 208, 3) := dk_184 0 208 (dk_at dksL_law_29 12 rfl rfl)
theorem dL_law_949 : decode cL_law 949 = .ok (.istore 6, 2) := dk_54 6 (dk_at dksL_law_29 15 rfl rfl)
theorem dL_law_951 : decode cL_law 951 = .ok (.aload_n 2, 1) := dk_44 (dk_at dksL_law_29 17 rfl rfl)
theorem dL_law_952 : decode cL_law 952 = .ok (.aload_n 0, 1) := dk_42 (dk_at dksL_law_29 18 rfl rfl)
theorem dL_law_953 : decode cL_law 953 = .ok (.iload 5, 2) := dk_21 5 (dk_at dksL_law_29 19 rfl rfl)
theorem dL_law_955 : decode cL_law 955 = .ok (.iconst 1, 1) := dk_4 (dk_at dksL_law_29 21 rfl rfl)
theorem dL_law_956 : decode cL_law 956 = .ok (.iadd, 1) := dk_96 (dk_at dksL_law_29 22 rfl rfl)
theorem dL_law_957 : decode cL_law 957 = .ok (.iaload, 1) := dk_46 (dk_at dksL_law_29 23 rfl rfl)
theorem dL_law_958 : decode cL_law 958 = .ok (.aload_n 0, 1) := dk_42 (dk_at dksL_law_30 0 rfl rfl)
theorem dL_law_959 : decode cL_law 959 = .ok (.iload 5, 2) := dk_21 5 (dk_at dksL_law_30 1 rfl rfl)
theorem dL_law_961 : decode cL_law 961 = .ok (.iconst 2, 1) := dk_5 (dk_at dksL_law_30 3 rfl rfl)
theorem dL_law_962 : decode cL_law 962 = .ok (.iadd, 1) := dk_96 (dk_at dksL_law_30 4 rfl rfl)
theorem dL_law_963 : decode cL_law 963 = .ok (.iaload, 1) := dk_46 (dk_at dksL_law_30 5 rfl rfl)
theorem dL_law_964 : decode cL_law 964 = .ok (.invokevirtual 210, 3) := dk_182 0 210 (dk_at dksL_law_30 6 rfl rfl)
theorem dL_law_967 : decode cL_law 967 = .ok (.istore 7, 2) := dk_54 7 (dk_at dksL_law_30 9 rfl rfl)
theorem dL_law_969 : decode cL_law 969 = .ok (.aload_n 2, 1) := dk_44 (dk_at dksL_law_30 11 rfl rfl)
theorem dL_law_970 : decode cL_law 970 = .ok (.invokevirtual 149, 3) := dk_182 0 149 (dk_at dksL_law_30 12 rfl rfl)
theorem dL_law_973 : decode cL_law 973 = .ok (.iload 6, 2) := dk_21 6 (dk_at dksL_law_30 15 rfl rfl)
theorem dL_law_975 : decode cL_law 975 = .ok (.if_icmp .eq 5, 3) := dk_159 0 5 (dk_at dksL_law_30 17 rfl rfl)
theorem dL_law_978 : decode cL_law 978 = .ok (.iconst 0, 1) := dk_3 (dk_at dksL_law_30 20 rfl rfl)
theorem dL_law_979 : decode cL_law 979 = .ok (.ireturn, 1) := dk_172 (dk_at dksL_law_30 21 rfl rfl)
theorem dL_law_980 : decode cL_law 980 = .ok (.iload 6, 2) := dk_21 6 (dk_at dksL_law_30 22 rfl rfl)
theorem dL_law_982 : decode cL_law 982 = .ok (.ifCond .ne 15, 3) := dk_154 0 15 (dk_at dksL_law_31 0 rfl rfl)
theorem dL_law_985 : decode cL_law 985 = .ok (.aload_n 3, 1) := dk_45 (dk_at dksL_law_31 3 rfl rfl)
theorem dL_law_986 : decode cL_law 986 = .ok (.iconst 0, 1) := dk_3 (dk_at dksL_law_31 4 rfl rfl)
theorem dL_law_987 : decode cL_law 987 = .ok (.laload, 1) := dk_47 (dk_at dksL_law_31 5 rfl rfl)
theorem dL_law_988 : decode cL_law 988 = .ok (.iload 7, 2) := dk_21 7 (dk_at dksL_law_31 6 rfl rfl)
theorem dL_law_990 : decode cL_law 990 = .ok (.i2l, 1) := dk_133 (dk_at dksL_law_31 8 rfl rfl)
theorem dL_law_991 : decode cL_law 991 = .ok (.lcmp, 1) := dk_148 (dk_at dksL_law_31 9 rfl rfl)
theorem dL_law_992 : decode cL_law 992 = .ok (.ifCond .eq 5, 3) := dk_153 0 5 (dk_at dksL_law_31 10 rfl rfl)
theorem dL_law_995 : decode cL_law 995 = .ok (.iconst 0, 1) := dk_3 (dk_at dksL_law_31 13 rfl rfl)
theorem dL_law_996 : decode cL_law 996 = .ok (.ireturn, 1) := dk_172 (dk_at dksL_law_31 14 rfl rfl)
theorem dL_law_997 : decode cL_law 997 = .ok (.goto 1988, 3) := dk_167 7 196 (dk_at dksL_law_31 15 rfl rfl)
theorem dL_law_1000 : decode cL_law 1000 = .ok (.aload_n 1, 1) := dk_43 (dk_at dksL_law_31 18 rfl rfl)
theorem dL_law_1001 : decode cL_law 1001 = .ok (.aload_n 0, 1) := dk_42 (dk_at dksL_law_31 19 rfl rfl)
theorem dL_law_1002 : decode cL_law 1002 = .ok (.iload 5, 2) := dk_21 5 (dk_at dksL_law_31 20 rfl rfl)
theorem dL_law_1004 : decode cL_law 1004 = .ok (.iconst 1, 1) := dk_4 (dk_at dksL_law_31 22 rfl rfl)
theorem dL_law_1005 : decode cL_law 1005 = .ok (.iadd, 1) := dk_96 (dk_at dksL_law_31 23 rfl rfl)
theorem dL_law_1006 : decode cL_law 1006 = .ok (.iaload, 1) := dk_46 (dk_at dksL_law_32 0 rfl rfl)
theorem dL_law_1007 : decode cL_law 1007 = .ok (.aload_n 0, 1) := dk_42 (dk_at dksL_law_32 1 rfl rfl)
theorem dL_law_1008 : decode cL_law 1008 = .ok (.iload 5, 2) := dk_21 5 (dk_at dksL_law_32 2 rfl rfl)
theorem dL_law_1010 : decode cL_law 1010 = .ok (.iconst 2, 1) := dk_5 (dk_at dksL_law_32 4 rfl rfl)
theorem dL_law_1011 : decode cL_law 1011 = .ok (.iadd, 1) := dk_96 (dk_at dksL_law_32 5 rfl rfl)
theorem dL_law_1012 : decode cL_law 1012 = .ok (.iaload, 1) := dk_46 (dk_at dksL_law_32 6 rfl rfl)
theorem dL_law_1013 : decode cL_law 1013 = .ok (.aload_n 0, 1) := dk_42 (dk_at dksL_law_32 7 rfl rfl)
theorem dL_law_1014 : decode cL_law 1014 = .ok (.iload 5, 2) := dk_21 5 (dk_at dksL_law_32 8 rfl rfl)
theorem dL_law_1016 : decode cL_law 1016 = .ok (.iconst 3, 1) := dk_6 (dk_at dksL_law_32 10 rfl rfl)
theorem dL_law_1017 : decode cL_law 1017 = .ok (.iadd, 1) := dk_96 (dk_at dksL_law_32 11 rfl rfl)
theorem dL_law_1018 : decode cL_law 1018 = .ok (.iaload, 1) := dk_46 (dk_at dksL_law_32 12 rfl rfl)
theorem dL_law_1019 : decode cL_law 1019 = .ok (.aload_n 3, 1) := dk_45 (dk_at dksL_law_32 13 rfl rfl)
theorem dL_law_1020 : decode cL_law 1020 = .ok (.invokestatic 211, 3) := dk_184 0 211 (dk_at dksL_law_32 14 rfl rfl)
theorem dL_law_1023 : decode cL_law 1023 = .ok (.istore 6, 2) := dk_54 6 (dk_at dksL_law_32 17 rfl rfl)
theorem dL_law_1025 : decode cL_law 1025 = .ok (.aload_n 2, 1) := dk_44 (dk_at dksL_law_32 19 rfl rfl)
theorem dL_law_1026 : decode cL_law 1026 = .ok (.aload_n 0, 1) := dk_42 (dk_at dksL_law_32 20 rfl rfl)
theorem dL_law_1027 : decode cL_law 1027 = .ok (.iload 5, 2) := dk_21 5 (dk_at dksL_law_32 21 rfl rfl)
theorem dL_law_1029 : decode cL_law 1029 = .ok (.iconst 1, 1) := dk_4 (dk_at dksL_law_32 23 rfl rfl)
theorem dL_law_1030 : decode cL_law 1030 = .ok (.iadd, 1) := dk_96 (dk_at dksL_law_33 0 rfl rfl)
theorem dL_law_1031 : decode cL_law 1031 = .ok (.iaload, 1) := dk_46 (dk_at dksL_law_33 1 rfl rfl)
theorem dL_law_1032 : decode cL_law 1032 = .ok (.aload_n 0, 1) := dk_42 (dk_at dksL_law_33 2 rfl rfl)
theorem dL_law_1033 : decode cL_law 1033 = .ok (.iload 5, 2) := dk_21 5 (dk_at dksL_law_33 3 rfl rfl)
theorem dL_law_1035 : decode cL_law 1035 = .ok (.iconst 2, 1) := dk_5 (dk_at dksL_law_33 5 rfl rfl)
theorem dL_law_1036 : decode cL_law 1036 = .ok (.iadd, 1) := dk_96 (dk_at dksL_law_33 6 rfl rfl)
theorem dL_law_1037 : decode cL_law 1037 = .ok (.iaload, 1) := dk_46 (dk_at dksL_law_33 7 rfl rfl)
theorem dL_law_1038 : decode cL_law 1038 = .ok (.aload_n 0, 1) := dk_42 (dk_at dksL_law_33 8 rfl rfl)
theorem dL_law_1039 : decode cL_law 1039 = .ok (.iload 5, 2) := dk_21 5 (dk_at dksL_law_33 9 rfl rfl)
theorem dL_law_1041 : decode cL_law 1041 = .ok (.iconst 3, 1) := dk_6 (dk_at dksL_law_33 11 rfl rfl)
theorem dL_law_1042 : decode cL_law 1042 = .ok (.iadd, 1) := dk_96 (dk_at dksL_law_33 12 rfl rfl)
theorem dL_law_1043 : decode cL_law 1043 = .ok (.iaload, 1) := dk_46 (dk_at dksL_law_33 13 rfl rfl)
theorem dL_law_1044 : decode cL_law 1044 = .ok (.invokevirtual 213, 3) := dk_182 0 213 (dk_at dksL_law_33 14 rfl rfl)
theorem dL_law_1047 : decode cL_law 1047 = .ok (.istore 7, 2) := dk_54 7 (dk_at dksL_law_33 17 rfl rfl)
theorem dL_law_1049 : decode cL_law 1049 = .ok (.aload_n 2, 1) := dk_44 (dk_at dksL_law_33 19 rfl rfl)
theorem dL_law_1050 : decode cL_law 1050 = .ok (.invokevirtual 149, 3) := dk_182 0 149 (dk_at dksL_law_33 20 rfl rfl)
theorem dL_law_1053 : decode cL_law 1053 = .ok (.iload 6, 2) := dk_21 6 (dk_at dksL_law_34 0 rfl rfl)
theorem dL_law_1055 : decode cL_law 1055 = .ok (.if_icmp .eq 5, 3) := dk_159 0 5 (dk_at dksL_law_34 2 rfl rfl)
theorem dL_law_1058 : decode cL_law 1058 = .ok (.iconst 0, 1) := dk_3 (dk_at dksL_law_34 5 rfl rfl)
theorem dL_law_1059 : decode cL_law 1059 = .ok (.ireturn, 1) := dk_172 (dk_at dksL_law_34 6 rfl rfl)
theorem dL_law_1060 : decode cL_law 1060 = .ok (.iload 6, 2) := dk_21 6 (dk_at dksL_law_34 7 rfl rfl)
theorem dL_law_1062 : decode cL_law 1062 = .ok (.ifCond .ne 15, 3) := dk_154 0 15 (dk_at dksL_law_34 9 rfl rfl)
theorem dL_law_1065 : decode cL_law 1065 = .ok (.aload_n 3, 1) := dk_45 (dk_at dksL_law_34 12 rfl rfl)
theorem dL_law_1066 : decode cL_law 1066 = .ok (.iconst 0, 1) := dk_3 (dk_at dksL_law_34 13 rfl rfl)
theorem dL_law_1067 : decode cL_law 1067 = .ok (.laload, 1) := dk_47 (dk_at dksL_law_34 14 rfl rfl)
theorem dL_law_1068 : decode cL_law 1068 = .ok (.iload 7, 2) := dk_21 7 (dk_at dksL_law_34 15 rfl rfl)
theorem dL_law_1070 : decode cL_law 1070 = .ok (.i2l, 1) := dk_133 (dk_at dksL_law_34 17 rfl rfl)
theorem dL_law_1071 : decode cL_law 1071 = .ok (.lcmp, 1) := dk_148 (dk_at dksL_law_34 18 rfl rfl)
theorem dL_law_1072 : decode cL_law 1072 = .ok (.ifCond .eq 5, 3) := dk_153 0 5 (dk_at dksL_law_34 19 rfl rfl)
theorem dL_law_1075 : decode cL_law 1075 = .ok (.iconst 0, 1) := dk_3 (dk_at dksL_law_34 22 rfl rfl)
theorem dL_law_1076 : decode cL_law 1076 = .ok (.ireturn, 1) := dk_172 (dk_at dksL_law_34 23 rfl rfl)
theorem dL_law_1077 : decode cL_law 1077 = .ok (.goto 1908, 3) := dk_167 7 116 (dk_at dksL_law_35 0 rfl rfl)
theorem dL_law_1080 : decode cL_law 1080 = .ok (.aload_n 1, 1) := dk_43 (dk_at dksL_law_35 3 rfl rfl)
theorem dL_law_1081 : decode cL_law 1081 = .ok (.aload_n 0, 1) := dk_42 (dk_at dksL_law_35 4 rfl rfl)
theorem dL_law_1082 : decode cL_law 1082 = .ok (.iload 5, 2) := dk_21 5 (dk_at dksL_law_35 5 rfl rfl)
theorem dL_law_1084 : decode cL_law 1084 = .ok (.iconst 1, 1) := dk_4 (dk_at dksL_law_35 7 rfl rfl)
theorem dL_law_1085 : decode cL_law 1085 = .ok (.iadd, 1) := dk_96 (dk_at dksL_law_35 8 rfl rfl)
theorem dL_law_1086 : decode cL_law 1086 = .ok (.iaload, 1) := dk_46 (dk_at dksL_law_35 9 rfl rfl)
theorem dL_law_1087 : decode cL_law 1087 = .ok (.aload_n 0, 1) := dk_42 (dk_at dksL_law_35 10 rfl rfl)
theorem dL_law_1088 : decode cL_law 1088 = .ok (.iload 5, 2) := dk_21 5 (dk_at dksL_law_35 11 rfl rfl)
theorem dL_law_1090 : decode cL_law 1090 = .ok (.iconst 2, 1) := dk_5 (dk_at dksL_law_35 13 rfl rfl)
theorem dL_law_1091 : decode cL_law 1091 = .ok (.iadd, 1) := dk_96 (dk_at dksL_law_35 14 rfl rfl)
theorem dL_law_1092 : decode cL_law 1092 = .ok (.iaload, 1) := dk_46 (dk_at dksL_law_35 15 rfl rfl)
theorem dL_law_1093 : decode cL_law 1093 = .ok (.aload_n 3, 1) := dk_45 (dk_at dksL_law_35 16 rfl rfl)
theorem dL_law_1094 : decode cL_law 1094 = .ok (.invokestatic 214, 3) := dk_184 0 214 (dk_at dksL_law_35 17 rfl rfl)
theorem dL_law_1097 : decode cL_law 1097 = .ok (.istore 6, 2) := dk_54 6 (dk_at dksL_law_35 20 rfl rfl)
theorem dL_law_1099 : decode cL_law 1099 = .ok (.aload_n 2, 1) := dk_44 (dk_at dksL_law_35 22 rfl rfl)
theorem dL_law_1100 : decode cL_law 1100 = .ok (.aload_n 0, 1) := dk_42 (dk_at dksL_law_35 23 rfl rfl)
theorem dL_law_1101 : decode cL_law 1101 = .ok (.iload 5, 2) := dk_21 5 (dk_at dksL_law_36 0 rfl rfl)
theorem dL_law_1103 : decode cL_law 1103 = .ok (.iconst 1, 1) := dk_4 (dk_at dksL_law_36 2 rfl rfl)
theorem dL_law_1104 : decode cL_law 1104 = .ok (.iadd, 1) := dk_96 (dk_at dksL_law_36 3 rfl rfl)
theorem dL_law_1105 : decode cL_law 1105 = .ok (.iaload, 1) := dk_46 (dk_at dksL_law_36 4 rfl rfl)
theorem dL_law_1106 : decode cL_law 1106 = .ok (.aload_n 0, 1) := dk_42 (dk_at dksL_law_36 5 rfl rfl)
theorem dL_law_1107 : decode cL_law 1107 = .ok (.iload 5, 2) := dk_21 5 (dk_at dksL_law_36 6 rfl rfl)
theorem dL_law_1109 : decode cL_law 1109 = .ok (.iconst 2, 1) := dk_5 (dk_at dksL_law_36 8 rfl rfl)
theorem dL_law_1110 : decode cL_law 1110 = .ok (.iadd, 1) := dk_96 (dk_at dksL_law_36 9 rfl rfl)
theorem dL_law_1111 : decode cL_law 1111 = .ok (.iaload, 1) := dk_46 (dk_at dksL_law_36 10 rfl rfl)
theorem dL_law_1112 : decode cL_law 1112 = .ok (.invokevirtual 216, 3) := dk_182 0 216 (dk_at dksL_law_36 11 rfl rfl)
theorem dL_law_1115 : decode cL_law 1115 = .ok (.istore 7, 2) := dk_54 7 (dk_at dksL_law_36 14 rfl rfl)
theorem dL_law_1117 : decode cL_law 1117 = .ok (.aload_n 2, 1) := dk_44 (dk_at dksL_law_36 16 rfl rfl)
theorem dL_law_1118 : decode cL_law 1118 = .ok (.invokevirtual 149, 3) := dk_182 0 149 (dk_at dksL_law_36 17 rfl rfl)
theorem dL_law_1121 : decode cL_law 1121 = .ok (.iload 6, 2) := dk_21 6 (dk_at dksL_law_36 20 rfl rfl)
theorem dL_law_1123 : decode cL_law 1123 = .ok (.if_icmp .eq 5, 3) := dk_159 0 5 (dk_at dksL_law_37 0 rfl rfl)
theorem dL_law_1126 : decode cL_law 1126 = .ok (.iconst 0, 1) := dk_3 (dk_at dksL_law_37 3 rfl rfl)
theorem dL_law_1127 : decode cL_law 1127 = .ok (.ireturn, 1) := dk_172 (dk_at dksL_law_37 4 rfl rfl)
theorem dL_law_1128 : decode cL_law 1128 = .ok (.iload 6, 2) := dk_21 6 (dk_at dksL_law_37 5 rfl rfl)
theorem dL_law_1130 : decode cL_law 1130 = .ok (.ifCond .ne 22, 3) := dk_154 0 22 (dk_at dksL_law_37 7 rfl rfl)
theorem dL_law_1133 : decode cL_law 1133 = .ok (.aload_n 3, 1) := dk_45 (dk_at dksL_law_37 10 rfl rfl)
theorem dL_law_1134 : decode cL_law 1134 = .ok (.iconst 0, 1) := dk_3 (dk_at dksL_law_37 11 rfl rfl)
theorem dL_law_1135 : decode cL_law 1135 = .ok (.laload, 1) := dk_47 (dk_at dksL_law_37 12 rfl rfl)
theorem dL_law_1136 : decode cL_law 1136 = .ok (.iload 7, 2) := dk_21 7 (dk_at dksL_law_37 13 rfl rfl)
theorem dL_law_1138 : decode cL_law 1138 = .ok (.ifCond .eq 7, 3) := dk_153 0 7 (dk_at dksL_law_37 15 rfl rfl)
theorem dL_law_1141 : decode cL_law 1141 = .ok (.lconst 1, 1) := dk_10 (dk_at dksL_law_37 18 rfl rfl)
theorem dL_law_1142 : decode cL_law 1142 = .ok (.goto 4, 3) := dk_167 0 4 (dk_at dksL_law_37 19 rfl rfl)
theorem dL_law_1145 : decode cL_law 1145 = .ok (.lconst 0, 1) := dk_9 (dk_at dksL_law_37 22 rfl rfl)
theorem dL_law_1146 : decode cL_law 1146 = .ok (.lcmp, 1) := dk_148 (dk_at dksL_law_37 23 rfl rfl)
theorem dL_law_1147 : decode cL_law 1147 = .ok (.ifCond .eq 5, 3) := dk_153 0 5 (dk_at dksL_law_38 0 rfl rfl)
theorem dL_law_1150 : decode cL_law 1150 = .ok (.iconst 0, 1) := dk_3 (dk_at dksL_law_38 3 rfl rfl)
theorem dL_law_1151 : decode cL_law 1151 = .ok (.ireturn, 1) := dk_172 (dk_at dksL_law_38 4 rfl rfl)
theorem dL_law_1152 : decode cL_law 1152 = .ok (.goto 1833, 3) := dk_167 7 41 (dk_at dksL_law_38 5 rfl rfl)
theorem dL_law_1155 : decode cL_law 1155 = .ok (.aload_n 1, 1) := dk_43 (dk_at dksL_law_38 8 rfl rfl)
theorem dL_law_1156 : decode cL_law 1156 = .ok (.aload_n 0, 1) := dk_42 (dk_at dksL_law_38 9 rfl rfl)
theorem dL_law_1157 : decode cL_law 1157 = .ok (.iload 5, 2) := dk_21 5 (dk_at dksL_law_38 10 rfl rfl)
theorem dL_law_1159 : decode cL_law 1159 = .ok (.iconst 1, 1) := dk_4 (dk_at dksL_law_38 12 rfl rfl)
theorem dL_law_1160 : decode cL_law 1160 = .ok (.iadd, 1) := dk_96 (dk_at dksL_law_38 13 rfl rfl)
theorem dL_law_1161 : decode cL_law 1161 = .ok (.iaload, 1) := dk_46 (dk_at dksL_law_38 14 rfl rfl)
theorem dL_law_1162 : decode cL_law 1162 = .ok (.aload_n 3, 1) := dk_45 (dk_at dksL_law_38 15 rfl rfl)
theorem dL_law_1163 : decode cL_law 1163 = .ok (.invokestatic 217, 3) := dk_184 0 217 (dk_at dksL_law_38 16 rfl rfl)
theorem dL_law_1166 : decode cL_law 1166 = .ok (.istore 6, 2) := dk_54 6 (dk_at dksL_law_38 19 rfl rfl)
theorem dL_law_1168 : decode cL_law 1168 = .ok (.aload_n 2, 1) := dk_44 (dk_at dksL_law_38 21 rfl rfl)
theorem dL_law_1169 : decode cL_law 1169 = .ok (.aload_n 0, 1) := dk_42 (dk_at dksL_law_38 22 rfl rfl)
theorem dL_law_1170 : decode cL_law 1170 = .ok (.iload 5, 2) := dk_21 5 (dk_at dksL_law_39 0 rfl rfl)
theorem dL_law_1172 : decode cL_law 1172 = .ok (.iconst 1, 1) := dk_4 (dk_at dksL_law_39 2 rfl rfl)
theorem dL_law_1173 : decode cL_law 1173 = .ok (.iadd, 1) := dk_96 (dk_at dksL_law_39 3 rfl rfl)
theorem dL_law_1174 : decode cL_law 1174 = .ok (.iaload, 1) := dk_46 (dk_at dksL_law_39 4 rfl rfl)
theorem dL_law_1175 : decode cL_law 1175 = .ok (.invokevirtual 219, 3) := dk_182 0 219 (dk_at dksL_law_39 5 rfl rfl)
theorem dL_law_1178 : decode cL_law 1178 = .ok (.istore 7, 2) := dk_54 7 (dk_at dksL_law_39 8 rfl rfl)
theorem dL_law_1180 : decode cL_law 1180 = .ok (.aload_n 2, 1) := dk_44 (dk_at dksL_law_39 10 rfl rfl)
theorem dL_law_1181 : decode cL_law 1181 = .ok (.invokevirtual 149, 3) := dk_182 0 149 (dk_at dksL_law_39 11 rfl rfl)
theorem dL_law_1184 : decode cL_law 1184 = .ok (.iload 6, 2) := dk_21 6 (dk_at dksL_law_39 14 rfl rfl)
theorem dL_law_1186 : decode cL_law 1186 = .ok (.if_icmp .eq 5, 3) := dk_159 0 5 (dk_at dksL_law_39 16 rfl rfl)
theorem dL_law_1189 : decode cL_law 1189 = .ok (.iconst 0, 1) := dk_3 (dk_at dksL_law_39 19 rfl rfl)
theorem dL_law_1190 : decode cL_law 1190 = .ok (.ireturn, 1) := dk_172 (dk_at dksL_law_39 20 rfl rfl)
theorem dL_law_1191 : decode cL_law 1191 = .ok (.iload 6, 2) := dk_21 6 (dk_at dksL_law_39 21 rfl rfl)
theorem dL_law_1193 : decode cL_law 1193 = .ok (.ifCond .ne 15, 3) := dk_154 0 15 (dk_at dksL_law_40 0 rfl rfl)
theorem dL_law_1196 : decode cL_law 1196 = .ok (.aload_n 3, 1) := dk_45 (dk_at dksL_law_40 3 rfl rfl)
theorem dL_law_1197 : decode cL_law 1197 = .ok (.iconst 0, 1) := dk_3 (dk_at dksL_law_40 4 rfl rfl)
theorem dL_law_1198 : decode cL_law 1198 = .ok (.laload, 1) := dk_47 (dk_at dksL_law_40 5 rfl rfl)
theorem dL_law_1199 : decode cL_law 1199 = .ok (.iload 7, 2) := dk_21 7 (dk_at dksL_law_40 6 rfl rfl)
theorem dL_law_1201 : decode cL_law 1201 = .ok (.i2l, 1) := dk_133 (dk_at dksL_law_40 8 rfl rfl)
theorem dL_law_1202 : decode cL_law 1202 = .ok (.lcmp, 1) := dk_148 (dk_at dksL_law_40 9 rfl rfl)
theorem dL_law_1203 : decode cL_law 1203 = .ok (.ifCond .eq 5, 3) := dk_153 0 5 (dk_at dksL_law_40 10 rfl rfl)
theorem dL_law_1206 : decode cL_law 1206 = .ok (.iconst 0, 1) := dk_3 (dk_at dksL_law_40 13 rfl rfl)
theorem dL_law_1207 : decode cL_law 1207 = .ok (.ireturn, 1) := dk_172 (dk_at dksL_law_40 14 rfl rfl)
theorem dL_law_1208 : decode cL_law 1208 = .ok (.goto 1777, 3) := dk_167 6 241 (dk_at dksL_law_40 15 rfl rfl)
theorem dL_law_1211 : decode cL_law 1211 = .ok (.aload_n 1, 1) := dk_43 (dk_at dksL_law_40 18 rfl rfl)
theorem dL_law_1212 : decode cL_law 1212 = .ok (.aload_n 0, 1) := dk_42 (dk_at dksL_law_40 19 rfl rfl)
theorem dL_law_1213 : decode cL_law 1213 = .ok (.iload 5, 2) := dk_21 5 (dk_at dksL_law_40 20 rfl rfl)
theorem dL_law_1215 : decode cL_law 1215 = .ok (.iconst 1, 1) := dk_4 (dk_at dksL_law_40 22 rfl rfl)
theorem dL_law_1216 : decode cL_law 1216 = .ok (.iadd, 1) := dk_96 (dk_at dksL_law_40 23 rfl rfl)
theorem dL_law_1217 : decode cL_law 1217 = .ok (.iaload, 1) := dk_46 (dk_at dksL_law_41 0 rfl rfl)
theorem dL_law_1218 : decode cL_law 1218 = .ok (.aload_n 3, 1) := dk_45 (dk_at dksL_law_41 1 rfl rfl)
theorem dL_law_1219 : decode cL_law 1219 = .ok (.invokestatic 220, 3) := dk_184 0 220 (dk_at dksL_law_41 2 rfl rfl)
theorem dL_law_1222 : decode cL_law 1222 = .ok (.istore 6, 2) := dk_54 6 (dk_at dksL_law_41 5 rfl rfl)
theorem dL_law_1224 : decode cL_law 1224 = .ok (.aload_n 2, 1) := dk_44 (dk_at dksL_law_41 7 rfl rfl)
theorem dL_law_1225 : decode cL_law 1225 = .ok (.aload_n 0, 1) := dk_42 (dk_at dksL_law_41 8 rfl rfl)
theorem dL_law_1226 : decode cL_law 1226 = .ok (.iload 5, 2) := dk_21 5 (dk_at dksL_law_41 9 rfl rfl)
theorem dL_law_1228 : decode cL_law 1228 = .ok (.iconst 1, 1) := dk_4 (dk_at dksL_law_41 11 rfl rfl)
theorem dL_law_1229 : decode cL_law 1229 = .ok (.iadd, 1) := dk_96 (dk_at dksL_law_41 12 rfl rfl)
theorem dL_law_1230 : decode cL_law 1230 = .ok (.iaload, 1) := dk_46 (dk_at dksL_law_41 13 rfl rfl)
theorem dL_law_1231 : decode cL_law 1231 = .ok (.invokevirtual 222, 3) := dk_182 0 222 (dk_at dksL_law_41 14 rfl rfl)
theorem dL_law_1234 : decode cL_law 1234 = .ok (.istore 7, 2) := dk_54 7 (dk_at dksL_law_41 17 rfl rfl)
theorem dL_law_1236 : decode cL_law 1236 = .ok (.aload_n 2, 1) := dk_44 (dk_at dksL_law_41 19 rfl rfl)
theorem dL_law_1237 : decode cL_law 1237 = .ok (.invokevirtual 149, 3) := dk_182 0 149 (dk_at dksL_law_41 20 rfl rfl)
theorem dL_law_1240 : decode cL_law 1240 = .ok (.iload 6, 2) := dk_21 6 (dk_at dksL_law_42 0 rfl rfl)
theorem dL_law_1242 : decode cL_law 1242 = .ok (.if_icmp .eq 5, 3) := dk_159 0 5 (dk_at dksL_law_42 2 rfl rfl)
theorem dL_law_1245 : decode cL_law 1245 = .ok (.iconst 0, 1) := dk_3 (dk_at dksL_law_42 5 rfl rfl)
theorem dL_law_1246 : decode cL_law 1246 = .ok (.ireturn, 1) := dk_172 (dk_at dksL_law_42 6 rfl rfl)
theorem dL_law_1247 : decode cL_law 1247 = .ok (.iload 6, 2) := dk_21 6 (dk_at dksL_law_42 7 rfl rfl)
theorem dL_law_1249 : decode cL_law 1249 = .ok (.ifCond .ne 22, 3) := dk_154 0 22 (dk_at dksL_law_42 9 rfl rfl)
theorem dL_law_1252 : decode cL_law 1252 = .ok (.aload_n 3, 1) := dk_45 (dk_at dksL_law_42 12 rfl rfl)
theorem dL_law_1253 : decode cL_law 1253 = .ok (.iconst 0, 1) := dk_3 (dk_at dksL_law_42 13 rfl rfl)
theorem dL_law_1254 : decode cL_law 1254 = .ok (.laload, 1) := dk_47 (dk_at dksL_law_42 14 rfl rfl)
theorem dL_law_1255 : decode cL_law 1255 = .ok (.iload 7, 2) := dk_21 7 (dk_at dksL_law_42 15 rfl rfl)
theorem dL_law_1257 : decode cL_law 1257 = .ok (.ifCond .eq 7, 3) := dk_153 0 7 (dk_at dksL_law_42 17 rfl rfl)
theorem dL_law_1260 : decode cL_law 1260 = .ok (.lconst 1, 1) := dk_10 (dk_at dksL_law_42 20 rfl rfl)
theorem dL_law_1261 : decode cL_law 1261 = .ok (.goto 4, 3) := dk_167 0 4 (dk_at dksL_law_42 21 rfl rfl)
theorem dL_law_1264 : decode cL_law 1264 = .ok (.lconst 0, 1) := dk_9 (dk_at dksL_law_43 0 rfl rfl)
theorem dL_law_1265 : decode cL_law 1265 = .ok (.lcmp, 1) := dk_148 (dk_at dksL_law_43 1 rfl rfl)
theorem dL_law_1266 : decode cL_law 1266 = .ok (.ifCond .eq 5, 3) := dk_153 0 5 (dk_at dksL_law_43 2 rfl rfl)
theorem dL_law_1269 : decode cL_law 1269 = .ok (.iconst 0, 1) := dk_3 (dk_at dksL_law_43 5 rfl rfl)
theorem dL_law_1270 : decode cL_law 1270 = .ok (.ireturn, 1) := dk_172 (dk_at dksL_law_43 6 rfl rfl)
theorem dL_law_1271 : decode cL_law 1271 = .ok (.goto 1714, 3) := dk_167 6 178 (dk_at dksL_law_43 7 rfl rfl)
theorem dL_law_1274 : decode cL_law 1274 = .ok (.aload_n 1, 1) := dk_43 (dk_at dksL_law_43 10 rfl rfl)
theorem dL_law_1275 : decode cL_law 1275 = .ok (.invokevirtual 223, 3) := dk_182 0 223 (dk_at dksL_law_43 11 rfl rfl)
theorem dL_law_1278 : decode cL_law 1278 = .ok (.aload_n 2, 1) := dk_44 (dk_at dksL_law_43 14 rfl rfl)
theorem dL_law_1279 : decode cL_law 1279 = .ok (.invokevirtual 226, 3) := dk_182 0 226 (dk_at dksL_law_43 15 rfl rfl)
theorem dL_law_1282 : decode cL_law 1282 = .ok (.if_icmp .eq 1703, 3) := dk_159 6 167 (dk_at dksL_law_43 18 rfl rfl)
theorem dL_law_1285 : decode cL_law 1285 = .ok (.iconst 0, 1) := dk_3 (dk_at dksL_law_43 21 rfl rfl)
theorem dL_law_1286 : decode cL_law 1286 = .ok (.ireturn, 1) := dk_172 (dk_at dksL_law_43 22 rfl rfl)
theorem dL_law_1287 : decode cL_law 1287 = .ok (.aload_n 1, 1) := dk_43 (dk_at dksL_law_43 23 rfl rfl)
theorem dL_law_1288 : decode cL_law 1288 = .ok (.aload_n 0, 1) := dk_42 (dk_at dksL_law_44 0 rfl rfl)
theorem dL_law_1289 : decode cL_law 1289 = .ok (.iload 5, 2) := dk_21 5 (dk_at dksL_law_44 1 rfl rfl)
theorem dL_law_1291 : decode cL_law 1291 = .ok (.iconst 1, 1) := dk_4 (dk_at dksL_law_44 3 rfl rfl)
theorem dL_law_1292 : decode cL_law 1292 = .ok (.iadd, 1) := dk_96 (dk_at dksL_law_44 4 rfl rfl)
theorem dL_law_1293 : decode cL_law 1293 = .ok (.iaload, 1) := dk_46 (dk_at dksL_law_44 5 rfl rfl)
theorem dL_law_1294 : decode cL_law 1294 = .ok (.aload_n 0, 1) := dk_42 (dk_at dksL_law_44 6 rfl rfl)
theorem dL_law_1295 : decode cL_law 1295 = .ok (.iload 5, 2) := dk_21 5 (dk_at dksL_law_44 7 rfl rfl)
theorem dL_law_1297 : decode cL_law 1297 = .ok (.iconst 2, 1) := dk_5 (dk_at dksL_law_44 9 rfl rfl)
theorem dL_law_1298 : decode cL_law 1298 = .ok (.iadd, 1) := dk_96 (dk_at dksL_law_44 10 rfl rfl)
theorem dL_law_1299 : decode cL_law 1299 = .ok (.iaload, 1) := dk_46 (dk_at dksL_law_44 11 rfl rfl)
theorem dL_law_1300 : decode cL_law 1300 = .ok (.aload_n 3, 1) := dk_45 (dk_at dksL_law_44 12 rfl rfl)
theorem dL_law_1301 : decode cL_law 1301 = .ok (.invokestatic 227, 3) := dk_184 0 227 (dk_at dksL_law_44 13 rfl rfl)
theorem dL_law_1304 : decode cL_law 1304 = .ok (.istore 6, 2) := dk_54 6 (dk_at dksL_law_44 16 rfl rfl)
theorem dL_law_1306 : decode cL_law 1306 = .ok (.aload_n 2, 1) := dk_44 (dk_at dksL_law_44 18 rfl rfl)
theorem dL_law_1307 : decode cL_law 1307 = .ok (.aload_n 0, 1) := dk_42 (dk_at dksL_law_44 19 rfl rfl)
theorem dL_law_1308 : decode cL_law 1308 = .ok (.iload 5, 2) := dk_21 5 (dk_at dksL_law_44 20 rfl rfl)
theorem dL_law_1310 : decode cL_law 1310 = .ok (.iconst 1, 1) := dk_4 (dk_at dksL_law_44 22 rfl rfl)
theorem dL_law_1311 : decode cL_law 1311 = .ok (.iadd, 1) := dk_96 (dk_at dksL_law_44 23 rfl rfl)
theorem dL_law_1312 : decode cL_law 1312 = .ok (.iaload, 1) := dk_46 (dk_at dksL_law_45 0 rfl rfl)
theorem dL_law_1313 : decode cL_law 1313 = .ok (.aload_n 0, 1) := dk_42 (dk_at dksL_law_45 1 rfl rfl)
theorem dL_law_1314 : decode cL_law 1314 = .ok (.iload 5, 2) := dk_21 5 (dk_at dksL_law_45 2 rfl rfl)
theorem dL_law_1316 : decode cL_law 1316 = .ok (.iconst 2, 1) := dk_5 (dk_at dksL_law_45 4 rfl rfl)
theorem dL_law_1317 : decode cL_law 1317 = .ok (.iadd, 1) := dk_96 (dk_at dksL_law_45 5 rfl rfl)
theorem dL_law_1318 : decode cL_law 1318 = .ok (.iaload, 1) := dk_46 (dk_at dksL_law_45 6 rfl rfl)
theorem dL_law_1319 : decode cL_law 1319 = .ok (.invokevirtual 229, 3) := dk_182 0 229 (dk_at dksL_law_45 7 rfl rfl)
theorem dL_law_1322 : decode cL_law 1322 = .ok (.istore 7, 2) := dk_54 7 (dk_at dksL_law_45 10 rfl rfl)
theorem dL_law_1324 : decode cL_law 1324 = .ok (.aload_n 2, 1) := dk_44 (dk_at dksL_law_45 12 rfl rfl)
theorem dL_law_1325 : decode cL_law 1325 = .ok (.invokevirtual 149, 3) := dk_182 0 149 (dk_at dksL_law_45 13 rfl rfl)
theorem dL_law_1328 : decode cL_law 1328 = .ok (.iload 6, 2) := dk_21 6 (dk_at dksL_law_45 16 rfl rfl)
theorem dL_law_1330 : decode cL_law 1330 = .ok (.if_icmp .eq 5, 3) := dk_159 0 5 (dk_at dksL_law_45 18 rfl rfl)
theorem dL_law_1333 : decode cL_law 1333 = .ok (.iconst 0, 1) := dk_3 (dk_at dksL_law_45 21 rfl rfl)
theorem dL_law_1334 : decode cL_law 1334 = .ok (.ireturn, 1) := dk_172 (dk_at dksL_law_45 22 rfl rfl)
theorem dL_law_1335 : decode cL_law 1335 = .ok (.iload 6, 2) := dk_21 6 (dk_at dksL_law_46 0 rfl rfl)
theorem dL_law_1337 : decode cL_law 1337 = .ok (.ifCond .ne 15, 3) := dk_154 0 15 (dk_at dksL_law_46 2 rfl rfl)
theorem dL_law_1340 : decode cL_law 1340 = .ok (.aload_n 3, 1) := dk_45 (dk_at dksL_law_46 5 rfl rfl)
theorem dL_law_1341 : decode cL_law 1341 = .ok (.iconst 0, 1) := dk_3 (dk_at dksL_law_46 6 rfl rfl)
theorem dL_law_1342 : decode cL_law 1342 = .ok (.laload, 1) := dk_47 (dk_at dksL_law_46 7 rfl rfl)
theorem dL_law_1343 : decode cL_law 1343 = .ok (.iload 7, 2) := dk_21 7 (dk_at dksL_law_46 8 rfl rfl)
theorem dL_law_1345 : decode cL_law 1345 = .ok (.i2l, 1) := dk_133 (dk_at dksL_law_46 10 rfl rfl)
theorem dL_law_1346 : decode cL_law 1346 = .ok (.lcmp, 1) := dk_148 (dk_at dksL_law_46 11 rfl rfl)
theorem dL_law_1347 : decode cL_law 1347 = .ok (.ifCond .eq 5, 3) := dk_153 0 5 (dk_at dksL_law_46 12 rfl rfl)
theorem dL_law_1350 : decode cL_law 1350 = .ok (.iconst 0, 1) := dk_3 (dk_at dksL_law_46 15 rfl rfl)
theorem dL_law_1351 : decode cL_law 1351 = .ok (.ireturn, 1) := dk_172 (dk_at dksL_law_46 16 rfl rfl)
theorem dL_law_1352 : decode cL_law 1352 = .ok (.goto 1633, 3) := dk_167 6 97 (dk_at dksL_law_46 17 rfl rfl)
theorem dL_law_1355 : decode cL_law 1355 = .ok (.aload_n 1, 1) := dk_43 (dk_at dksL_law_46 20 rfl rfl)
theorem dL_law_1356 : decode cL_law 1356 = .ok (.aload_n 0, 1) := dk_42 (dk_at dksL_law_46 21 rfl rfl)
theorem dL_law_1357 : decode cL_law 1357 = .ok (.iload 5, 2) := dk_21 5 (dk_at dksL_law_46 22 rfl rfl)
theorem dL_law_1359 : decode cL_law 1359 = .ok (.iconst 1, 1) := dk_4 (dk_at dksL_law_47 0 rfl rfl)
theorem dL_law_1360 : decode cL_law 1360 = .ok (.iadd, 1) := dk_96 (dk_at dksL_law_47 1 rfl rfl)
theorem dL_law_1361 : decode cL_law 1361 = .ok (.iaload, 1) := dk_46 (dk_at dksL_law_47 2 rfl rfl)
theorem dL_law_1362 : decode cL_law 1362 = .ok (.aload_n 0, 1) := dk_42 (dk_at dksL_law_47 3 rfl rfl)
theorem dL_law_1363 : decode cL_law 1363 = .ok (.iload 5, 2) := dk_21 5 (dk_at dksL_law_47 4 rfl rfl)
theorem dL_law_1365 : decode cL_law 1365 = .ok (.iconst 2, 1) := dk_5 (dk_at dksL_law_47 6 rfl rfl)
theorem dL_law_1366 : decode cL_law 1366 = .ok (.iadd, 1) := dk_96 (dk_at dksL_law_47 7 rfl rfl)
theorem dL_law_1367 : decode cL_law 1367 = .ok (.iaload, 1) := dk_46 (dk_at dksL_law_47 8 rfl rfl)
theorem dL_law_1368 : decode cL_law 1368 = .ok (.aload_n 3, 1) := dk_45 (dk_at dksL_law_47 9 rfl rfl)
theorem dL_law_1369 : decode cL_law 1369 = .ok (.invokestatic 230, 3) := dk_184 0 230 (dk_at dksL_law_47 10 rfl rfl)
theorem dL_law_1372 : decode cL_law 1372 = .ok (.istore 6, 2) := dk_54 6 (dk_at dksL_law_47 13 rfl rfl)
theorem dL_law_1374 : decode cL_law 1374 = .ok (.aload_n 2, 1) := dk_44 (dk_at dksL_law_47 15 rfl rfl)
theorem dL_law_1375 : decode cL_law 1375 = .ok (.aload_n 0, 1) := dk_42 (dk_at dksL_law_47 16 rfl rfl)
theorem dL_law_1376 : decode cL_law 1376 = .ok (.iload 5, 2) := dk_21 5 (dk_at dksL_law_47 17 rfl rfl)
theorem dL_law_1378 : decode cL_law 1378 = .ok (.iconst 1, 1) := dk_4 (dk_at dksL_law_47 19 rfl rfl)
theorem dL_law_1379 : decode cL_law 1379 = .ok (.iadd, 1) := dk_96 (dk_at dksL_law_47 20 rfl rfl)
theorem dL_law_1380 : decode cL_law 1380 = .ok (.iaload, 1) := dk_46 (dk_at dksL_law_47 21 rfl rfl)
theorem dL_law_1381 : decode cL_law 1381 = .ok (.aload_n 0, 1) := dk_42 (dk_at dksL_law_47 22 rfl rfl)
theorem dL_law_1382 : decode cL_law 1382 = .ok (.iload 5, 2) := dk_21 5 (dk_at dksL_law_48 0 rfl rfl)
theorem dL_law_1384 : decode cL_law 1384 = .ok (.iconst 2, 1) := dk_5 (dk_at dksL_law_48 2 rfl rfl)
theorem dL_law_1385 : decode cL_law 1385 = .ok (.iadd, 1) := dk_96 (dk_at dksL_law_48 3 rfl rfl)
theorem dL_law_1386 : decode cL_law 1386 = .ok (.iaload, 1) := dk_46 (dk_at dksL_law_48 4 rfl rfl)
theorem dL_law_1387 : decode cL_law 1387 = .ok (.invokevirtual 232, 3) := dk_182 0 232 (dk_at dksL_law_48 5 rfl rfl)
theorem dL_law_1390 : decode cL_law 1390 = .ok (.istore 7, 2) := dk_54 7 (dk_at dksL_law_48 8 rfl rfl)
theorem dL_law_1392 : decode cL_law 1392 = .ok (.aload_n 2, 1) := dk_44 (dk_at dksL_law_48 10 rfl rfl)
theorem dL_law_1393 : decode cL_law 1393 = .ok (.invokevirtual 149, 3) := dk_182 0 149 (dk_at dksL_law_48 11 rfl rfl)
theorem dL_law_1396 : decode cL_law 1396 = .ok (.iload 6, 2) := dk_21 6 (dk_at dksL_law_48 14 rfl rfl)
theorem dL_law_1398 : decode cL_law 1398 = .ok (.if_icmp .eq 5, 3) := dk_159 0 5 (dk_at dksL_law_48 16 rfl rfl)
theorem dL_law_1401 : decode cL_law 1401 = .ok (.iconst 0, 1) := dk_3 (dk_at dksL_law_48 19 rfl rfl)
theorem dL_law_1402 : decode cL_law 1402 = .ok (.ireturn, 1) := dk_172 (dk_at dksL_law_48 20 rfl rfl)
theorem dL_law_1403 : decode cL_law 1403 = .ok (.iload 6, 2) := dk_21 6 (dk_at dksL_law_48 21 rfl rfl)
theorem dL_law_1405 : decode cL_law 1405 = .ok (.ifCond .ne 15, 3) := dk_154 0 15 (dk_at dksL_law_49 0 rfl rfl)
theorem dL_law_1408 : decode cL_law 1408 = .ok (.aload_n 3, 1) := dk_45 (dk_at dksL_law_49 3 rfl rfl)
theorem dL_law_1409 : decode cL_law 1409 = .ok (.iconst 0, 1) := dk_3 (dk_at dksL_law_49 4 rfl rfl)
theorem dL_law_1410 : decode cL_law 1410 = .ok (.laload, 1) := dk_47 (dk_at dksL_law_49 5 rfl rfl)
theorem dL_law_1411 : decode cL_law 1411 = .ok (.iload 7, 2) := dk_21 7 (dk_at dksL_law_49 6 rfl rfl)
theorem dL_law_1413 : decode cL_law 1413 = .ok (.i2l, 1) := dk_133 (dk_at dksL_law_49 8 rfl rfl)
theorem dL_law_1414 : decode cL_law 1414 = .ok (.lcmp, 1) := dk_148 (dk_at dksL_law_49 9 rfl rfl)
theorem dL_law_1415 : decode cL_law 1415 = .ok (.ifCond .eq 5, 3) := dk_153 0 5 (dk_at dksL_law_49 10 rfl rfl)
theorem dL_law_1418 : decode cL_law 1418 = .ok (.iconst 0, 1) := dk_3 (dk_at dksL_law_49 13 rfl rfl)
theorem dL_law_1419 : decode cL_law 1419 = .ok (.ireturn, 1) := dk_172 (dk_at dksL_law_49 14 rfl rfl)
theorem dL_law_1420 : decode cL_law 1420 = .ok (.goto 1565, 3) := dk_167 6 29 (dk_at dksL_law_49 15 rfl rfl)
theorem dL_law_1423 : decode cL_law 1423 = .ok (.aload_n 1, 1) := dk_43 (dk_at dksL_law_49 18 rfl rfl)
theorem dL_law_1424 : decode cL_law 1424 = .ok (.aload_n 0, 1) := dk_42 (dk_at dksL_law_49 19 rfl rfl)
theorem dL_law_1425 : decode cL_law 1425 = .ok (.iload 5, 2) := dk_21 5 (dk_at dksL_law_49 20 rfl rfl)
theorem dL_law_1427 : decode cL_law 1427 = .ok (.iconst 1, 1) := dk_4 (dk_at dksL_law_49 22 rfl rfl)
theorem dL_law_1428 : decode cL_law 1428 = .ok (.iadd, 1) := dk_96 (dk_at dksL_law_49 23 rfl rfl)
theorem dL_law_1429 : decode cL_law 1429 = .ok (.iaload, 1) := dk_46 (dk_at dksL_law_50 0 rfl rfl)
theorem dL_law_1430 : decode cL_law 1430 = .ok (.aload_n 0, 1) := dk_42 (dk_at dksL_law_50 1 rfl rfl)
theorem dL_law_1431 : decode cL_law 1431 = .ok (.iload 5, 2) := dk_21 5 (dk_at dksL_law_50 2 rfl rfl)
theorem dL_law_1433 : decode cL_law 1433 = .ok (.iconst 2, 1) := dk_5 (dk_at dksL_law_50 4 rfl rfl)
theorem dL_law_1434 : decode cL_law 1434 = .ok (.iadd, 1) := dk_96 (dk_at dksL_law_50 5 rfl rfl)
theorem dL_law_1435 : decode cL_law 1435 = .ok (.iaload, 1) := dk_46 (dk_at dksL_law_50 6 rfl rfl)
theorem dL_law_1436 : decode cL_law 1436 = .ok (.aload_n 3, 1) := dk_45 (dk_at dksL_law_50 7 rfl rfl)
theorem dL_law_1437 : decode cL_law 1437 = .ok (.invokestatic 233, 3) := dk_184 0 233 (dk_at dksL_law_50 8 rfl rfl)
theorem dL_law_1440 : decode cL_law 1440 = .ok (.istore 6, 2) := dk_54 6 (dk_at dksL_law_50 11 rfl rfl)
theorem dL_law_1442 : decode cL_law 1442 = .ok (.aload_n 2, 1) := dk_44 (dk_at dksL_law_50 13 rfl rfl)
theorem dL_law_1443 : decode cL_law 1443 = .ok (.aload_n 0, 1) := dk_42 (dk_at dksL_law_50 14 rfl rfl)
theorem dL_law_1444 : decode cL_law 1444 = .ok (.iload 5, 2) := dk_21 5 (dk_at dksL_law_50 15 rfl rfl)
theorem dL_law_1446 : decode cL_law 1446 = .ok (.iconst 1, 1) := dk_4 (dk_at dksL_law_50 17 rfl rfl)
theorem dL_law_1447 : decode cL_law 1447 = .ok (.iadd, 1) := dk_96 (dk_at dksL_law_50 18 rfl rfl)
theorem dL_law_1448 : decode cL_law 1448 = .ok (.iaload, 1) := dk_46 (dk_at dksL_law_50 19 rfl rfl)
theorem dL_law_1449 : decode cL_law 1449 = .ok (.aload_n 0, 1) := dk_42 (dk_at dksL_law_50 20 rfl rfl)
theorem dL_law_1450 : decode cL_law 1450 = .ok (.iload 5, 2) := dk_21 5 (dk_at dksL_law_50 21 rfl rfl)
theorem dL_law_1452 : decode cL_law 1452 = .ok (.iconst 2, 1) := dk_5 (dk_at dksL_law_50 23 rfl rfl)
theorem dL_law_1453 : decode cL_law 1453 = .ok (.iadd, 1) := dk_96 (dk_at dksL_law_51 0 rfl rfl)
theorem dL_law_1454 : decode cL_law 1454 = .ok (.iaload, 1) := dk_46 (dk_at dksL_law_51 1 rfl rfl)
theorem dL_law_1455 : decode cL_law 1455 = .ok (.invokevirtual 235, 3) := dk_182 0 235 (dk_at dksL_law_51 2 rfl rfl)
theorem dL_law_1458 : decode cL_law 1458 = .ok (.istore 7, 2) := dk_54 7 (dk_at dksL_law_51 5 rfl rfl)
theorem dL_law_1460 : decode cL_law 1460 = .ok (.aload_n 2, 1) := dk_44 (dk_at dksL_law_51 7 rfl rfl)
theorem dL_law_1461 : decode cL_law 1461 = .ok (.invokevirtual 149, 3) := dk_182 0 149 (dk_at dksL_law_51 8 rfl rfl)
theorem dL_law_1464 : decode cL_law 1464 = .ok (.iload 6, 2) := dk_21 6 (dk_at dksL_law_51 11 rfl rfl)
theorem dL_law_1466 : decode cL_law 1466 = .ok (.if_icmp .eq 5, 3) := dk_159 0 5 (dk_at dksL_law_51 13 rfl rfl)
theorem dL_law_1469 : decode cL_law 1469 = .ok (.iconst 0, 1) := dk_3 (dk_at dksL_law_51 16 rfl rfl)
theorem dL_law_1470 : decode cL_law 1470 = .ok (.ireturn, 1) := dk_172 (dk_at dksL_law_51 17 rfl rfl)
theorem dL_law_1471 : decode cL_law 1471 = .ok (.iload 6, 2) := dk_21 6 (dk_at dksL_law_51 18 rfl rfl)
theorem dL_law_1473 : decode cL_law 1473 = .ok (.ifCond .ne 15, 3) := dk_154 0 15 (dk_at dksL_law_51 20 rfl rfl)
theorem dL_law_1476 : decode cL_law 1476 = .ok (.aload_n 3, 1) := dk_45 (dk_at dksL_law_51 23 rfl rfl)
theorem dL_law_1477 : decode cL_law 1477 = .ok (.iconst 0, 1) := dk_3 (dk_at dksL_law_52 0 rfl rfl)
theorem dL_law_1478 : decode cL_law 1478 = .ok (.laload, 1) := dk_47 (dk_at dksL_law_52 1 rfl rfl)
theorem dL_law_1479 : decode cL_law 1479 = .ok (.iload 7, 2) := dk_21 7 (dk_at dksL_law_52 2 rfl rfl)
theorem dL_law_1481 : decode cL_law 1481 = .ok (.i2l, 1) := dk_133 (dk_at dksL_law_52 4 rfl rfl)
theorem dL_law_1482 : decode cL_law 1482 = .ok (.lcmp, 1) := dk_148 (dk_at dksL_law_52 5 rfl rfl)
theorem dL_law_1483 : decode cL_law 1483 = .ok (.ifCond .eq 5, 3) := dk_153 0 5 (dk_at dksL_law_52 6 rfl rfl)
theorem dL_law_1486 : decode cL_law 1486 = .ok (.iconst 0, 1) := dk_3 (dk_at dksL_law_52 9 rfl rfl)
theorem dL_law_1487 : decode cL_law 1487 = .ok (.ireturn, 1) := dk_172 (dk_at dksL_law_52 10 rfl rfl)
theorem dL_law_1488 : decode cL_law 1488 = .ok (.goto 1497, 3) := dk_167 5 217 (dk_at dksL_law_52 11 rfl rfl)
theorem dL_law_1491 : decode cL_law 1491 = .ok (.aload_n 1, 1) := dk_43 (dk_at dksL_law_52 14 rfl rfl)
theorem dL_law_1492 : decode cL_law 1492 = .ok (.aload_n 0, 1) := dk_42 (dk_at dksL_law_52 15 rfl rfl)
theorem dL_law_1493 : decode cL_law 1493 = .ok (.iload 5, 2) := dk_21 5 (dk_at dksL_law_52 16 rfl rfl)
theorem dL_law_1495 : decode cL_law 1495 = .ok (.iconst 1, 1) := dk_4 (dk_at dksL_law_52 18 rfl rfl)
theorem dL_law_1496 : decode cL_law 1496 = .ok (.iadd, 1) := dk_96 (dk_at dksL_law_52 19 rfl rfl)
theorem dL_law_1497 : decode cL_law 1497 = .ok (.iaload, 1) := dk_46 (dk_at dksL_law_52 20 rfl rfl)
theorem dL_law_1498 : decode cL_law 1498 = .ok (.aload_n 0, 1) := dk_42 (dk_at dksL_law_52 21 rfl rfl)
theorem dL_law_1499 : decode cL_law 1499 = .ok (.iload 5, 2) := dk_21 5 (dk_at dksL_law_52 22 rfl rfl)
theorem dL_law_1501 : decode cL_law 1501 = .ok (.iconst 2, 1) := dk_5 (dk_at dksL_law_53 0 rfl rfl)
theorem dL_law_1502 : decode cL_law 1502 = .ok (.iadd, 1) := dk_96 (dk_at dksL_law_53 1 rfl rfl)
theorem dL_law_1503 : decode cL_law 1503 = .ok (.iaload, 1) := dk_46 (dk_at dksL_law_53 2 rfl rfl)
theorem dL_law_1504 : decode cL_law 1504 = .ok (.aload_n 3, 1) := dk_45 (dk_at dksL_law_53 3 rfl rfl)
theorem dL_law_1505 : decode cL_law 1505 = .ok (.invokestatic 236, 3) := dk_184 0 236 (dk_at dksL_law_53 4 rfl rfl)
theorem dL_law_1508 : decode cL_law 1508 = .ok (.istore 6, 2) := dk_54 6 (dk_at dksL_law_53 7 rfl rfl)
theorem dL_law_1510 : decode cL_law 1510 = .ok (.aload_n 2, 1) := dk_44 (dk_at dksL_law_53 9 rfl rfl)
theorem dL_law_1511 : decode cL_law 1511 = .ok (.aload_n 0, 1) := dk_42 (dk_at dksL_law_53 10 rfl rfl)
theorem dL_law_1512 : decode cL_law 1512 = .ok (.iload 5, 2) := dk_21 5 (dk_at dksL_law_53 11 rfl rfl)
theorem dL_law_1514 : decode cL_law 1514 = .ok (.iconst 1, 1) := dk_4 (dk_at dksL_law_53 13 rfl rfl)
theorem dL_law_1515 : decode cL_law 1515 = .ok (.iadd, 1) := dk_96 (dk_at dksL_law_53 14 rfl rfl)
theorem dL_law_1516 : decode cL_law 1516 = .ok (.iaload, 1) := dk_46 (dk_at dksL_law_53 15 rfl rfl)
theorem dL_law_1517 : decode cL_law 1517 = .ok (.aload_n 0, 1) := dk_42 (dk_at dksL_law_53 16 rfl rfl)
theorem dL_law_1518 : decode cL_law 1518 = .ok (.iload 5, 2) := dk_21 5 (dk_at dksL_law_53 17 rfl rfl)
theorem dL_law_1520 : decode cL_law 1520 = .ok (.iconst 2, 1) := dk_5 (dk_at dksL_law_53 19 rfl rfl)
theorem dL_law_1521 : decode cL_law 1521 = .ok (.iadd, 1) := dk_96 (dk_at dksL_law_53 20 rfl rfl)
theorem dL_law_1522 : decode cL_law 1522 = .ok (.iaload, 1) := dk_46 (dk_at dksL_law_53 21 rfl rfl)
theorem dL_law_1523 : decode cL_law 1523 = .ok (.invokevirtual 238, 3) := dk_182 0 238 (dk_at dksL_law_54 0 rfl rfl)
theorem dL_law_1526 : decode cL_law 1526 = .ok (.istore 7, 2) := dk_54 7 (dk_at dksL_law_54 3 rfl rfl)
theorem dL_law_1528 : decode cL_law 1528 = .ok (.aload_n 2, 1) := dk_44 (dk_at dksL_law_54 5 rfl rfl)
theorem dL_law_1529 : decode cL_law 1529 = .ok (.invokevirtual 149, 3) := dk_182 0 149 (dk_at dksL_law_54 6 rfl rfl)
theorem dL_law_1532 : decode cL_law 1532 = .ok (.iload 6, 2) := dk_21 6 (dk_at dksL_law_54 9 rfl rfl)
theorem dL_law_1534 : decode cL_law 1534 = .ok (.if_icmp .eq 5, 3) := dk_159 0 5 (dk_at dksL_law_54 11 rfl rfl)
theorem dL_law_1537 : decode cL_law 1537 = .ok (.iconst 0, 1) := dk_3 (dk_at dksL_law_54 14 rfl rfl)
theorem dL_law_1538 : decode cL_law 1538 = .ok (.ireturn, 1) := dk_172 (dk_at dksL_law_54 15 rfl rfl)
theorem dL_law_1539 : decode cL_law 1539 = .ok (.iload 6, 2) := dk_21 6 (dk_at dksL_law_54 16 rfl rfl)
theorem dL_law_1541 : decode cL_law 1541 = .ok (.ifCond .ne 15, 3) := dk_154 0 15 (dk_at dksL_law_54 18 rfl rfl)
theorem dL_law_1544 : decode cL_law 1544 = .ok (.aload_n 3, 1) := dk_45 (dk_at dksL_law_54 21 rfl rfl)
theorem dL_law_1545 : decode cL_law 1545 = .ok (.iconst 0, 1) := dk_3 (dk_at dksL_law_54 22 rfl rfl)
theorem dL_law_1546 : decode cL_law 1546 = .ok (.laload, 1) := dk_47 (dk_at dksL_law_54 23 rfl rfl)
theorem dL_law_1547 : decode cL_law 1547 = .ok (.iload 7, 2) := dk_21 7 (dk_at dksL_law_55 0 rfl rfl)
theorem dL_law_1549 : decode cL_law 1549 = .ok (.i2l, 1) := dk_133 (dk_at dksL_law_55 2 rfl rfl)
theorem dL_law_1550 : decode cL_law 1550 = .ok (.lcmp, 1) := dk_148 (dk_at dksL_law_55 3 rfl rfl)
theorem dL_law_1551 : decode cL_law 1551 = .ok (.ifCond .eq 5, 3) := dk_153 0 5 (dk_at dksL_law_55 4 rfl rfl)
theorem dL_law_1554 : decode cL_law 1554 = .ok (.iconst 0, 1) := dk_3 (dk_at dksL_law_55 7 rfl rfl)
theorem dL_law_1555 : decode cL_law 1555 = .ok (.ireturn, 1) := dk_172 (dk_at dksL_law_55 8 rfl rfl)
theorem dL_law_1556 : decode cL_law 1556 = .ok (.goto 1429, 3) := dk_167 5 149 (dk_at dksL_law_55 9 rfl rfl)
theorem dL_law_1559 : decode cL_law 1559 = .ok (.aload_n 1, 1) := dk_43 (dk_at dksL_law_55 12 rfl rfl)
theorem dL_law_1560 : decode cL_law 1560 = .ok (.invokevirtual 239, 3) := dk_182 0 239 (dk_at dksL_law_55 13 rfl rfl)
theorem dL_law_1563 : decode cL_law 1563 = .ok (.aload_n 2, 1) := dk_44 (dk_at dksL_law_55 16 rfl rfl)
theorem dL_law_1564 : decode cL_law 1564 = .ok (.invokevirtual 242, 3) := dk_182 0 242 (dk_at dksL_law_55 17 rfl rfl)
theorem dL_law_1567 : decode cL_law 1567 = .ok (.if_icmp .eq 1418, 3) := dk_159 5 138 (dk_at dksL_law_55 20 rfl rfl)
theorem dL_law_1570 : decode cL_law 1570 = .ok (.iconst 0, 1) := dk_3 (dk_at dksL_law_55 23 rfl rfl)
theorem dL_law_1571 : decode cL_law 1571 = .ok (.ireturn, 1) := dk_172 (dk_at dksL_law_56 0 rfl rfl)
theorem dL_law_1572 : decode cL_law 1572 = .ok (.aload_n 1, 1) := dk_43 (dk_at dksL_law_56 1 rfl rfl)
theorem dL_law_1573 : decode cL_law 1573 = .ok (.invokevirtual 243, 3) := dk_182 0 243 (dk_at dksL_law_56 2 rfl rfl)
theorem dL_law_1576 : decode cL_law 1576 = .ok (.aload_n 2, 1) := dk_44 (dk_at dksL_law_56 5 rfl rfl)
theorem dL_law_1577 : decode cL_law 1577 = .ok (.invokevirtual 246, 3) := dk_182 0 246 (dk_at dksL_law_56 6 rfl rfl)
theorem dL_law_1580 : decode cL_law 1580 = .ok (.if_icmp .eq 1405, 3) := dk_159 5 125 (dk_at dksL_law_56 9 rfl rfl)
theorem dL_law_1583 : decode cL_law 1583 = .ok (.iconst 0, 1) := dk_3 (dk_at dksL_law_56 12 rfl rfl)
theorem dL_law_1584 : decode cL_law 1584 = .ok (.ireturn, 1) := dk_172 (dk_at dksL_law_56 13 rfl rfl)
theorem dL_law_1585 : decode cL_law 1585 = .ok (.aload_n 1, 1) := dk_43 (dk_at dksL_law_56 14 rfl rfl)
theorem dL_law_1586 : decode cL_law 1586 = .ok (.aload_n 0, 1) := dk_42 (dk_at dksL_law_56 15 rfl rfl)
theorem dL_law_1587 : decode cL_law 1587 = .ok (.iload 5, 2) := dk_21 5 (dk_at dksL_law_56 16 rfl rfl)
theorem dL_law_1589 : decode cL_law 1589 = .ok (.iconst 1, 1) := dk_4 (dk_at dksL_law_56 18 rfl rfl)
theorem dL_law_1590 : decode cL_law 1590 = .ok (.iadd, 1) := dk_96 (dk_at dksL_law_56 19 rfl rfl)
theorem dL_law_1591 : decode cL_law 1591 = .ok (.iaload, 1) := dk_46 (dk_at dksL_law_56 20 rfl rfl)
theorem dL_law_1592 : decode cL_law 1592 = .ok (.aload_n 3, 1) := dk_45 (dk_at dksL_law_56 21 rfl rfl)
theorem dL_law_1593 : decode cL_law 1593 = .ok (.invokestatic 247, 3) := dk_184 0 247 (dk_at dksL_law_57 0 rfl rfl)
theorem dL_law_1596 : decode cL_law 1596 = .ok (.istore 6, 2) := dk_54 6 (dk_at dksL_law_57 3 rfl rfl)
theorem dL_law_1598 : decode cL_law 1598 = .ok (.aload_n 2, 1) := dk_44 (dk_at dksL_law_57 5 rfl rfl)
theorem dL_law_1599 : decode cL_law 1599 = .ok (.aload_n 0, 1) := dk_42 (dk_at dksL_law_57 6 rfl rfl)
theorem dL_law_1600 : decode cL_law 1600 = .ok (.iload 5, 2) := dk_21 5 (dk_at dksL_law_57 7 rfl rfl)
theorem dL_law_1602 : decode cL_law 1602 = .ok (.iconst 1, 1) := dk_4 (dk_at dksL_law_57 9 rfl rfl)
theorem dL_law_1603 : decode cL_law 1603 = .ok (.iadd, 1) := dk_96 (dk_at dksL_law_57 10 rfl rfl)
theorem dL_law_1604 : decode cL_law 1604 = .ok (.iaload, 1) := dk_46 (dk_at dksL_law_57 11 rfl rfl)
theorem dL_law_1605 : decode cL_law 1605 = .ok (.invokevirtual 249, 3) := dk_182 0 249 (dk_at dksL_law_57 12 rfl rfl)
theorem dL_law_1608 : decode cL_law 1608 = .ok (.istore 7, 2) := dk_54 7 (dk_at dksL_law_57 15 rfl rfl)
theorem dL_law_1610 : decode cL_law 1610 = .ok (.aload_n 2, 1) := dk_44 (dk_at dksL_law_57 17 rfl rfl)
theorem dL_law_1611 : decode cL_law 1611 = .ok (.invokevirtual 149, 3) := dk_182 0 149 (dk_at dksL_law_57 18 rfl rfl)
theorem dL_law_1614 : decode cL_law 1614 = .ok (.iload 6, 2) := dk_21 6 (dk_at dksL_law_57 21 rfl rfl)
theorem dL_law_1616 : decode cL_law 1616 = .ok (.if_icmp .eq 5, 3) := dk_159 0 5 (dk_at dksL_law_58 0 rfl rfl)
theorem dL_law_1619 : decode cL_law 1619 = .ok (.iconst 0, 1) := dk_3 (dk_at dksL_law_58 3 rfl rfl)
theorem dL_law_1620 : decode cL_law 1620 = .ok (.ireturn, 1) := dk_172 (dk_at dksL_law_58 4 rfl rfl)
theorem dL_law_1621 : decode cL_law 1621 = .ok (.iload 6, 2) := dk_21 6 (dk_at dksL_law_58 5 rfl rfl)
theorem dL_law_1623 : decode cL_law 1623 = .ok (.ifCond .ne 15, 3) := dk_154 0 15 (dk_at dksL_law_58 7 rfl rfl)
theorem dL_law_1626 : decode cL_law 1626 = .ok (.aload_n 3, 1) := dk_45 (dk_at dksL_law_58 10 rfl rfl)
theorem dL_law_1627 : decode cL_law 1627 = .ok (.iconst 0, 1) := dk_3 (dk_at dksL_law_58 11 rfl rfl)
theorem dL_law_1628 : decode cL_law 1628 = .ok (.laload, 1) := dk_47 (dk_at dksL_law_58 12 rfl rfl)
theorem dL_law_1629 : decode cL_law 1629 = .ok (.iload 7, 2) := dk_21 7 (dk_at dksL_law_58 13 rfl rfl)
theorem dL_law_1631 : decode cL_law 1631 = .ok (.i2l, 1) := dk_133 (dk_at dksL_law_58 15 rfl rfl)
theorem dL_law_1632 : decode cL_law 1632 = .ok (.lcmp, 1) := dk_148 (dk_at dksL_law_58 16 rfl rfl)
theorem dL_law_1633 : decode cL_law 1633 = .ok (.ifCond .eq 5, 3) := dk_153 0 5 (dk_at dksL_law_58 17 rfl rfl)
theorem dL_law_1636 : decode cL_law 1636 = .ok (.iconst 0, 1) := dk_3 (dk_at dksL_law_58 20 rfl rfl)
theorem dL_law_1637 : decode cL_law 1637 = .ok (.ireturn, 1) := dk_172 (dk_at dksL_law_58 21 rfl rfl)
theorem dL_law_1638 : decode cL_law 1638 = .ok (.goto 1347, 3) := dk_167 5 67 (dk_at dksL_law_59 0 rfl rfl)
theorem dL_law_1641 : decode cL_law 1641 = .ok (.aload_n 1, 1) := dk_43 (dk_at dksL_law_59 3 rfl rfl)
theorem dL_law_1642 : decode cL_law 1642 = .ok (.aload_n 0, 1) := dk_42 (dk_at dksL_law_59 4 rfl rfl)
theorem dL_law_1643 : decode cL_law 1643 = .ok (.iload 5, 2) := dk_21 5 (dk_at dksL_law_59 5 rfl rfl)
theorem dL_law_1645 : decode cL_law 1645 = .ok (.iconst 1, 1) := dk_4 (dk_at dksL_law_59 7 rfl rfl)
theorem dL_law_1646 : decode cL_law 1646 = .ok (.iadd, 1) := dk_96 (dk_at dksL_law_59 8 rfl rfl)
theorem dL_law_1647 : decode cL_law 1647 = .ok (.iaload, 1) := dk_46 (dk_at dksL_law_59 9 rfl rfl)
theorem dL_law_1648 : decode cL_law 1648 = .ok (.aload_n 3, 1) := dk_45 (dk_at dksL_law_59 10 rfl rfl)
theorem dL_law_1649 : decode cL_law 1649 = .ok (.invokestatic 250, 3) := dk_184 0 250 (dk_at dksL_law_59 11 rfl rfl)
theorem dL_law_1652 : decode cL_law 1652 = .ok (.istore 6, 2) := dk_54 6 (dk_at dksL_law_59 14 rfl rfl)
theorem dL_law_1654 : decode cL_law 1654 = .ok (.aload_n 2, 1) := dk_44 (dk_at dksL_law_59 16 rfl rfl)
theorem dL_law_1655 : decode cL_law 1655 = .ok (.aload_n 0, 1) := dk_42 (dk_at dksL_law_59 17 rfl rfl)
theorem dL_law_1656 : decode cL_law 1656 = .ok (.iload 5, 2) := dk_21 5 (dk_at dksL_law_59 18 rfl rfl)
theorem dL_law_1658 : decode cL_law 1658 = .ok (.iconst 1, 1) := dk_4 (dk_at dksL_law_59 20 rfl rfl)
theorem dL_law_1659 : decode cL_law 1659 = .ok (.iadd, 1) := dk_96 (dk_at dksL_law_59 21 rfl rfl)
theorem dL_law_1660 : decode cL_law 1660 = .ok (.iaload, 1) := dk_46 (dk_at dksL_law_59 22 rfl rfl)
theorem dL_law_1661 : decode cL_law 1661 = .ok (.invokevirtual 252, 3) := dk_182 0 252 (dk_at dksL_law_60 0 rfl rfl)
theorem dL_law_1664 : decode cL_law 1664 = .ok (.istore 7, 2) := dk_54 7 (dk_at dksL_law_60 3 rfl rfl)
theorem dL_law_1666 : decode cL_law 1666 = .ok (.aload_n 2, 1) := dk_44 (dk_at dksL_law_60 5 rfl rfl)
theorem dL_law_1667 : decode cL_law 1667 = .ok (.invokevirtual 149, 3) := dk_182 0 149 (dk_at dksL_law_60 6 rfl rfl)
theorem dL_law_1670 : decode cL_law 1670 = .ok (.iload 6, 2) := dk_21 6 (dk_at dksL_law_60 9 rfl rfl)
theorem dL_law_1672 : decode cL_law 1672 = .ok (.if_icmp .eq 5, 3) := dk_159 0 5 (dk_at dksL_law_60 11 rfl rfl)
theorem dL_law_1675 : decode cL_law 1675 = .ok (.iconst 0, 1) := dk_3 (dk_at dksL_law_60 14 rfl rfl)
theorem dL_law_1676 : decode cL_law 1676 = .ok (.ireturn, 1) := dk_172 (dk_at dksL_law_60 15 rfl rfl)
theorem dL_law_1677 : decode cL_law 1677 = .ok (.iload 6, 2) := dk_21 6 (dk_at dksL_law_60 16 rfl rfl)
theorem dL_law_1679 : decode cL_law 1679 = .ok (.ifCond .ne 15, 3) := dk_154 0 15 (dk_at dksL_law_60 18 rfl rfl)
theorem dL_law_1682 : decode cL_law 1682 = .ok (.aload_n 3, 1) := dk_45 (dk_at dksL_law_60 21 rfl rfl)
theorem dL_law_1683 : decode cL_law 1683 = .ok (.iconst 0, 1) := dk_3 (dk_at dksL_law_60 22 rfl rfl)
theorem dL_law_1684 : decode cL_law 1684 = .ok (.laload, 1) := dk_47 (dk_at dksL_law_60 23 rfl rfl)
theorem dL_law_1685 : decode cL_law 1685 = .ok (.iload 7, 2) := dk_21 7 (dk_at dksL_law_61 0 rfl rfl)
theorem dL_law_1687 : decode cL_law 1687 = .ok (.i2l, 1) := dk_133 (dk_at dksL_law_61 2 rfl rfl)
theorem dL_law_1688 : decode cL_law 1688 = .ok (.lcmp, 1) := dk_148 (dk_at dksL_law_61 3 rfl rfl)
theorem dL_law_1689 : decode cL_law 1689 = .ok (.ifCond .eq 5, 3) := dk_153 0 5 (dk_at dksL_law_61 4 rfl rfl)
theorem dL_law_1692 : decode cL_law 1692 = .ok (.iconst 0, 1) := dk_3 (dk_at dksL_law_61 7 rfl rfl)
theorem dL_law_1693 : decode cL_law 1693 = .ok (.ireturn, 1) := dk_172 (dk_at dksL_law_61 8 rfl rfl)
theorem dL_law_1694 : decode cL_law 1694 = .ok (.goto 1291, 3) := dk_167 5 11 (dk_at dksL_law_61 9 rfl rfl)
theorem dL_law_1697 : decode cL_law 1697 = .ok (.aload_n 1, 1) := dk_43 (dk_at dksL_law_61 12 rfl rfl)
theorem dL_law_1698 : decode cL_law 1698 = .ok (.aload_n 0, 1) := dk_42 (dk_at dksL_law_61 13 rfl rfl)
theorem dL_law_1699 : decode cL_law 1699 = .ok (.iload 5, 2) := dk_21 5 (dk_at dksL_law_61 14 rfl rfl)
theorem dL_law_1701 : decode cL_law 1701 = .ok (.iconst 1, 1) := dk_4 (dk_at dksL_law_61 16 rfl rfl)
theorem dL_law_1702 : decode cL_law 1702 = .ok (.iadd, 1) := dk_96 (dk_at dksL_law_61 17 rfl rfl)
theorem dL_law_1703 : decode cL_law 1703 = .ok (.iaload, 1) := dk_46 (dk_at dksL_law_61 18 rfl rfl)
theorem dL_law_1704 : decode cL_law 1704 = .ok (.aload_n 3, 1) := dk_45 (dk_at dksL_law_61 19 rfl rfl)
theorem dL_law_1705 : decode cL_law 1705 = .ok (.invokestatic 253, 3) := dk_184 0 253 (dk_at dksL_law_61 20 rfl rfl)
theorem dL_law_1708 : decode cL_law 1708 = .ok (.istore 6, 2) := dk_54 6 (dk_at dksL_law_62 0 rfl rfl)
theorem dL_law_1710 : decode cL_law 1710 = .ok (.aload_n 2, 1) := dk_44 (dk_at dksL_law_62 2 rfl rfl)
theorem dL_law_1711 : decode cL_law 1711 = .ok (.aload_n 0, 1) := dk_42 (dk_at dksL_law_62 3 rfl rfl)
theorem dL_law_1712 : decode cL_law 1712 = .ok (.iload 5, 2) := dk_21 5 (dk_at dksL_law_62 4 rfl rfl)
theorem dL_law_1714 : decode cL_law 1714 = .ok (.iconst 1, 1) := dk_4 (dk_at dksL_law_62 6 rfl rfl)
theorem dL_law_1715 : decode cL_law 1715 = .ok (.iadd, 1) := dk_96 (dk_at dksL_law_62 7 rfl rfl)
theorem dL_law_1716 : decode cL_law 1716 = .ok (.iaload, 1) := dk_46 (dk_at dksL_law_62 8 rfl rfl)
theorem dL_law_1717 : decode cL_law 1717 = .ok (.invokevirtual 255, 3) := dk_182 0 255 (dk_at dksL_law_62 9 rfl rfl)
theorem dL_law_1720 : decode cL_law 1720 = .ok (.istore 7, 2) := dk_54 7 (dk_at dksL_law_62 12 rfl rfl)
theorem dL_law_1722 : decode cL_law 1722 = .ok (.aload_n 2, 1) := dk_44 (dk_at dksL_law_62 14 rfl rfl)
theorem dL_law_1723 : decode cL_law 1723 = .ok (.invokevirtual 149, 3) := dk_182 0 149 (dk_at dksL_law_62 15 rfl rfl)
theorem dL_law_1726 : decode cL_law 1726 = .ok (.iload 6, 2) := dk_21 6 (dk_at dksL_law_62 18 rfl rfl)
theorem dL_law_1728 : decode cL_law 1728 = .ok (.if_icmp .eq 5, 3) := dk_159 0 5 (dk_at dksL_law_62 20 rfl rfl)
theorem dL_law_1731 : decode cL_law 1731 = .ok (.iconst 0, 1) := dk_3 (dk_at dksL_law_62 23 rfl rfl)
theorem dL_law_1732 : decode cL_law 1732 = .ok (.ireturn, 1) := dk_172 (dk_at dksL_law_63 0 rfl rfl)
theorem dL_law_1733 : decode cL_law 1733 = .ok (.iload 6, 2) := dk_21 6 (dk_at dksL_law_63 1 rfl rfl)
theorem dL_law_1735 : decode cL_law 1735 = .ok (.ifCond .ne 15, 3) := dk_154 0 15 (dk_at dksL_law_63 3 rfl rfl)
theorem dL_law_1738 : decode cL_law 1738 = .ok (.aload_n 3, 1) := dk_45 (dk_at dksL_law_63 6 rfl rfl)
theorem dL_law_1739 : decode cL_law 1739 = .ok (.iconst 0, 1) := dk_3 (dk_at dksL_law_63 7 rfl rfl)
theorem dL_law_1740 : decode cL_law 1740 = .ok (.laload, 1) := dk_47 (dk_at dksL_law_63 8 rfl rfl)
theorem dL_law_1741 : decode cL_law 1741 = .ok (.iload 7, 2) := dk_21 7 (dk_at dksL_law_63 9 rfl rfl)
theorem dL_law_1743 : decode cL_law 1743 = .ok (.i2l, 1) := dk_133 (dk_at dksL_law_63 11 rfl rfl)
theorem dL_law_1744 : decode cL_law 1744 = .ok (.lcmp, 1) := dk_148 (dk_at dksL_law_63 12 rfl rfl)
theorem dL_law_1745 : decode cL_law 1745 = .ok (.ifCond .eq 5, 3) := dk_153 0 5 (dk_at dksL_law_63 13 rfl rfl)
theorem dL_law_1748 : decode cL_law 1748 = .ok (.iconst 0, 1) := dk_3 (dk_at dksL_law_63 16 rfl rfl)
theorem dL_law_1749 : decode cL_law 1749 = .ok (.ireturn, 1) := dk_172 (dk_at dksL_law_63 17 rfl rfl)
theorem dL_law_1750 : decode cL_law 1750 = .ok (.goto 1235, 3) := dk_167 4 211 (dk_at dksL_law_63 18 rfl rfl)
theorem dL_law_1753 : decode cL_law 1753 = .ok (.aload_n 1, 1) := dk_43 (dk_at dksL_law_63 21 rfl rfl)
theorem dL_law_1754 : decode cL_law 1754 = .ok (.invokevirtual 256, 3) := dk_182 1 0 (dk_at dksL_law_64 0 rfl rfl)
theorem dL_law_1757 : decode cL_law 1757 = .ok (.aload_n 2, 1) := dk_44 (dk_at dksL_law_64 3 rfl rfl)
theorem dL_law_1758 : decode cL_law 1758 = .ok (.invokevirtual 259, 3) := dk_182 1 3 (dk_at dksL_law_64 4 rfl rfl)
theorem dL_law_1761 : decode cL_law 1761 = .ok (.if_icmp .eq 1224, 3) := dk_159 4 200 (dk_at dksL_law_64 7 rfl rfl)
theorem dL_law_1764 : decode cL_law 1764 = .ok (.iconst 0, 1) := dk_3 (dk_at dksL_law_64 10 rfl rfl)
theorem dL_law_1765 : decode cL_law 1765 = .ok (.ireturn, 1) := dk_172 (dk_at dksL_law_64 11 rfl rfl)
theorem dL_law_1766 : decode cL_law 1766 = .ok (.aload_n 1, 1) := dk_43 (dk_at dksL_law_64 12 rfl rfl)
theorem dL_law_1767 : decode cL_law 1767 = .ok (.aload_n 0, 1) := dk_42 (dk_at dksL_law_64 13 rfl rfl)
theorem dL_law_1768 : decode cL_law 1768 = .ok (.iload 5, 2) := dk_21 5 (dk_at dksL_law_64 14 rfl rfl)
theorem dL_law_1770 : decode cL_law 1770 = .ok (.iconst 1, 1) := dk_4 (dk_at dksL_law_64 16 rfl rfl)
theorem dL_law_1771 : decode cL_law 1771 = .ok (.iadd, 1) := dk_96 (dk_at dksL_law_64 17 rfl rfl)
theorem dL_law_1772 : decode cL_law 1772 = .ok (.iaload, 1) := dk_46 (dk_at dksL_law_64 18 rfl rfl)
theorem dL_law_1773 : decode cL_law 1773 = .ok (.aload_n 3, 1) := dk_45 (dk_at dksL_law_64 19 rfl rfl)
theorem dL_law_1774 : decode cL_law 1774 = .ok (.invokestatic 260, 3) := dk_184 1 4 (dk_at dksL_law_64 20 rfl rfl)
theorem dL_law_1777 : decode cL_law 1777 = .ok (.istore 6, 2) := dk_54 6 (dk_at dksL_law_65 0 rfl rfl)
theorem dL_law_1779 : decode cL_law 1779 = .ok (.aload_n 2, 1) := dk_44 (dk_at dksL_law_65 2 rfl rfl)
theorem dL_law_1780 : decode cL_law 1780 = .ok (.aload_n 0, 1) := dk_42 (dk_at dksL_law_65 3 rfl rfl)
theorem dL_law_1781 : decode cL_law 1781 = .ok (.iload 5, 2) := dk_21 5 (dk_at dksL_law_65 4 rfl rfl)
theorem dL_law_1783 : decode cL_law 1783 = .ok (.iconst 1, 1) := dk_4 (dk_at dksL_law_65 6 rfl rfl)
theorem dL_law_1784 : decode cL_law 1784 = .ok (.iadd, 1) := dk_96 (dk_at dksL_law_65 7 rfl rfl)
theorem dL_law_1785 : decode cL_law 1785 = .ok (.iaload, 1) := dk_46 (dk_at dksL_law_65 8 rfl rfl)
theorem dL_law_1786 : decode cL_law 1786 = .ok (.invokevirtual 262, 3) := dk_182 1 6 (dk_at dksL_law_65 9 rfl rfl)
theorem dL_law_1789 : decode cL_law 1789 = .ok (.istore 7, 2) := dk_54 7 (dk_at dksL_law_65 12 rfl rfl)
theorem dL_law_1791 : decode cL_law 1791 = .ok (.aload_n 2, 1) := dk_44 (dk_at dksL_law_65 14 rfl rfl)
theorem dL_law_1792 : decode cL_law 1792 = .ok (.invokevirtual 149, 3) := dk_182 0 149 (dk_at dksL_law_65 15 rfl rfl)
theorem dL_law_1795 : decode cL_law 1795 = .ok (.iload 6, 2) := dk_21 6 (dk_at dksL_law_65 18 rfl rfl)
theorem dL_law_1797 : decode cL_law 1797 = .ok (.if_icmp .eq 5, 3) := dk_159 0 5 (dk_at dksL_law_65 20 rfl rfl)
theorem dL_law_1800 : decode cL_law 1800 = .ok (.iconst 0, 1) := dk_3 (dk_at dksL_law_65 23 rfl rfl)
theorem dL_law_1801 : decode cL_law 1801 = .ok (.ireturn, 1) := dk_172 (dk_at dksL_law_66 0 rfl rfl)
theorem dL_law_1802 : decode cL_law 1802 = .ok (.iload 6, 2) := dk_21 6 (dk_at dksL_law_66 1 rfl rfl)
theorem dL_law_1804 : decode cL_law 1804 = .ok (.ifCond .ne 15, 3) := dk_154 0 15 (dk_at dksL_law_66 3 rfl rfl)
theorem dL_law_1807 : decode cL_law 1807 = .ok (.aload_n 3, 1) := dk_45 (dk_at dksL_law_66 6 rfl rfl)
theorem dL_law_1808 : decode cL_law 1808 = .ok (.iconst 0, 1) := dk_3 (dk_at dksL_law_66 7 rfl rfl)
theorem dL_law_1809 : decode cL_law 1809 = .ok (.laload, 1) := dk_47 (dk_at dksL_law_66 8 rfl rfl)
theorem dL_law_1810 : decode cL_law 1810 = .ok (.iload 7, 2) := dk_21 7 (dk_at dksL_law_66 9 rfl rfl)
theorem dL_law_1812 : decode cL_law 1812 = .ok (.i2l, 1) := dk_133 (dk_at dksL_law_66 11 rfl rfl)
theorem dL_law_1813 : decode cL_law 1813 = .ok (.lcmp, 1) := dk_148 (dk_at dksL_law_66 12 rfl rfl)
theorem dL_law_1814 : decode cL_law 1814 = .ok (.ifCond .eq 5, 3) := dk_153 0 5 (dk_at dksL_law_66 13 rfl rfl)
theorem dL_law_1817 : decode cL_law 1817 = .ok (.iconst 0, 1) := dk_3 (dk_at dksL_law_66 16 rfl rfl)
theorem dL_law_1818 : decode cL_law 1818 = .ok (.ireturn, 1) := dk_172 (dk_at dksL_law_66 17 rfl rfl)
theorem dL_law_1819 : decode cL_law 1819 = .ok (.goto 1166, 3) := dk_167 4 142 (dk_at dksL_law_66 18 rfl rfl)
theorem dL_law_1822 : decode cL_law 1822 = .ok (.aload_n 1, 1) := dk_43 (dk_at dksL_law_66 21 rfl rfl)
theorem dL_law_1823 : decode cL_law 1823 = .ok (.aload_n 0, 1) := dk_42 (dk_at dksL_law_66 22 rfl rfl)
theorem dL_law_1824 : decode cL_law 1824 = .ok (.iload 5, 2) := dk_21 5 (dk_at dksL_law_67 0 rfl rfl)
theorem dL_law_1826 : decode cL_law 1826 = .ok (.iconst 1, 1) := dk_4 (dk_at dksL_law_67 2 rfl rfl)
theorem dL_law_1827 : decode cL_law 1827 = .ok (.iadd, 1) := dk_96 (dk_at dksL_law_67 3 rfl rfl)
theorem dL_law_1828 : decode cL_law 1828 = .ok (.iaload, 1) := dk_46 (dk_at dksL_law_67 4 rfl rfl)
theorem dL_law_1829 : decode cL_law 1829 = .ok (.aload_n 3, 1) := dk_45 (dk_at dksL_law_67 5 rfl rfl)
theorem dL_law_1830 : decode cL_law 1830 = .ok (.invokestatic 263, 3) := dk_184 1 7 (dk_at dksL_law_67 6 rfl rfl)
theorem dL_law_1833 : decode cL_law 1833 = .ok (.istore 6, 2) := dk_54 6 (dk_at dksL_law_67 9 rfl rfl)
theorem dL_law_1835 : decode cL_law 1835 = .ok (.aload_n 2, 1) := dk_44 (dk_at dksL_law_67 11 rfl rfl)
theorem dL_law_1836 : decode cL_law 1836 = .ok (.aload_n 0, 1) := dk_42 (dk_at dksL_law_67 12 rfl rfl)
theorem dL_law_1837 : decode cL_law 1837 = .ok (.iload 5, 2) := dk_21 5 (dk_at dksL_law_67 13 rfl rfl)
theorem dL_law_1839 : decode cL_law 1839 = .ok (.iconst 1, 1) := dk_4 (dk_at dksL_law_67 15 rfl rfl)
theorem dL_law_1840 : decode cL_law 1840 = .ok (.iadd, 1) := dk_96 (dk_at dksL_law_67 16 rfl rfl)
theorem dL_law_1841 : decode cL_law 1841 = .ok (.iaload, 1) := dk_46 (dk_at dksL_law_67 17 rfl rfl)
theorem dL_law_1842 : decode cL_law 1842 = .ok (.invokevirtual 265, 3) := dk_182 1 9 (dk_at dksL_law_67 18 rfl rfl)
theorem dL_law_1845 : decode cL_law 1845 = .ok (.istore 7, 2) := dk_54 7 (dk_at dksL_law_67 21 rfl rfl)
theorem dL_law_1847 : decode cL_law 1847 = .ok (.aload_n 2, 1) := dk_44 (dk_at dksL_law_67 23 rfl rfl)
theorem dL_law_1848 : decode cL_law 1848 = .ok (.invokevirtual 149, 3) := dk_182 0 149 (dk_at dksL_law_68 0 rfl rfl)
theorem dL_law_1851 : decode cL_law 1851 = .ok (.iload 6, 2) := dk_21 6 (dk_at dksL_law_68 3 rfl rfl)
theorem dL_law_1853 : decode cL_law 1853 = .ok (.if_icmp .eq 5, 3) := dk_159 0 5 (dk_at dksL_law_68 5 rfl rfl)
theorem dL_law_1856 : decode cL_law 1856 = .ok (.iconst 0, 1) := dk_3 (dk_at dksL_law_68 8 rfl rfl)
theorem dL_law_1857 : decode cL_law 1857 = .ok (.ireturn, 1) := dk_172 (dk_at dksL_law_68 9 rfl rfl)
theorem dL_law_1858 : decode cL_law 1858 = .ok (.iload 6, 2) := dk_21 6 (dk_at dksL_law_68 10 rfl rfl)
theorem dL_law_1860 : decode cL_law 1860 = .ok (.ifCond .ne 15, 3) := dk_154 0 15 (dk_at dksL_law_68 12 rfl rfl)
theorem dL_law_1863 : decode cL_law 1863 = .ok (.aload_n 3, 1) := dk_45 (dk_at dksL_law_68 15 rfl rfl)
theorem dL_law_1864 : decode cL_law 1864 = .ok (.iconst 0, 1) := dk_3 (dk_at dksL_law_68 16 rfl rfl)
theorem dL_law_1865 : decode cL_law 1865 = .ok (.laload, 1) := dk_47 (dk_at dksL_law_68 17 rfl rfl)
theorem dL_law_1866 : decode cL_law 1866 = .ok (.iload 7, 2) := dk_21 7 (dk_at dksL_law_68 18 rfl rfl)
theorem dL_law_1868 : decode cL_law 1868 = .ok (.i2l, 1) := dk_133 (dk_at dksL_law_68 20 rfl rfl)
theorem dL_law_1869 : decode cL_law 1869 = .ok (.lcmp, 1) := dk_148 (dk_at dksL_law_68 21 rfl rfl)
theorem dL_law_1870 : decode cL_law 1870 = .ok (.ifCond .eq 5, 3) := dk_153 0 5 (dk_at dksL_law_69 0 rfl rfl)
theorem dL_law_1873 : decode cL_law 1873 = .ok (.iconst 0, 1) := dk_3 (dk_at dksL_law_69 3 rfl rfl)
theorem dL_law_1874 : decode cL_law 1874 = .ok (.ireturn, 1) := dk_172 (dk_at dksL_law_69 4 rfl rfl)
theorem dL_law_1875 : decode cL_law 1875 = .ok (.goto 1110, 3) := dk_167 4 86 (dk_at dksL_law_69 5 rfl rfl)
theorem dL_law_1878 : decode cL_law 1878 = .ok (.aload_n 1, 1) := dk_43 (dk_at dksL_law_69 8 rfl rfl)
theorem dL_law_1879 : decode cL_law 1879 = .ok (.invokevirtual 266, 3) := dk_182 1 10 (dk_at dksL_law_69 9 rfl rfl)
theorem dL_law_1882 : decode cL_law 1882 = .ok (.aload_n 2, 1) := dk_44 (dk_at dksL_law_69 12 rfl rfl)
theorem dL_law_1883 : decode cL_law 1883 = .ok (.invokevirtual 269, 3) := dk_182 1 13 (dk_at dksL_law_69 13 rfl rfl)
theorem dL_law_1886 : decode cL_law 1886 = .ok (.if_icmp .eq 1099, 3) := dk_159 4 75 (dk_at dksL_law_69 16 rfl rfl)
theorem dL_law_1889 : decode cL_law 1889 = .ok (.iconst 0, 1) := dk_3 (dk_at dksL_law_69 19 rfl rfl)
theorem dL_law_1890 : decode cL_law 1890 = .ok (.ireturn, 1) := dk_172 (dk_at dksL_law_69 20 rfl rfl)
theorem dL_law_1891 : decode cL_law 1891 = .ok (.aload_n 1, 1) := dk_43 (dk_at dksL_law_69 21 rfl rfl)
theorem dL_law_1892 : decode cL_law 1892 = .ok (.aload_n 0, 1) := dk_42 (dk_at dksL_law_69 22 rfl rfl)
theorem dL_law_1893 : decode cL_law 1893 = .ok (.iload 5, 2) := dk_21 5 (dk_at dksL_law_70 0 rfl rfl)
theorem dL_law_1895 : decode cL_law 1895 = .ok (.iconst 1, 1) := dk_4 (dk_at dksL_law_70 2 rfl rfl)
theorem dL_law_1896 : decode cL_law 1896 = .ok (.iadd, 1) := dk_96 (dk_at dksL_law_70 3 rfl rfl)
theorem dL_law_1897 : decode cL_law 1897 = .ok (.iaload, 1) := dk_46 (dk_at dksL_law_70 4 rfl rfl)
theorem dL_law_1898 : decode cL_law 1898 = .ok (.aload_n 0, 1) := dk_42 (dk_at dksL_law_70 5 rfl rfl)
theorem dL_law_1899 : decode cL_law 1899 = .ok (.iload 5, 2) := dk_21 5 (dk_at dksL_law_70 6 rfl rfl)
theorem dL_law_1901 : decode cL_law 1901 = .ok (.iconst 2, 1) := dk_5 (dk_at dksL_law_70 8 rfl rfl)
theorem dL_law_1902 : decode cL_law 1902 = .ok (.iadd, 1) := dk_96 (dk_at dksL_law_70 9 rfl rfl)
theorem dL_law_1903 : decode cL_law 1903 = .ok (.iaload, 1) := dk_46 (dk_at dksL_law_70 10 rfl rfl)
theorem dL_law_1904 : decode cL_law 1904 = .ok (.aload_n 3, 1) := dk_45 (dk_at dksL_law_70 11 rfl rfl)
theorem dL_law_1905 : decode cL_law 1905 = .ok (.invokestatic 270, 3) := dk_184 1 14 (dk_at dksL_law_70 12 rfl rfl)
theorem dL_law_1908 : decode cL_law 1908 = .ok (.istore 6, 2) := dk_54 6 (dk_at dksL_law_70 15 rfl rfl)
theorem dL_law_1910 : decode cL_law 1910 = .ok (.aload_n 2, 1) := dk_44 (dk_at dksL_law_70 17 rfl rfl)
theorem dL_law_1911 : decode cL_law 1911 = .ok (.aload_n 0, 1) := dk_42 (dk_at dksL_law_70 18 rfl rfl)
theorem dL_law_1912 : decode cL_law 1912 = .ok (.iload 5, 2) := dk_21 5 (dk_at dksL_law_70 19 rfl rfl)
theorem dL_law_1914 : decode cL_law 1914 = .ok (.iconst 1, 1) := dk_4 (dk_at dksL_law_70 21 rfl rfl)
theorem dL_law_1915 : decode cL_law 1915 = .ok (.iadd, 1) := dk_96 (dk_at dksL_law_70 22 rfl rfl)
theorem dL_law_1916 : decode cL_law 1916 = .ok (.iaload, 1) := dk_46 (dk_at dksL_law_70 23 rfl rfl)
theorem dL_law_1917 : decode cL_law 1917 = .ok (.aload_n 0, 1) := dk_42 (dk_at dksL_law_71 0 rfl rfl)
theorem dL_law_1918 : decode cL_law 1918 = .ok (.iload 5, 2) := dk_21 5 (dk_at dksL_law_71 1 rfl rfl)
theorem dL_law_1920 : decode cL_law 1920 = .ok (.iconst 2, 1) := dk_5 (dk_at dksL_law_71 3 rfl rfl)
theorem dL_law_1921 : decode cL_law 1921 = .ok (.iadd, 1) := dk_96 (dk_at dksL_law_71 4 rfl rfl)
theorem dL_law_1922 : decode cL_law 1922 = .ok (.iaload, 1) := dk_46 (dk_at dksL_law_71 5 rfl rfl)
theorem dL_law_1923 : decode cL_law 1923 = .ok (.invokevirtual 272, 3) := dk_182 1 16 (dk_at dksL_law_71 6 rfl rfl)
theorem dL_law_1926 : decode cL_law 1926 = .ok (.istore 7, 2) := dk_54 7 (dk_at dksL_law_71 9 rfl rfl)
theorem dL_law_1928 : decode cL_law 1928 = .ok (.aload_n 2, 1) := dk_44 (dk_at dksL_law_71 11 rfl rfl)
theorem dL_law_1929 : decode cL_law 1929 = .ok (.invokevirtual 149, 3) := dk_182 0 149 (dk_at dksL_law_71 12 rfl rfl)
theorem dL_law_1932 : decode cL_law 1932 = .ok (.iload 6, 2) := dk_21 6 (dk_at dksL_law_71 15 rfl rfl)
theorem dL_law_1934 : decode cL_law 1934 = .ok (.if_icmp .eq 5, 3) := dk_159 0 5 (dk_at dksL_law_71 17 rfl rfl)
theorem dL_law_1937 : decode cL_law 1937 = .ok (.iconst 0, 1) := dk_3 (dk_at dksL_law_71 20 rfl rfl)
theorem dL_law_1938 : decode cL_law 1938 = .ok (.ireturn, 1) := dk_172 (dk_at dksL_law_71 21 rfl rfl)
theorem dL_law_1939 : decode cL_law 1939 = .ok (.iload 6, 2) := dk_21 6 (dk_at dksL_law_71 22 rfl rfl)
theorem dL_law_1941 : decode cL_law 1941 = .ok (.ifCond .ne 15, 3) := dk_154 0 15 (dk_at dksL_law_72 0 rfl rfl)
theorem dL_law_1944 : decode cL_law 1944 = .ok (.aload_n 3, 1) := dk_45 (dk_at dksL_law_72 3 rfl rfl)
theorem dL_law_1945 : decode cL_law 1945 = .ok (.iconst 0, 1) := dk_3 (dk_at dksL_law_72 4 rfl rfl)
theorem dL_law_1946 : decode cL_law 1946 = .ok (.laload, 1) := dk_47 (dk_at dksL_law_72 5 rfl rfl)
theorem dL_law_1947 : decode cL_law 1947 = .ok (.iload 7, 2) := dk_21 7 (dk_at dksL_law_72 6 rfl rfl)
theorem dL_law_1949 : decode cL_law 1949 = .ok (.i2l, 1) := dk_133 (dk_at dksL_law_72 8 rfl rfl)
theorem dL_law_1950 : decode cL_law 1950 = .ok (.lcmp, 1) := dk_148 (dk_at dksL_law_72 9 rfl rfl)
theorem dL_law_1951 : decode cL_law 1951 = .ok (.ifCond .eq 5, 3) := dk_153 0 5 (dk_at dksL_law_72 10 rfl rfl)
theorem dL_law_1954 : decode cL_law 1954 = .ok (.iconst 0, 1) := dk_3 (dk_at dksL_law_72 13 rfl rfl)
theorem dL_law_1955 : decode cL_law 1955 = .ok (.ireturn, 1) := dk_172 (dk_at dksL_law_72 14 rfl rfl)
theorem dL_law_1956 : decode cL_law 1956 = .ok (.goto 1029, 3) := dk_167 4 5 (dk_at dksL_law_72 15 rfl rfl)
theorem dL_law_1959 : decode cL_law 1959 = .ok (.aload_n 1, 1) := dk_43 (dk_at dksL_law_72 18 rfl rfl)
theorem dL_law_1960 : decode cL_law 1960 = .ok (.aload_n 0, 1) := dk_42 (dk_at dksL_law_72 19 rfl rfl)
theorem dL_law_1961 : decode cL_law 1961 = .ok (.iload 5, 2) := dk_21 5 (dk_at dksL_law_72 20 rfl rfl)
theorem dL_law_1963 : decode cL_law 1963 = .ok (.iconst 1, 1) := dk_4 (dk_at dksL_law_72 22 rfl rfl)
theorem dL_law_1964 : decode cL_law 1964 = .ok (.iadd, 1) := dk_96 (dk_at dksL_law_72 23 rfl rfl)
theorem dL_law_1965 : decode cL_law 1965 = .ok (.iaload, 1) := dk_46 (dk_at dksL_law_73 0 rfl rfl)
theorem dL_law_1966 : decode cL_law 1966 = .ok (.aload_n 3, 1) := dk_45 (dk_at dksL_law_73 1 rfl rfl)
theorem dL_law_1967 : decode cL_law 1967 = .ok (.invokestatic 273, 3) := dk_184 1 17 (dk_at dksL_law_73 2 rfl rfl)
theorem dL_law_1970 : decode cL_law 1970 = .ok (.istore 6, 2) := dk_54 6 (dk_at dksL_law_73 5 rfl rfl)
theorem dL_law_1972 : decode cL_law 1972 = .ok (.aload_n 2, 1) := dk_44 (dk_at dksL_law_73 7 rfl rfl)
theorem dL_law_1973 : decode cL_law 1973 = .ok (.aload_n 0, 1) := dk_42 (dk_at dksL_law_73 8 rfl rfl)
theorem dL_law_1974 : decode cL_law 1974 = .ok (.iload 5, 2) := dk_21 5 (dk_at dksL_law_73 9 rfl rfl)
theorem dL_law_1976 : decode cL_law 1976 = .ok (.iconst 1, 1) := dk_4 (dk_at dksL_law_73 11 rfl rfl)
theorem dL_law_1977 : decode cL_law 1977 = .ok (.iadd, 1) := dk_96 (dk_at dksL_law_73 12 rfl rfl)
theorem dL_law_1978 : decode cL_law 1978 = .ok (.iaload, 1) := dk_46 (dk_at dksL_law_73 13 rfl rfl)
theorem dL_law_1979 : decode cL_law 1979 = .ok (.invokevirtual 275, 3) := dk_182 1 19 (dk_at dksL_law_73 14 rfl rfl)
theorem dL_law_1982 : decode cL_law 1982 = .ok (.istore 7, 2) := dk_54 7 (dk_at dksL_law_73 17 rfl rfl)
theorem dL_law_1984 : decode cL_law 1984 = .ok (.aload_n 2, 1) := dk_44 (dk_at dksL_law_73 19 rfl rfl)
theorem dL_law_1985 : decode cL_law 1985 = .ok (.invokevirtual 149, 3) := dk_182 0 149 (dk_at dksL_law_73 20 rfl rfl)
theorem dL_law_1988 : decode cL_law 1988 = .ok (.iload 6, 2) := dk_21 6 (dk_at dksL_law_74 0 rfl rfl)
theorem dL_law_1990 : decode cL_law 1990 = .ok (.if_icmp .eq 5, 3) := dk_159 0 5 (dk_at dksL_law_74 2 rfl rfl)
theorem dL_law_1993 : decode cL_law 1993 = .ok (.iconst 0, 1) := dk_3 (dk_at dksL_law_74 5 rfl rfl)
theorem dL_law_1994 : decode cL_law 1994 = .ok (.ireturn, 1) := dk_172 (dk_at dksL_law_74 6 rfl rfl)
theorem dL_law_1995 : decode cL_law 1995 = .ok (.iload 6, 2) := dk_21 6 (dk_at dksL_law_74 7 rfl rfl)
theorem dL_law_1997 : decode cL_law 1997 = .ok (.ifCond .ne 15, 3) := dk_154 0 15 (dk_at dksL_law_74 9 rfl rfl)
theorem dL_law_2000 : decode cL_law 2000 = .ok (.aload_n 3, 1) := dk_45 (dk_at dksL_law_74 12 rfl rfl)
theorem dL_law_2001 : decode cL_law 2001 = .ok (.iconst 0, 1) := dk_3 (dk_at dksL_law_74 13 rfl rfl)
theorem dL_law_2002 : decode cL_law 2002 = .ok (.laload, 1) := dk_47 (dk_at dksL_law_74 14 rfl rfl)
theorem dL_law_2003 : decode cL_law 2003 = .ok (.iload 7, 2) := dk_21 7 (dk_at dksL_law_74 15 rfl rfl)
theorem dL_law_2005 : decode cL_law 2005 = .ok (.i2l, 1) := dk_133 (dk_at dksL_law_74 17 rfl rfl)
theorem dL_law_2006 : decode cL_law 2006 = .ok (.lcmp, 1) := dk_148 (dk_at dksL_law_74 18 rfl rfl)
theorem dL_law_2007 : decode cL_law 2007 = .ok (.ifCond .eq 5, 3) := dk_153 0 5 (dk_at dksL_law_74 19 rfl rfl)
theorem dL_law_2010 : decode cL_law 2010 = .ok (.iconst 0, 1) := dk_3 (dk_at dksL_law_74 22 rfl rfl)
theorem dL_law_2011 : decode cL_law 2011 = .ok (.ireturn, 1) := dk_172 (dk_at dksL_law_74 23 rfl rfl)
theorem dL_law_2012 : decode cL_law 2012 = .ok (.goto 973, 3) := dk_167 3 205 (dk_at dksL_law_75 0 rfl rfl)
theorem dL_law_2015 : decode cL_law 2015 = .ok (.aload_n 1, 1) := dk_43 (dk_at dksL_law_75 3 rfl rfl)
theorem dL_law_2016 : decode cL_law 2016 = .ok (.aload_n 0, 1) := dk_42 (dk_at dksL_law_75 4 rfl rfl)
theorem dL_law_2017 : decode cL_law 2017 = .ok (.iload 5, 2) := dk_21 5 (dk_at dksL_law_75 5 rfl rfl)
theorem dL_law_2019 : decode cL_law 2019 = .ok (.iconst 1, 1) := dk_4 (dk_at dksL_law_75 7 rfl rfl)
theorem dL_law_2020 : decode cL_law 2020 = .ok (.iadd, 1) := dk_96 (dk_at dksL_law_75 8 rfl rfl)
theorem dL_law_2021 : decode cL_law 2021 = .ok (.iaload, 1) := dk_46 (dk_at dksL_law_75 9 rfl rfl)
theorem dL_law_2022 : decode cL_law 2022 = .ok (.aload_n 0, 1) := dk_42 (dk_at dksL_law_75 10 rfl rfl)
theorem dL_law_2023 : decode cL_law 2023 = .ok (.iload 5, 2) := dk_21 5 (dk_at dksL_law_75 11 rfl rfl)
theorem dL_law_2025 : decode cL_law 2025 = .ok (.iconst 2, 1) := dk_5 (dk_at dksL_law_75 13 rfl rfl)
theorem dL_law_2026 : decode cL_law 2026 = .ok (.iadd, 1) := dk_96 (dk_at dksL_law_75 14 rfl rfl)
theorem dL_law_2027 : decode cL_law 2027 = .ok (.iaload, 1) := dk_46 (dk_at dksL_law_75 15 rfl rfl)
theorem dL_law_2028 : decode cL_law 2028 = .ok (.aload_n 3, 1) := dk_45 (dk_at dksL_law_75 16 rfl rfl)
theorem dL_law_2029 : decode cL_law 2029 = .ok (.invokestatic 276, 3) := dk_184 1 20 (dk_at dksL_law_75 17 rfl rfl)
theorem dL_law_2032 : decode cL_law 2032 = .ok (.istore 6, 2) := dk_54 6 (dk_at dksL_law_75 20 rfl rfl)
theorem dL_law_2034 : decode cL_law 2034 = .ok (.aload_n 2, 1) := dk_44 (dk_at dksL_law_75 22 rfl rfl)
theorem dL_law_2035 : decode cL_law 2035 = .ok (.aload_n 0, 1) := dk_42 (dk_at dksL_law_75 23 rfl rfl)
theorem dL_law_2036 : decode cL_law 2036 = .ok (.iload 5, 2) := dk_21 5 (dk_at dksL_law_76 0 rfl rfl)
theorem dL_law_2038 : decode cL_law 2038 = .ok (.iconst 1, 1) := dk_4 (dk_at dksL_law_76 2 rfl rfl)
theorem dL_law_2039 : decode cL_law 2039 = .ok (.iadd, 1) := dk_96 (dk_at dksL_law_76 3 rfl rfl)
theorem dL_law_2040 : decode cL_law 2040 = .ok (.iaload, 1) := dk_46 (dk_at dksL_law_76 4 rfl rfl)
theorem dL_law_2041 : decode cL_law 2041 = .ok (.aload_n 0, 1) := dk_42 (dk_at dksL_law_76 5 rfl rfl)
theorem dL_law_2042 : decode cL_law 2042 = .ok (.iload 5, 2) := dk_21 5 (dk_at dksL_law_76 6 rfl rfl)
theorem dL_law_2044 : decode cL_law 2044 = .ok (.iconst 2, 1) := dk_5 (dk_at dksL_law_76 8 rfl rfl)
theorem dL_law_2045 : decode cL_law 2045 = .ok (.iadd, 1) := dk_96 (dk_at dksL_law_76 9 rfl rfl)
theorem dL_law_2046 : decode cL_law 2046 = .ok (.iaload, 1) := dk_46 (dk_at dksL_law_76 10 rfl rfl)
theorem dL_law_2047 : decode cL_law 2047 = .ok (.invokevirtual 278, 3) := dk_182 1 22 (dk_at dksL_law_76 11 rfl rfl)
theorem dL_law_2050 : decode cL_law 2050 = .ok (.istore 7, 2) := dk_54 7 (dk_at dksL_law_76 14 rfl rfl)
theorem dL_law_2052 : decode cL_law 2052 = .ok (.aload_n 2, 1) := dk_44 (dk_at dksL_law_76 16 rfl rfl)
theorem dL_law_2053 : decode cL_law 2053 = .ok (.invokevirtual 149, 3) := dk_182 0 149 (dk_at dksL_law_76 17 rfl rfl)
theorem dL_law_2056 : decode cL_law 2056 = .ok (.iload 6, 2) := dk_21 6 (dk_at dksL_law_76 20 rfl rfl)
theorem dL_law_2058 : decode cL_law 2058 = .ok (.if_icmp .eq 5, 3) := dk_159 0 5 (dk_at dksL_law_77 0 rfl rfl)
theorem dL_law_2061 : decode cL_law 2061 = .ok (.iconst 0, 1) := dk_3 (dk_at dksL_law_77 3 rfl rfl)
theorem dL_law_2062 : decode cL_law 2062 = .ok (.ireturn, 1) := dk_172 (dk_at dksL_law_77 4 rfl rfl)
theorem dL_law_2063 : decode cL_law 2063 = .ok (.iload 6, 2) := dk_21 6 (dk_at dksL_law_77 5 rfl rfl)
theorem dL_law_2065 : decode cL_law 2065 = .ok (.ifCond .ne 15, 3) := dk_154 0 15 (dk_at dksL_law_77 7 rfl rfl)
theorem dL_law_2068 : decode cL_law 2068 = .ok (.aload_n 3, 1) := dk_45 (dk_at dksL_law_77 10 rfl rfl)
theorem dL_law_2069 : decode cL_law 2069 = .ok (.iconst 0, 1) := dk_3 (dk_at dksL_law_77 11 rfl rfl)
theorem dL_law_2070 : decode cL_law 2070 = .ok (.laload, 1) := dk_47 (dk_at dksL_law_77 12 rfl rfl)
theorem dL_law_2071 : decode cL_law 2071 = .ok (.iload 7, 2) := dk_21 7 (dk_at dksL_law_77 13 rfl rfl)
theorem dL_law_2073 : decode cL_law 2073 = .ok (.i2l, 1) := dk_133 (dk_at dksL_law_77 15 rfl rfl)
theorem dL_law_2074 : decode cL_law 2074 = .ok (.lcmp, 1) := dk_148 (dk_at dksL_law_77 16 rfl rfl)
theorem dL_law_2075 : decode cL_law 2075 = .ok (.ifCond .eq 5, 3) := dk_153 0 5 (dk_at dksL_law_77 17 rfl rfl)
theorem dL_law_2078 : decode cL_law 2078 = .ok (.iconst 0, 1) := dk_3 (dk_at dksL_law_77 20 rfl rfl)
theorem dL_law_2079 : decode cL_law 2079 = .ok (.ireturn, 1) := dk_172 (dk_at dksL_law_77 21 rfl rfl)
theorem dL_law_2080 : decode cL_law 2080 = .ok (.goto 905, 3) := dk_167 3 137 (dk_at dksL_law_78 0 rfl rfl)
theorem dL_law_2083 : decode cL_law 2083 = .ok (.aload_n 1, 1) := dk_43 (dk_at dksL_law_78 3 rfl rfl)
theorem dL_law_2084 : decode cL_law 2084 = .ok (.aload_n 0, 1) := dk_42 (dk_at dksL_law_78 4 rfl rfl)
theorem dL_law_2085 : decode cL_law 2085 = .ok (.iload 5, 2) := dk_21 5 (dk_at dksL_law_78 5 rfl rfl)
theorem dL_law_2087 : decode cL_law 2087 = .ok (.iconst 1, 1) := dk_4 (dk_at dksL_law_78 7 rfl rfl)
theorem dL_law_2088 : decode cL_law 2088 = .ok (.iadd, 1) := dk_96 (dk_at dksL_law_78 8 rfl rfl)
theorem dL_law_2089 : decode cL_law 2089 = .ok (.iaload, 1) := dk_46 (dk_at dksL_law_78 9 rfl rfl)
theorem dL_law_2090 : decode cL_law 2090 = .ok (.aload_n 0, 1) := dk_42 (dk_at dksL_law_78 10 rfl rfl)
theorem dL_law_2091 : decode cL_law 2091 = .ok (.iload 5, 2) := dk_21 5 (dk_at dksL_law_78 11 rfl rfl)
theorem dL_law_2093 : decode cL_law 2093 = .ok (.iconst 2, 1) := dk_5 (dk_at dksL_law_78 13 rfl rfl)
theorem dL_law_2094 : decode cL_law 2094 = .ok (.iadd, 1) := dk_96 (dk_at dksL_law_78 14 rfl rfl)
theorem dL_law_2095 : decode cL_law 2095 = .ok (.iaload, 1) := dk_46 (dk_at dksL_law_78 15 rfl rfl)
theorem dL_law_2096 : decode cL_law 2096 = .ok (.aload_n 3, 1) := dk_45 (dk_at dksL_law_78 16 rfl rfl)
theorem dL_law_2097 : decode cL_law 2097 = .ok (.invokestatic 279, 3) := dk_184 1 23 (dk_at dksL_law_78 17 rfl rfl)
theorem dL_law_2100 : decode cL_law 2100 = .ok (.istore 6, 2) := dk_54 6 (dk_at dksL_law_78 20 rfl rfl)
theorem dL_law_2102 : decode cL_law 2102 = .ok (.aload_n 2, 1) := dk_44 (dk_at dksL_law_78 22 rfl rfl)
theorem dL_law_2103 : decode cL_law 2103 = .ok (.aload_n 0, 1) := dk_42 (dk_at dksL_law_78 23 rfl rfl)
theorem dL_law_2104 : decode cL_law 2104 = .ok (.iload 5, 2) := dk_21 5 (dk_at dksL_law_79 0 rfl rfl)
theorem dL_law_2106 : decode cL_law 2106 = .ok (.iconst 1, 1) := dk_4 (dk_at dksL_law_79 2 rfl rfl)
theorem dL_law_2107 : decode cL_law 2107 = .ok (.iadd, 1) := dk_96 (dk_at dksL_law_79 3 rfl rfl)
theorem dL_law_2108 : decode cL_law 2108 = .ok (.iaload, 1) := dk_46 (dk_at dksL_law_79 4 rfl rfl)
theorem dL_law_2109 : decode cL_law 2109 = .ok (.aload_n 0, 1) := dk_42 (dk_at dksL_law_79 5 rfl rfl)
theorem dL_law_2110 : decode cL_law 2110 = .ok (.iload 5, 2) := dk_21 5 (dk_at dksL_law_79 6 rfl rfl)
theorem dL_law_2112 : decode cL_law 2112 = .ok (.iconst 2, 1) := dk_5 (dk_at dksL_law_79 8 rfl rfl)
theorem dL_law_2113 : decode cL_law 2113 = .ok (.iadd, 1) := dk_96 (dk_at dksL_law_79 9 rfl rfl)
theorem dL_law_2114 : decode cL_law 2114 = .ok (.iaload, 1) := dk_46 (dk_at dksL_law_79 10 rfl rfl)
theorem dL_law_2115 : decode cL_law 2115 = .ok (.invokevirtual 281, 3) := dk_182 1 25 (dk_at dksL_law_79 11 rfl rfl)
theorem dL_law_2118 : decode cL_law 2118 = .ok (.istore 7, 2) := dk_54 7 (dk_at dksL_law_79 14 rfl rfl)
theorem dL_law_2120 : decode cL_law 2120 = .ok (.aload_n 2, 1) := dk_44 (dk_at dksL_law_79 16 rfl rfl)
theorem dL_law_2121 : decode cL_law 2121 = .ok (.invokevirtual 149, 3) := dk_182 0 149 (dk_at dksL_law_79 17 rfl rfl)
theorem dL_law_2124 : decode cL_law 2124 = .ok (.iload 6, 2) := dk_21 6 (dk_at dksL_law_79 20 rfl rfl)
theorem dL_law_2126 : decode cL_law 2126 = .ok (.if_icmp .eq 5, 3) := dk_159 0 5 (dk_at dksL_law_80 0 rfl rfl)
theorem dL_law_2129 : decode cL_law 2129 = .ok (.iconst 0, 1) := dk_3 (dk_at dksL_law_80 3 rfl rfl)
theorem dL_law_2130 : decode cL_law 2130 = .ok (.ireturn, 1) := dk_172 (dk_at dksL_law_80 4 rfl rfl)
theorem dL_law_2131 : decode cL_law 2131 = .ok (.iload 6, 2) := dk_21 6 (dk_at dksL_law_80 5 rfl rfl)
theorem dL_law_2133 : decode cL_law 2133 = .ok (.ifCond .ne 15, 3) := dk_154 0 15 (dk_at dksL_law_80 7 rfl rfl)
theorem dL_law_2136 : decode cL_law 2136 = .ok (.aload_n 3, 1) := dk_45 (dk_at dksL_law_80 10 rfl rfl)
theorem dL_law_2137 : decode cL_law 2137 = .ok (.iconst 0, 1) := dk_3 (dk_at dksL_law_80 11 rfl rfl)
theorem dL_law_2138 : decode cL_law 2138 = .ok (.laload, 1) := dk_47 (dk_at dksL_law_80 12 rfl rfl)
theorem dL_law_2139 : decode cL_law 2139 = .ok (.iload 7, 2) := dk_21 7 (dk_at dksL_law_80 13 rfl rfl)
theorem dL_law_2141 : decode cL_law 2141 = .ok (.i2l, 1) := dk_133 (dk_at dksL_law_80 15 rfl rfl)
theorem dL_law_2142 : decode cL_law 2142 = .ok (.lcmp, 1) := dk_148 (dk_at dksL_law_80 16 rfl rfl)
theorem dL_law_2143 : decode cL_law 2143 = .ok (.ifCond .eq 5, 3) := dk_153 0 5 (dk_at dksL_law_80 17 rfl rfl)
theorem dL_law_2146 : decode cL_law 2146 = .ok (.iconst 0, 1) := dk_3 (dk_at dksL_law_80 20 rfl rfl)
theorem dL_law_2147 : decode cL_law 2147 = .ok (.ireturn, 1) := dk_172 (dk_at dksL_law_80 21 rfl rfl)
theorem dL_law_2148 : decode cL_law 2148 = .ok (.goto 837, 3) := dk_167 3 69 (dk_at dksL_law_81 0 rfl rfl)
theorem dL_law_2151 : decode cL_law 2151 = .ok (.aload_n 1, 1) := dk_43 (dk_at dksL_law_81 3 rfl rfl)
theorem dL_law_2152 : decode cL_law 2152 = .ok (.aload_n 3, 1) := dk_45 (dk_at dksL_law_81 4 rfl rfl)
theorem dL_law_2153 : decode cL_law 2153 = .ok (.invokestatic 282, 3) := dk_184 1 26 (dk_at dksL_law_81 5 rfl rfl)
theorem dL_law_2156 : decode cL_law 2156 = .ok (.istore 6, 2) := dk_54 6 (dk_at dksL_law_81 8 rfl rfl)
theorem dL_law_2158 : decode cL_law 2158 = .ok (.aload_n 2, 1) := dk_44 (dk_at dksL_law_81 10 rfl rfl)
theorem dL_law_2159 : decode cL_law 2159 = .ok (.invokevirtual 284, 3) := dk_182 1 28 (dk_at dksL_law_81 11 rfl rfl)
theorem dL_law_2162 : decode cL_law 2162 = .ok (.istore 7, 2) := dk_54 7 (dk_at dksL_law_81 14 rfl rfl)
theorem dL_law_2164 : decode cL_law 2164 = .ok (.aload_n 2, 1) := dk_44 (dk_at dksL_law_81 16 rfl rfl)
theorem dL_law_2165 : decode cL_law 2165 = .ok (.invokevirtual 149, 3) := dk_182 0 149 (dk_at dksL_law_81 17 rfl rfl)
theorem dL_law_2168 : decode cL_law 2168 = .ok (.iload 6, 2) := dk_21 6 (dk_at dksL_law_81 20 rfl rfl)
theorem dL_law_2170 : decode cL_law 2170 = .ok (.if_icmp .eq 5, 3) := dk_159 0 5 (dk_at dksL_law_82 0 rfl rfl)
theorem dL_law_2173 : decode cL_law 2173 = .ok (.iconst 0, 1) := dk_3 (dk_at dksL_law_82 3 rfl rfl)
theorem dL_law_2174 : decode cL_law 2174 = .ok (.ireturn, 1) := dk_172 (dk_at dksL_law_82 4 rfl rfl)
theorem dL_law_2175 : decode cL_law 2175 = .ok (.iload 6, 2) := dk_21 6 (dk_at dksL_law_82 5 rfl rfl)
theorem dL_law_2177 : decode cL_law 2177 = .ok (.ifCond .ne 15, 3) := dk_154 0 15 (dk_at dksL_law_82 7 rfl rfl)
theorem dL_law_2180 : decode cL_law 2180 = .ok (.aload_n 3, 1) := dk_45 (dk_at dksL_law_82 10 rfl rfl)
theorem dL_law_2181 : decode cL_law 2181 = .ok (.iconst 0, 1) := dk_3 (dk_at dksL_law_82 11 rfl rfl)
theorem dL_law_2182 : decode cL_law 2182 = .ok (.laload, 1) := dk_47 (dk_at dksL_law_82 12 rfl rfl)
theorem dL_law_2183 : decode cL_law 2183 = .ok (.iload 7, 2) := dk_21 7 (dk_at dksL_law_82 13 rfl rfl)
theorem dL_law_2185 : decode cL_law 2185 = .ok (.i2l, 1) := dk_133 (dk_at dksL_law_82 15 rfl rfl)
theorem dL_law_2186 : decode cL_law 2186 = .ok (.lcmp, 1) := dk_148 (dk_at dksL_law_82 16 rfl rfl)
theorem dL_law_2187 : decode cL_law 2187 = .ok (.ifCond .eq 5, 3) := dk_153 0 5 (dk_at dksL_law_82 17 rfl rfl)
theorem dL_law_2190 : decode cL_law 2190 = .ok (.iconst 0, 1) := dk_3 (dk_at dksL_law_82 20 rfl rfl)
theorem dL_law_2191 : decode cL_law 2191 = .ok (.ireturn, 1) := dk_172 (dk_at dksL_law_82 21 rfl rfl)
theorem dL_law_2192 : decode cL_law 2192 = .ok (.goto 793, 3) := dk_167 3 25 (dk_at dksL_law_83 0 rfl rfl)
theorem dL_law_2195 : decode cL_law 2195 = .ok (.aload_n 1, 1) := dk_43 (dk_at dksL_law_83 3 rfl rfl)
theorem dL_law_2196 : decode cL_law 2196 = .ok (.invokevirtual 285, 3) := dk_182 1 29 (dk_at dksL_law_83 4 rfl rfl)
theorem dL_law_2199 : decode cL_law 2199 = .ok (.aload_n 2, 1) := dk_44 (dk_at dksL_law_83 7 rfl rfl)
theorem dL_law_2200 : decode cL_law 2200 = .ok (.invokevirtual 288, 3) := dk_182 1 32 (dk_at dksL_law_83 8 rfl rfl)
theorem dL_law_2203 : decode cL_law 2203 = .ok (.if_icmp .eq 782, 3) := dk_159 3 14 (dk_at dksL_law_83 11 rfl rfl)
theorem dL_law_2206 : decode cL_law 2206 = .ok (.iconst 0, 1) := dk_3 (dk_at dksL_law_83 14 rfl rfl)
theorem dL_law_2207 : decode cL_law 2207 = .ok (.ireturn, 1) := dk_172 (dk_at dksL_law_83 15 rfl rfl)
theorem dL_law_2208 : decode cL_law 2208 = .ok (.aload_n 1, 1) := dk_43 (dk_at dksL_law_83 16 rfl rfl)
theorem dL_law_2209 : decode cL_law 2209 = .ok (.invokevirtual 289, 3) := dk_182 1 33 (dk_at dksL_law_83 17 rfl rfl)
theorem dL_law_2212 : decode cL_law 2212 = .ok (.aload_n 2, 1) := dk_44 (dk_at dksL_law_83 20 rfl rfl)
theorem dL_law_2213 : decode cL_law 2213 = .ok (.invokevirtual 292, 3) := dk_182 1 36 (dk_at dksL_law_83 21 rfl rfl)
theorem dL_law_2216 : decode cL_law 2216 = .ok (.if_icmp .eq 769, 3) := dk_159 3 1 (dk_at dksL_law_84 0 rfl rfl)
theorem dL_law_2219 : decode cL_law 2219 = .ok (.iconst 0, 1) := dk_3 (dk_at dksL_law_84 3 rfl rfl)
theorem dL_law_2220 : decode cL_law 2220 = .ok (.ireturn, 1) := dk_172 (dk_at dksL_law_84 4 rfl rfl)
theorem dL_law_2221 : decode cL_law 2221 = .ok (.aload_n 1, 1) := dk_43 (dk_at dksL_law_84 5 rfl rfl)
theorem dL_law_2222 : decode cL_law 2222 = .ok (.aload_n 0, 1) := dk_42 (dk_at dksL_law_84 6 rfl rfl)
theorem dL_law_2223 : decode cL_law 2223 = .ok (.iload 5, 2) := dk_21 5 (dk_at dksL_law_84 7 rfl rfl)
theorem dL_law_2225 : decode cL_law 2225 = .ok (.iconst 1, 1) := dk_4 (dk_at dksL_law_84 9 rfl rfl)
theorem dL_law_2226 : decode cL_law 2226 = .ok (.iadd, 1) := dk_96 (dk_at dksL_law_84 10 rfl rfl)
theorem dL_law_2227 : decode cL_law 2227 = .ok (.iaload, 1) := dk_46 (dk_at dksL_law_84 11 rfl rfl)
theorem dL_law_2228 : decode cL_law 2228 = .ok (.aload_n 3, 1) := dk_45 (dk_at dksL_law_84 12 rfl rfl)
theorem dL_law_2229 : decode cL_law 2229 = .ok (.invokestatic 293, 3) := dk_184 1 37 (dk_at dksL_law_84 13 rfl rfl)
theorem dL_law_2232 : decode cL_law 2232 = .ok (.istore 6, 2) := dk_54 6 (dk_at dksL_law_84 16 rfl rfl)
theorem dL_law_2234 : decode cL_law 2234 = .ok (.aload_n 2, 1) := dk_44 (dk_at dksL_law_84 18 rfl rfl)
theorem dL_law_2235 : decode cL_law 2235 = .ok (.aload_n 0, 1) := dk_42 (dk_at dksL_law_84 19 rfl rfl)
theorem dL_law_2236 : decode cL_law 2236 = .ok (.iload 5, 2) := dk_21 5 (dk_at dksL_law_84 20 rfl rfl)
theorem dL_law_2238 : decode cL_law 2238 = .ok (.iconst 1, 1) := dk_4 (dk_at dksL_law_84 22 rfl rfl)
theorem dL_law_2239 : decode cL_law 2239 = .ok (.iadd, 1) := dk_96 (dk_at dksL_law_84 23 rfl rfl)
theorem dL_law_2240 : decode cL_law 2240 = .ok (.iaload, 1) := dk_46 (dk_at dksL_law_85 0 rfl rfl)
theorem dL_law_2241 : decode cL_law 2241 = .ok (.invokevirtual 295, 3) := dk_182 1 39 (dk_at dksL_law_85 1 rfl rfl)
theorem dL_law_2244 : decode cL_law 2244 = .ok (.istore 7, 2) := dk_54 7 (dk_at dksL_law_85 4 rfl rfl)
theorem dL_law_2246 : decode cL_law 2246 = .ok (.aload_n 2, 1) := dk_44 (dk_at dksL_law_85 6 rfl rfl)
theorem dL_law_2247 : decode cL_law 2247 = .ok (.invokevirtual 149, 3) := dk_182 0 149 (dk_at dksL_law_85 7 rfl rfl)
theorem dL_law_2250 : decode cL_law 2250 = .ok (.iload 6, 2) := dk_21 6 (dk_at dksL_law_85 10 rfl rfl)
theorem dL_law_2252 : decode cL_law 2252 = .ok (.if_icmp .eq 5, 3) := dk_159 0 5 (dk_at dksL_law_85 12 rfl rfl)
theorem dL_law_2255 : decode cL_law 2255 = .ok (.iconst 0, 1) := dk_3 (dk_at dksL_law_85 15 rfl rfl)
theorem dL_law_2256 : decode cL_law 2256 = .ok (.ireturn, 1) := dk_172 (dk_at dksL_law_85 16 rfl rfl)
theorem dL_law_2257 : decode cL_law 2257 = .ok (.iload 6, 2) := dk_21 6 (dk_at dksL_law_85 17 rfl rfl)
theorem dL_law_2259 : decode cL_law 2259 = .ok (.ifCond .ne 15, 3) := dk_154 0 15 (dk_at dksL_law_85 19 rfl rfl)
theorem dL_law_2262 : decode cL_law 2262 = .ok (.aload_n 3, 1) := dk_45 (dk_at dksL_law_85 22 rfl rfl)
theorem dL_law_2263 : decode cL_law 2263 = .ok (.iconst 0, 1) := dk_3 (dk_at dksL_law_85 23 rfl rfl)
theorem dL_law_2264 : decode cL_law 2264 = .ok (.laload, 1) := dk_47 (dk_at dksL_law_86 0 rfl rfl)
theorem dL_law_2265 : decode cL_law 2265 = .ok (.iload 7, 2) := dk_21 7 (dk_at dksL_law_86 1 rfl rfl)
theorem dL_law_2267 : decode cL_law 2267 = .ok (.i2l, 1) := dk_133 (dk_at dksL_law_86 3 rfl rfl)
theorem dL_law_2268 : decode cL_law 2268 = .ok (.lcmp, 1) := dk_148 (dk_at dksL_law_86 4 rfl rfl)
theorem dL_law_2269 : decode cL_law 2269 = .ok (.ifCond .eq 5, 3) := dk_153 0 5 (dk_at dksL_law_86 5 rfl rfl)
theorem dL_law_2272 : decode cL_law 2272 = .ok (.iconst 0, 1) := dk_3 (dk_at dksL_law_86 8 rfl rfl)
theorem dL_law_2273 : decode cL_law 2273 = .ok (.ireturn, 1) := dk_172 (dk_at dksL_law_86 9 rfl rfl)
theorem dL_law_2274 : decode cL_law 2274 = .ok (.goto 711, 3) := dk_167 2 199 (dk_at dksL_law_86 10 rfl rfl)
theorem dL_law_2277 : decode cL_law 2277 = .ok (.aload_n 1, 1) := dk_43 (dk_at dksL_law_86 13 rfl rfl)
theorem dL_law_2278 : decode cL_law 2278 = .ok (.aload_n 0, 1) := dk_42 (dk_at dksL_law_86 14 rfl rfl)
theorem dL_law_2279 : decode cL_law 2279 = .ok (.iload 5, 2) := dk_21 5 (dk_at dksL_law_86 15 rfl rfl)
theorem dL_law_2281 : decode cL_law 2281 = .ok (.iconst 1, 1) := dk_4 (dk_at dksL_law_86 17 rfl rfl)
theorem dL_law_2282 : decode cL_law 2282 = .ok (.iadd, 1) := dk_96 (dk_at dksL_law_86 18 rfl rfl)
theorem dL_law_2283 : decode cL_law 2283 = .ok (.iaload, 1) := dk_46 (dk_at dksL_law_86 19 rfl rfl)
theorem dL_law_2284 : decode cL_law 2284 = .ok (.aload_n 3, 1) := dk_45 (dk_at dksL_law_86 20 rfl rfl)
theorem dL_law_2285 : decode cL_law 2285 = .ok (.invokestatic 296, 3) := dk_184 1 40 (dk_at dksL_law_86 21 rfl rfl)
theorem dL_law_2288 : decode cL_law 2288 = .ok (.istore 6, 2) := dk_54 6 (dk_at dksL_law_87 0 rfl rfl)
theorem dL_law_2290 : decode cL_law 2290 = .ok (.aload_n 2, 1) := dk_44 (dk_at dksL_law_87 2 rfl rfl)
theorem dL_law_2291 : decode cL_law 2291 = .ok (.aload_n 0, 1) := dk_42 (dk_at dksL_law_87 3 rfl rfl)
theorem dL_law_2292 : decode cL_law 2292 = .ok (.iload 5, 2) := dk_21 5 (dk_at dksL_law_87 4 rfl rfl)
theorem dL_law_2294 : decode cL_law 2294 = .ok (.iconst 1, 1) := dk_4 (dk_at dksL_law_87 6 rfl rfl)
theorem dL_law_2295 : decode cL_law 2295 = .ok (.iadd, 1) := dk_96 (dk_at dksL_law_87 7 rfl rfl)
theorem dL_law_2296 : decode cL_law 2296 = .ok (.iaload, 1) := dk_46 (dk_at dksL_law_87 8 rfl rfl)
theorem dL_law_2297 : decode cL_law 2297 = .ok (.invokevirtual 298, 3) := dk_182 1 42 (dk_at dksL_law_87 9 rfl rfl)
theorem dL_law_2300 : decode cL_law 2300 = .ok (.istore 7, 2) := dk_54 7 (dk_at dksL_law_87 12 rfl rfl)
theorem dL_law_2302 : decode cL_law 2302 = .ok (.aload_n 2, 1) := dk_44 (dk_at dksL_law_87 14 rfl rfl)
theorem dL_law_2303 : decode cL_law 2303 = .ok (.invokevirtual 149, 3) := dk_182 0 149 (dk_at dksL_law_87 15 rfl rfl)
theorem dL_law_2306 : decode cL_law 2306 = .ok (.iload 6, 2) := dk_21 6 (dk_at dksL_law_87 18 rfl rfl)
theorem dL_law_2308 : decode cL_law 2308 = .ok (.if_icmp .eq 5, 3) := dk_159 0 5 (dk_at dksL_law_87 20 rfl rfl)
theorem dL_law_2311 : decode cL_law 2311 = .ok (.iconst 0, 1) := dk_3 (dk_at dksL_law_87 23 rfl rfl)
theorem dL_law_2312 : decode cL_law 2312 = .ok (.ireturn, 1) := dk_172 (dk_at dksL_law_88 0 rfl rfl)
theorem dL_law_2313 : decode cL_law 2313 = .ok (.iload 6, 2) := dk_21 6 (dk_at dksL_law_88 1 rfl rfl)
theorem dL_law_2315 : decode cL_law 2315 = .ok (.ifCond .ne 15, 3) := dk_154 0 15 (dk_at dksL_law_88 3 rfl rfl)
theorem dL_law_2318 : decode cL_law 2318 = .ok (.aload_n 3, 1) := dk_45 (dk_at dksL_law_88 6 rfl rfl)
theorem dL_law_2319 : decode cL_law 2319 = .ok (.iconst 0, 1) := dk_3 (dk_at dksL_law_88 7 rfl rfl)
theorem dL_law_2320 : decode cL_law 2320 = .ok (.laload, 1) := dk_47 (dk_at dksL_law_88 8 rfl rfl)
theorem dL_law_2321 : decode cL_law 2321 = .ok (.iload 7, 2) := dk_21 7 (dk_at dksL_law_88 9 rfl rfl)
theorem dL_law_2323 : decode cL_law 2323 = .ok (.i2l, 1) := dk_133 (dk_at dksL_law_88 11 rfl rfl)
theorem dL_law_2324 : decode cL_law 2324 = .ok (.lcmp, 1) := dk_148 (dk_at dksL_law_88 12 rfl rfl)
theorem dL_law_2325 : decode cL_law 2325 = .ok (.ifCond .eq 5, 3) := dk_153 0 5 (dk_at dksL_law_88 13 rfl rfl)
theorem dL_law_2328 : decode cL_law 2328 = .ok (.iconst 0, 1) := dk_3 (dk_at dksL_law_88 16 rfl rfl)
theorem dL_law_2329 : decode cL_law 2329 = .ok (.ireturn, 1) := dk_172 (dk_at dksL_law_88 17 rfl rfl)
theorem dL_law_2330 : decode cL_law 2330 = .ok (.goto 655, 3) := dk_167 2 143 (dk_at dksL_law_88 18 rfl rfl)
theorem dL_law_2333 : decode cL_law 2333 = .ok (.aload_n 1, 1) := dk_43 (dk_at dksL_law_88 21 rfl rfl)
theorem dL_law_2334 : decode cL_law 2334 = .ok (.invokevirtual 299, 3) := dk_182 1 43 (dk_at dksL_law_89 0 rfl rfl)
theorem dL_law_2337 : decode cL_law 2337 = .ok (.aload_n 2, 1) := dk_44 (dk_at dksL_law_89 3 rfl rfl)
theorem dL_law_2338 : decode cL_law 2338 = .ok (.invokevirtual 302, 3) := dk_182 1 46 (dk_at dksL_law_89 4 rfl rfl)
theorem dL_law_2341 : decode cL_law 2341 = .ok (.if_icmp .eq 644, 3) := dk_159 2 132 (dk_at dksL_law_89 7 rfl rfl)
theorem dL_law_2344 : decode cL_law 2344 = .ok (.iconst 0, 1) := dk_3 (dk_at dksL_law_89 10 rfl rfl)
theorem dL_law_2345 : decode cL_law 2345 = .ok (.ireturn, 1) := dk_172 (dk_at dksL_law_89 11 rfl rfl)
theorem dL_law_2346 : decode cL_law 2346 = .ok (.aload_n 1, 1) := dk_43 (dk_at dksL_law_89 12 rfl rfl)
theorem dL_law_2347 : decode cL_law 2347 = .ok (.invokevirtual 303, 3) := dk_182 1 47 (dk_at dksL_law_89 13 rfl rfl)
theorem dL_law_2350 : decode cL_law 2350 = .ok (.aload_n 2, 1) := dk_44 (dk_at dksL_law_89 16 rfl rfl)
theorem dL_law_2351 : decode cL_law 2351 = .ok (.invokevirtual 306, 3) := dk_182 1 50 (dk_at dksL_law_89 17 rfl rfl)
theorem dL_law_2354 : decode cL_law 2354 = .ok (.if_icmp .eq 631, 3) := dk_159 2 119 (dk_at dksL_law_89 20 rfl rfl)
theorem dL_law_2357 : decode cL_law 2357 = .ok (.iconst 0, 1) := dk_3 (dk_at dksL_law_89 23 rfl rfl)
theorem dL_law_2358 : decode cL_law 2358 = .ok (.ireturn, 1) := dk_172 (dk_at dksL_law_90 0 rfl rfl)
theorem dL_law_2359 : decode cL_law 2359 = .ok (.aload_n 1, 1) := dk_43 (dk_at dksL_law_90 1 rfl rfl)
theorem dL_law_2360 : decode cL_law 2360 = .ok (.aload_n 0, 1) := dk_42 (dk_at dksL_law_90 2 rfl rfl)
theorem dL_law_2361 : decode cL_law 2361 = .ok (.iload 5, 2) := dk_21 5 (dk_at dksL_law_90 3 rfl rfl)
theorem dL_law_2363 : decode cL_law 2363 = .ok (.iconst 1, 1) := dk_4 (dk_at dksL_law_90 5 rfl rfl)
theorem dL_law_2364 : decode cL_law 2364 = .ok (.iadd, 1) := dk_96 (dk_at dksL_law_90 6 rfl rfl)
theorem dL_law_2365 : decode cL_law 2365 = .ok (.iaload, 1) := dk_46 (dk_at dksL_law_90 7 rfl rfl)
theorem dL_law_2366 : decode cL_law 2366 = .ok (.aload_n 0, 1) := dk_42 (dk_at dksL_law_90 8 rfl rfl)
theorem dL_law_2367 : decode cL_law 2367 = .ok (.iload 5, 2) := dk_21 5 (dk_at dksL_law_90 9 rfl rfl)
theorem dL_law_2369 : decode cL_law 2369 = .ok (.iconst 2, 1) := dk_5 (dk_at dksL_law_90 11 rfl rfl)
theorem dL_law_2370 : decode cL_law 2370 = .ok (.iadd, 1) := dk_96 (dk_at dksL_law_90 12 rfl rfl)
theorem dL_law_2371 : decode cL_law 2371 = .ok (.iaload, 1) := dk_46 (dk_at dksL_law_90 13 rfl rfl)
theorem dL_law_2372 : decode cL_law 2372 = .ok (.aload_n 3, 1) := dk_45 (dk_at dksL_law_90 14 rfl rfl)
theorem dL_law_2373 : decode cL_law 2373 = .ok (.invokestatic 307, 3) := dk_184 1 51 (dk_at dksL_law_90 15 rfl rfl)
theorem dL_law_2376 : decode cL_law 2376 = .ok (.istore 6, 2) := dk_54 6 (dk_at dksL_law_90 18 rfl rfl)
theorem dL_law_2378 : decode cL_law 2378 = .ok (.aload_n 2, 1) := dk_44 (dk_at dksL_law_90 20 rfl rfl)
theorem dL_law_2379 : decode cL_law 2379 = .ok (.aload_n 0, 1) := dk_42 (dk_at dksL_law_90 21 rfl rfl)
theorem dL_law_2380 : decode cL_law 2380 = .ok (.iload 5, 2) := dk_21 5 (dk_at dksL_law_90 22 rfl rfl)
theorem dL_law_2382 : decode cL_law 2382 = .ok (.iconst 1, 1) := dk_4 (dk_at dksL_law_91 0 rfl rfl)
theorem dL_law_2383 : decode cL_law 2383 = .ok (.iadd, 1) := dk_96 (dk_at dksL_law_91 1 rfl rfl)
theorem dL_law_2384 : decode cL_law 2384 = .ok (.iaload, 1) := dk_46 (dk_at dksL_law_91 2 rfl rfl)
theorem dL_law_2385 : decode cL_law 2385 = .ok (.aload_n 0, 1) := dk_42 (dk_at dksL_law_91 3 rfl rfl)
theorem dL_law_2386 : decode cL_law 2386 = .ok (.iload 5, 2) := dk_21 5 (dk_at dksL_law_91 4 rfl rfl)
theorem dL_law_2388 : decode cL_law 2388 = .ok (.iconst 2, 1) := dk_5 (dk_at dksL_law_91 6 rfl rfl)
theorem dL_law_2389 : decode cL_law 2389 = .ok (.iadd, 1) := dk_96 (dk_at dksL_law_91 7 rfl rfl)
theorem dL_law_2390 : decode cL_law 2390 = .ok (.iaload, 1) := dk_46 (dk_at dksL_law_91 8 rfl rfl)
theorem dL_law_2391 : decode cL_law 2391 = .ok (.invokevirtual 309, 3) := dk_182 1 53 (dk_at dksL_law_91 9 rfl rfl)
theorem dL_law_2394 : decode cL_law 2394 = .ok (.istore 7, 2) := dk_54 7 (dk_at dksL_law_91 12 rfl rfl)
theorem dL_law_2396 : decode cL_law 2396 = .ok (.aload_n 2, 1) := dk_44 (dk_at dksL_law_91 14 rfl rfl)
theorem dL_law_2397 : decode cL_law 2397 = .ok (.invokevirtual 149, 3) := dk_182 0 149 (dk_at dksL_law_91 15 rfl rfl)
theorem dL_law_2400 : decode cL_law 2400 = .ok (.iload 6, 2) := dk_21 6 (dk_at dksL_law_91 18 rfl rfl)
theorem dL_law_2402 : decode cL_law 2402 = .ok (.if_icmp .eq 5, 3) := dk_159 0 5 (dk_at dksL_law_91 20 rfl rfl)
theorem dL_law_2405 : decode cL_law 2405 = .ok (.iconst 0, 1) := dk_3 (dk_at dksL_law_91 23 rfl rfl)
theorem dL_law_2406 : decode cL_law 2406 = .ok (.ireturn, 1) := dk_172 (dk_at dksL_law_92 0 rfl rfl)
theorem dL_law_2407 : decode cL_law 2407 = .ok (.iload 6, 2) := dk_21 6 (dk_at dksL_law_92 1 rfl rfl)
theorem dL_law_2409 : decode cL_law 2409 = .ok (.ifCond .ne 15, 3) := dk_154 0 15 (dk_at dksL_law_92 3 rfl rfl)
theorem dL_law_2412 : decode cL_law 2412 = .ok (.aload_n 3, 1) := dk_45 (dk_at dksL_law_92 6 rfl rfl)
theorem dL_law_2413 : decode cL_law 2413 = .ok (.iconst 0, 1) := dk_3 (dk_at dksL_law_92 7 rfl rfl)
theorem dL_law_2414 : decode cL_law 2414 = .ok (.laload, 1) := dk_47 (dk_at dksL_law_92 8 rfl rfl)
theorem dL_law_2415 : decode cL_law 2415 = .ok (.iload 7, 2) := dk_21 7 (dk_at dksL_law_92 9 rfl rfl)
theorem dL_law_2417 : decode cL_law 2417 = .ok (.i2l, 1) := dk_133 (dk_at dksL_law_92 11 rfl rfl)
theorem dL_law_2418 : decode cL_law 2418 = .ok (.lcmp, 1) := dk_148 (dk_at dksL_law_92 12 rfl rfl)
theorem dL_law_2419 : decode cL_law 2419 = .ok (.ifCond .eq 5, 3) := dk_153 0 5 (dk_at dksL_law_92 13 rfl rfl)
theorem dL_law_2422 : decode cL_law 2422 = .ok (.iconst 0, 1) := dk_3 (dk_at dksL_law_92 16 rfl rfl)
theorem dL_law_2423 : decode cL_law 2423 = .ok (.ireturn, 1) := dk_172 (dk_at dksL_law_92 17 rfl rfl)
theorem dL_law_2424 : decode cL_law 2424 = .ok (.goto 561, 3) := dk_167 2 49 (dk_at dksL_law_92 18 rfl rfl)
theorem dL_law_2427 : decode cL_law 2427 = .ok (.aload_n 1, 1) := dk_43 (dk_at dksL_law_92 21 rfl rfl)
theorem dL_law_2428 : decode cL_law 2428 = .ok (.aload_n 0, 1) := dk_42 (dk_at dksL_law_92 22 rfl rfl)
theorem dL_law_2429 : decode cL_law 2429 = .ok (.iload 5, 2) := dk_21 5 (dk_at dksL_law_93 0 rfl rfl)
theorem dL_law_2431 : decode cL_law 2431 = .ok (.iconst 1, 1) := dk_4 (dk_at dksL_law_93 2 rfl rfl)
theorem dL_law_2432 : decode cL_law 2432 = .ok (.iadd, 1) := dk_96 (dk_at dksL_law_93 3 rfl rfl)
theorem dL_law_2433 : decode cL_law 2433 = .ok (.iaload, 1) := dk_46 (dk_at dksL_law_93 4 rfl rfl)
theorem dL_law_2434 : decode cL_law 2434 = .ok (.aload_n 3, 1) := dk_45 (dk_at dksL_law_93 5 rfl rfl)
theorem dL_law_2435 : decode cL_law 2435 = .ok (.invokestatic 310, 3) := dk_184 1 54 (dk_at dksL_law_93 6 rfl rfl)
theorem dL_law_2438 : decode cL_law 2438 = .ok (.istore 6, 2) := dk_54 6 (dk_at dksL_law_93 9 rfl rfl)
theorem dL_law_2440 : decode cL_law 2440 = .ok (.aload_n 2, 1) := dk_44 (dk_at dksL_law_93 11 rfl rfl)
theorem dL_law_2441 : decode cL_law 2441 = .ok (.aload_n 0, 1) := dk_42 (dk_at dksL_law_93 12 rfl rfl)
theorem dL_law_2442 : decode cL_law 2442 = .ok (.iload 5, 2) := dk_21 5 (dk_at dksL_law_93 13 rfl rfl)
theorem dL_law_2444 : decode cL_law 2444 = .ok (.iconst 1, 1) := dk_4 (dk_at dksL_law_93 15 rfl rfl)
theorem dL_law_2445 : decode cL_law 2445 = .ok (.iadd, 1) := dk_96 (dk_at dksL_law_93 16 rfl rfl)
theorem dL_law_2446 : decode cL_law 2446 = .ok (.iaload, 1) := dk_46 (dk_at dksL_law_93 17 rfl rfl)
theorem dL_law_2447 : decode cL_law 2447 = .ok (.invokevirtual 312, 3) := dk_182 1 56 (dk_at dksL_law_93 18 rfl rfl)
theorem dL_law_2450 : decode cL_law 2450 = .ok (.istore 7, 2) := dk_54 7 (dk_at dksL_law_93 21 rfl rfl)
theorem dL_law_2452 : decode cL_law 2452 = .ok (.aload_n 2, 1) := dk_44 (dk_at dksL_law_93 23 rfl rfl)
theorem dL_law_2453 : decode cL_law 2453 = .ok (.invokevirtual 149, 3) := dk_182 0 149 (dk_at dksL_law_94 0 rfl rfl)
theorem dL_law_2456 : decode cL_law 2456 = .ok (.iload 6, 2) := dk_21 6 (dk_at dksL_law_94 3 rfl rfl)
theorem dL_law_2458 : decode cL_law 2458 = .ok (.if_icmp .eq 5, 3) := dk_159 0 5 (dk_at dksL_law_94 5 rfl rfl)
theorem dL_law_2461 : decode cL_law 2461 = .ok (.iconst 0, 1) := dk_3 (dk_at dksL_law_94 8 rfl rfl)
theorem dL_law_2462 : decode cL_law 2462 = .ok (.ireturn, 1) := dk_172 (dk_at dksL_law_94 9 rfl rfl)
theorem dL_law_2463 : decode cL_law 2463 = .ok (.iload 6, 2) := dk_21 6 (dk_at dksL_law_94 10 rfl rfl)
theorem dL_law_2465 : decode cL_law 2465 = .ok (.ifCond .ne 15, 3) := dk_154 0 15 (dk_at dksL_law_94 12 rfl rfl)
theorem dL_law_2468 : decode cL_law 2468 = .ok (.aload_n 3, 1) := dk_45 (dk_at dksL_law_94 15 rfl rfl)
theorem dL_law_2469 : decode cL_law 2469 = .ok (.iconst 0, 1) := dk_3 (dk_at dksL_law_94 16 rfl rfl)
theorem dL_law_2470 : decode cL_law 2470 = .ok (.laload, 1) := dk_47 (dk_at dksL_law_94 17 rfl rfl)
theorem dL_law_2471 : decode cL_law 2471 = .ok (.iload 7, 2) := dk_21 7 (dk_at dksL_law_94 18 rfl rfl)
theorem dL_law_2473 : decode cL_law 2473 = .ok (.i2l, 1) := dk_133 (dk_at dksL_law_94 20 rfl rfl)
theorem dL_law_2474 : decode cL_law 2474 = .ok (.lcmp, 1) := dk_148 (dk_at dksL_law_94 21 rfl rfl)
theorem dL_law_2475 : decode cL_law 2475 = .ok (.ifCond .eq 5, 3) := dk_153 0 5 (dk_at dksL_law_95 0 rfl rfl)
theorem dL_law_2478 : decode cL_law 2478 = .ok (.iconst 0, 1) := dk_3 (dk_at dksL_law_95 3 rfl rfl)
theorem dL_law_2479 : decode cL_law 2479 = .ok (.ireturn, 1) := dk_172 (dk_at dksL_law_95 4 rfl rfl)
theorem dL_law_2480 : decode cL_law 2480 = .ok (.goto 505, 3) := dk_167 1 249 (dk_at dksL_law_95 5 rfl rfl)
theorem dL_law_2483 : decode cL_law 2483 = .ok (.aload_n 1, 1) := dk_43 (dk_at dksL_law_95 8 rfl rfl)
theorem dL_law_2484 : decode cL_law 2484 = .ok (.invokevirtual 313, 3) := dk_182 1 57 (dk_at dksL_law_95 9 rfl rfl)
theorem dL_law_2487 : decode cL_law 2487 = .ok (.aload_n 2, 1) := dk_44 (dk_at dksL_law_95 12 rfl rfl)
theorem dL_law_2488 : decode cL_law 2488 = .ok (.invokevirtual 316, 3) := dk_182 1 60 (dk_at dksL_law_95 13 rfl rfl)
theorem dL_law_2491 : decode cL_law 2491 = .ok (.if_icmp .eq 494, 3) := dk_159 1 238 (dk_at dksL_law_95 16 rfl rfl)
theorem dL_law_2494 : decode cL_law 2494 = .ok (.iconst 0, 1) := dk_3 (dk_at dksL_law_95 19 rfl rfl)
theorem dL_law_2495 : decode cL_law 2495 = .ok (.ireturn, 1) := dk_172 (dk_at dksL_law_95 20 rfl rfl)
theorem dL_law_2496 : decode cL_law 2496 = .ok (.aload_n 1, 1) := dk_43 (dk_at dksL_law_95 21 rfl rfl)
theorem dL_law_2497 : decode cL_law 2497 = .ok (.invokevirtual 317, 3) := dk_182 1 61 (dk_at dksL_law_96 0 rfl rfl)
theorem dL_law_2500 : decode cL_law 2500 = .ok (.aload_n 2, 1) := dk_44 (dk_at dksL_law_96 3 rfl rfl)
theorem dL_law_2501 : decode cL_law 2501 = .ok (.invokevirtual 320, 3) := dk_182 1 64 (dk_at dksL_law_96 4 rfl rfl)
theorem dL_law_2504 : decode cL_law 2504 = .ok (.if_icmp .eq 481, 3) := dk_159 1 225 (dk_at dksL_law_96 7 rfl rfl)
theorem dL_law_2507 : decode cL_law 2507 = .ok (.iconst 0, 1) := dk_3 (dk_at dksL_law_96 10 rfl rfl)
theorem dL_law_2508 : decode cL_law 2508 = .ok (.ireturn, 1) := dk_172 (dk_at dksL_law_96 11 rfl rfl)
theorem dL_law_2509 : decode cL_law 2509 = .ok (.aload_n 1, 1) := dk_43 (dk_at dksL_law_96 12 rfl rfl)
theorem dL_law_2510 : decode cL_law 2510 = .ok (.invokevirtual 321, 3) := dk_182 1 65 (dk_at dksL_law_96 13 rfl rfl)
theorem dL_law_2513 : decode cL_law 2513 = .ok (.aload_n 2, 1) := dk_44 (dk_at dksL_law_96 16 rfl rfl)
theorem dL_law_2514 : decode cL_law 2514 = .ok (.invokevirtual 324, 3) := dk_182 1 68 (dk_at dksL_law_96 17 rfl rfl)
theorem dL_law_2517 : decode cL_law 2517 = .ok (.if_icmp .eq 468, 3) := dk_159 1 212 (dk_at dksL_law_96 20 rfl rfl)
theorem dL_law_2520 : decode cL_law 2520 = .ok (.iconst 0, 1) := dk_3 (dk_at dksL_law_96 23 rfl rfl)
theorem dL_law_2521 : decode cL_law 2521 = .ok (.ireturn, 1) := dk_172 (dk_at dksL_law_97 0 rfl rfl)
theorem dL_law_2522 : decode cL_law 2522 = .ok (.aload_n 1, 1) := dk_43 (dk_at dksL_law_97 1 rfl rfl)
theorem dL_law_2523 : decode cL_law 2523 = .ok (.invokevirtual 325, 3) := dk_182 1 69 (dk_at dksL_law_97 2 rfl rfl)
theorem dL_law_2526 : decode cL_law 2526 = .ok (.aload_n 2, 1) := dk_44 (dk_at dksL_law_97 5 rfl rfl)
theorem dL_law_2527 : decode cL_law 2527 = .ok (.invokevirtual 328, 3) := dk_182 1 72 (dk_at dksL_law_97 6 rfl rfl)
theorem dL_law_2530 : decode cL_law 2530 = .ok (.if_icmp .eq 455, 3) := dk_159 1 199 (dk_at dksL_law_97 9 rfl rfl)
theorem dL_law_2533 : decode cL_law 2533 = .ok (.iconst 0, 1) := dk_3 (dk_at dksL_law_97 12 rfl rfl)
theorem dL_law_2534 : decode cL_law 2534 = .ok (.ireturn, 1) := dk_172 (dk_at dksL_law_97 13 rfl rfl)
theorem dL_law_2535 : decode cL_law 2535 = .ok (.aload_n 1, 1) := dk_43 (dk_at dksL_law_97 14 rfl rfl)
theorem dL_law_2536 : decode cL_law 2536 = .ok (.invokevirtual 329, 3) := dk_182 1 73 (dk_at dksL_law_97 15 rfl rfl)
theorem dL_law_2539 : decode cL_law 2539 = .ok (.aload_n 2, 1) := dk_44 (dk_at dksL_law_97 18 rfl rfl)
theorem dL_law_2540 : decode cL_law 2540 = .ok (.invokevirtual 332, 3) := dk_182 1 76 (dk_at dksL_law_97 19 rfl rfl)
theorem dL_law_2543 : decode cL_law 2543 = .ok (.if_icmp .eq 442, 3) := dk_159 1 186 (dk_at dksL_law_98 0 rfl rfl)
theorem dL_law_2546 : decode cL_law 2546 = .ok (.iconst 0, 1) := dk_3 (dk_at dksL_law_98 3 rfl rfl)
theorem dL_law_2547 : decode cL_law 2547 = .ok (.ireturn, 1) := dk_172 (dk_at dksL_law_98 4 rfl rfl)
theorem dL_law_2548 : decode cL_law 2548 = .ok (.aload_n 1, 1) := dk_43 (dk_at dksL_law_98 5 rfl rfl)
theorem dL_law_2549 : decode cL_law 2549 = .ok (.invokevirtual 333, 3) := dk_182 1 77 (dk_at dksL_law_98 6 rfl rfl)
theorem dL_law_2552 : decode cL_law 2552 = .ok (.aload_n 2, 1) := dk_44 (dk_at dksL_law_98 9 rfl rfl)
theorem dL_law_2553 : decode cL_law 2553 = .ok (.invokevirtual 336, 3) := dk_182 1 80 (dk_at dksL_law_98 10 rfl rfl)
theorem dL_law_2556 : decode cL_law 2556 = .ok (.if_icmp .eq 429, 3) := dk_159 1 173 (dk_at dksL_law_98 13 rfl rfl)
theorem dL_law_2559 : decode cL_law 2559 = .ok (.iconst 0, 1) := dk_3 (dk_at dksL_law_98 16 rfl rfl)
theorem dL_law_2560 : decode cL_law 2560 = .ok (.ireturn, 1) := dk_172 (dk_at dksL_law_98 17 rfl rfl)
theorem dL_law_2561 : decode cL_law 2561 = .ok (.aload_n 1, 1) := dk_43 (dk_at dksL_law_98 18 rfl rfl)
theorem dL_law_2562 : decode cL_law 2562 = .ok (.aload 4, 2) := dk_25 4 (dk_at dksL_law_98 19 rfl rfl)
theorem dL_law_2564 : decode cL_law 2564 = .ok (.invokestatic 337, 3) := dk_184 1 81 (dk_at dksL_law_98 21 rfl rfl)
theorem dL_law_2567 : decode cL_law 2567 = .ok (.istore 6, 2) := dk_54 6 (dk_at dksL_law_99 0 rfl rfl)
theorem dL_law_2569 : decode cL_law 2569 = .ok (.aload_n 2, 1) := dk_44 (dk_at dksL_law_99 2 rfl rfl)
theorem dL_law_2570 : decode cL_law 2570 = .ok (.invokevirtual 340, 3) := dk_182 1 84 (dk_at dksL_law_99 3 rfl rfl)
theorem dL_law_2573 : decode cL_law 2573 = .ok (.fstore 7, 2) := dk_56 7 (dk_at dksL_law_99 6 rfl rfl)
theorem dL_law_2575 : decode cL_law 2575 = .ok (.aload_n 2, 1) := dk_44 (dk_at dksL_law_99 8 rfl rfl)
theorem dL_law_2576 : decode cL_law 2576 = .ok (.invokevirtual 149, 3) := dk_182 0 149 (dk_at dksL_law_99 9 rfl rfl)
theorem dL_law_2579 : decode cL_law 2579 = .ok (.iload 6, 2) := dk_21 6 (dk_at dksL_law_99 12 rfl rfl)
theorem dL_law_2581 : decode cL_law 2581 = .ok (.if_icmp .eq 5, 3) := dk_159 0 5 (dk_at dksL_law_99 14 rfl rfl)
theorem dL_law_2584 : decode cL_law 2584 = .ok (.iconst 0, 1) := dk_3 (dk_at dksL_law_99 17 rfl rfl)
theorem dL_law_2585 : decode cL_law 2585 = .ok (.ireturn, 1) := dk_172 (dk_at dksL_law_99 18 rfl rfl)
theorem dL_law_2586 : decode cL_law 2586 = .ok (.iload 6, 2) := dk_21 6 (dk_at dksL_law_99 19 rfl rfl)
theorem dL_law_2588 : decode cL_law 2588 = .ok (.ifCond .ne 35, 3) := dk_154 0 35 (dk_at dksL_law_99 21 rfl rfl)
theorem dL_law_2591 : decode cL_law 2591 = .ok (.aload 4, 2) := dk_25 4 (dk_at dksL_law_100 0 rfl rfl)
theorem dL_law_2593 : decode cL_law 2593 = .ok (.iconst 0, 1) := dk_3 (dk_at dksL_law_100 2 rfl rfl)
theorem dL_law_2594 : decode cL_law 2594 = .ok (.faload, 1) := dk_48 (dk_at dksL_law_100 3 rfl rfl)
theorem dL_law_2595 : decode cL_law 2595 = .ok (.fload 7, 2) := dk_23 7 (dk_at dksL_law_100 4 rfl rfl)
theorem dL_law_2597 : decode cL_law 2597 = .ok (.fcmp .l, 1) := dk_149 (dk_at dksL_law_100 6 rfl rfl)
theorem dL_law_2598 : decode cL_law 2598 = .ok (.ifCond .eq 25, 3) := dk_153 0 25 (dk_at dksL_law_100 7 rfl rfl)
theorem dL_law_2601 : decode cL_law 2601 = .ok (.aload 4, 2) := dk_25 4 (dk_at dksL_law_100 10 rfl rfl)
theorem dL_law_2603 : decode cL_law 2603 = .ok (.iconst 0, 1) := dk_3 (dk_at dksL_law_100 12 rfl rfl)
theorem dL_law_2604 : decode cL_law 2604 = .ok (.faload, 1) := dk_48 (dk_at dksL_law_100 13 rfl rfl)
theorem dL_law_2605 : decode cL_law 2605 = .ok (.aload 4, 2) := dk_25 4 (dk_at dksL_law_100 14 rfl rfl)
theorem dL_law_2607 : decode cL_law 2607 = .ok (.iconst 0, 1) := dk_3 (dk_at dksL_law_100 16 rfl rfl)
theorem dL_law_2608 : decode cL_law 2608 = .ok (.faload, 1) := dk_48 (dk_at dksL_law_100 17 rfl rfl)
theorem dL_law_2609 : decode cL_law 2609 = .ok (.fcmp .l, 1) := dk_149 (dk_at dksL_law_100 18 rfl rfl)
theorem dL_law_2610 : decode cL_law 2610 = .ok (.ifCond .eq 11, 3) := dk_153 0 11 (dk_at dksL_law_100 19 rfl rfl)
theorem dL_law_2613 : decode cL_law 2613 = .ok (.fload 7, 2) := dk_23 7 (dk_at dksL_law_100 22 rfl rfl)
theorem dL_law_2615 : decode cL_law 2615 = .ok (.fload 7, 2) := dk_23 7 (dk_at dksL_law_101 0 rfl rfl)
theorem dL_law_2617 : decode cL_law 2617 = .ok (.fcmp .l, 1) := dk_149 (dk_at dksL_law_101 2 rfl rfl)
theorem dL_law_2618 : decode cL_law 2618 = .ok (.ifCond .ne 5, 3) := dk_154 0 5 (dk_at dksL_law_101 3 rfl rfl)
theorem dL_law_2621 : decode cL_law 2621 = .ok (.iconst 0, 1) := dk_3 (dk_at dksL_law_101 6 rfl rfl)
theorem dL_law_2622 : decode cL_law 2622 = .ok (.ireturn, 1) := dk_172 (dk_at dksL_law_101 7 rfl rfl)
theorem dL_law_2623 : decode cL_law 2623 = .ok (.goto 362, 3) := dk_167 1 106 (dk_at dksL_law_101 8 rfl rfl)
theorem dL_law_2626 : decode cL_law 2626 = .ok (.aload_n 1, 1) := dk_43 (dk_at dksL_law_101 11 rfl rfl)
theorem dL_law_2627 : decode cL_law 2627 = .ok (.invokevirtual 341, 3) := dk_182 1 85 (dk_at dksL_law_101 12 rfl rfl)
theorem dL_law_2630 : decode cL_law 2630 = .ok (.aload_n 2, 1) := dk_44 (dk_at dksL_law_101 15 rfl rfl)
theorem dL_law_2631 : decode cL_law 2631 = .ok (.invokevirtual 344, 3) := dk_182 1 88 (dk_at dksL_law_101 16 rfl rfl)
theorem dL_law_2634 : decode cL_law 2634 = .ok (.if_icmp .eq 351, 3) := dk_159 1 95 (dk_at dksL_law_101 19 rfl rfl)
theorem dL_law_2637 : decode cL_law 2637 = .ok (.iconst 0, 1) := dk_3 (dk_at dksL_law_101 22 rfl rfl)
theorem dL_law_2638 : decode cL_law 2638 = .ok (.ireturn, 1) := dk_172 (dk_at dksL_law_101 23 rfl rfl)
theorem dL_law_2639 : decode cL_law 2639 = .ok (.aload_n 1, 1) := dk_43 (dk_at dksL_law_102 0 rfl rfl)
theorem dL_law_2640 : decode cL_law 2640 = .ok (.aload_n 3, 1) := dk_45 (dk_at dksL_law_102 1 rfl rfl)
theorem dL_law_2641 : decode cL_law 2641 = .ok (.invokestatic 345, 3) := dk_184 1 89 (dk_at dksL_law_102 2 rfl rfl)
theorem dL_law_2644 : decode cL_law 2644 = .ok (.istore 6, 2) := dk_54 6 (dk_at dksL_law_102 5 rfl rfl)
theorem dL_law_2646 : decode cL_law 2646 = .ok (.aload_n 2, 1) := dk_44 (dk_at dksL_law_102 7 rfl rfl)
theorem dL_law_2647 : decode cL_law 2647 = .ok (.invokevirtual 347, 3) := dk_182 1 91 (dk_at dksL_law_102 8 rfl rfl)
theorem dL_law_2650 : decode cL_law 2650 = .ok (.istore 7, 2) := dk_54 7 (dk_at dksL_law_102 11 rfl rfl)
theorem dL_law_2652 : decode cL_law 2652 = .ok (.aload_n 2, 1) := dk_44 (dk_at dksL_law_102 13 rfl rfl)
theorem dL_law_2653 : decode cL_law 2653 = .ok (.invokevirtual 149, 3) := dk_182 0 149 (dk_at dksL_law_102 14 rfl rfl)
theorem dL_law_2656 : decode cL_law 2656 = .ok (.iload 6, 2) := dk_21 6 (dk_at dksL_law_102 17 rfl rfl)
theorem dL_law_2658 : decode cL_law 2658 = .ok (.if_icmp .eq 5, 3) := dk_159 0 5 (dk_at dksL_law_102 19 rfl rfl)
theorem dL_law_2661 : decode cL_law 2661 = .ok (.iconst 0, 1) := dk_3 (dk_at dksL_law_102 22 rfl rfl)
theorem dL_law_2662 : decode cL_law 2662 = .ok (.ireturn, 1) := dk_172 (dk_at dksL_law_102 23 rfl rfl)
theorem dL_law_2663 : decode cL_law 2663 = .ok (.iload 6, 2) := dk_21 6 (dk_at dksL_law_103 0 rfl rfl)
theorem dL_law_2665 : decode cL_law 2665 = .ok (.ifCond .ne 15, 3) := dk_154 0 15 (dk_at dksL_law_103 2 rfl rfl)
theorem dL_law_2668 : decode cL_law 2668 = .ok (.aload_n 3, 1) := dk_45 (dk_at dksL_law_103 5 rfl rfl)
theorem dL_law_2669 : decode cL_law 2669 = .ok (.iconst 0, 1) := dk_3 (dk_at dksL_law_103 6 rfl rfl)
theorem dL_law_2670 : decode cL_law 2670 = .ok (.laload, 1) := dk_47 (dk_at dksL_law_103 7 rfl rfl)
theorem dL_law_2671 : decode cL_law 2671 = .ok (.iload 7, 2) := dk_21 7 (dk_at dksL_law_103 8 rfl rfl)
theorem dL_law_2673 : decode cL_law 2673 = .ok (.i2l, 1) := dk_133 (dk_at dksL_law_103 10 rfl rfl)
theorem dL_law_2674 : decode cL_law 2674 = .ok (.lcmp, 1) := dk_148 (dk_at dksL_law_103 11 rfl rfl)
theorem dL_law_2675 : decode cL_law 2675 = .ok (.ifCond .eq 5, 3) := dk_153 0 5 (dk_at dksL_law_103 12 rfl rfl)
theorem dL_law_2678 : decode cL_law 2678 = .ok (.iconst 0, 1) := dk_3 (dk_at dksL_law_103 15 rfl rfl)
theorem dL_law_2679 : decode cL_law 2679 = .ok (.ireturn, 1) := dk_172 (dk_at dksL_law_103 16 rfl rfl)
theorem dL_law_2680 : decode cL_law 2680 = .ok (.goto 305, 3) := dk_167 1 49 (dk_at dksL_law_103 17 rfl rfl)
theorem dL_law_2683 : decode cL_law 2683 = .ok (.aload_n 1, 1) := dk_43 (dk_at dksL_law_103 20 rfl rfl)
theorem dL_law_2684 : decode cL_law 2684 = .ok (.invokevirtual 348, 3) := dk_182 1 92 (dk_at dksL_law_103 21 rfl rfl)
theorem dL_law_2687 : decode cL_law 2687 = .ok (.aload_n 2, 1) := dk_44 (dk_at dksL_law_104 0 rfl rfl)
theorem dL_law_2688 : decode cL_law 2688 = .ok (.invokevirtual 351, 3) := dk_182 1 95 (dk_at dksL_law_104 1 rfl rfl)
theorem dL_law_2691 : decode cL_law 2691 = .ok (.if_icmp .eq 294, 3) := dk_159 1 38 (dk_at dksL_law_104 4 rfl rfl)
theorem dL_law_2694 : decode cL_law 2694 = .ok (.iconst 0, 1) := dk_3 (dk_at dksL_law_104 7 rfl rfl)
theorem dL_law_2695 : decode cL_law 2695 = .ok (.ireturn, 1) := dk_172 (dk_at dksL_law_104 8 rfl rfl)
theorem dL_law_2696 : decode cL_law 2696 = .ok (.aload_n 1, 1) := dk_43 (dk_at dksL_law_104 9 rfl rfl)
theorem dL_law_2697 : decode cL_law 2697 = .ok (.aload_n 3, 1) := dk_45 (dk_at dksL_law_104 10 rfl rfl)
theorem dL_law_2698 : decode cL_law 2698 = .ok (.invokestatic 352, 3) := dk_184 1 96 (dk_at dksL_law_104 11 rfl rfl)
theorem dL_law_2701 : decode cL_law 2701 = .ok (.istore 6, 2) := dk_54 6 (dk_at dksL_law_104 14 rfl rfl)
theorem dL_law_2703 : decode cL_law 2703 = .ok (.aload_n 2, 1) := dk_44 (dk_at dksL_law_104 16 rfl rfl)
theorem dL_law_2704 : decode cL_law 2704 = .ok (.invokevirtual 354, 3) := dk_182 1 98 (dk_at dksL_law_104 17 rfl rfl)
theorem dL_law_2707 : decode cL_law 2707 = .ok (.istore 7, 2) := dk_54 7 (dk_at dksL_law_104 20 rfl rfl)
theorem dL_law_2709 : decode cL_law 2709 = .ok (.aload_n 2, 1) := dk_44 (dk_at dksL_law_104 22 rfl rfl)
theorem dL_law_2710 : decode cL_law 2710 = .ok (.invokevirtual 149, 3) := dk_182 0 149 (dk_at dksL_law_105 0 rfl rfl)
theorem dL_law_2713 : decode cL_law 2713 = .ok (.iload 6, 2) := dk_21 6 (dk_at dksL_law_105 3 rfl rfl)
theorem dL_law_2715 : decode cL_law 2715 = .ok (.if_icmp .eq 5, 3) := dk_159 0 5 (dk_at dksL_law_105 5 rfl rfl)
theorem dL_law_2718 : decode cL_law 2718 = .ok (.iconst 0, 1) := dk_3 (dk_at dksL_law_105 8 rfl rfl)
theorem dL_law_2719 : decode cL_law 2719 = .ok (.ireturn, 1) := dk_172 (dk_at dksL_law_105 9 rfl rfl)
theorem dL_law_2720 : decode cL_law 2720 = .ok (.iload 6, 2) := dk_21 6 (dk_at dksL_law_105 10 rfl rfl)
theorem dL_law_2722 : decode cL_law 2722 = .ok (.ifCond .ne 15, 3) := dk_154 0 15 (dk_at dksL_law_105 12 rfl rfl)
theorem dL_law_2725 : decode cL_law 2725 = .ok (.aload_n 3, 1) := dk_45 (dk_at dksL_law_105 15 rfl rfl)
theorem dL_law_2726 : decode cL_law 2726 = .ok (.iconst 0, 1) := dk_3 (dk_at dksL_law_105 16 rfl rfl)
theorem dL_law_2727 : decode cL_law 2727 = .ok (.laload, 1) := dk_47 (dk_at dksL_law_105 17 rfl rfl)
theorem dL_law_2728 : decode cL_law 2728 = .ok (.iload 7, 2) := dk_21 7 (dk_at dksL_law_105 18 rfl rfl)
theorem dL_law_2730 : decode cL_law 2730 = .ok (.i2l, 1) := dk_133 (dk_at dksL_law_105 20 rfl rfl)
theorem dL_law_2731 : decode cL_law 2731 = .ok (.lcmp, 1) := dk_148 (dk_at dksL_law_105 21 rfl rfl)
theorem dL_law_2732 : decode cL_law 2732 = .ok (.ifCond .eq 5, 3) := dk_153 0 5 (dk_at dksL_law_106 0 rfl rfl)
theorem dL_law_2735 : decode cL_law 2735 = .ok (.iconst 0, 1) := dk_3 (dk_at dksL_law_106 3 rfl rfl)
theorem dL_law_2736 : decode cL_law 2736 = .ok (.ireturn, 1) := dk_172 (dk_at dksL_law_106 4 rfl rfl)
theorem dL_law_2737 : decode cL_law 2737 = .ok (.goto 248, 3) := dk_167 0 248 (dk_at dksL_law_106 5 rfl rfl)
theorem dL_law_2740 : decode cL_law 2740 = .ok (.aload_n 1, 1) := dk_43 (dk_at dksL_law_106 8 rfl rfl)
theorem dL_law_2741 : decode cL_law 2741 = .ok (.aload_n 0, 1) := dk_42 (dk_at dksL_law_106 9 rfl rfl)
theorem dL_law_2742 : decode cL_law 2742 = .ok (.iload 5, 2) := dk_21 5 (dk_at dksL_law_106 10 rfl rfl)
theorem dL_law_2744 : decode cL_law 2744 = .ok (.iconst 1, 1) := dk_4 (dk_at dksL_law_106 12 rfl rfl)
theorem dL_law_2745 : decode cL_law 2745 = .ok (.iadd, 1) := dk_96 (dk_at dksL_law_106 13 rfl rfl)
theorem dL_law_2746 : decode cL_law 2746 = .ok (.iaload, 1) := dk_46 (dk_at dksL_law_106 14 rfl rfl)
theorem dL_law_2747 : decode cL_law 2747 = .ok (.aload_n 3, 1) := dk_45 (dk_at dksL_law_106 15 rfl rfl)
theorem dL_law_2748 : decode cL_law 2748 = .ok (.invokestatic 355, 3) := dk_184 1 99 (dk_at dksL_law_106 16 rfl rfl)
theorem dL_law_2751 : decode cL_law 2751 = .ok (.istore 6, 2) := dk_54 6 (dk_at dksL_law_106 19 rfl rfl)
theorem dL_law_2753 : decode cL_law 2753 = .ok (.aload_n 2, 1) := dk_44 (dk_at dksL_law_106 21 rfl rfl)
theorem dL_law_2754 : decode cL_law 2754 = .ok (.aload_n 0, 1) := dk_42 (dk_at dksL_law_106 22 rfl rfl)
theorem dL_law_2755 : decode cL_law 2755 = .ok (.iload 5, 2) := dk_21 5 (dk_at dksL_law_107 0 rfl rfl)
theorem dL_law_2757 : decode cL_law 2757 = .ok (.iconst 1, 1) := dk_4 (dk_at dksL_law_107 2 rfl rfl)
theorem dL_law_2758 : decode cL_law 2758 = .ok (.iadd, 1) := dk_96 (dk_at dksL_law_107 3 rfl rfl)
theorem dL_law_2759 : decode cL_law 2759 = .ok (.iaload, 1) := dk_46 (dk_at dksL_law_107 4 rfl rfl)
theorem dL_law_2760 : decode cL_law 2760 = .ok (.invokevirtual 357, 3) := dk_182 1 101 (dk_at dksL_law_107 5 rfl rfl)
theorem dL_law_2763 : decode cL_law 2763 = .ok (.istore 7, 2) := dk_54 7 (dk_at dksL_law_107 8 rfl rfl)
theorem dL_law_2765 : decode cL_law 2765 = .ok (.aload_n 2, 1) := dk_44 (dk_at dksL_law_107 10 rfl rfl)
theorem dL_law_2766 : decode cL_law 2766 = .ok (.invokevirtual 149, 3) := dk_182 0 149 (dk_at dksL_law_107 11 rfl rfl)
theorem dL_law_2769 : decode cL_law 2769 = .ok (.iload 6, 2) := dk_21 6 (dk_at dksL_law_107 14 rfl rfl)
theorem dL_law_2771 : decode cL_law 2771 = .ok (.if_icmp .eq 5, 3) := dk_159 0 5 (dk_at dksL_law_107 16 rfl rfl)
theorem dL_law_2774 : decode cL_law 2774 = .ok (.iconst 0, 1) := dk_3 (dk_at dksL_law_107 19 rfl rfl)
theorem dL_law_2775 : decode cL_law 2775 = .ok (.ireturn, 1) := dk_172 (dk_at dksL_law_107 20 rfl rfl)
theorem dL_law_2776 : decode cL_law 2776 = .ok (.iload 6, 2) := dk_21 6 (dk_at dksL_law_107 21 rfl rfl)
theorem dL_law_2778 : decode cL_law 2778 = .ok (.ifCond .ne 15, 3) := dk_154 0 15 (dk_at dksL_law_108 0 rfl rfl)
theorem dL_law_2781 : decode cL_law 2781 = .ok (.aload_n 3, 1) := dk_45 (dk_at dksL_law_108 3 rfl rfl)
theorem dL_law_2782 : decode cL_law 2782 = .ok (.iconst 0, 1) := dk_3 (dk_at dksL_law_108 4 rfl rfl)
theorem dL_law_2783 : decode cL_law 2783 = .ok (.laload, 1) := dk_47 (dk_at dksL_law_108 5 rfl rfl)
theorem dL_law_2784 : decode cL_law 2784 = .ok (.iload 7, 2) := dk_21 7 (dk_at dksL_law_108 6 rfl rfl)
theorem dL_law_2786 : decode cL_law 2786 = .ok (.i2l, 1) := dk_133 (dk_at dksL_law_108 8 rfl rfl)
theorem dL_law_2787 : decode cL_law 2787 = .ok (.lcmp, 1) := dk_148 (dk_at dksL_law_108 9 rfl rfl)
theorem dL_law_2788 : decode cL_law 2788 = .ok (.ifCond .eq 5, 3) := dk_153 0 5 (dk_at dksL_law_108 10 rfl rfl)
theorem dL_law_2791 : decode cL_law 2791 = .ok (.iconst 0, 1) := dk_3 (dk_at dksL_law_108 13 rfl rfl)
theorem dL_law_2792 : decode cL_law 2792 = .ok (.ireturn, 1) := dk_172 (dk_at dksL_law_108 14 rfl rfl)
theorem dL_law_2793 : decode cL_law 2793 = .ok (.goto 192, 3) := dk_167 0 192 (dk_at dksL_law_108 15 rfl rfl)
theorem dL_law_2796 : decode cL_law 2796 = .ok (.aload_n 1, 1) := dk_43 (dk_at dksL_law_108 18 rfl rfl)
theorem dL_law_2797 : decode cL_law 2797 = .ok (.invokevirtual 358, 3) := dk_182 1 102 (dk_at dksL_law_108 19 rfl rfl)
theorem dL_law_2800 : decode cL_law 2800 = .ok (.aload_n 2, 1) := dk_44 (dk_at dksL_law_108 22 rfl rfl)
theorem dL_law_2801 : decode cL_law 2801 = .ok (.invokevirtual 361, 3) := dk_182 1 105 (dk_at dksL_law_109 0 rfl rfl)
theorem dL_law_2804 : decode cL_law 2804 = .ok (.if_icmp .eq 181, 3) := dk_159 0 181 (dk_at dksL_law_109 3 rfl rfl)
theorem dL_law_2807 : decode cL_law 2807 = .ok (.iconst 0, 1) := dk_3 (dk_at dksL_law_109 6 rfl rfl)
theorem dL_law_2808 : decode cL_law 2808 = .ok (.ireturn, 1) := dk_172 (dk_at dksL_law_109 7 rfl rfl)
theorem dL_law_2809 : decode cL_law 2809 = .ok (.aload_n 1, 1) := dk_43 (dk_at dksL_law_109 8 rfl rfl)
theorem dL_law_2810 : decode cL_law 2810 = .ok (.aload_n 3, 1) := dk_45 (dk_at dksL_law_109 9 rfl rfl)
theorem dL_law_2811 : decode cL_law 2811 = .ok (.invokestatic 362, 3) := dk_184 1 106 (dk_at dksL_law_109 10 rfl rfl)
theorem dL_law_2814 : decode cL_law 2814 = .ok (.istore 6, 2) := dk_54 6 (dk_at dksL_law_109 13 rfl rfl)
theorem dL_law_2816 : decode cL_law 2816 = .ok (.aload_n 2, 1) := dk_44 (dk_at dksL_law_109 15 rfl rfl)
theorem dL_law_2817 : decode cL_law 2817 = .ok (.invokevirtual 364, 3) := dk_182 1 108 (dk_at dksL_law_109 16 rfl rfl)
theorem dL_law_2820 : decode cL_law 2820 = .ok (.istore 7, 2) := dk_54 7 (dk_at dksL_law_109 19 rfl rfl)
theorem dL_law_2822 : decode cL_law 2822 = .ok (.aload_n 2, 1) := dk_44 (dk_at dksL_law_109 21 rfl rfl)
theorem dL_law_2823 : decode cL_law 2823 = .ok (.invokevirtual 149, 3) := dk_182 0 149 (dk_at dksL_law_110 0 rfl rfl)
theorem dL_law_2826 : decode cL_law 2826 = .ok (.iload 6, 2) := dk_21 6 (dk_at dksL_law_110 3 rfl rfl)
theorem dL_law_2828 : decode cL_law 2828 = .ok (.if_icmp .eq 5, 3) := dk_159 0 5 (dk_at dksL_law_110 5 rfl rfl)
theorem dL_law_2831 : decode cL_law 2831 = .ok (.iconst 0, 1) := dk_3 (dk_at dksL_law_110 8 rfl rfl)
theorem dL_law_2832 : decode cL_law 2832 = .ok (.ireturn, 1) := dk_172 (dk_at dksL_law_110 9 rfl rfl)
theorem dL_law_2833 : decode cL_law 2833 = .ok (.iload 6, 2) := dk_21 6 (dk_at dksL_law_110 10 rfl rfl)
theorem dL_law_2835 : decode cL_law 2835 = .ok (.ifCond .ne 15, 3) := dk_154 0 15 (dk_at dksL_law_110 12 rfl rfl)
theorem dL_law_2838 : decode cL_law 2838 = .ok (.aload_n 3, 1) := dk_45 (dk_at dksL_law_110 15 rfl rfl)
theorem dL_law_2839 : decode cL_law 2839 = .ok (.iconst 0, 1) := dk_3 (dk_at dksL_law_110 16 rfl rfl)
theorem dL_law_2840 : decode cL_law 2840 = .ok (.laload, 1) := dk_47 (dk_at dksL_law_110 17 rfl rfl)
theorem dL_law_2841 : decode cL_law 2841 = .ok (.iload 7, 2) := dk_21 7 (dk_at dksL_law_110 18 rfl rfl)
theorem dL_law_2843 : decode cL_law 2843 = .ok (.i2l, 1) := dk_133 (dk_at dksL_law_110 20 rfl rfl)
theorem dL_law_2844 : decode cL_law 2844 = .ok (.lcmp, 1) := dk_148 (dk_at dksL_law_110 21 rfl rfl)
theorem dL_law_2845 : decode cL_law 2845 = .ok (.ifCond .eq 5, 3) := dk_153 0 5 (dk_at dksL_law_111 0 rfl rfl)
theorem dL_law_2848 : decode cL_law 2848 = .ok (.iconst 0, 1) := dk_3 (dk_at dksL_law_111 3 rfl rfl)
theorem dL_law_2849 : decode cL_law 2849 = .ok (.ireturn, 1) := dk_172 (dk_at dksL_law_111 4 rfl rfl)
theorem dL_law_2850 : decode cL_law 2850 = .ok (.goto 135, 3) := dk_167 0 135 (dk_at dksL_law_111 5 rfl rfl)
theorem dL_law_2853 : decode cL_law 2853 = .ok (.aload_n 1, 1) := dk_43 (dk_at dksL_law_111 8 rfl rfl)
theorem dL_law_2854 : decode cL_law 2854 = .ok (.aload_n 3, 1) := dk_45 (dk_at dksL_law_111 9 rfl rfl)
theorem dL_law_2855 : decode cL_law 2855 = .ok (.invokestatic 365, 3) := dk_184 1 109 (dk_at dksL_law_111 10 rfl rfl)
theorem dL_law_2858 : decode cL_law 2858 = .ok (.istore 6, 2) := dk_54 6 (dk_at dksL_law_111 13 rfl rfl)
theorem dL_law_2860 : decode cL_law 2860 = .ok (.aload_n 2, 1) := dk_44 (dk_at dksL_law_111 15 rfl rfl)
theorem dL_law_2861 : decode cL_law 2861 = .ok (.invokevirtual 367, 3) := dk_182 1 111 (dk_at dksL_law_111 16 rfl rfl)
theorem dL_law_2864 : decode cL_law 2864 = .ok (.istore 7, 2) := dk_54 7 (dk_at dksL_law_111 19 rfl rfl)
theorem dL_law_2866 : decode cL_law 2866 = .ok (.aload_n 2, 1) := dk_44 (dk_at dksL_law_111 21 rfl rfl)
theorem dL_law_2867 : decode cL_law 2867 = .ok (.invokevirtual 149, 3) := dk_182 0 149 (dk_at dksL_law_112 0 rfl rfl)
theorem dL_law_2870 : decode cL_law 2870 = .ok (.iload 6, 2) := dk_21 6 (dk_at dksL_law_112 3 rfl rfl)
theorem dL_law_2872 : decode cL_law 2872 = .ok (.if_icmp .eq 5, 3) := dk_159 0 5 (dk_at dksL_law_112 5 rfl rfl)
theorem dL_law_2875 : decode cL_law 2875 = .ok (.iconst 0, 1) := dk_3 (dk_at dksL_law_112 8 rfl rfl)
theorem dL_law_2876 : decode cL_law 2876 = .ok (.ireturn, 1) := dk_172 (dk_at dksL_law_112 9 rfl rfl)
theorem dL_law_2877 : decode cL_law 2877 = .ok (.iload 6, 2) := dk_21 6 (dk_at dksL_law_112 10 rfl rfl)
theorem dL_law_2879 : decode cL_law 2879 = .ok (.ifCond .ne 15, 3) := dk_154 0 15 (dk_at dksL_law_112 12 rfl rfl)
theorem dL_law_2882 : decode cL_law 2882 = .ok (.aload_n 3, 1) := dk_45 (dk_at dksL_law_112 15 rfl rfl)
theorem dL_law_2883 : decode cL_law 2883 = .ok (.iconst 0, 1) := dk_3 (dk_at dksL_law_112 16 rfl rfl)
theorem dL_law_2884 : decode cL_law 2884 = .ok (.laload, 1) := dk_47 (dk_at dksL_law_112 17 rfl rfl)
theorem dL_law_2885 : decode cL_law 2885 = .ok (.iload 7, 2) := dk_21 7 (dk_at dksL_law_112 18 rfl rfl)
theorem dL_law_2887 : decode cL_law 2887 = .ok (.i2l, 1) := dk_133 (dk_at dksL_law_112 20 rfl rfl)
theorem dL_law_2888 : decode cL_law 2888 = .ok (.lcmp, 1) := dk_148 (dk_at dksL_law_112 21 rfl rfl)
theorem dL_law_2889 : decode cL_law 2889 = .ok (.ifCond .eq 5, 3) := dk_153 0 5 (dk_at dksL_law_113 0 rfl rfl)
theorem dL_law_2892 : decode cL_law 2892 = .ok (.iconst 0, 1) := dk_3 (dk_at dksL_law_113 3 rfl rfl)
theorem dL_law_2893 : decode cL_law 2893 = .ok (.ireturn, 1) := dk_172 (dk_at dksL_law_113 4 rfl rfl)
theorem dL_law_2894 : decode cL_law 2894 = .ok (.goto 91, 3) := dk_167 0 91 (dk_at dksL_law_113 5 rfl rfl)
theorem dL_law_2897 : decode cL_law 2897 = .ok (.aload_n 1, 1) := dk_43 (dk_at dksL_law_113 8 rfl rfl)
theorem dL_law_2898 : decode cL_law 2898 = .ok (.aload_n 3, 1) := dk_45 (dk_at dksL_law_113 9 rfl rfl)
theorem dL_law_2899 : decode cL_law 2899 = .ok (.invokestatic 368, 3) := dk_184 1 112 (dk_at dksL_law_113 10 rfl rfl)
theorem dL_law_2902 : decode cL_law 2902 = .ok (.istore 6, 2) := dk_54 6 (dk_at dksL_law_113 13 rfl rfl)
theorem dL_law_2904 : decode cL_law 2904 = .ok (.aload_n 2, 1) := dk_44 (dk_at dksL_law_113 15 rfl rfl)
theorem dL_law_2905 : decode cL_law 2905 = .ok (.invokevirtual 370, 3) := dk_182 1 114 (dk_at dksL_law_113 16 rfl rfl)
theorem dL_law_2908 : decode cL_law 2908 = .ok (.istore 7, 2) := dk_54 7 (dk_at dksL_law_113 19 rfl rfl)
theorem dL_law_2910 : decode cL_law 2910 = .ok (.aload_n 2, 1) := dk_44 (dk_at dksL_law_113 21 rfl rfl)
theorem dL_law_2911 : decode cL_law 2911 = .ok (.invokevirtual 149, 3) := dk_182 0 149 (dk_at dksL_law_114 0 rfl rfl)
theorem dL_law_2914 : decode cL_law 2914 = .ok (.iload 6, 2) := dk_21 6 (dk_at dksL_law_114 3 rfl rfl)
theorem dL_law_2916 : decode cL_law 2916 = .ok (.if_icmp .eq 5, 3) := dk_159 0 5 (dk_at dksL_law_114 5 rfl rfl)
theorem dL_law_2919 : decode cL_law 2919 = .ok (.iconst 0, 1) := dk_3 (dk_at dksL_law_114 8 rfl rfl)
theorem dL_law_2920 : decode cL_law 2920 = .ok (.ireturn, 1) := dk_172 (dk_at dksL_law_114 9 rfl rfl)
theorem dL_law_2921 : decode cL_law 2921 = .ok (.iload 6, 2) := dk_21 6 (dk_at dksL_law_114 10 rfl rfl)
theorem dL_law_2923 : decode cL_law 2923 = .ok (.ifCond .ne 15, 3) := dk_154 0 15 (dk_at dksL_law_114 12 rfl rfl)
theorem dL_law_2926 : decode cL_law 2926 = .ok (.aload_n 3, 1) := dk_45 (dk_at dksL_law_114 15 rfl rfl)
theorem dL_law_2927 : decode cL_law 2927 = .ok (.iconst 0, 1) := dk_3 (dk_at dksL_law_114 16 rfl rfl)
theorem dL_law_2928 : decode cL_law 2928 = .ok (.laload, 1) := dk_47 (dk_at dksL_law_114 17 rfl rfl)
theorem dL_law_2929 : decode cL_law 2929 = .ok (.iload 7, 2) := dk_21 7 (dk_at dksL_law_114 18 rfl rfl)
theorem dL_law_2931 : decode cL_law 2931 = .ok (.i2l, 1) := dk_133 (dk_at dksL_law_114 20 rfl rfl)
theorem dL_law_2932 : decode cL_law 2932 = .ok (.lcmp, 1) := dk_148 (dk_at dksL_law_114 21 rfl rfl)
theorem dL_law_2933 : decode cL_law 2933 = .ok (.ifCond .eq 5, 3) := dk_153 0 5 (dk_at dksL_law_115 0 rfl rfl)
theorem dL_law_2936 : decode cL_law 2936 = .ok (.iconst 0, 1) := dk_3 (dk_at dksL_law_115 3 rfl rfl)
theorem dL_law_2937 : decode cL_law 2937 = .ok (.ireturn, 1) := dk_172 (dk_at dksL_law_115 4 rfl rfl)
theorem dL_law_2938 : decode cL_law 2938 = .ok (.goto 47, 3) := dk_167 0 47 (dk_at dksL_law_115 5 rfl rfl)
theorem dL_law_2941 : decode cL_law 2941 = .ok (.aload_n 1, 1) := dk_43 (dk_at dksL_law_115 8 rfl rfl)
theorem dL_law_2942 : decode cL_law 2942 = .ok (.aload_n 3, 1) := dk_45 (dk_at dksL_law_115 9 rfl rfl)
theorem dL_law_2943 : decode cL_law 2943 = .ok (.invokestatic 371, 3) := dk_184 1 115 (dk_at dksL_law_115 10 rfl rfl)
theorem dL_law_2946 : decode cL_law 2946 = .ok (.istore 6, 2) := dk_54 6 (dk_at dksL_law_115 13 rfl rfl)
theorem dL_law_2948 : decode cL_law 2948 = .ok (.aload_n 2, 1) := dk_44 (dk_at dksL_law_115 15 rfl rfl)
theorem dL_law_2949 : decode cL_law 2949 = .ok (.invokevirtual 373, 3) := dk_182 1 117 (dk_at dksL_law_115 16 rfl rfl)
theorem dL_law_2952 : decode cL_law 2952 = .ok (.istore 7, 2) := dk_54 7 (dk_at dksL_law_115 19 rfl rfl)
theorem dL_law_2954 : decode cL_law 2954 = .ok (.aload_n 2, 1) := dk_44 (dk_at dksL_law_115 21 rfl rfl)
theorem dL_law_2955 : decode cL_law 2955 = .ok (.invokevirtual 149, 3) := dk_182 0 149 (dk_at dksL_law_116 0 rfl rfl)
theorem dL_law_2958 : decode cL_law 2958 = .ok (.iload 6, 2) := dk_21 6 (dk_at dksL_law_116 3 rfl rfl)
theorem dL_law_2960 : decode cL_law 2960 = .ok (.if_icmp .eq 5, 3) := dk_159 0 5 (dk_at dksL_law_116 5 rfl rfl)
theorem dL_law_2963 : decode cL_law 2963 = .ok (.iconst 0, 1) := dk_3 (dk_at dksL_law_116 8 rfl rfl)
theorem dL_law_2964 : decode cL_law 2964 = .ok (.ireturn, 1) := dk_172 (dk_at dksL_law_116 9 rfl rfl)
theorem dL_law_2965 : decode cL_law 2965 = .ok (.iload 6, 2) := dk_21 6 (dk_at dksL_law_116 10 rfl rfl)
theorem dL_law_2967 : decode cL_law 2967 = .ok (.ifCond .ne 15, 3) := dk_154 0 15 (dk_at dksL_law_116 12 rfl rfl)
theorem dL_law_2970 : decode cL_law 2970 = .ok (.aload_n 3, 1) := dk_45 (dk_at dksL_law_116 15 rfl rfl)
theorem dL_law_2971 : decode cL_law 2971 = .ok (.iconst 0, 1) := dk_3 (dk_at dksL_law_116 16 rfl rfl)
theorem dL_law_2972 : decode cL_law 2972 = .ok (.laload, 1) := dk_47 (dk_at dksL_law_116 17 rfl rfl)
theorem dL_law_2973 : decode cL_law 2973 = .ok (.iload 7, 2) := dk_21 7 (dk_at dksL_law_116 18 rfl rfl)
theorem dL_law_2975 : decode cL_law 2975 = .ok (.i2l, 1) := dk_133 (dk_at dksL_law_116 20 rfl rfl)
theorem dL_law_2976 : decode cL_law 2976 = .ok (.lcmp, 1) := dk_148 (dk_at dksL_law_116 21 rfl rfl)
theorem dL_law_2977 : decode cL_law 2977 = .ok (.ifCond .eq 5, 3) := dk_153 0 5 (dk_at dksL_law_117 0 rfl rfl)
theorem dL_law_2980 : decode cL_law 2980 = .ok (.iconst 0, 1) := dk_3 (dk_at dksL_law_117 3 rfl rfl)
theorem dL_law_2981 : decode cL_law 2981 = .ok (.ireturn, 1) := dk_172 (dk_at dksL_law_117 4 rfl rfl)
theorem dL_law_2982 : decode cL_law 2982 = .ok (.goto 3, 3) := dk_167 0 3 (dk_at dksL_law_117 5 rfl rfl)
theorem dL_law_2985 : decode cL_law 2985 = .ok (.iinc 5 4, 3) := dk_132 5 4 (dk_at dksL_law_117 8 rfl rfl)
theorem dL_law_2988 : decode cL_law 2988 = .ok (.goto (-2960), 3) := dk_167 244 112 (dk_at dksL_law_117 11 rfl rfl)
theorem dL_law_2991 : decode cL_law 2991 = .ok (.iconst 1, 1) := dk_4 (dk_at dksL_law_117 14 rfl rfl)
theorem dL_law_2992 : decode cL_law 2992 = .ok (.ireturn, 1) := dk_172 (dk_at dksL_law_117 15 rfl rfl)
theorem w_L_law_0 (d : Nat) (L : a_L) (st : List Value) (h : a_H) : a_run d ML_law 0 L st h = a_run d ML_law 3 L (.ref h.1 :: st) (a_add h (.inr (0, [.null, .null, .null, .null])) 4) := w_new dL_law_0 rfl rfl
theorem w_L_law_3 (d : Nat) (L : a_L) (x : Nat) (st : List Value) (h : a_H) : a_run d ML_law 3 L (.ref x :: st) h = a_run d ML_law 4 L (.ref x :: .ref x :: st) h := w_dup dL_law_3
theorem w_L_law_3I (d : Nat) (L : a_L) (x : Int32) (st : List Value) (h : a_H) : a_run d ML_law 3 L (.int x :: st) h = a_run d ML_law 4 L (.int x :: .int x :: st) h := w_dupI dL_law_3
theorem w_L_law_4 (d : Nat) (L : a_L) (i : Nat) (st : List Value) (h : a_H) (hi : 1024 ≤ i) (hc : a_cat st ≤ 8) : a_run d ML_law 4 L (.ref i :: st) h = a_cont d ML_law (a_bk ML_law 4 L st (a_call d MX1_init [.ref i] h)) := w_callI (as := [.ref i]) dL_law_4 rfl rfl rfl hc (a_new0_of hi)
theorem w_L_law_7 (d : Nat) (a0 a1 a2 a3 a4 a5 a6 a7 : Option Value) (x : Nat) (st : List Value) (h : a_H) : a_run d ML_law 7 [a0, a1, a2, a3, a4, a5, a6, a7] (.ref x :: st) h = a_run d ML_law 8 [a0, some (.ref x), a2, a3, a4, a5, a6, a7] st h := w_stAn dL_law_7 (Nat.le_of_ble_eq_true rfl) rfl
theorem w_L_law_7N (d : Nat) (a0 a1 a2 a3 a4 a5 a6 a7 : Option Value) (st : List Value) (h : a_H) : a_run d ML_law 7 [a0, a1, a2, a3, a4, a5, a6, a7] (.null :: st) h = a_run d ML_law 8 [a0, some .null, a2, a3, a4, a5, a6, a7] st h := w_stNn dL_law_7 (Nat.le_of_ble_eq_true rfl) rfl
theorem w_L_law_8 (d : Nat) (L : a_L) (st : List Value) (h : a_H) : a_run d ML_law 8 L st h = a_run d ML_law 11 L (.ref h.1 :: st) (a_add h (.inr (2, [.null, .null, .null, .null, .null, .null, .null, .int 0, .null, .null, .null, .null, .null, .null, .null, .null, .null, .null, .int 0, .int 0, .int 0, .int 0, .null, .int 0, .int 0, .int 0, .int 0, .int 0, .int 0, .int 0, .null])) 31) := w_new dL_law_8 rfl rfl
theorem w_L_law_11 (d : Nat) (L : a_L) (x : Nat) (st : List Value) (h : a_H) : a_run d ML_law 11 L (.ref x :: st) h = a_run d ML_law 12 L (.ref x :: .ref x :: st) h := w_dup dL_law_11
theorem w_L_law_11I (d : Nat) (L : a_L) (x : Int32) (st : List Value) (h : a_H) : a_run d ML_law 11 L (.int x :: st) h = a_run d ML_law 12 L (.int x :: .int x :: st) h := w_dupI dL_law_11
theorem w_L_law_12 (d : Nat) (L : a_L) (i : Nat) (st : List Value) (h : a_H) (hi : 1024 ≤ i) (hc : a_cat st ≤ 8) : a_run d ML_law 12 L (.ref i :: st) h = a_cont d ML_law (a_bk ML_law 12 L st (a_call d MX3_init [.ref i] h)) := w_callI (as := [.ref i]) dL_law_12 rfl rfl rfl hc (a_new0_of hi)
theorem w_L_law_15 (d : Nat) (a0 a1 a2 a3 a4 a5 a6 a7 : Option Value) (x : Nat) (st : List Value) (h : a_H) : a_run d ML_law 15 [a0, a1, a2, a3, a4, a5, a6, a7] (.ref x :: st) h = a_run d ML_law 16 [a0, a1, some (.ref x), a3, a4, a5, a6, a7] st h := w_stAn dL_law_15 (Nat.le_of_ble_eq_true rfl) rfl
theorem w_L_law_15N (d : Nat) (a0 a1 a2 a3 a4 a5 a6 a7 : Option Value) (st : List Value) (h : a_H) : a_run d ML_law 15 [a0, a1, a2, a3, a4, a5, a6, a7] (.null :: st) h = a_run d ML_law 16 [a0, a1, some .null, a3, a4, a5, a6, a7] st h := w_stNn dL_law_15 (Nat.le_of_ble_eq_true rfl) rfl
theorem w_L_law_16 (d : Nat) (L : a_L) (st : List Value) (h : a_H) : a_run d ML_law 16 L st h = a_run d ML_law 17 L (.int (nI 1) :: st) h := w_iconst dL_law_16 rfl
theorem w_L_law_17 (d : Nat) (L : a_L) (x : Int32) (st : List Value) (h : a_H) : a_run d ML_law 17 L (.int x :: st) h = (a_newa h (newarray.typeOf .long) x).bind fun q => a_run d ML_law 19 L (.ref q.1 :: st) q.2 := w_newa dL_law_17
theorem w_L_law_19 (d : Nat) (a0 a1 a2 a3 a4 a5 a6 a7 : Option Value) (x : Nat) (st : List Value) (h : a_H) : a_run d ML_law 19 [a0, a1, a2, a3, a4, a5, a6, a7] (.ref x :: st) h = a_run d ML_law 20 [a0, a1, a2, some (.ref x), a4, a5, a6, a7] st h := w_stAn dL_law_19 (Nat.le_of_ble_eq_true rfl) rfl
theorem w_L_law_19N (d : Nat) (a0 a1 a2 a3 a4 a5 a6 a7 : Option Value) (st : List Value) (h : a_H) : a_run d ML_law 19 [a0, a1, a2, a3, a4, a5, a6, a7] (.null :: st) h = a_run d ML_law 20 [a0, a1, a2, some .null, a4, a5, a6, a7] st h := w_stNn dL_law_19 (Nat.le_of_ble_eq_true rfl) rfl
theorem w_L_law_20 (d : Nat) (L : a_L) (st : List Value) (h : a_H) : a_run d ML_law 20 L st h = a_run d ML_law 21 L (.int (nI 1) :: st) h := w_iconst dL_law_20 rfl
theorem w_L_law_21 (d : Nat) (L : a_L) (x : Int32) (st : List Value) (h : a_H) : a_run d ML_law 21 L (.int x :: st) h = (a_newa h (newarray.typeOf .float) x).bind fun q => a_run d ML_law 23 L (.ref q.1 :: st) q.2 := w_newa dL_law_21
theorem w_L_law_23 (d : Nat) (a0 a1 a2 a3 a4 a5 a6 a7 : Option Value) (x : Nat) (st : List Value) (h : a_H) : a_run d ML_law 23 [a0, a1, a2, a3, a4, a5, a6, a7] (.ref x :: st) h = a_run d ML_law 25 [a0, a1, a2, a3, some (.ref x), a5, a6, a7] st h := w_stA dL_law_23 (Nat.le_of_ble_eq_true rfl) rfl
theorem w_L_law_23N (d : Nat) (a0 a1 a2 a3 a4 a5 a6 a7 : Option Value) (st : List Value) (h : a_H) : a_run d ML_law 23 [a0, a1, a2, a3, a4, a5, a6, a7] (.null :: st) h = a_run d ML_law 25 [a0, a1, a2, a3, some .null, a5, a6, a7] st h := w_stN dL_law_23 (Nat.le_of_ble_eq_true rfl) rfl
theorem w_L_law_25 (d : Nat) (L : a_L) (st : List Value) (h : a_H) : a_run d ML_law 25 L st h = a_run d ML_law 26 L (.int (nI 0) :: st) h := w_iconst dL_law_25 rfl
theorem w_L_law_26 (d : Nat) (a0 a1 a2 a3 a4 a5 a6 a7 : Option Value) (x : Int32) (st : List Value) (h : a_H) : a_run d ML_law 26 [a0, a1, a2, a3, a4, a5, a6, a7] (.int x :: st) h = a_run d ML_law 28 [a0, a1, a2, a3, a4, some (.int x), a6, a7] st h := w_stI dL_law_26 (Nat.le_of_ble_eq_true rfl) rfl
theorem w_L_law_28 (d : Nat) (a0 a1 a2 a3 a4 a6 a7 : Option Value) (x : Int32) (st : List Value) (h : a_H) : a_run d ML_law 28 [a0, a1, a2, a3, a4, some (.int x), a6, a7] st h = a_run d ML_law 30 [a0, a1, a2, a3, a4, some (.int x), a6, a7] (.int x :: st) h := w_ldI dL_law_28 rfl
theorem w_L_law_30 (d : Nat) (a1 a2 a3 a4 a5 a6 a7 : Option Value) (x : Nat) (st : List Value) (h : a_H) : a_run d ML_law 30 [some (.ref x), a1, a2, a3, a4, a5, a6, a7] st h = a_run d ML_law 31 [some (.ref x), a1, a2, a3, a4, a5, a6, a7] (.ref x :: st) h := w_ldAn dL_law_30 rfl
theorem w_L_law_31 (d : Nat) (L : a_L) (i : Nat) (st : List Value) (h : a_H) : a_run d ML_law 31 L (.ref i :: st) h = (a_len h i).bind fun v => a_run d ML_law 32 L (v :: st) h := w_alen dL_law_31
theorem w_L_law_32 (d : Nat) (L : a_L) (st : List Value) (h : a_H) : a_run d ML_law 32 L st h = a_run d ML_law 33 L (.int (nI 4) :: st) h := w_iconst dL_law_32 rfl
theorem w_L_law_33 (d : Nat) (L : a_L) (x y : Int32) (st : List Value) (h : a_H) : a_run d ML_law 33 L (.int y :: .int x :: st) h = a_run d ML_law 34 L (.int (x - y) :: st) h := w_isub dL_law_33
theorem w_L_law_34 (d : Nat) (L : a_L) (x y : Int32) (st : List Value) (h : a_H) : a_run d ML_law 34 L (.int y :: .int x :: st) h = if y < x then a_run d ML_law 2991 L st h else a_run d ML_law 37 L st h := w_icmp_gt dL_law_34 rfl
theorem w_L_law_37 (d : Nat) (a1 a2 a3 a4 a5 a6 a7 : Option Value) (x : Nat) (st : List Value) (h : a_H) : a_run d ML_law 37 [some (.ref x), a1, a2, a3, a4, a5, a6, a7] st h = a_run d ML_law 38 [some (.ref x), a1, a2, a3, a4, a5, a6, a7] (.ref x :: st) h := w_ldAn dL_law_37 rfl
theorem w_L_law_38 (d : Nat) (a0 a1 a2 a3 a4 a6 a7 : Option Value) (x : Int32) (st : List Value) (h : a_H) : a_run d ML_law 38 [a0, a1, a2, a3, a4, some (.int x), a6, a7] st h = a_run d ML_law 40 [a0, a1, a2, a3, a4, some (.int x), a6, a7] (.int x :: st) h := w_ldI dL_law_38 rfl
theorem w_L_law_40 (d : Nat) (L : a_L) (x : Int32) (i : Nat) (st : List Value) (h : a_H) : a_run d ML_law 40 L (.int x :: .ref i :: st) h = (a_rdi h i a_int x).bind fun v => a_run d ML_law 41 L (v :: st) h := w_iald dL_law_40
theorem w_L_law_41 (d : Nat) (L : a_L) (st : List Value) (h : a_H) : a_run d ML_law 41 L st h = a_run d ML_law 43 L (.int (nI 127) :: st) h := w_bipush dL_law_41 rfl
theorem w_L_law_43 (d : Nat) (L : a_L) (x y : Int32) (st : List Value) (h : a_H) : a_run d ML_law 43 L (.int y :: .int x :: st) h = a_run d ML_law 44 L (.int (x &&& y) :: st) h := w_iand dL_law_43
theorem w_L_law_44_0 (d : Nat) (L : a_L) (st : List Value) (h : a_H) : a_run d ML_law 44 L (.int (nI 0) :: st) h = a_run d ML_law 320 L st h := w_table dL_law_44 rfl rfl
theorem w_L_law_44_1 (d : Nat) (L : a_L) (st : List Value) (h : a_H) : a_run d ML_law 44 L (.int (nI 1) :: st) h = a_run d ML_law 364 L st h := w_table dL_law_44 rfl rfl
theorem w_L_law_44_2 (d : Nat) (L : a_L) (st : List Value) (h : a_H) : a_run d ML_law 44 L (.int (nI 2) :: st) h = a_run d ML_law 432 L st h := w_table dL_law_44 rfl rfl
theorem w_L_law_44_3 (d : Nat) (L : a_L) (st : List Value) (h : a_H) : a_run d ML_law 44 L (.int (nI 3) :: st) h = a_run d ML_law 512 L st h := w_table dL_law_44 rfl rfl
theorem w_L_law_44_4 (d : Nat) (L : a_L) (st : List Value) (h : a_H) : a_run d ML_law 44 L (.int (nI 4) :: st) h = a_run d ML_law 568 L st h := w_table dL_law_44 rfl rfl
theorem w_L_law_44_5 (d : Nat) (L : a_L) (st : List Value) (h : a_H) : a_run d ML_law 44 L (.int (nI 5) :: st) h = a_run d ML_law 636 L st h := w_table dL_law_44 rfl rfl
theorem w_L_law_44_6 (d : Nat) (L : a_L) (st : List Value) (h : a_H) : a_run d ML_law 44 L (.int (nI 6) :: st) h = a_run d ML_law 649 L st h := w_table dL_law_44 rfl rfl
theorem w_L_law_44_7 (d : Nat) (L : a_L) (st : List Value) (h : a_H) : a_run d ML_law 44 L (.int (nI 7) :: st) h = a_run d ML_law 662 L st h := w_table dL_law_44 rfl rfl
theorem w_L_law_44_8 (d : Nat) (L : a_L) (st : List Value) (h : a_H) : a_run d ML_law 44 L (.int (nI 8) :: st) h = a_run d ML_law 675 L st h := w_table dL_law_44 rfl rfl
theorem w_L_law_44_9 (d : Nat) (L : a_L) (st : List Value) (h : a_H) : a_run d ML_law 44 L (.int (nI 9) :: st) h = a_run d ML_law 755 L st h := w_table dL_law_44 rfl rfl
theorem w_L_law_44_10 (d : Nat) (L : a_L) (st : List Value) (h : a_H) : a_run d ML_law 44 L (.int (nI 10) :: st) h = a_run d ML_law 768 L st h := w_table dL_law_44 rfl rfl
theorem w_L_law_44_11 (d : Nat) (L : a_L) (st : List Value) (h : a_H) : a_run d ML_law 44 L (.int (nI 11) :: st) h = a_run d ML_law 781 L st h := w_table dL_law_44 rfl rfl
theorem w_L_law_44_12 (d : Nat) (L : a_L) (st : List Value) (h : a_H) : a_run d ML_law 44 L (.int (nI 12) :: st) h = a_run d ML_law 794 L st h := w_table dL_law_44 rfl rfl
theorem w_L_law_44_13 (d : Nat) (L : a_L) (st : List Value) (h : a_H) : a_run d ML_law 44 L (.int (nI 13) :: st) h = a_run d ML_law 807 L st h := w_table dL_law_44 rfl rfl
theorem w_L_law_44_14 (d : Nat) (L : a_L) (st : List Value) (h : a_H) : a_run d ML_law 44 L (.int (nI 14) :: st) h = a_run d ML_law 820 L st h := w_table dL_law_44 rfl rfl
theorem w_L_law_44_15 (d : Nat) (L : a_L) (st : List Value) (h : a_H) : a_run d ML_law 44 L (.int (nI 15) :: st) h = a_run d ML_law 876 L st h := w_table dL_law_44 rfl rfl
theorem w_L_law_44_16 (d : Nat) (L : a_L) (st : List Value) (h : a_H) : a_run d ML_law 44 L (.int (nI 16) :: st) h = a_run d ML_law 932 L st h := w_table dL_law_44 rfl rfl
theorem w_L_law_44_17 (d : Nat) (L : a_L) (st : List Value) (h : a_H) : a_run d ML_law 44 L (.int (nI 17) :: st) h = a_run d ML_law 1000 L st h := w_table dL_law_44 rfl rfl
theorem w_L_law_44_18 (d : Nat) (L : a_L) (st : List Value) (h : a_H) : a_run d ML_law 44 L (.int (nI 18) :: st) h = a_run d ML_law 1080 L st h := w_table dL_law_44 rfl rfl
theorem w_L_law_44_19 (d : Nat) (L : a_L) (st : List Value) (h : a_H) : a_run d ML_law 44 L (.int (nI 19) :: st) h = a_run d ML_law 1155 L st h := w_table dL_law_44 rfl rfl
theorem w_L_law_44_20 (d : Nat) (L : a_L) (st : List Value) (h : a_H) : a_run d ML_law 44 L (.int (nI 20) :: st) h = a_run d ML_law 1211 L st h := w_table dL_law_44 rfl rfl
theorem w_L_law_44_21 (d : Nat) (L : a_L) (st : List Value) (h : a_H) : a_run d ML_law 44 L (.int (nI 21) :: st) h = a_run d ML_law 1274 L st h := w_table dL_law_44 rfl rfl
theorem w_L_law_44_22 (d : Nat) (L : a_L) (st : List Value) (h : a_H) : a_run d ML_law 44 L (.int (nI 22) :: st) h = a_run d ML_law 1287 L st h := w_table dL_law_44 rfl rfl
theorem w_L_law_44_23 (d : Nat) (L : a_L) (st : List Value) (h : a_H) : a_run d ML_law 44 L (.int (nI 23) :: st) h = a_run d ML_law 1355 L st h := w_table dL_law_44 rfl rfl
theorem w_L_law_44_24 (d : Nat) (L : a_L) (st : List Value) (h : a_H) : a_run d ML_law 44 L (.int (nI 24) :: st) h = a_run d ML_law 1423 L st h := w_table dL_law_44 rfl rfl
theorem w_L_law_44_25 (d : Nat) (L : a_L) (st : List Value) (h : a_H) : a_run d ML_law 44 L (.int (nI 25) :: st) h = a_run d ML_law 1491 L st h := w_table dL_law_44 rfl rfl
theorem w_L_law_44_26 (d : Nat) (L : a_L) (st : List Value) (h : a_H) : a_run d ML_law 44 L (.int (nI 26) :: st) h = a_run d ML_law 1559 L st h := w_table dL_law_44 rfl rfl
theorem w_L_law_44_27 (d : Nat) (L : a_L) (st : List Value) (h : a_H) : a_run d ML_law 44 L (.int (nI 27) :: st) h = a_run d ML_law 1572 L st h := w_table dL_law_44 rfl rfl
theorem w_L_law_44_28 (d : Nat) (L : a_L) (st : List Value) (h : a_H) : a_run d ML_law 44 L (.int (nI 28) :: st) h = a_run d ML_law 1585 L st h := w_table dL_law_44 rfl rfl
theorem w_L_law_44_29 (d : Nat) (L : a_L) (st : List Value) (h : a_H) : a_run d ML_law 44 L (.int (nI 29) :: st) h = a_run d ML_law 1641 L st h := w_table dL_law_44 rfl rfl
theorem w_L_law_44_30 (d : Nat) (L : a_L) (st : List Value) (h : a_H) : a_run d ML_law 44 L (.int (nI 30) :: st) h = a_run d ML_law 1697 L st h := w_table dL_law_44 rfl rfl
theorem w_L_law_44_31 (d : Nat) (L : a_L) (st : List Value) (h : a_H) : a_run d ML_law 44 L (.int (nI 31) :: st) h = a_run d ML_law 1753 L st h := w_table dL_law_44 rfl rfl
theorem w_L_law_44_32 (d : Nat) (L : a_L) (st : List Value) (h : a_H) : a_run d ML_law 44 L (.int (nI 32) :: st) h = a_run d ML_law 1766 L st h := w_table dL_law_44 rfl rfl
theorem w_L_law_44_33 (d : Nat) (L : a_L) (st : List Value) (h : a_H) : a_run d ML_law 44 L (.int (nI 33) :: st) h = a_run d ML_law 1822 L st h := w_table dL_law_44 rfl rfl
theorem w_L_law_44_34 (d : Nat) (L : a_L) (st : List Value) (h : a_H) : a_run d ML_law 44 L (.int (nI 34) :: st) h = a_run d ML_law 1878 L st h := w_table dL_law_44 rfl rfl
theorem w_L_law_44_35 (d : Nat) (L : a_L) (st : List Value) (h : a_H) : a_run d ML_law 44 L (.int (nI 35) :: st) h = a_run d ML_law 1891 L st h := w_table dL_law_44 rfl rfl
theorem w_L_law_44_36 (d : Nat) (L : a_L) (st : List Value) (h : a_H) : a_run d ML_law 44 L (.int (nI 36) :: st) h = a_run d ML_law 1959 L st h := w_table dL_law_44 rfl rfl
theorem w_L_law_44_37 (d : Nat) (L : a_L) (st : List Value) (h : a_H) : a_run d ML_law 44 L (.int (nI 37) :: st) h = a_run d ML_law 2015 L st h := w_table dL_law_44 rfl rfl
theorem w_L_law_44_38 (d : Nat) (L : a_L) (st : List Value) (h : a_H) : a_run d ML_law 44 L (.int (nI 38) :: st) h = a_run d ML_law 2083 L st h := w_table dL_law_44 rfl rfl
theorem w_L_law_44_39 (d : Nat) (L : a_L) (st : List Value) (h : a_H) : a_run d ML_law 44 L (.int (nI 39) :: st) h = a_run d ML_law 2151 L st h := w_table dL_law_44 rfl rfl
theorem w_L_law_44_40 (d : Nat) (L : a_L) (st : List Value) (h : a_H) : a_run d ML_law 44 L (.int (nI 40) :: st) h = a_run d ML_law 2195 L st h := w_table dL_law_44 rfl rfl
theorem w_L_law_44_41 (d : Nat) (L : a_L) (st : List Value) (h : a_H) : a_run d ML_law 44 L (.int (nI 41) :: st) h = a_run d ML_law 2208 L st h := w_table dL_law_44 rfl rfl
theorem w_L_law_44_42 (d : Nat) (L : a_L) (st : List Value) (h : a_H) : a_run d ML_law 44 L (.int (nI 42) :: st) h = a_run d ML_law 2221 L st h := w_table dL_law_44 rfl rfl
theorem w_L_law_44_43 (d : Nat) (L : a_L) (st : List Value) (h : a_H) : a_run d ML_law 44 L (.int (nI 43) :: st) h = a_run d ML_law 2277 L st h := w_table dL_law_44 rfl rfl
theorem w_L_law_44_44 (d : Nat) (L : a_L) (st : List Value) (h : a_H) : a_run d ML_law 44 L (.int (nI 44) :: st) h = a_run d ML_law 2333 L st h := w_table dL_law_44 rfl rfl
theorem w_L_law_44_45 (d : Nat) (L : a_L) (st : List Value) (h : a_H) : a_run d ML_law 44 L (.int (nI 45) :: st) h = a_run d ML_law 2346 L st h := w_table dL_law_44 rfl rfl
theorem w_L_law_44_46 (d : Nat) (L : a_L) (st : List Value) (h : a_H) : a_run d ML_law 44 L (.int (nI 46) :: st) h = a_run d ML_law 2359 L st h := w_table dL_law_44 rfl rfl
theorem w_L_law_44_47 (d : Nat) (L : a_L) (st : List Value) (h : a_H) : a_run d ML_law 44 L (.int (nI 47) :: st) h = a_run d ML_law 2427 L st h := w_table dL_law_44 rfl rfl
theorem w_L_law_44_48 (d : Nat) (L : a_L) (st : List Value) (h : a_H) : a_run d ML_law 44 L (.int (nI 48) :: st) h = a_run d ML_law 2483 L st h := w_table dL_law_44 rfl rfl
theorem w_L_law_44_49 (d : Nat) (L : a_L) (st : List Value) (h : a_H) : a_run d ML_law 44 L (.int (nI 49) :: st) h = a_run d ML_law 2496 L st h := w_table dL_law_44 rfl rfl
theorem w_L_law_44_50 (d : Nat) (L : a_L) (st : List Value) (h : a_H) : a_run d ML_law 44 L (.int (nI 50) :: st) h = a_run d ML_law 2509 L st h := w_table dL_law_44 rfl rfl
theorem w_L_law_44_51 (d : Nat) (L : a_L) (st : List Value) (h : a_H) : a_run d ML_law 44 L (.int (nI 51) :: st) h = a_run d ML_law 2522 L st h := w_table dL_law_44 rfl rfl
theorem w_L_law_44_52 (d : Nat) (L : a_L) (st : List Value) (h : a_H) : a_run d ML_law 44 L (.int (nI 52) :: st) h = a_run d ML_law 2535 L st h := w_table dL_law_44 rfl rfl
theorem w_L_law_44_53 (d : Nat) (L : a_L) (st : List Value) (h : a_H) : a_run d ML_law 44 L (.int (nI 53) :: st) h = a_run d ML_law 2548 L st h := w_table dL_law_44 rfl rfl
theorem w_L_law_44_54 (d : Nat) (L : a_L) (st : List Value) (h : a_H) : a_run d ML_law 44 L (.int (nI 54) :: st) h = a_run d ML_law 2561 L st h := w_table dL_law_44 rfl rfl
theorem w_L_law_44_55 (d : Nat) (L : a_L) (st : List Value) (h : a_H) : a_run d ML_law 44 L (.int (nI 55) :: st) h = a_run d ML_law 2626 L st h := w_table dL_law_44 rfl rfl
theorem w_L_law_44_56 (d : Nat) (L : a_L) (st : List Value) (h : a_H) : a_run d ML_law 44 L (.int (nI 56) :: st) h = a_run d ML_law 2639 L st h := w_table dL_law_44 rfl rfl
theorem w_L_law_44_57 (d : Nat) (L : a_L) (st : List Value) (h : a_H) : a_run d ML_law 44 L (.int (nI 57) :: st) h = a_run d ML_law 2683 L st h := w_table dL_law_44 rfl rfl
theorem w_L_law_44_58 (d : Nat) (L : a_L) (st : List Value) (h : a_H) : a_run d ML_law 44 L (.int (nI 58) :: st) h = a_run d ML_law 2696 L st h := w_table dL_law_44 rfl rfl
theorem w_L_law_44_59 (d : Nat) (L : a_L) (st : List Value) (h : a_H) : a_run d ML_law 44 L (.int (nI 59) :: st) h = a_run d ML_law 2740 L st h := w_table dL_law_44 rfl rfl
theorem w_L_law_44_60 (d : Nat) (L : a_L) (st : List Value) (h : a_H) : a_run d ML_law 44 L (.int (nI 60) :: st) h = a_run d ML_law 2796 L st h := w_table dL_law_44 rfl rfl
theorem w_L_law_44_61 (d : Nat) (L : a_L) (st : List Value) (h : a_H) : a_run d ML_law 44 L (.int (nI 61) :: st) h = a_run d ML_law 2809 L st h := w_table dL_law_44 rfl rfl
theorem w_L_law_44_62 (d : Nat) (L : a_L) (st : List Value) (h : a_H) : a_run d ML_law 44 L (.int (nI 62) :: st) h = a_run d ML_law 2853 L st h := w_table dL_law_44 rfl rfl
theorem w_L_law_44_63 (d : Nat) (L : a_L) (st : List Value) (h : a_H) : a_run d ML_law 44 L (.int (nI 63) :: st) h = a_run d ML_law 2897 L st h := w_table dL_law_44 rfl rfl
theorem w_L_law_44_64 (d : Nat) (L : a_L) (st : List Value) (h : a_H) : a_run d ML_law 44 L (.int (nI 64) :: st) h = a_run d ML_law 2941 L st h := w_table dL_law_44 rfl rfl
theorem w_L_law_44 (d : Nat) (L : a_L) (x : Int32) (st : List Value) (h : a_H) (hx : x.toInt < 0 ∨ 64 < x.toInt) : a_run d ML_law 44 L (.int x :: st) h = a_run d ML_law 2985 L st h := w_table dL_law_44 (if_pos hx) rfl
theorem w_L_law_320 (d : Nat) (a0 a2 a3 a4 a5 a6 a7 : Option Value) (x : Nat) (st : List Value) (h : a_H) : a_run d ML_law 320 [a0, some (.ref x), a2, a3, a4, a5, a6, a7] st h = a_run d ML_law 321 [a0, some (.ref x), a2, a3, a4, a5, a6, a7] (.ref x :: st) h := w_ldAn dL_law_320 rfl
theorem w_L_law_320N (d : Nat) (a0 a2 a3 a4 a5 a6 a7 : Option Value) (st : List Value) (h : a_H) : a_run d ML_law 320 [a0, some .null, a2, a3, a4, a5, a6, a7] st h = a_run d ML_law 321 [a0, some .null, a2, a3, a4, a5, a6, a7] (.null :: st) h := w_ldNn dL_law_320 rfl
theorem w_L_law_321 (d : Nat) (a0 a1 a2 a4 a5 a6 a7 : Option Value) (x : Nat) (st : List Value) (h : a_H) : a_run d ML_law 321 [a0, a1, a2, some (.ref x), a4, a5, a6, a7] st h = a_run d ML_law 322 [a0, a1, a2, some (.ref x), a4, a5, a6, a7] (.ref x :: st) h := w_ldAn dL_law_321 rfl
theorem w_L_law_321N (d : Nat) (a0 a1 a2 a4 a5 a6 a7 : Option Value) (st : List Value) (h : a_H) : a_run d ML_law 321 [a0, a1, a2, some .null, a4, a5, a6, a7] st h = a_run d ML_law 322 [a0, a1, a2, some .null, a4, a5, a6, a7] (.null :: st) h := w_ldNn dL_law_321 rfl
theorem w_L_law_322 (d : Nat) (L : a_L) (v0 v1 : Value) (st : List Value) (h : a_H) (hc : a_cat st ≤ 8) : a_run d ML_law 322 L (v1 :: v0 :: st) h = a_cont d ML_law (a_bk ML_law 322 L st (a_call d MX0_addBox [v0, v1] h)) := w_callS (as := [v0, v1]) dL_law_322 rfl rfl rfl hc
theorem w_L_law_325 (d : Nat) (a0 a1 a2 a3 a4 a5 a6 a7 : Option Value) (x : Int32) (st : List Value) (h : a_H) : a_run d ML_law 325 [a0, a1, a2, a3, a4, a5, a6, a7] (.int x :: st) h = a_run d ML_law 327 [a0, a1, a2, a3, a4, a5, some (.int x), a7] st h := w_stI dL_law_325 (Nat.le_of_ble_eq_true rfl) rfl
theorem w_L_law_327 (d : Nat) (a0 a1 a3 a4 a5 a6 a7 : Option Value) (x : Nat) (st : List Value) (h : a_H) : a_run d ML_law 327 [a0, a1, some (.ref x), a3, a4, a5, a6, a7] st h = a_run d ML_law 328 [a0, a1, some (.ref x), a3, a4, a5, a6, a7] (.ref x :: st) h := w_ldAn dL_law_327 rfl
theorem w_L_law_327N (d : Nat) (a0 a1 a3 a4 a5 a6 a7 : Option Value) (st : List Value) (h : a_H) : a_run d ML_law 327 [a0, a1, some .null, a3, a4, a5, a6, a7] st h = a_run d ML_law 328 [a0, a1, some .null, a3, a4, a5, a6, a7] (.null :: st) h := w_ldNn dL_law_327 rfl
theorem w_L_law_328 (d : Nat) (L : a_L) (i : Nat) (st : List Value) (h : a_H) (hk : a_kls h i = some 2) (hc : a_cat st ≤ 8) : a_run d ML_law 328 L (.ref i :: st) h = a_cont d ML_law (a_bk ML_law 328 L st (a_call d MX3_addBox [.ref i] h)) := w_callV (as := [.ref i]) dL_law_328 rfl rfl rfl hc (a_rcv_of hk rfl)
theorem w_L_law_331 (d : Nat) (a0 a1 a2 a3 a4 a5 a6 a7 : Option Value) (x : Int32) (st : List Value) (h : a_H) : a_run d ML_law 331 [a0, a1, a2, a3, a4, a5, a6, a7] (.int x :: st) h = a_run d ML_law 333 [a0, a1, a2, a3, a4, a5, a6, some (.int x)] st h := w_stI dL_law_331 (Nat.le_of_ble_eq_true rfl) rfl
theorem w_L_law_333 (d : Nat) (a0 a1 a3 a4 a5 a6 a7 : Option Value) (x : Nat) (st : List Value) (h : a_H) : a_run d ML_law 333 [a0, a1, some (.ref x), a3, a4, a5, a6, a7] st h = a_run d ML_law 334 [a0, a1, some (.ref x), a3, a4, a5, a6, a7] (.ref x :: st) h := w_ldAn dL_law_333 rfl
theorem w_L_law_333N (d : Nat) (a0 a1 a3 a4 a5 a6 a7 : Option Value) (st : List Value) (h : a_H) : a_run d ML_law 333 [a0, a1, some .null, a3, a4, a5, a6, a7] st h = a_run d ML_law 334 [a0, a1, some .null, a3, a4, a5, a6, a7] (.null :: st) h := w_ldNn dL_law_333 rfl
theorem w_L_law_334 (d : Nat) (L : a_L) (i : Nat) (st : List Value) (h : a_H) (hk : a_kls h i = some 2) (hc : a_cat st ≤ 8) : a_run d ML_law 334 L (.ref i :: st) h = a_cont d ML_law (a_bk ML_law 334 L st (a_call d MX3_thrown [.ref i] h)) := w_callV (as := [.ref i]) dL_law_334 rfl rfl rfl hc (a_rcv_of hk rfl)
theorem w_L_law_337 (d : Nat) (a0 a1 a2 a3 a4 a5 a7 : Option Value) (x : Int32) (st : List Value) (h : a_H) : a_run d ML_law 337 [a0, a1, a2, a3, a4, a5, some (.int x), a7] st h = a_run d ML_law 339 [a0, a1, a2, a3, a4, a5, some (.int x), a7] (.int x :: st) h := w_ldI dL_law_337 rfl
theorem w_L_law_339 (d : Nat) (L : a_L) (x y : Int32) (st : List Value) (h : a_H) : a_run d ML_law 339 L (.int y :: .int x :: st) h = if x = y then a_run d ML_law 344 L st h else a_run d ML_law 342 L st h := w_icmp_eq dL_law_339 rfl
theorem w_L_law_342 (d : Nat) (L : a_L) (st : List Value) (h : a_H) : a_run d ML_law 342 L st h = a_run d ML_law 343 L (.int (nI 0) :: st) h := w_iconst dL_law_342 rfl
theorem w_L_law_343 (d : Nat) (L : a_L) (x : Int32) (h : a_H) (hx : x = 0 ∨ x = 1) : a_run d ML_law 343 L [.int x] h = some (.inl (some (.int x)), h) := w_iret dL_law_343 (w_retZ rfl hx)
theorem w_L_law_344 (d : Nat) (a0 a1 a2 a3 a4 a5 a7 : Option Value) (x : Int32) (st : List Value) (h : a_H) : a_run d ML_law 344 [a0, a1, a2, a3, a4, a5, some (.int x), a7] st h = a_run d ML_law 346 [a0, a1, a2, a3, a4, a5, some (.int x), a7] (.int x :: st) h := w_ldI dL_law_344 rfl
theorem w_L_law_346 (d : Nat) (L : a_L) (x : Int32) (st : List Value) (h : a_H) : a_run d ML_law 346 L (.int x :: st) h = if x = 0 then a_run d ML_law 349 L st h else a_run d ML_law 361 L st h := w_if_ne dL_law_346 rfl
theorem w_L_law_349 (d : Nat) (a0 a1 a2 a4 a5 a6 a7 : Option Value) (x : Nat) (st : List Value) (h : a_H) : a_run d ML_law 349 [a0, a1, a2, some (.ref x), a4, a5, a6, a7] st h = a_run d ML_law 350 [a0, a1, a2, some (.ref x), a4, a5, a6, a7] (.ref x :: st) h := w_ldAn dL_law_349 rfl
theorem w_L_law_349N (d : Nat) (a0 a1 a2 a4 a5 a6 a7 : Option Value) (st : List Value) (h : a_H) : a_run d ML_law 349 [a0, a1, a2, some .null, a4, a5, a6, a7] st h = a_run d ML_law 350 [a0, a1, a2, some .null, a4, a5, a6, a7] (.null :: st) h := w_ldNn dL_law_349 rfl
theorem w_L_law_350 (d : Nat) (L : a_L) (st : List Value) (h : a_H) : a_run d ML_law 350 L st h = a_run d ML_law 351 L (.int (nI 0) :: st) h := w_iconst dL_law_350 rfl
theorem w_L_law_351 (d : Nat) (L : a_L) (x : Int32) (i : Nat) (st : List Value) (h : a_H) : a_run d ML_law 351 L (.int x :: .ref i :: st) h = (a_rdl h i x).bind fun v => a_run d ML_law 352 L (v :: st) h := w_lald dL_law_351
theorem w_L_law_352 (d : Nat) (a0 a1 a2 a3 a4 a5 a6 : Option Value) (x : Int32) (st : List Value) (h : a_H) : a_run d ML_law 352 [a0, a1, a2, a3, a4, a5, a6, some (.int x)] st h = a_run d ML_law 354 [a0, a1, a2, a3, a4, a5, a6, some (.int x)] (.int x :: st) h := w_ldI dL_law_352 rfl
theorem w_L_law_354 (d : Nat) (L : a_L) (x : Int32) (st : List Value) (h : a_H) : a_run d ML_law 354 L (.int x :: st) h = a_run d ML_law 355 L (.long x.toInt64 :: st) h := w_i2l dL_law_354
theorem w_L_law_355 (d : Nat) (L : a_L) (x y : Int64) (st : List Value) (h : a_H) : a_run d ML_law 355 L (.long y :: .long x :: st) h = a_run d ML_law 356 L (.int (lg_cmp x y) :: st) h := w_lcmp dL_law_355
theorem w_L_law_356 (d : Nat) (L : a_L) (x : Int32) (st : List Value) (h : a_H) : a_run d ML_law 356 L (.int x :: st) h = if x = 0 then a_run d ML_law 361 L st h else a_run d ML_law 359 L st h := w_if_eq dL_law_356 rfl
theorem w_L_law_359 (d : Nat) (L : a_L) (st : List Value) (h : a_H) : a_run d ML_law 359 L st h = a_run d ML_law 360 L (.int (nI 0) :: st) h := w_iconst dL_law_359 rfl
theorem w_L_law_360 (d : Nat) (L : a_L) (x : Int32) (h : a_H) (hx : x = 0 ∨ x = 1) : a_run d ML_law 360 L [.int x] h = some (.inl (some (.int x)), h) := w_iret dL_law_360 (w_retZ rfl hx)
theorem w_L_law_361 (d : Nat) (L : a_L) (st : List Value) (h : a_H) : a_run d ML_law 361 L st h = a_run d ML_law 2985 L st h := w_goto dL_law_361 rfl
theorem w_L_law_364 (d : Nat) (a0 a2 a3 a4 a5 a6 a7 : Option Value) (x : Nat) (st : List Value) (h : a_H) : a_run d ML_law 364 [a0, some (.ref x), a2, a3, a4, a5, a6, a7] st h = a_run d ML_law 365 [a0, some (.ref x), a2, a3, a4, a5, a6, a7] (.ref x :: st) h := w_ldAn dL_law_364 rfl
theorem w_L_law_364N (d : Nat) (a0 a2 a3 a4 a5 a6 a7 : Option Value) (st : List Value) (h : a_H) : a_run d ML_law 364 [a0, some .null, a2, a3, a4, a5, a6, a7] st h = a_run d ML_law 365 [a0, some .null, a2, a3, a4, a5, a6, a7] (.null :: st) h := w_ldNn dL_law_364 rfl
theorem w_L_law_365 (d : Nat) (a1 a2 a3 a4 a5 a6 a7 : Option Value) (x : Nat) (st : List Value) (h : a_H) : a_run d ML_law 365 [some (.ref x), a1, a2, a3, a4, a5, a6, a7] st h = a_run d ML_law 366 [some (.ref x), a1, a2, a3, a4, a5, a6, a7] (.ref x :: st) h := w_ldAn dL_law_365 rfl
theorem w_L_law_366 (d : Nat) (a0 a1 a2 a3 a4 a6 a7 : Option Value) (x : Int32) (st : List Value) (h : a_H) : a_run d ML_law 366 [a0, a1, a2, a3, a4, some (.int x), a6, a7] st h = a_run d ML_law 368 [a0, a1, a2, a3, a4, some (.int x), a6, a7] (.int x :: st) h := w_ldI dL_law_366 rfl
theorem w_L_law_368 (d : Nat) (L : a_L) (st : List Value) (h : a_H) : a_run d ML_law 368 L st h = a_run d ML_law 369 L (.int (nI 1) :: st) h := w_iconst dL_law_368 rfl
theorem w_L_law_369 (d : Nat) (L : a_L) (x y : Int32) (st : List Value) (h : a_H) : a_run d ML_law 369 L (.int y :: .int x :: st) h = a_run d ML_law 370 L (.int (x + y) :: st) h := w_iadd dL_law_369
theorem w_L_law_370 (d : Nat) (L : a_L) (x : Int32) (i : Nat) (st : List Value) (h : a_H) : a_run d ML_law 370 L (.int x :: .ref i :: st) h = (a_rdi h i a_int x).bind fun v => a_run d ML_law 371 L (v :: st) h := w_iald dL_law_370
theorem w_L_law_371 (d : Nat) (a1 a2 a3 a4 a5 a6 a7 : Option Value) (x : Nat) (st : List Value) (h : a_H) : a_run d ML_law 371 [some (.ref x), a1, a2, a3, a4, a5, a6, a7] st h = a_run d ML_law 372 [some (.ref x), a1, a2, a3, a4, a5, a6, a7] (.ref x :: st) h := w_ldAn dL_law_371 rfl
theorem w_L_law_372 (d : Nat) (a0 a1 a2 a3 a4 a6 a7 : Option Value) (x : Int32) (st : List Value) (h : a_H) : a_run d ML_law 372 [a0, a1, a2, a3, a4, some (.int x), a6, a7] st h = a_run d ML_law 374 [a0, a1, a2, a3, a4, some (.int x), a6, a7] (.int x :: st) h := w_ldI dL_law_372 rfl
theorem w_L_law_374 (d : Nat) (L : a_L) (st : List Value) (h : a_H) : a_run d ML_law 374 L st h = a_run d ML_law 375 L (.int (nI 2) :: st) h := w_iconst dL_law_374 rfl
theorem w_L_law_375 (d : Nat) (L : a_L) (x y : Int32) (st : List Value) (h : a_H) : a_run d ML_law 375 L (.int y :: .int x :: st) h = a_run d ML_law 376 L (.int (x + y) :: st) h := w_iadd dL_law_375
theorem w_L_law_376 (d : Nat) (L : a_L) (x : Int32) (i : Nat) (st : List Value) (h : a_H) : a_run d ML_law 376 L (.int x :: .ref i :: st) h = (a_rdi h i a_int x).bind fun v => a_run d ML_law 377 L (v :: st) h := w_iald dL_law_376
theorem w_L_law_377 (d : Nat) (a0 a1 a2 a4 a5 a6 a7 : Option Value) (x : Nat) (st : List Value) (h : a_H) : a_run d ML_law 377 [a0, a1, a2, some (.ref x), a4, a5, a6, a7] st h = a_run d ML_law 378 [a0, a1, a2, some (.ref x), a4, a5, a6, a7] (.ref x :: st) h := w_ldAn dL_law_377 rfl
theorem w_L_law_377N (d : Nat) (a0 a1 a2 a4 a5 a6 a7 : Option Value) (st : List Value) (h : a_H) : a_run d ML_law 377 [a0, a1, a2, some .null, a4, a5, a6, a7] st h = a_run d ML_law 378 [a0, a1, a2, some .null, a4, a5, a6, a7] (.null :: st) h := w_ldNn dL_law_377 rfl
theorem w_L_law_378 (d : Nat) (L : a_L) (v0 v1 v2 v3 : Value) (st : List Value) (h : a_H) (hc : a_cat st ≤ 8) : a_run d ML_law 378 L (v3 :: v2 :: v1 :: v0 :: st) h = a_cont d ML_law (a_bk ML_law 378 L st (a_call d MX0_addArrow [v0, v1, v2, v3] h)) := w_callS (as := [v0, v1, v2, v3]) dL_law_378 rfl rfl rfl hc
theorem w_L_law_381 (d : Nat) (a0 a1 a2 a3 a4 a5 a6 a7 : Option Value) (x : Int32) (st : List Value) (h : a_H) : a_run d ML_law 381 [a0, a1, a2, a3, a4, a5, a6, a7] (.int x :: st) h = a_run d ML_law 383 [a0, a1, a2, a3, a4, a5, some (.int x), a7] st h := w_stI dL_law_381 (Nat.le_of_ble_eq_true rfl) rfl
theorem w_L_law_383 (d : Nat) (a0 a1 a3 a4 a5 a6 a7 : Option Value) (x : Nat) (st : List Value) (h : a_H) : a_run d ML_law 383 [a0, a1, some (.ref x), a3, a4, a5, a6, a7] st h = a_run d ML_law 384 [a0, a1, some (.ref x), a3, a4, a5, a6, a7] (.ref x :: st) h := w_ldAn dL_law_383 rfl
theorem w_L_law_383N (d : Nat) (a0 a1 a3 a4 a5 a6 a7 : Option Value) (st : List Value) (h : a_H) : a_run d ML_law 383 [a0, a1, some .null, a3, a4, a5, a6, a7] st h = a_run d ML_law 384 [a0, a1, some .null, a3, a4, a5, a6, a7] (.null :: st) h := w_ldNn dL_law_383 rfl
theorem w_L_law_384 (d : Nat) (a1 a2 a3 a4 a5 a6 a7 : Option Value) (x : Nat) (st : List Value) (h : a_H) : a_run d ML_law 384 [some (.ref x), a1, a2, a3, a4, a5, a6, a7] st h = a_run d ML_law 385 [some (.ref x), a1, a2, a3, a4, a5, a6, a7] (.ref x :: st) h := w_ldAn dL_law_384 rfl
theorem w_L_law_385 (d : Nat) (a0 a1 a2 a3 a4 a6 a7 : Option Value) (x : Int32) (st : List Value) (h : a_H) : a_run d ML_law 385 [a0, a1, a2, a3, a4, some (.int x), a6, a7] st h = a_run d ML_law 387 [a0, a1, a2, a3, a4, some (.int x), a6, a7] (.int x :: st) h := w_ldI dL_law_385 rfl
theorem w_L_law_387 (d : Nat) (L : a_L) (st : List Value) (h : a_H) : a_run d ML_law 387 L st h = a_run d ML_law 388 L (.int (nI 1) :: st) h := w_iconst dL_law_387 rfl
theorem w_L_law_388 (d : Nat) (L : a_L) (x y : Int32) (st : List Value) (h : a_H) : a_run d ML_law 388 L (.int y :: .int x :: st) h = a_run d ML_law 389 L (.int (x + y) :: st) h := w_iadd dL_law_388
theorem w_L_law_389 (d : Nat) (L : a_L) (x : Int32) (i : Nat) (st : List Value) (h : a_H) : a_run d ML_law 389 L (.int x :: .ref i :: st) h = (a_rdi h i a_int x).bind fun v => a_run d ML_law 390 L (v :: st) h := w_iald dL_law_389
theorem w_L_law_390 (d : Nat) (a1 a2 a3 a4 a5 a6 a7 : Option Value) (x : Nat) (st : List Value) (h : a_H) : a_run d ML_law 390 [some (.ref x), a1, a2, a3, a4, a5, a6, a7] st h = a_run d ML_law 391 [some (.ref x), a1, a2, a3, a4, a5, a6, a7] (.ref x :: st) h := w_ldAn dL_law_390 rfl
theorem w_L_law_391 (d : Nat) (a0 a1 a2 a3 a4 a6 a7 : Option Value) (x : Int32) (st : List Value) (h : a_H) : a_run d ML_law 391 [a0, a1, a2, a3, a4, some (.int x), a6, a7] st h = a_run d ML_law 393 [a0, a1, a2, a3, a4, some (.int x), a6, a7] (.int x :: st) h := w_ldI dL_law_391 rfl
theorem w_L_law_393 (d : Nat) (L : a_L) (st : List Value) (h : a_H) : a_run d ML_law 393 L st h = a_run d ML_law 394 L (.int (nI 2) :: st) h := w_iconst dL_law_393 rfl
theorem w_L_law_394 (d : Nat) (L : a_L) (x y : Int32) (st : List Value) (h : a_H) : a_run d ML_law 394 L (.int y :: .int x :: st) h = a_run d ML_law 395 L (.int (x + y) :: st) h := w_iadd dL_law_394
theorem w_L_law_395 (d : Nat) (L : a_L) (x : Int32) (i : Nat) (st : List Value) (h : a_H) : a_run d ML_law 395 L (.int x :: .ref i :: st) h = (a_rdi h i a_int x).bind fun v => a_run d ML_law 396 L (v :: st) h := w_iald dL_law_395
theorem w_L_law_396 (d : Nat) (L : a_L) (i : Nat) (v1 v2 : Value) (st : List Value) (h : a_H) (hk : a_kls h i = some 2) (hc : a_cat st ≤ 8) : a_run d ML_law 396 L (v2 :: v1 :: .ref i :: st) h = a_cont d ML_law (a_bk ML_law 396 L st (a_call d MX3_addArrow [.ref i, v1, v2] h)) := w_callV (as := [.ref i, v1, v2]) dL_law_396 rfl rfl rfl hc (a_rcv_of hk rfl)
theorem w_L_law_399 (d : Nat) (a0 a1 a2 a3 a4 a5 a6 a7 : Option Value) (x : Int32) (st : List Value) (h : a_H) : a_run d ML_law 399 [a0, a1, a2, a3, a4, a5, a6, a7] (.int x :: st) h = a_run d ML_law 401 [a0, a1, a2, a3, a4, a5, a6, some (.int x)] st h := w_stI dL_law_399 (Nat.le_of_ble_eq_true rfl) rfl
theorem w_L_law_401 (d : Nat) (a0 a1 a3 a4 a5 a6 a7 : Option Value) (x : Nat) (st : List Value) (h : a_H) : a_run d ML_law 401 [a0, a1, some (.ref x), a3, a4, a5, a6, a7] st h = a_run d ML_law 402 [a0, a1, some (.ref x), a3, a4, a5, a6, a7] (.ref x :: st) h := w_ldAn dL_law_401 rfl
theorem w_L_law_401N (d : Nat) (a0 a1 a3 a4 a5 a6 a7 : Option Value) (st : List Value) (h : a_H) : a_run d ML_law 401 [a0, a1, some .null, a3, a4, a5, a6, a7] st h = a_run d ML_law 402 [a0, a1, some .null, a3, a4, a5, a6, a7] (.null :: st) h := w_ldNn dL_law_401 rfl
theorem w_L_law_402 (d : Nat) (L : a_L) (i : Nat) (st : List Value) (h : a_H) (hk : a_kls h i = some 2) (hc : a_cat st ≤ 8) : a_run d ML_law 402 L (.ref i :: st) h = a_cont d ML_law (a_bk ML_law 402 L st (a_call d MX3_thrown [.ref i] h)) := w_callV (as := [.ref i]) dL_law_402 rfl rfl rfl hc (a_rcv_of hk rfl)
theorem w_L_law_405 (d : Nat) (a0 a1 a2 a3 a4 a5 a7 : Option Value) (x : Int32) (st : List Value) (h : a_H) : a_run d ML_law 405 [a0, a1, a2, a3, a4, a5, some (.int x), a7] st h = a_run d ML_law 407 [a0, a1, a2, a3, a4, a5, some (.int x), a7] (.int x :: st) h := w_ldI dL_law_405 rfl
theorem w_L_law_407 (d : Nat) (L : a_L) (x y : Int32) (st : List Value) (h : a_H) : a_run d ML_law 407 L (.int y :: .int x :: st) h = if x = y then a_run d ML_law 412 L st h else a_run d ML_law 410 L st h := w_icmp_eq dL_law_407 rfl
theorem w_L_law_410 (d : Nat) (L : a_L) (st : List Value) (h : a_H) : a_run d ML_law 410 L st h = a_run d ML_law 411 L (.int (nI 0) :: st) h := w_iconst dL_law_410 rfl
theorem w_L_law_411 (d : Nat) (L : a_L) (x : Int32) (h : a_H) (hx : x = 0 ∨ x = 1) : a_run d ML_law 411 L [.int x] h = some (.inl (some (.int x)), h) := w_iret dL_law_411 (w_retZ rfl hx)
theorem w_L_law_412 (d : Nat) (a0 a1 a2 a3 a4 a5 a7 : Option Value) (x : Int32) (st : List Value) (h : a_H) : a_run d ML_law 412 [a0, a1, a2, a3, a4, a5, some (.int x), a7] st h = a_run d ML_law 414 [a0, a1, a2, a3, a4, a5, some (.int x), a7] (.int x :: st) h := w_ldI dL_law_412 rfl
theorem w_L_law_414 (d : Nat) (L : a_L) (x : Int32) (st : List Value) (h : a_H) : a_run d ML_law 414 L (.int x :: st) h = if x = 0 then a_run d ML_law 417 L st h else a_run d ML_law 429 L st h := w_if_ne dL_law_414 rfl
theorem w_L_law_417 (d : Nat) (a0 a1 a2 a4 a5 a6 a7 : Option Value) (x : Nat) (st : List Value) (h : a_H) : a_run d ML_law 417 [a0, a1, a2, some (.ref x), a4, a5, a6, a7] st h = a_run d ML_law 418 [a0, a1, a2, some (.ref x), a4, a5, a6, a7] (.ref x :: st) h := w_ldAn dL_law_417 rfl
theorem w_L_law_417N (d : Nat) (a0 a1 a2 a4 a5 a6 a7 : Option Value) (st : List Value) (h : a_H) : a_run d ML_law 417 [a0, a1, a2, some .null, a4, a5, a6, a7] st h = a_run d ML_law 418 [a0, a1, a2, some .null, a4, a5, a6, a7] (.null :: st) h := w_ldNn dL_law_417 rfl
theorem w_L_law_418 (d : Nat) (L : a_L) (st : List Value) (h : a_H) : a_run d ML_law 418 L st h = a_run d ML_law 419 L (.int (nI 0) :: st) h := w_iconst dL_law_418 rfl
theorem w_L_law_419 (d : Nat) (L : a_L) (x : Int32) (i : Nat) (st : List Value) (h : a_H) : a_run d ML_law 419 L (.int x :: .ref i :: st) h = (a_rdl h i x).bind fun v => a_run d ML_law 420 L (v :: st) h := w_lald dL_law_419
theorem w_L_law_420 (d : Nat) (a0 a1 a2 a3 a4 a5 a6 : Option Value) (x : Int32) (st : List Value) (h : a_H) : a_run d ML_law 420 [a0, a1, a2, a3, a4, a5, a6, some (.int x)] st h = a_run d ML_law 422 [a0, a1, a2, a3, a4, a5, a6, some (.int x)] (.int x :: st) h := w_ldI dL_law_420 rfl
theorem w_L_law_422 (d : Nat) (L : a_L) (x : Int32) (st : List Value) (h : a_H) : a_run d ML_law 422 L (.int x :: st) h = a_run d ML_law 423 L (.long x.toInt64 :: st) h := w_i2l dL_law_422
theorem w_L_law_423 (d : Nat) (L : a_L) (x y : Int64) (st : List Value) (h : a_H) : a_run d ML_law 423 L (.long y :: .long x :: st) h = a_run d ML_law 424 L (.int (lg_cmp x y) :: st) h := w_lcmp dL_law_423
theorem w_L_law_424 (d : Nat) (L : a_L) (x : Int32) (st : List Value) (h : a_H) : a_run d ML_law 424 L (.int x :: st) h = if x = 0 then a_run d ML_law 429 L st h else a_run d ML_law 427 L st h := w_if_eq dL_law_424 rfl
theorem w_L_law_427 (d : Nat) (L : a_L) (st : List Value) (h : a_H) : a_run d ML_law 427 L st h = a_run d ML_law 428 L (.int (nI 0) :: st) h := w_iconst dL_law_427 rfl
theorem w_L_law_428 (d : Nat) (L : a_L) (x : Int32) (h : a_H) (hx : x = 0 ∨ x = 1) : a_run d ML_law 428 L [.int x] h = some (.inl (some (.int x)), h) := w_iret dL_law_428 (w_retZ rfl hx)
theorem w_L_law_429 (d : Nat) (L : a_L) (st : List Value) (h : a_H) : a_run d ML_law 429 L st h = a_run d ML_law 2985 L st h := w_goto dL_law_429 rfl
theorem w_L_law_432 (d : Nat) (a0 a2 a3 a4 a5 a6 a7 : Option Value) (x : Nat) (st : List Value) (h : a_H) : a_run d ML_law 432 [a0, some (.ref x), a2, a3, a4, a5, a6, a7] st h = a_run d ML_law 433 [a0, some (.ref x), a2, a3, a4, a5, a6, a7] (.ref x :: st) h := w_ldAn dL_law_432 rfl
theorem w_L_law_432N (d : Nat) (a0 a2 a3 a4 a5 a6 a7 : Option Value) (st : List Value) (h : a_H) : a_run d ML_law 432 [a0, some .null, a2, a3, a4, a5, a6, a7] st h = a_run d ML_law 433 [a0, some .null, a2, a3, a4, a5, a6, a7] (.null :: st) h := w_ldNn dL_law_432 rfl
theorem w_L_law_433 (d : Nat) (a1 a2 a3 a4 a5 a6 a7 : Option Value) (x : Nat) (st : List Value) (h : a_H) : a_run d ML_law 433 [some (.ref x), a1, a2, a3, a4, a5, a6, a7] st h = a_run d ML_law 434 [some (.ref x), a1, a2, a3, a4, a5, a6, a7] (.ref x :: st) h := w_ldAn dL_law_433 rfl
theorem w_L_law_434 (d : Nat) (a0 a1 a2 a3 a4 a6 a7 : Option Value) (x : Int32) (st : List Value) (h : a_H) : a_run d ML_law 434 [a0, a1, a2, a3, a4, some (.int x), a6, a7] st h = a_run d ML_law 436 [a0, a1, a2, a3, a4, some (.int x), a6, a7] (.int x :: st) h := w_ldI dL_law_434 rfl
theorem w_L_law_436 (d : Nat) (L : a_L) (st : List Value) (h : a_H) : a_run d ML_law 436 L st h = a_run d ML_law 437 L (.int (nI 1) :: st) h := w_iconst dL_law_436 rfl
theorem w_L_law_437 (d : Nat) (L : a_L) (x y : Int32) (st : List Value) (h : a_H) : a_run d ML_law 437 L (.int y :: .int x :: st) h = a_run d ML_law 438 L (.int (x + y) :: st) h := w_iadd dL_law_437
theorem w_L_law_438 (d : Nat) (L : a_L) (x : Int32) (i : Nat) (st : List Value) (h : a_H) : a_run d ML_law 438 L (.int x :: .ref i :: st) h = (a_rdi h i a_int x).bind fun v => a_run d ML_law 439 L (v :: st) h := w_iald dL_law_438
theorem w_L_law_439 (d : Nat) (a1 a2 a3 a4 a5 a6 a7 : Option Value) (x : Nat) (st : List Value) (h : a_H) : a_run d ML_law 439 [some (.ref x), a1, a2, a3, a4, a5, a6, a7] st h = a_run d ML_law 440 [some (.ref x), a1, a2, a3, a4, a5, a6, a7] (.ref x :: st) h := w_ldAn dL_law_439 rfl
theorem w_L_law_440 (d : Nat) (a0 a1 a2 a3 a4 a6 a7 : Option Value) (x : Int32) (st : List Value) (h : a_H) : a_run d ML_law 440 [a0, a1, a2, a3, a4, some (.int x), a6, a7] st h = a_run d ML_law 442 [a0, a1, a2, a3, a4, some (.int x), a6, a7] (.int x :: st) h := w_ldI dL_law_440 rfl
theorem w_L_law_442 (d : Nat) (L : a_L) (st : List Value) (h : a_H) : a_run d ML_law 442 L st h = a_run d ML_law 443 L (.int (nI 2) :: st) h := w_iconst dL_law_442 rfl
theorem w_L_law_443 (d : Nat) (L : a_L) (x y : Int32) (st : List Value) (h : a_H) : a_run d ML_law 443 L (.int y :: .int x :: st) h = a_run d ML_law 444 L (.int (x + y) :: st) h := w_iadd dL_law_443
theorem w_L_law_444 (d : Nat) (L : a_L) (x : Int32) (i : Nat) (st : List Value) (h : a_H) : a_run d ML_law 444 L (.int x :: .ref i :: st) h = (a_rdi h i a_int x).bind fun v => a_run d ML_law 445 L (v :: st) h := w_iald dL_law_444
theorem w_L_law_445 (d : Nat) (a1 a2 a3 a4 a5 a6 a7 : Option Value) (x : Nat) (st : List Value) (h : a_H) : a_run d ML_law 445 [some (.ref x), a1, a2, a3, a4, a5, a6, a7] st h = a_run d ML_law 446 [some (.ref x), a1, a2, a3, a4, a5, a6, a7] (.ref x :: st) h := w_ldAn dL_law_445 rfl
theorem w_L_law_446 (d : Nat) (a0 a1 a2 a3 a4 a6 a7 : Option Value) (x : Int32) (st : List Value) (h : a_H) : a_run d ML_law 446 [a0, a1, a2, a3, a4, some (.int x), a6, a7] st h = a_run d ML_law 448 [a0, a1, a2, a3, a4, some (.int x), a6, a7] (.int x :: st) h := w_ldI dL_law_446 rfl
theorem w_L_law_448 (d : Nat) (L : a_L) (st : List Value) (h : a_H) : a_run d ML_law 448 L st h = a_run d ML_law 449 L (.int (nI 3) :: st) h := w_iconst dL_law_448 rfl
theorem w_L_law_449 (d : Nat) (L : a_L) (x y : Int32) (st : List Value) (h : a_H) : a_run d ML_law 449 L (.int y :: .int x :: st) h = a_run d ML_law 450 L (.int (x + y) :: st) h := w_iadd dL_law_449
theorem w_L_law_450 (d : Nat) (L : a_L) (x : Int32) (i : Nat) (st : List Value) (h : a_H) : a_run d ML_law 450 L (.int x :: .ref i :: st) h = (a_rdi h i a_int x).bind fun v => a_run d ML_law 451 L (v :: st) h := w_iald dL_law_450
theorem w_L_law_451 (d : Nat) (a0 a1 a2 a4 a5 a6 a7 : Option Value) (x : Nat) (st : List Value) (h : a_H) : a_run d ML_law 451 [a0, a1, a2, some (.ref x), a4, a5, a6, a7] st h = a_run d ML_law 452 [a0, a1, a2, some (.ref x), a4, a5, a6, a7] (.ref x :: st) h := w_ldAn dL_law_451 rfl
theorem w_L_law_451N (d : Nat) (a0 a1 a2 a4 a5 a6 a7 : Option Value) (st : List Value) (h : a_H) : a_run d ML_law 451 [a0, a1, a2, some .null, a4, a5, a6, a7] st h = a_run d ML_law 452 [a0, a1, a2, some .null, a4, a5, a6, a7] (.null :: st) h := w_ldNn dL_law_451 rfl
theorem w_L_law_452 (d : Nat) (L : a_L) (v0 v1 v2 v3 v4 : Value) (st : List Value) (h : a_H) (hc : a_cat st ≤ 8) : a_run d ML_law 452 L (v4 :: v3 :: v2 :: v1 :: v0 :: st) h = a_cont d ML_law (a_bk ML_law 452 L st (a_call d MX0_addChain [v0, v1, v2, v3, v4] h)) := w_callS (as := [v0, v1, v2, v3, v4]) dL_law_452 rfl rfl rfl hc
theorem w_L_law_455 (d : Nat) (a0 a1 a2 a3 a4 a5 a6 a7 : Option Value) (x : Int32) (st : List Value) (h : a_H) : a_run d ML_law 455 [a0, a1, a2, a3, a4, a5, a6, a7] (.int x :: st) h = a_run d ML_law 457 [a0, a1, a2, a3, a4, a5, some (.int x), a7] st h := w_stI dL_law_455 (Nat.le_of_ble_eq_true rfl) rfl
theorem w_L_law_457 (d : Nat) (a0 a1 a3 a4 a5 a6 a7 : Option Value) (x : Nat) (st : List Value) (h : a_H) : a_run d ML_law 457 [a0, a1, some (.ref x), a3, a4, a5, a6, a7] st h = a_run d ML_law 458 [a0, a1, some (.ref x), a3, a4, a5, a6, a7] (.ref x :: st) h := w_ldAn dL_law_457 rfl
theorem w_L_law_457N (d : Nat) (a0 a1 a3 a4 a5 a6 a7 : Option Value) (st : List Value) (h : a_H) : a_run d ML_law 457 [a0, a1, some .null, a3, a4, a5, a6, a7] st h = a_run d ML_law 458 [a0, a1, some .null, a3, a4, a5, a6, a7] (.null :: st) h := w_ldNn dL_law_457 rfl
theorem w_L_law_458 (d : Nat) (a1 a2 a3 a4 a5 a6 a7 : Option Value) (x : Nat) (st : List Value) (h : a_H) : a_run d ML_law 458 [some (.ref x), a1, a2, a3, a4, a5, a6, a7] st h = a_run d ML_law 459 [some (.ref x), a1, a2, a3, a4, a5, a6, a7] (.ref x :: st) h := w_ldAn dL_law_458 rfl
theorem w_L_law_459 (d : Nat) (a0 a1 a2 a3 a4 a6 a7 : Option Value) (x : Int32) (st : List Value) (h : a_H) : a_run d ML_law 459 [a0, a1, a2, a3, a4, some (.int x), a6, a7] st h = a_run d ML_law 461 [a0, a1, a2, a3, a4, some (.int x), a6, a7] (.int x :: st) h := w_ldI dL_law_459 rfl
theorem w_L_law_461 (d : Nat) (L : a_L) (st : List Value) (h : a_H) : a_run d ML_law 461 L st h = a_run d ML_law 462 L (.int (nI 1) :: st) h := w_iconst dL_law_461 rfl
theorem w_L_law_462 (d : Nat) (L : a_L) (x y : Int32) (st : List Value) (h : a_H) : a_run d ML_law 462 L (.int y :: .int x :: st) h = a_run d ML_law 463 L (.int (x + y) :: st) h := w_iadd dL_law_462
theorem w_L_law_463 (d : Nat) (L : a_L) (x : Int32) (i : Nat) (st : List Value) (h : a_H) : a_run d ML_law 463 L (.int x :: .ref i :: st) h = (a_rdi h i a_int x).bind fun v => a_run d ML_law 464 L (v :: st) h := w_iald dL_law_463
theorem w_L_law_464 (d : Nat) (a1 a2 a3 a4 a5 a6 a7 : Option Value) (x : Nat) (st : List Value) (h : a_H) : a_run d ML_law 464 [some (.ref x), a1, a2, a3, a4, a5, a6, a7] st h = a_run d ML_law 465 [some (.ref x), a1, a2, a3, a4, a5, a6, a7] (.ref x :: st) h := w_ldAn dL_law_464 rfl
theorem w_L_law_465 (d : Nat) (a0 a1 a2 a3 a4 a6 a7 : Option Value) (x : Int32) (st : List Value) (h : a_H) : a_run d ML_law 465 [a0, a1, a2, a3, a4, some (.int x), a6, a7] st h = a_run d ML_law 467 [a0, a1, a2, a3, a4, some (.int x), a6, a7] (.int x :: st) h := w_ldI dL_law_465 rfl
theorem w_L_law_467 (d : Nat) (L : a_L) (st : List Value) (h : a_H) : a_run d ML_law 467 L st h = a_run d ML_law 468 L (.int (nI 2) :: st) h := w_iconst dL_law_467 rfl
theorem w_L_law_468 (d : Nat) (L : a_L) (x y : Int32) (st : List Value) (h : a_H) : a_run d ML_law 468 L (.int y :: .int x :: st) h = a_run d ML_law 469 L (.int (x + y) :: st) h := w_iadd dL_law_468
theorem w_L_law_469 (d : Nat) (L : a_L) (x : Int32) (i : Nat) (st : List Value) (h : a_H) : a_run d ML_law 469 L (.int x :: .ref i :: st) h = (a_rdi h i a_int x).bind fun v => a_run d ML_law 470 L (v :: st) h := w_iald dL_law_469
theorem w_L_law_470 (d : Nat) (a1 a2 a3 a4 a5 a6 a7 : Option Value) (x : Nat) (st : List Value) (h : a_H) : a_run d ML_law 470 [some (.ref x), a1, a2, a3, a4, a5, a6, a7] st h = a_run d ML_law 471 [some (.ref x), a1, a2, a3, a4, a5, a6, a7] (.ref x :: st) h := w_ldAn dL_law_470 rfl
theorem w_L_law_471 (d : Nat) (a0 a1 a2 a3 a4 a6 a7 : Option Value) (x : Int32) (st : List Value) (h : a_H) : a_run d ML_law 471 [a0, a1, a2, a3, a4, some (.int x), a6, a7] st h = a_run d ML_law 473 [a0, a1, a2, a3, a4, some (.int x), a6, a7] (.int x :: st) h := w_ldI dL_law_471 rfl
theorem w_L_law_473 (d : Nat) (L : a_L) (st : List Value) (h : a_H) : a_run d ML_law 473 L st h = a_run d ML_law 474 L (.int (nI 3) :: st) h := w_iconst dL_law_473 rfl
theorem w_L_law_474 (d : Nat) (L : a_L) (x y : Int32) (st : List Value) (h : a_H) : a_run d ML_law 474 L (.int y :: .int x :: st) h = a_run d ML_law 475 L (.int (x + y) :: st) h := w_iadd dL_law_474
theorem w_L_law_475 (d : Nat) (L : a_L) (x : Int32) (i : Nat) (st : List Value) (h : a_H) : a_run d ML_law 475 L (.int x :: .ref i :: st) h = (a_rdi h i a_int x).bind fun v => a_run d ML_law 476 L (v :: st) h := w_iald dL_law_475
theorem w_L_law_476 (d : Nat) (L : a_L) (i : Nat) (v1 v2 v3 : Value) (st : List Value) (h : a_H) (hk : a_kls h i = some 2) (hc : a_cat st ≤ 8) : a_run d ML_law 476 L (v3 :: v2 :: v1 :: .ref i :: st) h = a_cont d ML_law (a_bk ML_law 476 L st (a_call d MX3_addChain [.ref i, v1, v2, v3] h)) := w_callV (as := [.ref i, v1, v2, v3]) dL_law_476 rfl rfl rfl hc (a_rcv_of hk rfl)
theorem w_L_law_479 (d : Nat) (a0 a1 a2 a3 a4 a5 a6 a7 : Option Value) (x : Int32) (st : List Value) (h : a_H) : a_run d ML_law 479 [a0, a1, a2, a3, a4, a5, a6, a7] (.int x :: st) h = a_run d ML_law 481 [a0, a1, a2, a3, a4, a5, a6, some (.int x)] st h := w_stI dL_law_479 (Nat.le_of_ble_eq_true rfl) rfl
theorem w_L_law_481 (d : Nat) (a0 a1 a3 a4 a5 a6 a7 : Option Value) (x : Nat) (st : List Value) (h : a_H) : a_run d ML_law 481 [a0, a1, some (.ref x), a3, a4, a5, a6, a7] st h = a_run d ML_law 482 [a0, a1, some (.ref x), a3, a4, a5, a6, a7] (.ref x :: st) h := w_ldAn dL_law_481 rfl
theorem w_L_law_481N (d : Nat) (a0 a1 a3 a4 a5 a6 a7 : Option Value) (st : List Value) (h : a_H) : a_run d ML_law 481 [a0, a1, some .null, a3, a4, a5, a6, a7] st h = a_run d ML_law 482 [a0, a1, some .null, a3, a4, a5, a6, a7] (.null :: st) h := w_ldNn dL_law_481 rfl
theorem w_L_law_482 (d : Nat) (L : a_L) (i : Nat) (st : List Value) (h : a_H) (hk : a_kls h i = some 2) (hc : a_cat st ≤ 8) : a_run d ML_law 482 L (.ref i :: st) h = a_cont d ML_law (a_bk ML_law 482 L st (a_call d MX3_thrown [.ref i] h)) := w_callV (as := [.ref i]) dL_law_482 rfl rfl rfl hc (a_rcv_of hk rfl)
theorem w_L_law_485 (d : Nat) (a0 a1 a2 a3 a4 a5 a7 : Option Value) (x : Int32) (st : List Value) (h : a_H) : a_run d ML_law 485 [a0, a1, a2, a3, a4, a5, some (.int x), a7] st h = a_run d ML_law 487 [a0, a1, a2, a3, a4, a5, some (.int x), a7] (.int x :: st) h := w_ldI dL_law_485 rfl
theorem w_L_law_487 (d : Nat) (L : a_L) (x y : Int32) (st : List Value) (h : a_H) : a_run d ML_law 487 L (.int y :: .int x :: st) h = if x = y then a_run d ML_law 492 L st h else a_run d ML_law 490 L st h := w_icmp_eq dL_law_487 rfl
theorem w_L_law_490 (d : Nat) (L : a_L) (st : List Value) (h : a_H) : a_run d ML_law 490 L st h = a_run d ML_law 491 L (.int (nI 0) :: st) h := w_iconst dL_law_490 rfl
theorem w_L_law_491 (d : Nat) (L : a_L) (x : Int32) (h : a_H) (hx : x = 0 ∨ x = 1) : a_run d ML_law 491 L [.int x] h = some (.inl (some (.int x)), h) := w_iret dL_law_491 (w_retZ rfl hx)
theorem w_L_law_492 (d : Nat) (a0 a1 a2 a3 a4 a5 a7 : Option Value) (x : Int32) (st : List Value) (h : a_H) : a_run d ML_law 492 [a0, a1, a2, a3, a4, a5, some (.int x), a7] st h = a_run d ML_law 494 [a0, a1, a2, a3, a4, a5, some (.int x), a7] (.int x :: st) h := w_ldI dL_law_492 rfl
theorem w_L_law_494 (d : Nat) (L : a_L) (x : Int32) (st : List Value) (h : a_H) : a_run d ML_law 494 L (.int x :: st) h = if x = 0 then a_run d ML_law 497 L st h else a_run d ML_law 509 L st h := w_if_ne dL_law_494 rfl
theorem w_L_law_497 (d : Nat) (a0 a1 a2 a4 a5 a6 a7 : Option Value) (x : Nat) (st : List Value) (h : a_H) : a_run d ML_law 497 [a0, a1, a2, some (.ref x), a4, a5, a6, a7] st h = a_run d ML_law 498 [a0, a1, a2, some (.ref x), a4, a5, a6, a7] (.ref x :: st) h := w_ldAn dL_law_497 rfl
theorem w_L_law_497N (d : Nat) (a0 a1 a2 a4 a5 a6 a7 : Option Value) (st : List Value) (h : a_H) : a_run d ML_law 497 [a0, a1, a2, some .null, a4, a5, a6, a7] st h = a_run d ML_law 498 [a0, a1, a2, some .null, a4, a5, a6, a7] (.null :: st) h := w_ldNn dL_law_497 rfl
theorem w_L_law_498 (d : Nat) (L : a_L) (st : List Value) (h : a_H) : a_run d ML_law 498 L st h = a_run d ML_law 499 L (.int (nI 0) :: st) h := w_iconst dL_law_498 rfl
theorem w_L_law_499 (d : Nat) (L : a_L) (x : Int32) (i : Nat) (st : List Value) (h : a_H) : a_run d ML_law 499 L (.int x :: .ref i :: st) h = (a_rdl h i x).bind fun v => a_run d ML_law 500 L (v :: st) h := w_lald dL_law_499
theorem w_L_law_500 (d : Nat) (a0 a1 a2 a3 a4 a5 a6 : Option Value) (x : Int32) (st : List Value) (h : a_H) : a_run d ML_law 500 [a0, a1, a2, a3, a4, a5, a6, some (.int x)] st h = a_run d ML_law 502 [a0, a1, a2, a3, a4, a5, a6, some (.int x)] (.int x :: st) h := w_ldI dL_law_500 rfl
theorem w_L_law_502 (d : Nat) (L : a_L) (x : Int32) (st : List Value) (h : a_H) : a_run d ML_law 502 L (.int x :: st) h = a_run d ML_law 503 L (.long x.toInt64 :: st) h := w_i2l dL_law_502
theorem w_L_law_503 (d : Nat) (L : a_L) (x y : Int64) (st : List Value) (h : a_H) : a_run d ML_law 503 L (.long y :: .long x :: st) h = a_run d ML_law 504 L (.int (lg_cmp x y) :: st) h := w_lcmp dL_law_503
theorem w_L_law_504 (d : Nat) (L : a_L) (x : Int32) (st : List Value) (h : a_H) : a_run d ML_law 504 L (.int x :: st) h = if x = 0 then a_run d ML_law 509 L st h else a_run d ML_law 507 L st h := w_if_eq dL_law_504 rfl
theorem w_L_law_507 (d : Nat) (L : a_L) (st : List Value) (h : a_H) : a_run d ML_law 507 L st h = a_run d ML_law 508 L (.int (nI 0) :: st) h := w_iconst dL_law_507 rfl
theorem w_L_law_508 (d : Nat) (L : a_L) (x : Int32) (h : a_H) (hx : x = 0 ∨ x = 1) : a_run d ML_law 508 L [.int x] h = some (.inl (some (.int x)), h) := w_iret dL_law_508 (w_retZ rfl hx)
theorem w_L_law_509 (d : Nat) (L : a_L) (st : List Value) (h : a_H) : a_run d ML_law 509 L st h = a_run d ML_law 2985 L st h := w_goto dL_law_509 rfl
theorem w_L_law_512 (d : Nat) (a0 a2 a3 a4 a5 a6 a7 : Option Value) (x : Nat) (st : List Value) (h : a_H) : a_run d ML_law 512 [a0, some (.ref x), a2, a3, a4, a5, a6, a7] st h = a_run d ML_law 513 [a0, some (.ref x), a2, a3, a4, a5, a6, a7] (.ref x :: st) h := w_ldAn dL_law_512 rfl
theorem w_L_law_512N (d : Nat) (a0 a2 a3 a4 a5 a6 a7 : Option Value) (st : List Value) (h : a_H) : a_run d ML_law 512 [a0, some .null, a2, a3, a4, a5, a6, a7] st h = a_run d ML_law 513 [a0, some .null, a2, a3, a4, a5, a6, a7] (.null :: st) h := w_ldNn dL_law_512 rfl
theorem w_L_law_513 (d : Nat) (a1 a2 a3 a4 a5 a6 a7 : Option Value) (x : Nat) (st : List Value) (h : a_H) : a_run d ML_law 513 [some (.ref x), a1, a2, a3, a4, a5, a6, a7] st h = a_run d ML_law 514 [some (.ref x), a1, a2, a3, a4, a5, a6, a7] (.ref x :: st) h := w_ldAn dL_law_513 rfl
theorem w_L_law_514 (d : Nat) (a0 a1 a2 a3 a4 a6 a7 : Option Value) (x : Int32) (st : List Value) (h : a_H) : a_run d ML_law 514 [a0, a1, a2, a3, a4, some (.int x), a6, a7] st h = a_run d ML_law 516 [a0, a1, a2, a3, a4, some (.int x), a6, a7] (.int x :: st) h := w_ldI dL_law_514 rfl
theorem w_L_law_516 (d : Nat) (L : a_L) (st : List Value) (h : a_H) : a_run d ML_law 516 L st h = a_run d ML_law 517 L (.int (nI 1) :: st) h := w_iconst dL_law_516 rfl
theorem w_L_law_517 (d : Nat) (L : a_L) (x y : Int32) (st : List Value) (h : a_H) : a_run d ML_law 517 L (.int y :: .int x :: st) h = a_run d ML_law 518 L (.int (x + y) :: st) h := w_iadd dL_law_517
theorem w_L_law_518 (d : Nat) (L : a_L) (x : Int32) (i : Nat) (st : List Value) (h : a_H) : a_run d ML_law 518 L (.int x :: .ref i :: st) h = (a_rdi h i a_int x).bind fun v => a_run d ML_law 519 L (v :: st) h := w_iald dL_law_518
theorem w_L_law_519 (d : Nat) (a0 a1 a2 a4 a5 a6 a7 : Option Value) (x : Nat) (st : List Value) (h : a_H) : a_run d ML_law 519 [a0, a1, a2, some (.ref x), a4, a5, a6, a7] st h = a_run d ML_law 520 [a0, a1, a2, some (.ref x), a4, a5, a6, a7] (.ref x :: st) h := w_ldAn dL_law_519 rfl
theorem w_L_law_519N (d : Nat) (a0 a1 a2 a4 a5 a6 a7 : Option Value) (st : List Value) (h : a_H) : a_run d ML_law 519 [a0, a1, a2, some .null, a4, a5, a6, a7] st h = a_run d ML_law 520 [a0, a1, a2, some .null, a4, a5, a6, a7] (.null :: st) h := w_ldNn dL_law_519 rfl
theorem w_L_law_520 (d : Nat) (L : a_L) (v0 v1 v2 : Value) (st : List Value) (h : a_H) (hc : a_cat st ≤ 8) : a_run d ML_law 520 L (v2 :: v1 :: v0 :: st) h = a_cont d ML_law (a_bk ML_law 520 L st (a_call d MX0_removeArrow [v0, v1, v2] h)) := w_callS (as := [v0, v1, v2]) dL_law_520 rfl rfl rfl hc
theorem w_L_law_523 (d : Nat) (a0 a1 a2 a3 a4 a5 a6 a7 : Option Value) (x : Int32) (st : List Value) (h : a_H) : a_run d ML_law 523 [a0, a1, a2, a3, a4, a5, a6, a7] (.int x :: st) h = a_run d ML_law 525 [a0, a1, a2, a3, a4, a5, some (.int x), a7] st h := w_stI dL_law_523 (Nat.le_of_ble_eq_true rfl) rfl
theorem w_L_law_525 (d : Nat) (a0 a1 a3 a4 a5 a6 a7 : Option Value) (x : Nat) (st : List Value) (h : a_H) : a_run d ML_law 525 [a0, a1, some (.ref x), a3, a4, a5, a6, a7] st h = a_run d ML_law 526 [a0, a1, some (.ref x), a3, a4, a5, a6, a7] (.ref x :: st) h := w_ldAn dL_law_525 rfl
theorem w_L_law_525N (d : Nat) (a0 a1 a3 a4 a5 a6 a7 : Option Value) (st : List Value) (h : a_H) : a_run d ML_law 525 [a0, a1, some .null, a3, a4, a5, a6, a7] st h = a_run d ML_law 526 [a0, a1, some .null, a3, a4, a5, a6, a7] (.null :: st) h := w_ldNn dL_law_525 rfl
theorem w_L_law_526 (d : Nat) (a1 a2 a3 a4 a5 a6 a7 : Option Value) (x : Nat) (st : List Value) (h : a_H) : a_run d ML_law 526 [some (.ref x), a1, a2, a3, a4, a5, a6, a7] st h = a_run d ML_law 527 [some (.ref x), a1, a2, a3, a4, a5, a6, a7] (.ref x :: st) h := w_ldAn dL_law_526 rfl
theorem w_L_law_527 (d : Nat) (a0 a1 a2 a3 a4 a6 a7 : Option Value) (x : Int32) (st : List Value) (h : a_H) : a_run d ML_law 527 [a0, a1, a2, a3, a4, some (.int x), a6, a7] st h = a_run d ML_law 529 [a0, a1, a2, a3, a4, some (.int x), a6, a7] (.int x :: st) h := w_ldI dL_law_527 rfl
theorem w_L_law_529 (d : Nat) (L : a_L) (st : List Value) (h : a_H) : a_run d ML_law 529 L st h = a_run d ML_law 530 L (.int (nI 1) :: st) h := w_iconst dL_law_529 rfl
theorem w_L_law_530 (d : Nat) (L : a_L) (x y : Int32) (st : List Value) (h : a_H) : a_run d ML_law 530 L (.int y :: .int x :: st) h = a_run d ML_law 531 L (.int (x + y) :: st) h := w_iadd dL_law_530
theorem w_L_law_531 (d : Nat) (L : a_L) (x : Int32) (i : Nat) (st : List Value) (h : a_H) : a_run d ML_law 531 L (.int x :: .ref i :: st) h = (a_rdi h i a_int x).bind fun v => a_run d ML_law 532 L (v :: st) h := w_iald dL_law_531
theorem w_L_law_532 (d : Nat) (L : a_L) (i : Nat) (v1 : Value) (st : List Value) (h : a_H) (hk : a_kls h i = some 2) (hc : a_cat st ≤ 8) : a_run d ML_law 532 L (v1 :: .ref i :: st) h = a_cont d ML_law (a_bk ML_law 532 L st (a_call d MX3_removeArrow [.ref i, v1] h)) := w_callV (as := [.ref i, v1]) dL_law_532 rfl rfl rfl hc (a_rcv_of hk rfl)
theorem w_L_law_535 (d : Nat) (a0 a1 a2 a3 a4 a5 a6 a7 : Option Value) (x : Int32) (st : List Value) (h : a_H) : a_run d ML_law 535 [a0, a1, a2, a3, a4, a5, a6, a7] (.int x :: st) h = a_run d ML_law 537 [a0, a1, a2, a3, a4, a5, a6, some (.int x)] st h := w_stI dL_law_535 (Nat.le_of_ble_eq_true rfl) rfl
theorem w_L_law_537 (d : Nat) (a0 a1 a3 a4 a5 a6 a7 : Option Value) (x : Nat) (st : List Value) (h : a_H) : a_run d ML_law 537 [a0, a1, some (.ref x), a3, a4, a5, a6, a7] st h = a_run d ML_law 538 [a0, a1, some (.ref x), a3, a4, a5, a6, a7] (.ref x :: st) h := w_ldAn dL_law_537 rfl
theorem w_L_law_537N (d : Nat) (a0 a1 a3 a4 a5 a6 a7 : Option Value) (st : List Value) (h : a_H) : a_run d ML_law 537 [a0, a1, some .null, a3, a4, a5, a6, a7] st h = a_run d ML_law 538 [a0, a1, some .null, a3, a4, a5, a6, a7] (.null :: st) h := w_ldNn dL_law_537 rfl
theorem w_L_law_538 (d : Nat) (L : a_L) (i : Nat) (st : List Value) (h : a_H) (hk : a_kls h i = some 2) (hc : a_cat st ≤ 8) : a_run d ML_law 538 L (.ref i :: st) h = a_cont d ML_law (a_bk ML_law 538 L st (a_call d MX3_thrown [.ref i] h)) := w_callV (as := [.ref i]) dL_law_538 rfl rfl rfl hc (a_rcv_of hk rfl)
theorem w_L_law_541 (d : Nat) (a0 a1 a2 a3 a4 a5 a7 : Option Value) (x : Int32) (st : List Value) (h : a_H) : a_run d ML_law 541 [a0, a1, a2, a3, a4, a5, some (.int x), a7] st h = a_run d ML_law 543 [a0, a1, a2, a3, a4, a5, some (.int x), a7] (.int x :: st) h := w_ldI dL_law_541 rfl
theorem w_L_law_543 (d : Nat) (L : a_L) (x y : Int32) (st : List Value) (h : a_H) : a_run d ML_law 543 L (.int y :: .int x :: st) h = if x = y then a_run d ML_law 548 L st h else a_run d ML_law 546 L st h := w_icmp_eq dL_law_543 rfl
theorem w_L_law_546 (d : Nat) (L : a_L) (st : List Value) (h : a_H) : a_run d ML_law 546 L st h = a_run d ML_law 547 L (.int (nI 0) :: st) h := w_iconst dL_law_546 rfl
theorem w_L_law_547 (d : Nat) (L : a_L) (x : Int32) (h : a_H) (hx : x = 0 ∨ x = 1) : a_run d ML_law 547 L [.int x] h = some (.inl (some (.int x)), h) := w_iret dL_law_547 (w_retZ rfl hx)
theorem w_L_law_548 (d : Nat) (a0 a1 a2 a3 a4 a5 a7 : Option Value) (x : Int32) (st : List Value) (h : a_H) : a_run d ML_law 548 [a0, a1, a2, a3, a4, a5, some (.int x), a7] st h = a_run d ML_law 550 [a0, a1, a2, a3, a4, a5, some (.int x), a7] (.int x :: st) h := w_ldI dL_law_548 rfl
theorem w_L_law_550 (d : Nat) (L : a_L) (x : Int32) (st : List Value) (h : a_H) : a_run d ML_law 550 L (.int x :: st) h = if x = 0 then a_run d ML_law 553 L st h else a_run d ML_law 565 L st h := w_if_ne dL_law_550 rfl
theorem w_L_law_553 (d : Nat) (a0 a1 a2 a4 a5 a6 a7 : Option Value) (x : Nat) (st : List Value) (h : a_H) : a_run d ML_law 553 [a0, a1, a2, some (.ref x), a4, a5, a6, a7] st h = a_run d ML_law 554 [a0, a1, a2, some (.ref x), a4, a5, a6, a7] (.ref x :: st) h := w_ldAn dL_law_553 rfl
theorem w_L_law_553N (d : Nat) (a0 a1 a2 a4 a5 a6 a7 : Option Value) (st : List Value) (h : a_H) : a_run d ML_law 553 [a0, a1, a2, some .null, a4, a5, a6, a7] st h = a_run d ML_law 554 [a0, a1, a2, some .null, a4, a5, a6, a7] (.null :: st) h := w_ldNn dL_law_553 rfl
theorem w_L_law_554 (d : Nat) (L : a_L) (st : List Value) (h : a_H) : a_run d ML_law 554 L st h = a_run d ML_law 555 L (.int (nI 0) :: st) h := w_iconst dL_law_554 rfl
theorem w_L_law_555 (d : Nat) (L : a_L) (x : Int32) (i : Nat) (st : List Value) (h : a_H) : a_run d ML_law 555 L (.int x :: .ref i :: st) h = (a_rdl h i x).bind fun v => a_run d ML_law 556 L (v :: st) h := w_lald dL_law_555
theorem w_L_law_556 (d : Nat) (a0 a1 a2 a3 a4 a5 a6 : Option Value) (x : Int32) (st : List Value) (h : a_H) : a_run d ML_law 556 [a0, a1, a2, a3, a4, a5, a6, some (.int x)] st h = a_run d ML_law 558 [a0, a1, a2, a3, a4, a5, a6, some (.int x)] (.int x :: st) h := w_ldI dL_law_556 rfl
theorem w_L_law_558 (d : Nat) (L : a_L) (x : Int32) (st : List Value) (h : a_H) : a_run d ML_law 558 L (.int x :: st) h = a_run d ML_law 559 L (.long x.toInt64 :: st) h := w_i2l dL_law_558
theorem w_L_law_559 (d : Nat) (L : a_L) (x y : Int64) (st : List Value) (h : a_H) : a_run d ML_law 559 L (.long y :: .long x :: st) h = a_run d ML_law 560 L (.int (lg_cmp x y) :: st) h := w_lcmp dL_law_559
theorem w_L_law_560 (d : Nat) (L : a_L) (x : Int32) (st : List Value) (h : a_H) : a_run d ML_law 560 L (.int x :: st) h = if x = 0 then a_run d ML_law 565 L st h else a_run d ML_law 563 L st h := w_if_eq dL_law_560 rfl
theorem w_L_law_563 (d : Nat) (L : a_L) (st : List Value) (h : a_H) : a_run d ML_law 563 L st h = a_run d ML_law 564 L (.int (nI 0) :: st) h := w_iconst dL_law_563 rfl
theorem w_L_law_564 (d : Nat) (L : a_L) (x : Int32) (h : a_H) (hx : x = 0 ∨ x = 1) : a_run d ML_law 564 L [.int x] h = some (.inl (some (.int x)), h) := w_iret dL_law_564 (w_retZ rfl hx)
theorem w_L_law_565 (d : Nat) (L : a_L) (st : List Value) (h : a_H) : a_run d ML_law 565 L st h = a_run d ML_law 2985 L st h := w_goto dL_law_565 rfl
theorem w_L_law_568 (d : Nat) (a0 a2 a3 a4 a5 a6 a7 : Option Value) (x : Nat) (st : List Value) (h : a_H) : a_run d ML_law 568 [a0, some (.ref x), a2, a3, a4, a5, a6, a7] st h = a_run d ML_law 569 [a0, some (.ref x), a2, a3, a4, a5, a6, a7] (.ref x :: st) h := w_ldAn dL_law_568 rfl
theorem w_L_law_568N (d : Nat) (a0 a2 a3 a4 a5 a6 a7 : Option Value) (st : List Value) (h : a_H) : a_run d ML_law 568 [a0, some .null, a2, a3, a4, a5, a6, a7] st h = a_run d ML_law 569 [a0, some .null, a2, a3, a4, a5, a6, a7] (.null :: st) h := w_ldNn dL_law_568 rfl
theorem w_L_law_569 (d : Nat) (a1 a2 a3 a4 a5 a6 a7 : Option Value) (x : Nat) (st : List Value) (h : a_H) : a_run d ML_law 569 [some (.ref x), a1, a2, a3, a4, a5, a6, a7] st h = a_run d ML_law 570 [some (.ref x), a1, a2, a3, a4, a5, a6, a7] (.ref x :: st) h := w_ldAn dL_law_569 rfl
theorem w_L_law_570 (d : Nat) (a0 a1 a2 a3 a4 a6 a7 : Option Value) (x : Int32) (st : List Value) (h : a_H) : a_run d ML_law 570 [a0, a1, a2, a3, a4, some (.int x), a6, a7] st h = a_run d ML_law 572 [a0, a1, a2, a3, a4, some (.int x), a6, a7] (.int x :: st) h := w_ldI dL_law_570 rfl
theorem w_L_law_572 (d : Nat) (L : a_L) (st : List Value) (h : a_H) : a_run d ML_law 572 L st h = a_run d ML_law 573 L (.int (nI 1) :: st) h := w_iconst dL_law_572 rfl
theorem w_L_law_573 (d : Nat) (L : a_L) (x y : Int32) (st : List Value) (h : a_H) : a_run d ML_law 573 L (.int y :: .int x :: st) h = a_run d ML_law 574 L (.int (x + y) :: st) h := w_iadd dL_law_573
theorem w_L_law_574 (d : Nat) (L : a_L) (x : Int32) (i : Nat) (st : List Value) (h : a_H) : a_run d ML_law 574 L (.int x :: .ref i :: st) h = (a_rdi h i a_int x).bind fun v => a_run d ML_law 575 L (v :: st) h := w_iald dL_law_574
theorem w_L_law_575 (d : Nat) (a1 a2 a3 a4 a5 a6 a7 : Option Value) (x : Nat) (st : List Value) (h : a_H) : a_run d ML_law 575 [some (.ref x), a1, a2, a3, a4, a5, a6, a7] st h = a_run d ML_law 576 [some (.ref x), a1, a2, a3, a4, a5, a6, a7] (.ref x :: st) h := w_ldAn dL_law_575 rfl
theorem w_L_law_576 (d : Nat) (a0 a1 a2 a3 a4 a6 a7 : Option Value) (x : Int32) (st : List Value) (h : a_H) : a_run d ML_law 576 [a0, a1, a2, a3, a4, some (.int x), a6, a7] st h = a_run d ML_law 578 [a0, a1, a2, a3, a4, some (.int x), a6, a7] (.int x :: st) h := w_ldI dL_law_576 rfl
theorem w_L_law_578 (d : Nat) (L : a_L) (st : List Value) (h : a_H) : a_run d ML_law 578 L st h = a_run d ML_law 579 L (.int (nI 2) :: st) h := w_iconst dL_law_578 rfl
theorem w_L_law_579 (d : Nat) (L : a_L) (x y : Int32) (st : List Value) (h : a_H) : a_run d ML_law 579 L (.int y :: .int x :: st) h = a_run d ML_law 580 L (.int (x + y) :: st) h := w_iadd dL_law_579
theorem w_L_law_580 (d : Nat) (L : a_L) (x : Int32) (i : Nat) (st : List Value) (h : a_H) : a_run d ML_law 580 L (.int x :: .ref i :: st) h = (a_rdi h i a_int x).bind fun v => a_run d ML_law 581 L (v :: st) h := w_iald dL_law_580
theorem w_L_law_581 (d : Nat) (a0 a1 a2 a4 a5 a6 a7 : Option Value) (x : Nat) (st : List Value) (h : a_H) : a_run d ML_law 581 [a0, a1, a2, some (.ref x), a4, a5, a6, a7] st h = a_run d ML_law 582 [a0, a1, a2, some (.ref x), a4, a5, a6, a7] (.ref x :: st) h := w_ldAn dL_law_581 rfl
theorem w_L_law_581N (d : Nat) (a0 a1 a2 a4 a5 a6 a7 : Option Value) (st : List Value) (h : a_H) : a_run d ML_law 581 [a0, a1, a2, some .null, a4, a5, a6, a7] st h = a_run d ML_law 582 [a0, a1, a2, some .null, a4, a5, a6, a7] (.null :: st) h := w_ldNn dL_law_581 rfl
theorem w_L_law_582 (d : Nat) (L : a_L) (v0 v1 v2 v3 : Value) (st : List Value) (h : a_H) (hc : a_cat st ≤ 8) : a_run d ML_law 582 L (v3 :: v2 :: v1 :: v0 :: st) h = a_cont d ML_law (a_bk ML_law 582 L st (a_call d MX0_holdDown [v0, v1, v2, v3] h)) := w_callS (as := [v0, v1, v2, v3]) dL_law_582 rfl rfl rfl hc
theorem w_L_law_585 (d : Nat) (a0 a1 a2 a3 a4 a5 a6 a7 : Option Value) (x : Int32) (st : List Value) (h : a_H) : a_run d ML_law 585 [a0, a1, a2, a3, a4, a5, a6, a7] (.int x :: st) h = a_run d ML_law 587 [a0, a1, a2, a3, a4, a5, some (.int x), a7] st h := w_stI dL_law_585 (Nat.le_of_ble_eq_true rfl) rfl
theorem w_L_law_587 (d : Nat) (a0 a1 a3 a4 a5 a6 a7 : Option Value) (x : Nat) (st : List Value) (h : a_H) : a_run d ML_law 587 [a0, a1, some (.ref x), a3, a4, a5, a6, a7] st h = a_run d ML_law 588 [a0, a1, some (.ref x), a3, a4, a5, a6, a7] (.ref x :: st) h := w_ldAn dL_law_587 rfl
theorem w_L_law_587N (d : Nat) (a0 a1 a3 a4 a5 a6 a7 : Option Value) (st : List Value) (h : a_H) : a_run d ML_law 587 [a0, a1, some .null, a3, a4, a5, a6, a7] st h = a_run d ML_law 588 [a0, a1, some .null, a3, a4, a5, a6, a7] (.null :: st) h := w_ldNn dL_law_587 rfl
theorem w_L_law_588 (d : Nat) (a1 a2 a3 a4 a5 a6 a7 : Option Value) (x : Nat) (st : List Value) (h : a_H) : a_run d ML_law 588 [some (.ref x), a1, a2, a3, a4, a5, a6, a7] st h = a_run d ML_law 589 [some (.ref x), a1, a2, a3, a4, a5, a6, a7] (.ref x :: st) h := w_ldAn dL_law_588 rfl
theorem w_L_law_589 (d : Nat) (a0 a1 a2 a3 a4 a6 a7 : Option Value) (x : Int32) (st : List Value) (h : a_H) : a_run d ML_law 589 [a0, a1, a2, a3, a4, some (.int x), a6, a7] st h = a_run d ML_law 591 [a0, a1, a2, a3, a4, some (.int x), a6, a7] (.int x :: st) h := w_ldI dL_law_589 rfl
theorem w_L_law_591 (d : Nat) (L : a_L) (st : List Value) (h : a_H) : a_run d ML_law 591 L st h = a_run d ML_law 592 L (.int (nI 1) :: st) h := w_iconst dL_law_591 rfl
theorem w_L_law_592 (d : Nat) (L : a_L) (x y : Int32) (st : List Value) (h : a_H) : a_run d ML_law 592 L (.int y :: .int x :: st) h = a_run d ML_law 593 L (.int (x + y) :: st) h := w_iadd dL_law_592
theorem w_L_law_593 (d : Nat) (L : a_L) (x : Int32) (i : Nat) (st : List Value) (h : a_H) : a_run d ML_law 593 L (.int x :: .ref i :: st) h = (a_rdi h i a_int x).bind fun v => a_run d ML_law 594 L (v :: st) h := w_iald dL_law_593
theorem w_L_law_594 (d : Nat) (a1 a2 a3 a4 a5 a6 a7 : Option Value) (x : Nat) (st : List Value) (h : a_H) : a_run d ML_law 594 [some (.ref x), a1, a2, a3, a4, a5, a6, a7] st h = a_run d ML_law 595 [some (.ref x), a1, a2, a3, a4, a5, a6, a7] (.ref x :: st) h := w_ldAn dL_law_594 rfl
theorem w_L_law_595 (d : Nat) (a0 a1 a2 a3 a4 a6 a7 : Option Value) (x : Int32) (st : List Value) (h : a_H) : a_run d ML_law 595 [a0, a1, a2, a3, a4, some (.int x), a6, a7] st h = a_run d ML_law 597 [a0, a1, a2, a3, a4, some (.int x), a6, a7] (.int x :: st) h := w_ldI dL_law_595 rfl
theorem w_L_law_597 (d : Nat) (L : a_L) (st : List Value) (h : a_H) : a_run d ML_law 597 L st h = a_run d ML_law 598 L (.int (nI 2) :: st) h := w_iconst dL_law_597 rfl
theorem w_L_law_598 (d : Nat) (L : a_L) (x y : Int32) (st : List Value) (h : a_H) : a_run d ML_law 598 L (.int y :: .int x :: st) h = a_run d ML_law 599 L (.int (x + y) :: st) h := w_iadd dL_law_598
theorem w_L_law_599 (d : Nat) (L : a_L) (x : Int32) (i : Nat) (st : List Value) (h : a_H) : a_run d ML_law 599 L (.int x :: .ref i :: st) h = (a_rdi h i a_int x).bind fun v => a_run d ML_law 600 L (v :: st) h := w_iald dL_law_599
theorem w_L_law_600 (d : Nat) (L : a_L) (i : Nat) (v1 v2 : Value) (st : List Value) (h : a_H) (hk : a_kls h i = some 2) (hc : a_cat st ≤ 8) : a_run d ML_law 600 L (v2 :: v1 :: .ref i :: st) h = a_cont d ML_law (a_bk ML_law 600 L st (a_call d MX3_holdDown [.ref i, v1, v2] h)) := w_callV (as := [.ref i, v1, v2]) dL_law_600 rfl rfl rfl hc (a_rcv_of hk rfl)
theorem w_L_law_603 (d : Nat) (a0 a1 a2 a3 a4 a5 a6 a7 : Option Value) (x : Int32) (st : List Value) (h : a_H) : a_run d ML_law 603 [a0, a1, a2, a3, a4, a5, a6, a7] (.int x :: st) h = a_run d ML_law 605 [a0, a1, a2, a3, a4, a5, a6, some (.int x)] st h := w_stI dL_law_603 (Nat.le_of_ble_eq_true rfl) rfl
theorem w_L_law_605 (d : Nat) (a0 a1 a3 a4 a5 a6 a7 : Option Value) (x : Nat) (st : List Value) (h : a_H) : a_run d ML_law 605 [a0, a1, some (.ref x), a3, a4, a5, a6, a7] st h = a_run d ML_law 606 [a0, a1, some (.ref x), a3, a4, a5, a6, a7] (.ref x :: st) h := w_ldAn dL_law_605 rfl
theorem w_L_law_605N (d : Nat) (a0 a1 a3 a4 a5 a6 a7 : Option Value) (st : List Value) (h : a_H) : a_run d ML_law 605 [a0, a1, some .null, a3, a4, a5, a6, a7] st h = a_run d ML_law 606 [a0, a1, some .null, a3, a4, a5, a6, a7] (.null :: st) h := w_ldNn dL_law_605 rfl
theorem w_L_law_606 (d : Nat) (L : a_L) (i : Nat) (st : List Value) (h : a_H) (hk : a_kls h i = some 2) (hc : a_cat st ≤ 8) : a_run d ML_law 606 L (.ref i :: st) h = a_cont d ML_law (a_bk ML_law 606 L st (a_call d MX3_thrown [.ref i] h)) := w_callV (as := [.ref i]) dL_law_606 rfl rfl rfl hc (a_rcv_of hk rfl)
theorem w_L_law_609 (d : Nat) (a0 a1 a2 a3 a4 a5 a7 : Option Value) (x : Int32) (st : List Value) (h : a_H) : a_run d ML_law 609 [a0, a1, a2, a3, a4, a5, some (.int x), a7] st h = a_run d ML_law 611 [a0, a1, a2, a3, a4, a5, some (.int x), a7] (.int x :: st) h := w_ldI dL_law_609 rfl
theorem w_L_law_611 (d : Nat) (L : a_L) (x y : Int32) (st : List Value) (h : a_H) : a_run d ML_law 611 L (.int y :: .int x :: st) h = if x = y then a_run d ML_law 616 L st h else a_run d ML_law 614 L st h := w_icmp_eq dL_law_611 rfl
theorem w_L_law_614 (d : Nat) (L : a_L) (st : List Value) (h : a_H) : a_run d ML_law 614 L st h = a_run d ML_law 615 L (.int (nI 0) :: st) h := w_iconst dL_law_614 rfl
theorem w_L_law_615 (d : Nat) (L : a_L) (x : Int32) (h : a_H) (hx : x = 0 ∨ x = 1) : a_run d ML_law 615 L [.int x] h = some (.inl (some (.int x)), h) := w_iret dL_law_615 (w_retZ rfl hx)
theorem w_L_law_616 (d : Nat) (a0 a1 a2 a3 a4 a5 a7 : Option Value) (x : Int32) (st : List Value) (h : a_H) : a_run d ML_law 616 [a0, a1, a2, a3, a4, a5, some (.int x), a7] st h = a_run d ML_law 618 [a0, a1, a2, a3, a4, a5, some (.int x), a7] (.int x :: st) h := w_ldI dL_law_616 rfl
theorem w_L_law_618 (d : Nat) (L : a_L) (x : Int32) (st : List Value) (h : a_H) : a_run d ML_law 618 L (.int x :: st) h = if x = 0 then a_run d ML_law 621 L st h else a_run d ML_law 633 L st h := w_if_ne dL_law_618 rfl
theorem w_L_law_621 (d : Nat) (a0 a1 a2 a4 a5 a6 a7 : Option Value) (x : Nat) (st : List Value) (h : a_H) : a_run d ML_law 621 [a0, a1, a2, some (.ref x), a4, a5, a6, a7] st h = a_run d ML_law 622 [a0, a1, a2, some (.ref x), a4, a5, a6, a7] (.ref x :: st) h := w_ldAn dL_law_621 rfl
theorem w_L_law_621N (d : Nat) (a0 a1 a2 a4 a5 a6 a7 : Option Value) (st : List Value) (h : a_H) : a_run d ML_law 621 [a0, a1, a2, some .null, a4, a5, a6, a7] st h = a_run d ML_law 622 [a0, a1, a2, some .null, a4, a5, a6, a7] (.null :: st) h := w_ldNn dL_law_621 rfl
theorem w_L_law_622 (d : Nat) (L : a_L) (st : List Value) (h : a_H) : a_run d ML_law 622 L st h = a_run d ML_law 623 L (.int (nI 0) :: st) h := w_iconst dL_law_622 rfl
theorem w_L_law_623 (d : Nat) (L : a_L) (x : Int32) (i : Nat) (st : List Value) (h : a_H) : a_run d ML_law 623 L (.int x :: .ref i :: st) h = (a_rdl h i x).bind fun v => a_run d ML_law 624 L (v :: st) h := w_lald dL_law_623
theorem w_L_law_624 (d : Nat) (a0 a1 a2 a3 a4 a5 a6 : Option Value) (x : Int32) (st : List Value) (h : a_H) : a_run d ML_law 624 [a0, a1, a2, a3, a4, a5, a6, some (.int x)] st h = a_run d ML_law 626 [a0, a1, a2, a3, a4, a5, a6, some (.int x)] (.int x :: st) h := w_ldI dL_law_624 rfl
theorem w_L_law_626 (d : Nat) (L : a_L) (x : Int32) (st : List Value) (h : a_H) : a_run d ML_law 626 L (.int x :: st) h = a_run d ML_law 627 L (.long x.toInt64 :: st) h := w_i2l dL_law_626
theorem w_L_law_627 (d : Nat) (L : a_L) (x y : Int64) (st : List Value) (h : a_H) : a_run d ML_law 627 L (.long y :: .long x :: st) h = a_run d ML_law 628 L (.int (lg_cmp x y) :: st) h := w_lcmp dL_law_627
theorem w_L_law_628 (d : Nat) (L : a_L) (x : Int32) (st : List Value) (h : a_H) : a_run d ML_law 628 L (.int x :: st) h = if x = 0 then a_run d ML_law 633 L st h else a_run d ML_law 631 L st h := w_if_eq dL_law_628 rfl
theorem w_L_law_631 (d : Nat) (L : a_L) (st : List Value) (h : a_H) : a_run d ML_law 631 L st h = a_run d ML_law 632 L (.int (nI 0) :: st) h := w_iconst dL_law_631 rfl
theorem w_L_law_632 (d : Nat) (L : a_L) (x : Int32) (h : a_H) (hx : x = 0 ∨ x = 1) : a_run d ML_law 632 L [.int x] h = some (.inl (some (.int x)), h) := w_iret dL_law_632 (w_retZ rfl hx)
theorem w_L_law_633 (d : Nat) (L : a_L) (st : List Value) (h : a_H) : a_run d ML_law 633 L st h = a_run d ML_law 2985 L st h := w_goto dL_law_633 rfl
theorem w_L_law_636 (d : Nat) (a0 a2 a3 a4 a5 a6 a7 : Option Value) (x : Nat) (st : List Value) (h : a_H) : a_run d ML_law 636 [a0, some (.ref x), a2, a3, a4, a5, a6, a7] st h = a_run d ML_law 637 [a0, some (.ref x), a2, a3, a4, a5, a6, a7] (.ref x :: st) h := w_ldAn dL_law_636 rfl
theorem w_L_law_636N (d : Nat) (a0 a2 a3 a4 a5 a6 a7 : Option Value) (st : List Value) (h : a_H) : a_run d ML_law 636 [a0, some .null, a2, a3, a4, a5, a6, a7] st h = a_run d ML_law 637 [a0, some .null, a2, a3, a4, a5, a6, a7] (.null :: st) h := w_ldNn dL_law_636 rfl
theorem w_L_law_637 (d : Nat) (L : a_L) (i : Nat) (st : List Value) (h : a_H) (hk : a_kls h i = some 0) (hc : a_cat st ≤ 8) : a_run d ML_law 637 L (.ref i :: st) h = a_cont d ML_law (a_bk ML_law 637 L st (a_call d MX1_sweepDown [.ref i] h)) := w_callV (as := [.ref i]) dL_law_637 rfl rfl rfl hc (a_rcv_of hk rfl)
theorem w_L_law_640 (d : Nat) (a0 a1 a3 a4 a5 a6 a7 : Option Value) (x : Nat) (st : List Value) (h : a_H) : a_run d ML_law 640 [a0, a1, some (.ref x), a3, a4, a5, a6, a7] st h = a_run d ML_law 641 [a0, a1, some (.ref x), a3, a4, a5, a6, a7] (.ref x :: st) h := w_ldAn dL_law_640 rfl
theorem w_L_law_640N (d : Nat) (a0 a1 a3 a4 a5 a6 a7 : Option Value) (st : List Value) (h : a_H) : a_run d ML_law 640 [a0, a1, some .null, a3, a4, a5, a6, a7] st h = a_run d ML_law 641 [a0, a1, some .null, a3, a4, a5, a6, a7] (.null :: st) h := w_ldNn dL_law_640 rfl
theorem w_L_law_641 (d : Nat) (L : a_L) (i : Nat) (st : List Value) (h : a_H) (hk : a_kls h i = some 2) (hc : a_cat st ≤ 8) : a_run d ML_law 641 L (.ref i :: st) h = a_cont d ML_law (a_bk ML_law 641 L st (a_call d MX3_sweepDown [.ref i] h)) := w_callV (as := [.ref i]) dL_law_641 rfl rfl rfl hc (a_rcv_of hk rfl)
theorem w_L_law_644 (d : Nat) (L : a_L) (x y : Int32) (st : List Value) (h : a_H) : a_run d ML_law 644 L (.int y :: .int x :: st) h = if x = y then a_run d ML_law 2985 L st h else a_run d ML_law 647 L st h := w_icmp_eq dL_law_644 rfl
theorem w_L_law_647 (d : Nat) (L : a_L) (st : List Value) (h : a_H) : a_run d ML_law 647 L st h = a_run d ML_law 648 L (.int (nI 0) :: st) h := w_iconst dL_law_647 rfl
theorem w_L_law_648 (d : Nat) (L : a_L) (x : Int32) (h : a_H) (hx : x = 0 ∨ x = 1) : a_run d ML_law 648 L [.int x] h = some (.inl (some (.int x)), h) := w_iret dL_law_648 (w_retZ rfl hx)
theorem w_L_law_649 (d : Nat) (a0 a2 a3 a4 a5 a6 a7 : Option Value) (x : Nat) (st : List Value) (h : a_H) : a_run d ML_law 649 [a0, some (.ref x), a2, a3, a4, a5, a6, a7] st h = a_run d ML_law 650 [a0, some (.ref x), a2, a3, a4, a5, a6, a7] (.ref x :: st) h := w_ldAn dL_law_649 rfl
theorem w_L_law_649N (d : Nat) (a0 a2 a3 a4 a5 a6 a7 : Option Value) (st : List Value) (h : a_H) : a_run d ML_law 649 [a0, some .null, a2, a3, a4, a5, a6, a7] st h = a_run d ML_law 650 [a0, some .null, a2, a3, a4, a5, a6, a7] (.null :: st) h := w_ldNn dL_law_649 rfl
theorem w_L_law_650 (d : Nat) (L : a_L) (i : Nat) (st : List Value) (h : a_H) (hk : a_kls h i = some 0) (hc : a_cat st ≤ 8) : a_run d ML_law 650 L (.ref i :: st) h = a_cont d ML_law (a_bk ML_law 650 L st (a_call d MX1_sweepUp [.ref i] h)) := w_callV (as := [.ref i]) dL_law_650 rfl rfl rfl hc (a_rcv_of hk rfl)
theorem w_L_law_653 (d : Nat) (a0 a1 a3 a4 a5 a6 a7 : Option Value) (x : Nat) (st : List Value) (h : a_H) : a_run d ML_law 653 [a0, a1, some (.ref x), a3, a4, a5, a6, a7] st h = a_run d ML_law 654 [a0, a1, some (.ref x), a3, a4, a5, a6, a7] (.ref x :: st) h := w_ldAn dL_law_653 rfl
theorem w_L_law_653N (d : Nat) (a0 a1 a3 a4 a5 a6 a7 : Option Value) (st : List Value) (h : a_H) : a_run d ML_law 653 [a0, a1, some .null, a3, a4, a5, a6, a7] st h = a_run d ML_law 654 [a0, a1, some .null, a3, a4, a5, a6, a7] (.null :: st) h := w_ldNn dL_law_653 rfl
theorem w_L_law_654 (d : Nat) (L : a_L) (i : Nat) (st : List Value) (h : a_H) (hk : a_kls h i = some 2) (hc : a_cat st ≤ 8) : a_run d ML_law 654 L (.ref i :: st) h = a_cont d ML_law (a_bk ML_law 654 L st (a_call d MX3_sweepUp [.ref i] h)) := w_callV (as := [.ref i]) dL_law_654 rfl rfl rfl hc (a_rcv_of hk rfl)
theorem w_L_law_657 (d : Nat) (L : a_L) (x y : Int32) (st : List Value) (h : a_H) : a_run d ML_law 657 L (.int y :: .int x :: st) h = if x = y then a_run d ML_law 2985 L st h else a_run d ML_law 660 L st h := w_icmp_eq dL_law_657 rfl
theorem w_L_law_660 (d : Nat) (L : a_L) (st : List Value) (h : a_H) : a_run d ML_law 660 L st h = a_run d ML_law 661 L (.int (nI 0) :: st) h := w_iconst dL_law_660 rfl
theorem w_L_law_661 (d : Nat) (L : a_L) (x : Int32) (h : a_H) (hx : x = 0 ∨ x = 1) : a_run d ML_law 661 L [.int x] h = some (.inl (some (.int x)), h) := w_iret dL_law_661 (w_retZ rfl hx)
theorem w_L_law_662 (d : Nat) (a0 a2 a3 a4 a5 a6 a7 : Option Value) (x : Nat) (st : List Value) (h : a_H) : a_run d ML_law 662 [a0, some (.ref x), a2, a3, a4, a5, a6, a7] st h = a_run d ML_law 663 [a0, some (.ref x), a2, a3, a4, a5, a6, a7] (.ref x :: st) h := w_ldAn dL_law_662 rfl
theorem w_L_law_662N (d : Nat) (a0 a2 a3 a4 a5 a6 a7 : Option Value) (st : List Value) (h : a_H) : a_run d ML_law 662 [a0, some .null, a2, a3, a4, a5, a6, a7] st h = a_run d ML_law 663 [a0, some .null, a2, a3, a4, a5, a6, a7] (.null :: st) h := w_ldNn dL_law_662 rfl
theorem w_L_law_663 (d : Nat) (L : a_L) (i : Nat) (st : List Value) (h : a_H) (hk : a_kls h i = some 0) (hc : a_cat st ≤ 8) : a_run d ML_law 663 L (.ref i :: st) h = a_cont d ML_law (a_bk ML_law 663 L st (a_call d MX1_untangle [.ref i] h)) := w_callV (as := [.ref i]) dL_law_663 rfl rfl rfl hc (a_rcv_of hk rfl)
theorem w_L_law_666 (d : Nat) (a0 a1 a3 a4 a5 a6 a7 : Option Value) (x : Nat) (st : List Value) (h : a_H) : a_run d ML_law 666 [a0, a1, some (.ref x), a3, a4, a5, a6, a7] st h = a_run d ML_law 667 [a0, a1, some (.ref x), a3, a4, a5, a6, a7] (.ref x :: st) h := w_ldAn dL_law_666 rfl
theorem w_L_law_666N (d : Nat) (a0 a1 a3 a4 a5 a6 a7 : Option Value) (st : List Value) (h : a_H) : a_run d ML_law 666 [a0, a1, some .null, a3, a4, a5, a6, a7] st h = a_run d ML_law 667 [a0, a1, some .null, a3, a4, a5, a6, a7] (.null :: st) h := w_ldNn dL_law_666 rfl
theorem w_L_law_667 (d : Nat) (L : a_L) (i : Nat) (st : List Value) (h : a_H) (hk : a_kls h i = some 2) (hc : a_cat st ≤ 8) : a_run d ML_law 667 L (.ref i :: st) h = a_cont d ML_law (a_bk ML_law 667 L st (a_call d MX3_untangle [.ref i] h)) := w_callV (as := [.ref i]) dL_law_667 rfl rfl rfl hc (a_rcv_of hk rfl)
theorem w_L_law_670 (d : Nat) (L : a_L) (x y : Int32) (st : List Value) (h : a_H) : a_run d ML_law 670 L (.int y :: .int x :: st) h = if x = y then a_run d ML_law 2985 L st h else a_run d ML_law 673 L st h := w_icmp_eq dL_law_670 rfl
theorem w_L_law_673 (d : Nat) (L : a_L) (st : List Value) (h : a_H) : a_run d ML_law 673 L st h = a_run d ML_law 674 L (.int (nI 0) :: st) h := w_iconst dL_law_673 rfl
theorem w_L_law_674 (d : Nat) (L : a_L) (x : Int32) (h : a_H) (hx : x = 0 ∨ x = 1) : a_run d ML_law 674 L [.int x] h = some (.inl (some (.int x)), h) := w_iret dL_law_674 (w_retZ rfl hx)
theorem w_L_law_675 (d : Nat) (a0 a2 a3 a4 a5 a6 a7 : Option Value) (x : Nat) (st : List Value) (h : a_H) : a_run d ML_law 675 [a0, some (.ref x), a2, a3, a4, a5, a6, a7] st h = a_run d ML_law 676 [a0, some (.ref x), a2, a3, a4, a5, a6, a7] (.ref x :: st) h := w_ldAn dL_law_675 rfl
theorem w_L_law_675N (d : Nat) (a0 a2 a3 a4 a5 a6 a7 : Option Value) (st : List Value) (h : a_H) : a_run d ML_law 675 [a0, some .null, a2, a3, a4, a5, a6, a7] st h = a_run d ML_law 676 [a0, some .null, a2, a3, a4, a5, a6, a7] (.null :: st) h := w_ldNn dL_law_675 rfl
theorem w_L_law_676 (d : Nat) (a1 a2 a3 a4 a5 a6 a7 : Option Value) (x : Nat) (st : List Value) (h : a_H) : a_run d ML_law 676 [some (.ref x), a1, a2, a3, a4, a5, a6, a7] st h = a_run d ML_law 677 [some (.ref x), a1, a2, a3, a4, a5, a6, a7] (.ref x :: st) h := w_ldAn dL_law_676 rfl
theorem w_L_law_677 (d : Nat) (a0 a1 a2 a3 a4 a6 a7 : Option Value) (x : Int32) (st : List Value) (h : a_H) : a_run d ML_law 677 [a0, a1, a2, a3, a4, some (.int x), a6, a7] st h = a_run d ML_law 679 [a0, a1, a2, a3, a4, some (.int x), a6, a7] (.int x :: st) h := w_ldI dL_law_677 rfl
theorem w_L_law_679 (d : Nat) (L : a_L) (st : List Value) (h : a_H) : a_run d ML_law 679 L st h = a_run d ML_law 680 L (.int (nI 1) :: st) h := w_iconst dL_law_679 rfl
theorem w_L_law_680 (d : Nat) (L : a_L) (x y : Int32) (st : List Value) (h : a_H) : a_run d ML_law 680 L (.int y :: .int x :: st) h = a_run d ML_law 681 L (.int (x + y) :: st) h := w_iadd dL_law_680
theorem w_L_law_681 (d : Nat) (L : a_L) (x : Int32) (i : Nat) (st : List Value) (h : a_H) : a_run d ML_law 681 L (.int x :: .ref i :: st) h = (a_rdi h i a_int x).bind fun v => a_run d ML_law 682 L (v :: st) h := w_iald dL_law_681
theorem w_L_law_682 (d : Nat) (a1 a2 a3 a4 a5 a6 a7 : Option Value) (x : Nat) (st : List Value) (h : a_H) : a_run d ML_law 682 [some (.ref x), a1, a2, a3, a4, a5, a6, a7] st h = a_run d ML_law 683 [some (.ref x), a1, a2, a3, a4, a5, a6, a7] (.ref x :: st) h := w_ldAn dL_law_682 rfl
theorem w_L_law_683 (d : Nat) (a0 a1 a2 a3 a4 a6 a7 : Option Value) (x : Int32) (st : List Value) (h : a_H) : a_run d ML_law 683 [a0, a1, a2, a3, a4, some (.int x), a6, a7] st h = a_run d ML_law 685 [a0, a1, a2, a3, a4, some (.int x), a6, a7] (.int x :: st) h := w_ldI dL_law_683 rfl
theorem w_L_law_685 (d : Nat) (L : a_L) (st : List Value) (h : a_H) : a_run d ML_law 685 L st h = a_run d ML_law 686 L (.int (nI 2) :: st) h := w_iconst dL_law_685 rfl
theorem w_L_law_686 (d : Nat) (L : a_L) (x y : Int32) (st : List Value) (h : a_H) : a_run d ML_law 686 L (.int y :: .int x :: st) h = a_run d ML_law 687 L (.int (x + y) :: st) h := w_iadd dL_law_686
theorem w_L_law_687 (d : Nat) (L : a_L) (x : Int32) (i : Nat) (st : List Value) (h : a_H) : a_run d ML_law 687 L (.int x :: .ref i :: st) h = (a_rdi h i a_int x).bind fun v => a_run d ML_law 688 L (v :: st) h := w_iald dL_law_687
theorem w_L_law_688 (d : Nat) (a1 a2 a3 a4 a5 a6 a7 : Option Value) (x : Nat) (st : List Value) (h : a_H) : a_run d ML_law 688 [some (.ref x), a1, a2, a3, a4, a5, a6, a7] st h = a_run d ML_law 689 [some (.ref x), a1, a2, a3, a4, a5, a6, a7] (.ref x :: st) h := w_ldAn dL_law_688 rfl
theorem w_L_law_689 (d : Nat) (a0 a1 a2 a3 a4 a6 a7 : Option Value) (x : Int32) (st : List Value) (h : a_H) : a_run d ML_law 689 [a0, a1, a2, a3, a4, some (.int x), a6, a7] st h = a_run d ML_law 691 [a0, a1, a2, a3, a4, some (.int x), a6, a7] (.int x :: st) h := w_ldI dL_law_689 rfl
theorem w_L_law_691 (d : Nat) (L : a_L) (st : List Value) (h : a_H) : a_run d ML_law 691 L st h = a_run d ML_law 692 L (.int (nI 3) :: st) h := w_iconst dL_law_691 rfl
theorem w_L_law_692 (d : Nat) (L : a_L) (x y : Int32) (st : List Value) (h : a_H) : a_run d ML_law 692 L (.int y :: .int x :: st) h = a_run d ML_law 693 L (.int (x + y) :: st) h := w_iadd dL_law_692
theorem w_L_law_693 (d : Nat) (L : a_L) (x : Int32) (i : Nat) (st : List Value) (h : a_H) : a_run d ML_law 693 L (.int x :: .ref i :: st) h = (a_rdi h i a_int x).bind fun v => a_run d ML_law 694 L (v :: st) h := w_iald dL_law_693
theorem w_L_law_694 (d : Nat) (a0 a1 a2 a4 a5 a6 a7 : Option Value) (x : Nat) (st : List Value) (h : a_H) : a_run d ML_law 694 [a0, a1, a2, some (.ref x), a4, a5, a6, a7] st h = a_run d ML_law 695 [a0, a1, a2, some (.ref x), a4, a5, a6, a7] (.ref x :: st) h := w_ldAn dL_law_694 rfl
theorem w_L_law_694N (d : Nat) (a0 a1 a2 a4 a5 a6 a7 : Option Value) (st : List Value) (h : a_H) : a_run d ML_law 694 [a0, a1, a2, some .null, a4, a5, a6, a7] st h = a_run d ML_law 695 [a0, a1, a2, some .null, a4, a5, a6, a7] (.null :: st) h := w_ldNn dL_law_694 rfl
theorem w_L_law_695 (d : Nat) (L : a_L) (v0 v1 v2 v3 v4 : Value) (st : List Value) (h : a_H) (hc : a_cat st ≤ 8) : a_run d ML_law 695 L (v4 :: v3 :: v2 :: v1 :: v0 :: st) h = a_cont d ML_law (a_bk ML_law 695 L st (a_call d MX0_exchange [v0, v1, v2, v3, v4] h)) := w_callS (as := [v0, v1, v2, v3, v4]) dL_law_695 rfl rfl rfl hc
theorem w_L_law_698 (d : Nat) (a0 a1 a2 a3 a4 a5 a6 a7 : Option Value) (x : Int32) (st : List Value) (h : a_H) : a_run d ML_law 698 [a0, a1, a2, a3, a4, a5, a6, a7] (.int x :: st) h = a_run d ML_law 700 [a0, a1, a2, a3, a4, a5, some (.int x), a7] st h := w_stI dL_law_698 (Nat.le_of_ble_eq_true rfl) rfl
theorem w_L_law_700 (d : Nat) (a0 a1 a3 a4 a5 a6 a7 : Option Value) (x : Nat) (st : List Value) (h : a_H) : a_run d ML_law 700 [a0, a1, some (.ref x), a3, a4, a5, a6, a7] st h = a_run d ML_law 701 [a0, a1, some (.ref x), a3, a4, a5, a6, a7] (.ref x :: st) h := w_ldAn dL_law_700 rfl
theorem w_L_law_700N (d : Nat) (a0 a1 a3 a4 a5 a6 a7 : Option Value) (st : List Value) (h : a_H) : a_run d ML_law 700 [a0, a1, some .null, a3, a4, a5, a6, a7] st h = a_run d ML_law 701 [a0, a1, some .null, a3, a4, a5, a6, a7] (.null :: st) h := w_ldNn dL_law_700 rfl
theorem w_L_law_701 (d : Nat) (a1 a2 a3 a4 a5 a6 a7 : Option Value) (x : Nat) (st : List Value) (h : a_H) : a_run d ML_law 701 [some (.ref x), a1, a2, a3, a4, a5, a6, a7] st h = a_run d ML_law 702 [some (.ref x), a1, a2, a3, a4, a5, a6, a7] (.ref x :: st) h := w_ldAn dL_law_701 rfl
theorem w_L_law_702 (d : Nat) (a0 a1 a2 a3 a4 a6 a7 : Option Value) (x : Int32) (st : List Value) (h : a_H) : a_run d ML_law 702 [a0, a1, a2, a3, a4, some (.int x), a6, a7] st h = a_run d ML_law 704 [a0, a1, a2, a3, a4, some (.int x), a6, a7] (.int x :: st) h := w_ldI dL_law_702 rfl
theorem w_L_law_704 (d : Nat) (L : a_L) (st : List Value) (h : a_H) : a_run d ML_law 704 L st h = a_run d ML_law 705 L (.int (nI 1) :: st) h := w_iconst dL_law_704 rfl
theorem w_L_law_705 (d : Nat) (L : a_L) (x y : Int32) (st : List Value) (h : a_H) : a_run d ML_law 705 L (.int y :: .int x :: st) h = a_run d ML_law 706 L (.int (x + y) :: st) h := w_iadd dL_law_705
theorem w_L_law_706 (d : Nat) (L : a_L) (x : Int32) (i : Nat) (st : List Value) (h : a_H) : a_run d ML_law 706 L (.int x :: .ref i :: st) h = (a_rdi h i a_int x).bind fun v => a_run d ML_law 707 L (v :: st) h := w_iald dL_law_706
theorem w_L_law_707 (d : Nat) (a1 a2 a3 a4 a5 a6 a7 : Option Value) (x : Nat) (st : List Value) (h : a_H) : a_run d ML_law 707 [some (.ref x), a1, a2, a3, a4, a5, a6, a7] st h = a_run d ML_law 708 [some (.ref x), a1, a2, a3, a4, a5, a6, a7] (.ref x :: st) h := w_ldAn dL_law_707 rfl
theorem w_L_law_708 (d : Nat) (a0 a1 a2 a3 a4 a6 a7 : Option Value) (x : Int32) (st : List Value) (h : a_H) : a_run d ML_law 708 [a0, a1, a2, a3, a4, some (.int x), a6, a7] st h = a_run d ML_law 710 [a0, a1, a2, a3, a4, some (.int x), a6, a7] (.int x :: st) h := w_ldI dL_law_708 rfl
theorem w_L_law_710 (d : Nat) (L : a_L) (st : List Value) (h : a_H) : a_run d ML_law 710 L st h = a_run d ML_law 711 L (.int (nI 2) :: st) h := w_iconst dL_law_710 rfl
theorem w_L_law_711 (d : Nat) (L : a_L) (x y : Int32) (st : List Value) (h : a_H) : a_run d ML_law 711 L (.int y :: .int x :: st) h = a_run d ML_law 712 L (.int (x + y) :: st) h := w_iadd dL_law_711
theorem w_L_law_712 (d : Nat) (L : a_L) (x : Int32) (i : Nat) (st : List Value) (h : a_H) : a_run d ML_law 712 L (.int x :: .ref i :: st) h = (a_rdi h i a_int x).bind fun v => a_run d ML_law 713 L (v :: st) h := w_iald dL_law_712
theorem w_L_law_713 (d : Nat) (a1 a2 a3 a4 a5 a6 a7 : Option Value) (x : Nat) (st : List Value) (h : a_H) : a_run d ML_law 713 [some (.ref x), a1, a2, a3, a4, a5, a6, a7] st h = a_run d ML_law 714 [some (.ref x), a1, a2, a3, a4, a5, a6, a7] (.ref x :: st) h := w_ldAn dL_law_713 rfl
theorem w_L_law_714 (d : Nat) (a0 a1 a2 a3 a4 a6 a7 : Option Value) (x : Int32) (st : List Value) (h : a_H) : a_run d ML_law 714 [a0, a1, a2, a3, a4, some (.int x), a6, a7] st h = a_run d ML_law 716 [a0, a1, a2, a3, a4, some (.int x), a6, a7] (.int x :: st) h := w_ldI dL_law_714 rfl
theorem w_L_law_716 (d : Nat) (L : a_L) (st : List Value) (h : a_H) : a_run d ML_law 716 L st h = a_run d ML_law 717 L (.int (nI 3) :: st) h := w_iconst dL_law_716 rfl
theorem w_L_law_717 (d : Nat) (L : a_L) (x y : Int32) (st : List Value) (h : a_H) : a_run d ML_law 717 L (.int y :: .int x :: st) h = a_run d ML_law 718 L (.int (x + y) :: st) h := w_iadd dL_law_717
theorem w_L_law_718 (d : Nat) (L : a_L) (x : Int32) (i : Nat) (st : List Value) (h : a_H) : a_run d ML_law 718 L (.int x :: .ref i :: st) h = (a_rdi h i a_int x).bind fun v => a_run d ML_law 719 L (v :: st) h := w_iald dL_law_718
theorem w_L_law_719 (d : Nat) (L : a_L) (i : Nat) (v1 v2 v3 : Value) (st : List Value) (h : a_H) (hk : a_kls h i = some 2) (hc : a_cat st ≤ 8) : a_run d ML_law 719 L (v3 :: v2 :: v1 :: .ref i :: st) h = a_cont d ML_law (a_bk ML_law 719 L st (a_call d MX3_exchange [.ref i, v1, v2, v3] h)) := w_callV (as := [.ref i, v1, v2, v3]) dL_law_719 rfl rfl rfl hc (a_rcv_of hk rfl)
theorem w_L_law_722 (d : Nat) (a0 a1 a2 a3 a4 a5 a6 a7 : Option Value) (x : Int32) (st : List Value) (h : a_H) : a_run d ML_law 722 [a0, a1, a2, a3, a4, a5, a6, a7] (.int x :: st) h = a_run d ML_law 724 [a0, a1, a2, a3, a4, a5, a6, some (.int x)] st h := w_stI dL_law_722 (Nat.le_of_ble_eq_true rfl) rfl
theorem w_L_law_724 (d : Nat) (a0 a1 a3 a4 a5 a6 a7 : Option Value) (x : Nat) (st : List Value) (h : a_H) : a_run d ML_law 724 [a0, a1, some (.ref x), a3, a4, a5, a6, a7] st h = a_run d ML_law 725 [a0, a1, some (.ref x), a3, a4, a5, a6, a7] (.ref x :: st) h := w_ldAn dL_law_724 rfl
theorem w_L_law_724N (d : Nat) (a0 a1 a3 a4 a5 a6 a7 : Option Value) (st : List Value) (h : a_H) : a_run d ML_law 724 [a0, a1, some .null, a3, a4, a5, a6, a7] st h = a_run d ML_law 725 [a0, a1, some .null, a3, a4, a5, a6, a7] (.null :: st) h := w_ldNn dL_law_724 rfl
theorem w_L_law_725 (d : Nat) (L : a_L) (i : Nat) (st : List Value) (h : a_H) (hk : a_kls h i = some 2) (hc : a_cat st ≤ 8) : a_run d ML_law 725 L (.ref i :: st) h = a_cont d ML_law (a_bk ML_law 725 L st (a_call d MX3_thrown [.ref i] h)) := w_callV (as := [.ref i]) dL_law_725 rfl rfl rfl hc (a_rcv_of hk rfl)
theorem w_L_law_728 (d : Nat) (a0 a1 a2 a3 a4 a5 a7 : Option Value) (x : Int32) (st : List Value) (h : a_H) : a_run d ML_law 728 [a0, a1, a2, a3, a4, a5, some (.int x), a7] st h = a_run d ML_law 730 [a0, a1, a2, a3, a4, a5, some (.int x), a7] (.int x :: st) h := w_ldI dL_law_728 rfl
theorem w_L_law_730 (d : Nat) (L : a_L) (x y : Int32) (st : List Value) (h : a_H) : a_run d ML_law 730 L (.int y :: .int x :: st) h = if x = y then a_run d ML_law 735 L st h else a_run d ML_law 733 L st h := w_icmp_eq dL_law_730 rfl
theorem w_L_law_733 (d : Nat) (L : a_L) (st : List Value) (h : a_H) : a_run d ML_law 733 L st h = a_run d ML_law 734 L (.int (nI 0) :: st) h := w_iconst dL_law_733 rfl
theorem w_L_law_734 (d : Nat) (L : a_L) (x : Int32) (h : a_H) (hx : x = 0 ∨ x = 1) : a_run d ML_law 734 L [.int x] h = some (.inl (some (.int x)), h) := w_iret dL_law_734 (w_retZ rfl hx)
theorem w_L_law_735 (d : Nat) (a0 a1 a2 a3 a4 a5 a7 : Option Value) (x : Int32) (st : List Value) (h : a_H) : a_run d ML_law 735 [a0, a1, a2, a3, a4, a5, some (.int x), a7] st h = a_run d ML_law 737 [a0, a1, a2, a3, a4, a5, some (.int x), a7] (.int x :: st) h := w_ldI dL_law_735 rfl
theorem w_L_law_737 (d : Nat) (L : a_L) (x : Int32) (st : List Value) (h : a_H) : a_run d ML_law 737 L (.int x :: st) h = if x = 0 then a_run d ML_law 740 L st h else a_run d ML_law 752 L st h := w_if_ne dL_law_737 rfl
theorem w_L_law_740 (d : Nat) (a0 a1 a2 a4 a5 a6 a7 : Option Value) (x : Nat) (st : List Value) (h : a_H) : a_run d ML_law 740 [a0, a1, a2, some (.ref x), a4, a5, a6, a7] st h = a_run d ML_law 741 [a0, a1, a2, some (.ref x), a4, a5, a6, a7] (.ref x :: st) h := w_ldAn dL_law_740 rfl
theorem w_L_law_740N (d : Nat) (a0 a1 a2 a4 a5 a6 a7 : Option Value) (st : List Value) (h : a_H) : a_run d ML_law 740 [a0, a1, a2, some .null, a4, a5, a6, a7] st h = a_run d ML_law 741 [a0, a1, a2, some .null, a4, a5, a6, a7] (.null :: st) h := w_ldNn dL_law_740 rfl
theorem w_L_law_741 (d : Nat) (L : a_L) (st : List Value) (h : a_H) : a_run d ML_law 741 L st h = a_run d ML_law 742 L (.int (nI 0) :: st) h := w_iconst dL_law_741 rfl
theorem w_L_law_742 (d : Nat) (L : a_L) (x : Int32) (i : Nat) (st : List Value) (h : a_H) : a_run d ML_law 742 L (.int x :: .ref i :: st) h = (a_rdl h i x).bind fun v => a_run d ML_law 743 L (v :: st) h := w_lald dL_law_742
theorem w_L_law_743 (d : Nat) (a0 a1 a2 a3 a4 a5 a6 : Option Value) (x : Int32) (st : List Value) (h : a_H) : a_run d ML_law 743 [a0, a1, a2, a3, a4, a5, a6, some (.int x)] st h = a_run d ML_law 745 [a0, a1, a2, a3, a4, a5, a6, some (.int x)] (.int x :: st) h := w_ldI dL_law_743 rfl
theorem w_L_law_745 (d : Nat) (L : a_L) (x : Int32) (st : List Value) (h : a_H) : a_run d ML_law 745 L (.int x :: st) h = a_run d ML_law 746 L (.long x.toInt64 :: st) h := w_i2l dL_law_745
theorem w_L_law_746 (d : Nat) (L : a_L) (x y : Int64) (st : List Value) (h : a_H) : a_run d ML_law 746 L (.long y :: .long x :: st) h = a_run d ML_law 747 L (.int (lg_cmp x y) :: st) h := w_lcmp dL_law_746
theorem w_L_law_747 (d : Nat) (L : a_L) (x : Int32) (st : List Value) (h : a_H) : a_run d ML_law 747 L (.int x :: st) h = if x = 0 then a_run d ML_law 752 L st h else a_run d ML_law 750 L st h := w_if_eq dL_law_747 rfl
theorem w_L_law_750 (d : Nat) (L : a_L) (st : List Value) (h : a_H) : a_run d ML_law 750 L st h = a_run d ML_law 751 L (.int (nI 0) :: st) h := w_iconst dL_law_750 rfl
theorem w_L_law_751 (d : Nat) (L : a_L) (x : Int32) (h : a_H) (hx : x = 0 ∨ x = 1) : a_run d ML_law 751 L [.int x] h = some (.inl (some (.int x)), h) := w_iret dL_law_751 (w_retZ rfl hx)
theorem w_L_law_752 (d : Nat) (L : a_L) (st : List Value) (h : a_H) : a_run d ML_law 752 L st h = a_run d ML_law 2985 L st h := w_goto dL_law_752 rfl
theorem w_L_law_755 (d : Nat) (a0 a2 a3 a4 a5 a6 a7 : Option Value) (x : Nat) (st : List Value) (h : a_H) : a_run d ML_law 755 [a0, some (.ref x), a2, a3, a4, a5, a6, a7] st h = a_run d ML_law 756 [a0, some (.ref x), a2, a3, a4, a5, a6, a7] (.ref x :: st) h := w_ldAn dL_law_755 rfl
theorem w_L_law_755N (d : Nat) (a0 a2 a3 a4 a5 a6 a7 : Option Value) (st : List Value) (h : a_H) : a_run d ML_law 755 [a0, some .null, a2, a3, a4, a5, a6, a7] st h = a_run d ML_law 756 [a0, some .null, a2, a3, a4, a5, a6, a7] (.null :: st) h := w_ldNn dL_law_755 rfl
theorem w_L_law_756 (d : Nat) (L : a_L) (i : Nat) (st : List Value) (h : a_H) (hk : a_kls h i = some 0) (hc : a_cat st ≤ 8) : a_run d ML_law 756 L (.ref i :: st) h = a_cont d ML_law (a_bk ML_law 756 L st (a_call d MX1_settle [.ref i] h)) := w_callV (as := [.ref i]) dL_law_756 rfl rfl rfl hc (a_rcv_of hk rfl)
theorem w_L_law_759 (d : Nat) (a0 a1 a3 a4 a5 a6 a7 : Option Value) (x : Nat) (st : List Value) (h : a_H) : a_run d ML_law 759 [a0, a1, some (.ref x), a3, a4, a5, a6, a7] st h = a_run d ML_law 760 [a0, a1, some (.ref x), a3, a4, a5, a6, a7] (.ref x :: st) h := w_ldAn dL_law_759 rfl
theorem w_L_law_759N (d : Nat) (a0 a1 a3 a4 a5 a6 a7 : Option Value) (st : List Value) (h : a_H) : a_run d ML_law 759 [a0, a1, some .null, a3, a4, a5, a6, a7] st h = a_run d ML_law 760 [a0, a1, some .null, a3, a4, a5, a6, a7] (.null :: st) h := w_ldNn dL_law_759 rfl
theorem w_L_law_760 (d : Nat) (L : a_L) (i : Nat) (st : List Value) (h : a_H) (hk : a_kls h i = some 2) (hc : a_cat st ≤ 8) : a_run d ML_law 760 L (.ref i :: st) h = a_cont d ML_law (a_bk ML_law 760 L st (a_call d MX3_settle [.ref i] h)) := w_callV (as := [.ref i]) dL_law_760 rfl rfl rfl hc (a_rcv_of hk rfl)
theorem w_L_law_763 (d : Nat) (L : a_L) (x y : Int32) (st : List Value) (h : a_H) : a_run d ML_law 763 L (.int y :: .int x :: st) h = if x = y then a_run d ML_law 2985 L st h else a_run d ML_law 766 L st h := w_icmp_eq dL_law_763 rfl
theorem w_L_law_766 (d : Nat) (L : a_L) (st : List Value) (h : a_H) : a_run d ML_law 766 L st h = a_run d ML_law 767 L (.int (nI 0) :: st) h := w_iconst dL_law_766 rfl
theorem w_L_law_767 (d : Nat) (L : a_L) (x : Int32) (h : a_H) (hx : x = 0 ∨ x = 1) : a_run d ML_law 767 L [.int x] h = some (.inl (some (.int x)), h) := w_iret dL_law_767 (w_retZ rfl hx)
theorem w_L_law_768 (d : Nat) (a0 a2 a3 a4 a5 a6 a7 : Option Value) (x : Nat) (st : List Value) (h : a_H) : a_run d ML_law 768 [a0, some (.ref x), a2, a3, a4, a5, a6, a7] st h = a_run d ML_law 769 [a0, some (.ref x), a2, a3, a4, a5, a6, a7] (.ref x :: st) h := w_ldAn dL_law_768 rfl
theorem w_L_law_768N (d : Nat) (a0 a2 a3 a4 a5 a6 a7 : Option Value) (st : List Value) (h : a_H) : a_run d ML_law 768 [a0, some .null, a2, a3, a4, a5, a6, a7] st h = a_run d ML_law 769 [a0, some .null, a2, a3, a4, a5, a6, a7] (.null :: st) h := w_ldNn dL_law_768 rfl
theorem w_L_law_769 (d : Nat) (L : a_L) (i : Nat) (st : List Value) (h : a_H) (hk : a_kls h i = some 0) (hc : a_cat st ≤ 8) : a_run d ML_law 769 L (.ref i :: st) h = a_cont d ML_law (a_bk ML_law 769 L st (a_call d MX1_prune [.ref i] h)) := w_callV (as := [.ref i]) dL_law_769 rfl rfl rfl hc (a_rcv_of hk rfl)
theorem w_L_law_772 (d : Nat) (a0 a1 a3 a4 a5 a6 a7 : Option Value) (x : Nat) (st : List Value) (h : a_H) : a_run d ML_law 772 [a0, a1, some (.ref x), a3, a4, a5, a6, a7] st h = a_run d ML_law 773 [a0, a1, some (.ref x), a3, a4, a5, a6, a7] (.ref x :: st) h := w_ldAn dL_law_772 rfl
theorem w_L_law_772N (d : Nat) (a0 a1 a3 a4 a5 a6 a7 : Option Value) (st : List Value) (h : a_H) : a_run d ML_law 772 [a0, a1, some .null, a3, a4, a5, a6, a7] st h = a_run d ML_law 773 [a0, a1, some .null, a3, a4, a5, a6, a7] (.null :: st) h := w_ldNn dL_law_772 rfl
theorem w_L_law_773 (d : Nat) (L : a_L) (i : Nat) (st : List Value) (h : a_H) (hk : a_kls h i = some 2) (hc : a_cat st ≤ 8) : a_run d ML_law 773 L (.ref i :: st) h = a_cont d ML_law (a_bk ML_law 773 L st (a_call d MX3_prune [.ref i] h)) := w_callV (as := [.ref i]) dL_law_773 rfl rfl rfl hc (a_rcv_of hk rfl)
theorem w_L_law_776 (d : Nat) (L : a_L) (x y : Int32) (st : List Value) (h : a_H) : a_run d ML_law 776 L (.int y :: .int x :: st) h = if x = y then a_run d ML_law 2985 L st h else a_run d ML_law 779 L st h := w_icmp_eq dL_law_776 rfl
theorem w_L_law_779 (d : Nat) (L : a_L) (st : List Value) (h : a_H) : a_run d ML_law 779 L st h = a_run d ML_law 780 L (.int (nI 0) :: st) h := w_iconst dL_law_779 rfl
theorem w_L_law_780 (d : Nat) (L : a_L) (x : Int32) (h : a_H) (hx : x = 0 ∨ x = 1) : a_run d ML_law 780 L [.int x] h = some (.inl (some (.int x)), h) := w_iret dL_law_780 (w_retZ rfl hx)
theorem w_L_law_781 (d : Nat) (a0 a2 a3 a4 a5 a6 a7 : Option Value) (x : Nat) (st : List Value) (h : a_H) : a_run d ML_law 781 [a0, some (.ref x), a2, a3, a4, a5, a6, a7] st h = a_run d ML_law 782 [a0, some (.ref x), a2, a3, a4, a5, a6, a7] (.ref x :: st) h := w_ldAn dL_law_781 rfl
theorem w_L_law_781N (d : Nat) (a0 a2 a3 a4 a5 a6 a7 : Option Value) (st : List Value) (h : a_H) : a_run d ML_law 781 [a0, some .null, a2, a3, a4, a5, a6, a7] st h = a_run d ML_law 782 [a0, some .null, a2, a3, a4, a5, a6, a7] (.null :: st) h := w_ldNn dL_law_781 rfl
theorem w_L_law_782 (d : Nat) (L : a_L) (i : Nat) (st : List Value) (h : a_H) (hk : a_kls h i = some 0) (hc : a_cat st ≤ 8) : a_run d ML_law 782 L (.ref i :: st) h = a_cont d ML_law (a_bk ML_law 782 L st (a_call d MX1_turnRound [.ref i] h)) := w_callV (as := [.ref i]) dL_law_782 rfl rfl rfl hc (a_rcv_of hk rfl)
theorem w_L_law_785 (d : Nat) (a0 a1 a3 a4 a5 a6 a7 : Option Value) (x : Nat) (st : List Value) (h : a_H) : a_run d ML_law 785 [a0, a1, some (.ref x), a3, a4, a5, a6, a7] st h = a_run d ML_law 786 [a0, a1, some (.ref x), a3, a4, a5, a6, a7] (.ref x :: st) h := w_ldAn dL_law_785 rfl
theorem w_L_law_785N (d : Nat) (a0 a1 a3 a4 a5 a6 a7 : Option Value) (st : List Value) (h : a_H) : a_run d ML_law 785 [a0, a1, some .null, a3, a4, a5, a6, a7] st h = a_run d ML_law 786 [a0, a1, some .null, a3, a4, a5, a6, a7] (.null :: st) h := w_ldNn dL_law_785 rfl
theorem w_L_law_786 (d : Nat) (L : a_L) (i : Nat) (st : List Value) (h : a_H) (hk : a_kls h i = some 2) (hc : a_cat st ≤ 8) : a_run d ML_law 786 L (.ref i :: st) h = a_cont d ML_law (a_bk ML_law 786 L st (a_call d MX3_turnRound [.ref i] h)) := w_callV (as := [.ref i]) dL_law_786 rfl rfl rfl hc (a_rcv_of hk rfl)
theorem w_L_law_789 (d : Nat) (L : a_L) (x y : Int32) (st : List Value) (h : a_H) : a_run d ML_law 789 L (.int y :: .int x :: st) h = if x = y then a_run d ML_law 2985 L st h else a_run d ML_law 792 L st h := w_icmp_eq dL_law_789 rfl
theorem w_L_law_792 (d : Nat) (L : a_L) (st : List Value) (h : a_H) : a_run d ML_law 792 L st h = a_run d ML_law 793 L (.int (nI 0) :: st) h := w_iconst dL_law_792 rfl
theorem w_L_law_793 (d : Nat) (L : a_L) (x : Int32) (h : a_H) (hx : x = 0 ∨ x = 1) : a_run d ML_law 793 L [.int x] h = some (.inl (some (.int x)), h) := w_iret dL_law_793 (w_retZ rfl hx)
theorem w_L_law_794 (d : Nat) (a0 a2 a3 a4 a5 a6 a7 : Option Value) (x : Nat) (st : List Value) (h : a_H) : a_run d ML_law 794 [a0, some (.ref x), a2, a3, a4, a5, a6, a7] st h = a_run d ML_law 795 [a0, some (.ref x), a2, a3, a4, a5, a6, a7] (.ref x :: st) h := w_ldAn dL_law_794 rfl
theorem w_L_law_794N (d : Nat) (a0 a2 a3 a4 a5 a6 a7 : Option Value) (st : List Value) (h : a_H) : a_run d ML_law 794 [a0, some .null, a2, a3, a4, a5, a6, a7] st h = a_run d ML_law 795 [a0, some .null, a2, a3, a4, a5, a6, a7] (.null :: st) h := w_ldNn dL_law_794 rfl
theorem w_L_law_795 (d : Nat) (L : a_L) (i : Nat) (st : List Value) (h : a_H) (hk : a_kls h i = some 0) (hc : a_cat st ≤ 8) : a_run d ML_law 795 L (.ref i :: st) h = a_cont d ML_law (a_bk ML_law 795 L st (a_call d MX1_boxes [.ref i] h)) := w_callV (as := [.ref i]) dL_law_795 rfl rfl rfl hc (a_rcv_of hk rfl)
theorem w_L_law_798 (d : Nat) (a0 a1 a3 a4 a5 a6 a7 : Option Value) (x : Nat) (st : List Value) (h : a_H) : a_run d ML_law 798 [a0, a1, some (.ref x), a3, a4, a5, a6, a7] st h = a_run d ML_law 799 [a0, a1, some (.ref x), a3, a4, a5, a6, a7] (.ref x :: st) h := w_ldAn dL_law_798 rfl
theorem w_L_law_798N (d : Nat) (a0 a1 a3 a4 a5 a6 a7 : Option Value) (st : List Value) (h : a_H) : a_run d ML_law 798 [a0, a1, some .null, a3, a4, a5, a6, a7] st h = a_run d ML_law 799 [a0, a1, some .null, a3, a4, a5, a6, a7] (.null :: st) h := w_ldNn dL_law_798 rfl
theorem w_L_law_799 (d : Nat) (L : a_L) (i : Nat) (st : List Value) (h : a_H) (hk : a_kls h i = some 2) (hc : a_cat st ≤ 8) : a_run d ML_law 799 L (.ref i :: st) h = a_cont d ML_law (a_bk ML_law 799 L st (a_call d MX3_boxes [.ref i] h)) := w_callV (as := [.ref i]) dL_law_799 rfl rfl rfl hc (a_rcv_of hk rfl)
theorem w_L_law_802 (d : Nat) (L : a_L) (x y : Int32) (st : List Value) (h : a_H) : a_run d ML_law 802 L (.int y :: .int x :: st) h = if x = y then a_run d ML_law 2985 L st h else a_run d ML_law 805 L st h := w_icmp_eq dL_law_802 rfl
theorem w_L_law_805 (d : Nat) (L : a_L) (st : List Value) (h : a_H) : a_run d ML_law 805 L st h = a_run d ML_law 806 L (.int (nI 0) :: st) h := w_iconst dL_law_805 rfl
theorem w_L_law_806 (d : Nat) (L : a_L) (x : Int32) (h : a_H) (hx : x = 0 ∨ x = 1) : a_run d ML_law 806 L [.int x] h = some (.inl (some (.int x)), h) := w_iret dL_law_806 (w_retZ rfl hx)
theorem w_L_law_807 (d : Nat) (a0 a2 a3 a4 a5 a6 a7 : Option Value) (x : Nat) (st : List Value) (h : a_H) : a_run d ML_law 807 [a0, some (.ref x), a2, a3, a4, a5, a6, a7] st h = a_run d ML_law 808 [a0, some (.ref x), a2, a3, a4, a5, a6, a7] (.ref x :: st) h := w_ldAn dL_law_807 rfl
theorem w_L_law_807N (d : Nat) (a0 a2 a3 a4 a5 a6 a7 : Option Value) (st : List Value) (h : a_H) : a_run d ML_law 807 [a0, some .null, a2, a3, a4, a5, a6, a7] st h = a_run d ML_law 808 [a0, some .null, a2, a3, a4, a5, a6, a7] (.null :: st) h := w_ldNn dL_law_807 rfl
theorem w_L_law_808 (d : Nat) (L : a_L) (i : Nat) (st : List Value) (h : a_H) (hk : a_kls h i = some 0) (hc : a_cat st ≤ 8) : a_run d ML_law 808 L (.ref i :: st) h = a_cont d ML_law (a_bk ML_law 808 L st (a_call d MX1_arrows [.ref i] h)) := w_callV (as := [.ref i]) dL_law_808 rfl rfl rfl hc (a_rcv_of hk rfl)
theorem w_L_law_811 (d : Nat) (a0 a1 a3 a4 a5 a6 a7 : Option Value) (x : Nat) (st : List Value) (h : a_H) : a_run d ML_law 811 [a0, a1, some (.ref x), a3, a4, a5, a6, a7] st h = a_run d ML_law 812 [a0, a1, some (.ref x), a3, a4, a5, a6, a7] (.ref x :: st) h := w_ldAn dL_law_811 rfl
theorem w_L_law_811N (d : Nat) (a0 a1 a3 a4 a5 a6 a7 : Option Value) (st : List Value) (h : a_H) : a_run d ML_law 811 [a0, a1, some .null, a3, a4, a5, a6, a7] st h = a_run d ML_law 812 [a0, a1, some .null, a3, a4, a5, a6, a7] (.null :: st) h := w_ldNn dL_law_811 rfl
theorem w_L_law_812 (d : Nat) (L : a_L) (i : Nat) (st : List Value) (h : a_H) (hk : a_kls h i = some 2) (hc : a_cat st ≤ 8) : a_run d ML_law 812 L (.ref i :: st) h = a_cont d ML_law (a_bk ML_law 812 L st (a_call d MX3_arrows [.ref i] h)) := w_callV (as := [.ref i]) dL_law_812 rfl rfl rfl hc (a_rcv_of hk rfl)
theorem w_L_law_815 (d : Nat) (L : a_L) (x y : Int32) (st : List Value) (h : a_H) : a_run d ML_law 815 L (.int y :: .int x :: st) h = if x = y then a_run d ML_law 2985 L st h else a_run d ML_law 818 L st h := w_icmp_eq dL_law_815 rfl
theorem w_L_law_818 (d : Nat) (L : a_L) (st : List Value) (h : a_H) : a_run d ML_law 818 L st h = a_run d ML_law 819 L (.int (nI 0) :: st) h := w_iconst dL_law_818 rfl
theorem w_L_law_819 (d : Nat) (L : a_L) (x : Int32) (h : a_H) (hx : x = 0 ∨ x = 1) : a_run d ML_law 819 L [.int x] h = some (.inl (some (.int x)), h) := w_iret dL_law_819 (w_retZ rfl hx)
theorem w_L_law_820 (d : Nat) (a0 a2 a3 a4 a5 a6 a7 : Option Value) (x : Nat) (st : List Value) (h : a_H) : a_run d ML_law 820 [a0, some (.ref x), a2, a3, a4, a5, a6, a7] st h = a_run d ML_law 821 [a0, some (.ref x), a2, a3, a4, a5, a6, a7] (.ref x :: st) h := w_ldAn dL_law_820 rfl
theorem w_L_law_820N (d : Nat) (a0 a2 a3 a4 a5 a6 a7 : Option Value) (st : List Value) (h : a_H) : a_run d ML_law 820 [a0, some .null, a2, a3, a4, a5, a6, a7] st h = a_run d ML_law 821 [a0, some .null, a2, a3, a4, a5, a6, a7] (.null :: st) h := w_ldNn dL_law_820 rfl
theorem w_L_law_821 (d : Nat) (a1 a2 a3 a4 a5 a6 a7 : Option Value) (x : Nat) (st : List Value) (h : a_H) : a_run d ML_law 821 [some (.ref x), a1, a2, a3, a4, a5, a6, a7] st h = a_run d ML_law 822 [some (.ref x), a1, a2, a3, a4, a5, a6, a7] (.ref x :: st) h := w_ldAn dL_law_821 rfl
theorem w_L_law_822 (d : Nat) (a0 a1 a2 a3 a4 a6 a7 : Option Value) (x : Int32) (st : List Value) (h : a_H) : a_run d ML_law 822 [a0, a1, a2, a3, a4, some (.int x), a6, a7] st h = a_run d ML_law 824 [a0, a1, a2, a3, a4, some (.int x), a6, a7] (.int x :: st) h := w_ldI dL_law_822 rfl
theorem w_L_law_824 (d : Nat) (L : a_L) (st : List Value) (h : a_H) : a_run d ML_law 824 L st h = a_run d ML_law 825 L (.int (nI 1) :: st) h := w_iconst dL_law_824 rfl
theorem w_L_law_825 (d : Nat) (L : a_L) (x y : Int32) (st : List Value) (h : a_H) : a_run d ML_law 825 L (.int y :: .int x :: st) h = a_run d ML_law 826 L (.int (x + y) :: st) h := w_iadd dL_law_825
theorem w_L_law_826 (d : Nat) (L : a_L) (x : Int32) (i : Nat) (st : List Value) (h : a_H) : a_run d ML_law 826 L (.int x :: .ref i :: st) h = (a_rdi h i a_int x).bind fun v => a_run d ML_law 827 L (v :: st) h := w_iald dL_law_826
theorem w_L_law_827 (d : Nat) (a0 a1 a2 a4 a5 a6 a7 : Option Value) (x : Nat) (st : List Value) (h : a_H) : a_run d ML_law 827 [a0, a1, a2, some (.ref x), a4, a5, a6, a7] st h = a_run d ML_law 828 [a0, a1, a2, some (.ref x), a4, a5, a6, a7] (.ref x :: st) h := w_ldAn dL_law_827 rfl
theorem w_L_law_827N (d : Nat) (a0 a1 a2 a4 a5 a6 a7 : Option Value) (st : List Value) (h : a_H) : a_run d ML_law 827 [a0, a1, a2, some .null, a4, a5, a6, a7] st h = a_run d ML_law 828 [a0, a1, a2, some .null, a4, a5, a6, a7] (.null :: st) h := w_ldNn dL_law_827 rfl
theorem w_L_law_828 (d : Nat) (L : a_L) (v0 v1 v2 : Value) (st : List Value) (h : a_H) (hc : a_cat st ≤ 8) : a_run d ML_law 828 L (v2 :: v1 :: v0 :: st) h = a_cont d ML_law (a_bk ML_law 828 L st (a_call d MX0_fromOf [v0, v1, v2] h)) := w_callS (as := [v0, v1, v2]) dL_law_828 rfl rfl rfl hc
theorem w_L_law_831 (d : Nat) (a0 a1 a2 a3 a4 a5 a6 a7 : Option Value) (x : Int32) (st : List Value) (h : a_H) : a_run d ML_law 831 [a0, a1, a2, a3, a4, a5, a6, a7] (.int x :: st) h = a_run d ML_law 833 [a0, a1, a2, a3, a4, a5, some (.int x), a7] st h := w_stI dL_law_831 (Nat.le_of_ble_eq_true rfl) rfl
theorem w_L_law_833 (d : Nat) (a0 a1 a3 a4 a5 a6 a7 : Option Value) (x : Nat) (st : List Value) (h : a_H) : a_run d ML_law 833 [a0, a1, some (.ref x), a3, a4, a5, a6, a7] st h = a_run d ML_law 834 [a0, a1, some (.ref x), a3, a4, a5, a6, a7] (.ref x :: st) h := w_ldAn dL_law_833 rfl
theorem w_L_law_833N (d : Nat) (a0 a1 a3 a4 a5 a6 a7 : Option Value) (st : List Value) (h : a_H) : a_run d ML_law 833 [a0, a1, some .null, a3, a4, a5, a6, a7] st h = a_run d ML_law 834 [a0, a1, some .null, a3, a4, a5, a6, a7] (.null :: st) h := w_ldNn dL_law_833 rfl
theorem w_L_law_834 (d : Nat) (a1 a2 a3 a4 a5 a6 a7 : Option Value) (x : Nat) (st : List Value) (h : a_H) : a_run d ML_law 834 [some (.ref x), a1, a2, a3, a4, a5, a6, a7] st h = a_run d ML_law 835 [some (.ref x), a1, a2, a3, a4, a5, a6, a7] (.ref x :: st) h := w_ldAn dL_law_834 rfl
theorem w_L_law_835 (d : Nat) (a0 a1 a2 a3 a4 a6 a7 : Option Value) (x : Int32) (st : List Value) (h : a_H) : a_run d ML_law 835 [a0, a1, a2, a3, a4, some (.int x), a6, a7] st h = a_run d ML_law 837 [a0, a1, a2, a3, a4, some (.int x), a6, a7] (.int x :: st) h := w_ldI dL_law_835 rfl
theorem w_L_law_837 (d : Nat) (L : a_L) (st : List Value) (h : a_H) : a_run d ML_law 837 L st h = a_run d ML_law 838 L (.int (nI 1) :: st) h := w_iconst dL_law_837 rfl
theorem w_L_law_838 (d : Nat) (L : a_L) (x y : Int32) (st : List Value) (h : a_H) : a_run d ML_law 838 L (.int y :: .int x :: st) h = a_run d ML_law 839 L (.int (x + y) :: st) h := w_iadd dL_law_838
theorem w_L_law_839 (d : Nat) (L : a_L) (x : Int32) (i : Nat) (st : List Value) (h : a_H) : a_run d ML_law 839 L (.int x :: .ref i :: st) h = (a_rdi h i a_int x).bind fun v => a_run d ML_law 840 L (v :: st) h := w_iald dL_law_839
theorem w_L_law_840 (d : Nat) (L : a_L) (i : Nat) (v1 : Value) (st : List Value) (h : a_H) (hk : a_kls h i = some 2) (hc : a_cat st ≤ 8) : a_run d ML_law 840 L (v1 :: .ref i :: st) h = a_cont d ML_law (a_bk ML_law 840 L st (a_call d MX3_fromOf [.ref i, v1] h)) := w_callV (as := [.ref i, v1]) dL_law_840 rfl rfl rfl hc (a_rcv_of hk rfl)
theorem w_L_law_843 (d : Nat) (a0 a1 a2 a3 a4 a5 a6 a7 : Option Value) (x : Int32) (st : List Value) (h : a_H) : a_run d ML_law 843 [a0, a1, a2, a3, a4, a5, a6, a7] (.int x :: st) h = a_run d ML_law 845 [a0, a1, a2, a3, a4, a5, a6, some (.int x)] st h := w_stI dL_law_843 (Nat.le_of_ble_eq_true rfl) rfl
theorem w_L_law_845 (d : Nat) (a0 a1 a3 a4 a5 a6 a7 : Option Value) (x : Nat) (st : List Value) (h : a_H) : a_run d ML_law 845 [a0, a1, some (.ref x), a3, a4, a5, a6, a7] st h = a_run d ML_law 846 [a0, a1, some (.ref x), a3, a4, a5, a6, a7] (.ref x :: st) h := w_ldAn dL_law_845 rfl
theorem w_L_law_845N (d : Nat) (a0 a1 a3 a4 a5 a6 a7 : Option Value) (st : List Value) (h : a_H) : a_run d ML_law 845 [a0, a1, some .null, a3, a4, a5, a6, a7] st h = a_run d ML_law 846 [a0, a1, some .null, a3, a4, a5, a6, a7] (.null :: st) h := w_ldNn dL_law_845 rfl
theorem w_L_law_846 (d : Nat) (L : a_L) (i : Nat) (st : List Value) (h : a_H) (hk : a_kls h i = some 2) (hc : a_cat st ≤ 8) : a_run d ML_law 846 L (.ref i :: st) h = a_cont d ML_law (a_bk ML_law 846 L st (a_call d MX3_thrown [.ref i] h)) := w_callV (as := [.ref i]) dL_law_846 rfl rfl rfl hc (a_rcv_of hk rfl)
theorem w_L_law_849 (d : Nat) (a0 a1 a2 a3 a4 a5 a7 : Option Value) (x : Int32) (st : List Value) (h : a_H) : a_run d ML_law 849 [a0, a1, a2, a3, a4, a5, some (.int x), a7] st h = a_run d ML_law 851 [a0, a1, a2, a3, a4, a5, some (.int x), a7] (.int x :: st) h := w_ldI dL_law_849 rfl
theorem w_L_law_851 (d : Nat) (L : a_L) (x y : Int32) (st : List Value) (h : a_H) : a_run d ML_law 851 L (.int y :: .int x :: st) h = if x = y then a_run d ML_law 856 L st h else a_run d ML_law 854 L st h := w_icmp_eq dL_law_851 rfl
theorem w_L_law_854 (d : Nat) (L : a_L) (st : List Value) (h : a_H) : a_run d ML_law 854 L st h = a_run d ML_law 855 L (.int (nI 0) :: st) h := w_iconst dL_law_854 rfl
theorem w_L_law_855 (d : Nat) (L : a_L) (x : Int32) (h : a_H) (hx : x = 0 ∨ x = 1) : a_run d ML_law 855 L [.int x] h = some (.inl (some (.int x)), h) := w_iret dL_law_855 (w_retZ rfl hx)
theorem w_L_law_856 (d : Nat) (a0 a1 a2 a3 a4 a5 a7 : Option Value) (x : Int32) (st : List Value) (h : a_H) : a_run d ML_law 856 [a0, a1, a2, a3, a4, a5, some (.int x), a7] st h = a_run d ML_law 858 [a0, a1, a2, a3, a4, a5, some (.int x), a7] (.int x :: st) h := w_ldI dL_law_856 rfl
theorem w_L_law_858 (d : Nat) (L : a_L) (x : Int32) (st : List Value) (h : a_H) : a_run d ML_law 858 L (.int x :: st) h = if x = 0 then a_run d ML_law 861 L st h else a_run d ML_law 873 L st h := w_if_ne dL_law_858 rfl
theorem w_L_law_861 (d : Nat) (a0 a1 a2 a4 a5 a6 a7 : Option Value) (x : Nat) (st : List Value) (h : a_H) : a_run d ML_law 861 [a0, a1, a2, some (.ref x), a4, a5, a6, a7] st h = a_run d ML_law 862 [a0, a1, a2, some (.ref x), a4, a5, a6, a7] (.ref x :: st) h := w_ldAn dL_law_861 rfl
theorem w_L_law_861N (d : Nat) (a0 a1 a2 a4 a5 a6 a7 : Option Value) (st : List Value) (h : a_H) : a_run d ML_law 861 [a0, a1, a2, some .null, a4, a5, a6, a7] st h = a_run d ML_law 862 [a0, a1, a2, some .null, a4, a5, a6, a7] (.null :: st) h := w_ldNn dL_law_861 rfl
theorem w_L_law_862 (d : Nat) (L : a_L) (st : List Value) (h : a_H) : a_run d ML_law 862 L st h = a_run d ML_law 863 L (.int (nI 0) :: st) h := w_iconst dL_law_862 rfl
theorem w_L_law_863 (d : Nat) (L : a_L) (x : Int32) (i : Nat) (st : List Value) (h : a_H) : a_run d ML_law 863 L (.int x :: .ref i :: st) h = (a_rdl h i x).bind fun v => a_run d ML_law 864 L (v :: st) h := w_lald dL_law_863
theorem w_L_law_864 (d : Nat) (a0 a1 a2 a3 a4 a5 a6 : Option Value) (x : Int32) (st : List Value) (h : a_H) : a_run d ML_law 864 [a0, a1, a2, a3, a4, a5, a6, some (.int x)] st h = a_run d ML_law 866 [a0, a1, a2, a3, a4, a5, a6, some (.int x)] (.int x :: st) h := w_ldI dL_law_864 rfl
theorem w_L_law_866 (d : Nat) (L : a_L) (x : Int32) (st : List Value) (h : a_H) : a_run d ML_law 866 L (.int x :: st) h = a_run d ML_law 867 L (.long x.toInt64 :: st) h := w_i2l dL_law_866
theorem w_L_law_867 (d : Nat) (L : a_L) (x y : Int64) (st : List Value) (h : a_H) : a_run d ML_law 867 L (.long y :: .long x :: st) h = a_run d ML_law 868 L (.int (lg_cmp x y) :: st) h := w_lcmp dL_law_867
theorem w_L_law_868 (d : Nat) (L : a_L) (x : Int32) (st : List Value) (h : a_H) : a_run d ML_law 868 L (.int x :: st) h = if x = 0 then a_run d ML_law 873 L st h else a_run d ML_law 871 L st h := w_if_eq dL_law_868 rfl
theorem w_L_law_871 (d : Nat) (L : a_L) (st : List Value) (h : a_H) : a_run d ML_law 871 L st h = a_run d ML_law 872 L (.int (nI 0) :: st) h := w_iconst dL_law_871 rfl
theorem w_L_law_872 (d : Nat) (L : a_L) (x : Int32) (h : a_H) (hx : x = 0 ∨ x = 1) : a_run d ML_law 872 L [.int x] h = some (.inl (some (.int x)), h) := w_iret dL_law_872 (w_retZ rfl hx)
theorem w_L_law_873 (d : Nat) (L : a_L) (st : List Value) (h : a_H) : a_run d ML_law 873 L st h = a_run d ML_law 2985 L st h := w_goto dL_law_873 rfl
theorem w_L_law_876 (d : Nat) (a0 a2 a3 a4 a5 a6 a7 : Option Value) (x : Nat) (st : List Value) (h : a_H) : a_run d ML_law 876 [a0, some (.ref x), a2, a3, a4, a5, a6, a7] st h = a_run d ML_law 877 [a0, some (.ref x), a2, a3, a4, a5, a6, a7] (.ref x :: st) h := w_ldAn dL_law_876 rfl
theorem w_L_law_876N (d : Nat) (a0 a2 a3 a4 a5 a6 a7 : Option Value) (st : List Value) (h : a_H) : a_run d ML_law 876 [a0, some .null, a2, a3, a4, a5, a6, a7] st h = a_run d ML_law 877 [a0, some .null, a2, a3, a4, a5, a6, a7] (.null :: st) h := w_ldNn dL_law_876 rfl
theorem w_L_law_877 (d : Nat) (a1 a2 a3 a4 a5 a6 a7 : Option Value) (x : Nat) (st : List Value) (h : a_H) : a_run d ML_law 877 [some (.ref x), a1, a2, a3, a4, a5, a6, a7] st h = a_run d ML_law 878 [some (.ref x), a1, a2, a3, a4, a5, a6, a7] (.ref x :: st) h := w_ldAn dL_law_877 rfl
theorem w_L_law_878 (d : Nat) (a0 a1 a2 a3 a4 a6 a7 : Option Value) (x : Int32) (st : List Value) (h : a_H) : a_run d ML_law 878 [a0, a1, a2, a3, a4, some (.int x), a6, a7] st h = a_run d ML_law 880 [a0, a1, a2, a3, a4, some (.int x), a6, a7] (.int x :: st) h := w_ldI dL_law_878 rfl
theorem w_L_law_880 (d : Nat) (L : a_L) (st : List Value) (h : a_H) : a_run d ML_law 880 L st h = a_run d ML_law 881 L (.int (nI 1) :: st) h := w_iconst dL_law_880 rfl
theorem w_L_law_881 (d : Nat) (L : a_L) (x y : Int32) (st : List Value) (h : a_H) : a_run d ML_law 881 L (.int y :: .int x :: st) h = a_run d ML_law 882 L (.int (x + y) :: st) h := w_iadd dL_law_881
theorem w_L_law_882 (d : Nat) (L : a_L) (x : Int32) (i : Nat) (st : List Value) (h : a_H) : a_run d ML_law 882 L (.int x :: .ref i :: st) h = (a_rdi h i a_int x).bind fun v => a_run d ML_law 883 L (v :: st) h := w_iald dL_law_882
theorem w_L_law_883 (d : Nat) (a0 a1 a2 a4 a5 a6 a7 : Option Value) (x : Nat) (st : List Value) (h : a_H) : a_run d ML_law 883 [a0, a1, a2, some (.ref x), a4, a5, a6, a7] st h = a_run d ML_law 884 [a0, a1, a2, some (.ref x), a4, a5, a6, a7] (.ref x :: st) h := w_ldAn dL_law_883 rfl
theorem w_L_law_883N (d : Nat) (a0 a1 a2 a4 a5 a6 a7 : Option Value) (st : List Value) (h : a_H) : a_run d ML_law 883 [a0, a1, a2, some .null, a4, a5, a6, a7] st h = a_run d ML_law 884 [a0, a1, a2, some .null, a4, a5, a6, a7] (.null :: st) h := w_ldNn dL_law_883 rfl
theorem w_L_law_884 (d : Nat) (L : a_L) (v0 v1 v2 : Value) (st : List Value) (h : a_H) (hc : a_cat st ≤ 8) : a_run d ML_law 884 L (v2 :: v1 :: v0 :: st) h = a_cont d ML_law (a_bk ML_law 884 L st (a_call d MX0_toOf [v0, v1, v2] h)) := w_callS (as := [v0, v1, v2]) dL_law_884 rfl rfl rfl hc
theorem w_L_law_887 (d : Nat) (a0 a1 a2 a3 a4 a5 a6 a7 : Option Value) (x : Int32) (st : List Value) (h : a_H) : a_run d ML_law 887 [a0, a1, a2, a3, a4, a5, a6, a7] (.int x :: st) h = a_run d ML_law 889 [a0, a1, a2, a3, a4, a5, some (.int x), a7] st h := w_stI dL_law_887 (Nat.le_of_ble_eq_true rfl) rfl
theorem w_L_law_889 (d : Nat) (a0 a1 a3 a4 a5 a6 a7 : Option Value) (x : Nat) (st : List Value) (h : a_H) : a_run d ML_law 889 [a0, a1, some (.ref x), a3, a4, a5, a6, a7] st h = a_run d ML_law 890 [a0, a1, some (.ref x), a3, a4, a5, a6, a7] (.ref x :: st) h := w_ldAn dL_law_889 rfl
theorem w_L_law_889N (d : Nat) (a0 a1 a3 a4 a5 a6 a7 : Option Value) (st : List Value) (h : a_H) : a_run d ML_law 889 [a0, a1, some .null, a3, a4, a5, a6, a7] st h = a_run d ML_law 890 [a0, a1, some .null, a3, a4, a5, a6, a7] (.null :: st) h := w_ldNn dL_law_889 rfl
theorem w_L_law_890 (d : Nat) (a1 a2 a3 a4 a5 a6 a7 : Option Value) (x : Nat) (st : List Value) (h : a_H) : a_run d ML_law 890 [some (.ref x), a1, a2, a3, a4, a5, a6, a7] st h = a_run d ML_law 891 [some (.ref x), a1, a2, a3, a4, a5, a6, a7] (.ref x :: st) h := w_ldAn dL_law_890 rfl
theorem w_L_law_891 (d : Nat) (a0 a1 a2 a3 a4 a6 a7 : Option Value) (x : Int32) (st : List Value) (h : a_H) : a_run d ML_law 891 [a0, a1, a2, a3, a4, some (.int x), a6, a7] st h = a_run d ML_law 893 [a0, a1, a2, a3, a4, some (.int x), a6, a7] (.int x :: st) h := w_ldI dL_law_891 rfl
theorem w_L_law_893 (d : Nat) (L : a_L) (st : List Value) (h : a_H) : a_run d ML_law 893 L st h = a_run d ML_law 894 L (.int (nI 1) :: st) h := w_iconst dL_law_893 rfl
theorem w_L_law_894 (d : Nat) (L : a_L) (x y : Int32) (st : List Value) (h : a_H) : a_run d ML_law 894 L (.int y :: .int x :: st) h = a_run d ML_law 895 L (.int (x + y) :: st) h := w_iadd dL_law_894
theorem w_L_law_895 (d : Nat) (L : a_L) (x : Int32) (i : Nat) (st : List Value) (h : a_H) : a_run d ML_law 895 L (.int x :: .ref i :: st) h = (a_rdi h i a_int x).bind fun v => a_run d ML_law 896 L (v :: st) h := w_iald dL_law_895
theorem w_L_law_896 (d : Nat) (L : a_L) (i : Nat) (v1 : Value) (st : List Value) (h : a_H) (hk : a_kls h i = some 2) (hc : a_cat st ≤ 8) : a_run d ML_law 896 L (v1 :: .ref i :: st) h = a_cont d ML_law (a_bk ML_law 896 L st (a_call d MX3_toOf [.ref i, v1] h)) := w_callV (as := [.ref i, v1]) dL_law_896 rfl rfl rfl hc (a_rcv_of hk rfl)
theorem w_L_law_899 (d : Nat) (a0 a1 a2 a3 a4 a5 a6 a7 : Option Value) (x : Int32) (st : List Value) (h : a_H) : a_run d ML_law 899 [a0, a1, a2, a3, a4, a5, a6, a7] (.int x :: st) h = a_run d ML_law 901 [a0, a1, a2, a3, a4, a5, a6, some (.int x)] st h := w_stI dL_law_899 (Nat.le_of_ble_eq_true rfl) rfl
theorem w_L_law_901 (d : Nat) (a0 a1 a3 a4 a5 a6 a7 : Option Value) (x : Nat) (st : List Value) (h : a_H) : a_run d ML_law 901 [a0, a1, some (.ref x), a3, a4, a5, a6, a7] st h = a_run d ML_law 902 [a0, a1, some (.ref x), a3, a4, a5, a6, a7] (.ref x :: st) h := w_ldAn dL_law_901 rfl
theorem w_L_law_901N (d : Nat) (a0 a1 a3 a4 a5 a6 a7 : Option Value) (st : List Value) (h : a_H) : a_run d ML_law 901 [a0, a1, some .null, a3, a4, a5, a6, a7] st h = a_run d ML_law 902 [a0, a1, some .null, a3, a4, a5, a6, a7] (.null :: st) h := w_ldNn dL_law_901 rfl
theorem w_L_law_902 (d : Nat) (L : a_L) (i : Nat) (st : List Value) (h : a_H) (hk : a_kls h i = some 2) (hc : a_cat st ≤ 8) : a_run d ML_law 902 L (.ref i :: st) h = a_cont d ML_law (a_bk ML_law 902 L st (a_call d MX3_thrown [.ref i] h)) := w_callV (as := [.ref i]) dL_law_902 rfl rfl rfl hc (a_rcv_of hk rfl)
theorem w_L_law_905 (d : Nat) (a0 a1 a2 a3 a4 a5 a7 : Option Value) (x : Int32) (st : List Value) (h : a_H) : a_run d ML_law 905 [a0, a1, a2, a3, a4, a5, some (.int x), a7] st h = a_run d ML_law 907 [a0, a1, a2, a3, a4, a5, some (.int x), a7] (.int x :: st) h := w_ldI dL_law_905 rfl
theorem w_L_law_907 (d : Nat) (L : a_L) (x y : Int32) (st : List Value) (h : a_H) : a_run d ML_law 907 L (.int y :: .int x :: st) h = if x = y then a_run d ML_law 912 L st h else a_run d ML_law 910 L st h := w_icmp_eq dL_law_907 rfl
theorem w_L_law_910 (d : Nat) (L : a_L) (st : List Value) (h : a_H) : a_run d ML_law 910 L st h = a_run d ML_law 911 L (.int (nI 0) :: st) h := w_iconst dL_law_910 rfl
theorem w_L_law_911 (d : Nat) (L : a_L) (x : Int32) (h : a_H) (hx : x = 0 ∨ x = 1) : a_run d ML_law 911 L [.int x] h = some (.inl (some (.int x)), h) := w_iret dL_law_911 (w_retZ rfl hx)
theorem w_L_law_912 (d : Nat) (a0 a1 a2 a3 a4 a5 a7 : Option Value) (x : Int32) (st : List Value) (h : a_H) : a_run d ML_law 912 [a0, a1, a2, a3, a4, a5, some (.int x), a7] st h = a_run d ML_law 914 [a0, a1, a2, a3, a4, a5, some (.int x), a7] (.int x :: st) h := w_ldI dL_law_912 rfl
theorem w_L_law_914 (d : Nat) (L : a_L) (x : Int32) (st : List Value) (h : a_H) : a_run d ML_law 914 L (.int x :: st) h = if x = 0 then a_run d ML_law 917 L st h else a_run d ML_law 929 L st h := w_if_ne dL_law_914 rfl
theorem w_L_law_917 (d : Nat) (a0 a1 a2 a4 a5 a6 a7 : Option Value) (x : Nat) (st : List Value) (h : a_H) : a_run d ML_law 917 [a0, a1, a2, some (.ref x), a4, a5, a6, a7] st h = a_run d ML_law 918 [a0, a1, a2, some (.ref x), a4, a5, a6, a7] (.ref x :: st) h := w_ldAn dL_law_917 rfl
theorem w_L_law_917N (d : Nat) (a0 a1 a2 a4 a5 a6 a7 : Option Value) (st : List Value) (h : a_H) : a_run d ML_law 917 [a0, a1, a2, some .null, a4, a5, a6, a7] st h = a_run d ML_law 918 [a0, a1, a2, some .null, a4, a5, a6, a7] (.null :: st) h := w_ldNn dL_law_917 rfl
theorem w_L_law_918 (d : Nat) (L : a_L) (st : List Value) (h : a_H) : a_run d ML_law 918 L st h = a_run d ML_law 919 L (.int (nI 0) :: st) h := w_iconst dL_law_918 rfl
theorem w_L_law_919 (d : Nat) (L : a_L) (x : Int32) (i : Nat) (st : List Value) (h : a_H) : a_run d ML_law 919 L (.int x :: .ref i :: st) h = (a_rdl h i x).bind fun v => a_run d ML_law 920 L (v :: st) h := w_lald dL_law_919
theorem w_L_law_920 (d : Nat) (a0 a1 a2 a3 a4 a5 a6 : Option Value) (x : Int32) (st : List Value) (h : a_H) : a_run d ML_law 920 [a0, a1, a2, a3, a4, a5, a6, some (.int x)] st h = a_run d ML_law 922 [a0, a1, a2, a3, a4, a5, a6, some (.int x)] (.int x :: st) h := w_ldI dL_law_920 rfl
theorem w_L_law_922 (d : Nat) (L : a_L) (x : Int32) (st : List Value) (h : a_H) : a_run d ML_law 922 L (.int x :: st) h = a_run d ML_law 923 L (.long x.toInt64 :: st) h := w_i2l dL_law_922
theorem w_L_law_923 (d : Nat) (L : a_L) (x y : Int64) (st : List Value) (h : a_H) : a_run d ML_law 923 L (.long y :: .long x :: st) h = a_run d ML_law 924 L (.int (lg_cmp x y) :: st) h := w_lcmp dL_law_923
theorem w_L_law_924 (d : Nat) (L : a_L) (x : Int32) (st : List Value) (h : a_H) : a_run d ML_law 924 L (.int x :: st) h = if x = 0 then a_run d ML_law 929 L st h else a_run d ML_law 927 L st h := w_if_eq dL_law_924 rfl
theorem w_L_law_927 (d : Nat) (L : a_L) (st : List Value) (h : a_H) : a_run d ML_law 927 L st h = a_run d ML_law 928 L (.int (nI 0) :: st) h := w_iconst dL_law_927 rfl
theorem w_L_law_928 (d : Nat) (L : a_L) (x : Int32) (h : a_H) (hx : x = 0 ∨ x = 1) : a_run d ML_law 928 L [.int x] h = some (.inl (some (.int x)), h) := w_iret dL_law_928 (w_retZ rfl hx)
theorem w_L_law_929 (d : Nat) (L : a_L) (st : List Value) (h : a_H) : a_run d ML_law 929 L st h = a_run d ML_law 2985 L st h := w_goto dL_law_929 rfl
theorem w_L_law_932 (d : Nat) (a0 a2 a3 a4 a5 a6 a7 : Option Value) (x : Nat) (st : List Value) (h : a_H) : a_run d ML_law 932 [a0, some (.ref x), a2, a3, a4, a5, a6, a7] st h = a_run d ML_law 933 [a0, some (.ref x), a2, a3, a4, a5, a6, a7] (.ref x :: st) h := w_ldAn dL_law_932 rfl
theorem w_L_law_932N (d : Nat) (a0 a2 a3 a4 a5 a6 a7 : Option Value) (st : List Value) (h : a_H) : a_run d ML_law 932 [a0, some .null, a2, a3, a4, a5, a6, a7] st h = a_run d ML_law 933 [a0, some .null, a2, a3, a4, a5, a6, a7] (.null :: st) h := w_ldNn dL_law_932 rfl
theorem w_L_law_933 (d : Nat) (a1 a2 a3 a4 a5 a6 a7 : Option Value) (x : Nat) (st : List Value) (h : a_H) : a_run d ML_law 933 [some (.ref x), a1, a2, a3, a4, a5, a6, a7] st h = a_run d ML_law 934 [some (.ref x), a1, a2, a3, a4, a5, a6, a7] (.ref x :: st) h := w_ldAn dL_law_933 rfl
theorem w_L_law_934 (d : Nat) (a0 a1 a2 a3 a4 a6 a7 : Option Value) (x : Int32) (st : List Value) (h : a_H) : a_run d ML_law 934 [a0, a1, a2, a3, a4, some (.int x), a6, a7] st h = a_run d ML_law 936 [a0, a1, a2, a3, a4, some (.int x), a6, a7] (.int x :: st) h := w_ldI dL_law_934 rfl
theorem w_L_law_936 (d : Nat) (L : a_L) (st : List Value) (h : a_H) : a_run d ML_law 936 L st h = a_run d ML_law 937 L (.int (nI 1) :: st) h := w_iconst dL_law_936 rfl
theorem w_L_law_937 (d : Nat) (L : a_L) (x y : Int32) (st : List Value) (h : a_H) : a_run d ML_law 937 L (.int y :: .int x :: st) h = a_run d ML_law 938 L (.int (x + y) :: st) h := w_iadd dL_law_937
theorem w_L_law_938 (d : Nat) (L : a_L) (x : Int32) (i : Nat) (st : List Value) (h : a_H) : a_run d ML_law 938 L (.int x :: .ref i :: st) h = (a_rdi h i a_int x).bind fun v => a_run d ML_law 939 L (v :: st) h := w_iald dL_law_938
theorem w_L_law_939 (d : Nat) (a1 a2 a3 a4 a5 a6 a7 : Option Value) (x : Nat) (st : List Value) (h : a_H) : a_run d ML_law 939 [some (.ref x), a1, a2, a3, a4, a5, a6, a7] st h = a_run d ML_law 940 [some (.ref x), a1, a2, a3, a4, a5, a6, a7] (.ref x :: st) h := w_ldAn dL_law_939 rfl
theorem w_L_law_940 (d : Nat) (a0 a1 a2 a3 a4 a6 a7 : Option Value) (x : Int32) (st : List Value) (h : a_H) : a_run d ML_law 940 [a0, a1, a2, a3, a4, some (.int x), a6, a7] st h = a_run d ML_law 942 [a0, a1, a2, a3, a4, some (.int x), a6, a7] (.int x :: st) h := w_ldI dL_law_940 rfl
theorem w_L_law_942 (d : Nat) (L : a_L) (st : List Value) (h : a_H) : a_run d ML_law 942 L st h = a_run d ML_law 943 L (.int (nI 2) :: st) h := w_iconst dL_law_942 rfl
theorem w_L_law_943 (d : Nat) (L : a_L) (x y : Int32) (st : List Value) (h : a_H) : a_run d ML_law 943 L (.int y :: .int x :: st) h = a_run d ML_law 944 L (.int (x + y) :: st) h := w_iadd dL_law_943
theorem w_L_law_944 (d : Nat) (L : a_L) (x : Int32) (i : Nat) (st : List Value) (h : a_H) : a_run d ML_law 944 L (.int x :: .ref i :: st) h = (a_rdi h i a_int x).bind fun v => a_run d ML_law 945 L (v :: st) h := w_iald dL_law_944
theorem w_L_law_945 (d : Nat) (a0 a1 a2 a4 a5 a6 a7 : Option Value) (x : Nat) (st : List Value) (h : a_H) : a_run d ML_law 945 [a0, a1, a2, some (.ref x), a4, a5, a6, a7] st h = a_run d ML_law 946 [a0, a1, a2, some (.ref x), a4, a5, a6, a7] (.ref x :: st) h := w_ldAn dL_law_945 rfl
theorem w_L_law_945N (d : Nat) (a0 a1 a2 a4 a5 a6 a7 : Option Value) (st : List Value) (h : a_H) : a_run d ML_law 945 [a0, a1, a2, some .null, a4, a5, a6, a7] st h = a_run d ML_law 946 [a0, a1, a2, some .null, a4, a5, a6, a7] (.null :: st) h := w_ldNn dL_law_945 rfl
theorem w_L_law_946 (d : Nat) (L : a_L) (v0 v1 v2 v3 : Value) (st : List Value) (h : a_H) (hc : a_cat st ≤ 8) : a_run d ML_law 946 L (v3 :: v2 :: v1 :: v0 :: st) h = a_cont d ML_law (a_bk ML_law 946 L st (a_call d MX0_whyRefused [v0, v1, v2, v3] h)) := w_callS (as := [v0, v1, v2, v3]) dL_law_946 rfl rfl rfl hc
theorem w_L_law_949 (d : Nat) (a0 a1 a2 a3 a4 a5 a6 a7 : Option Value) (x : Int32) (st : List Value) (h : a_H) : a_run d ML_law 949 [a0, a1, a2, a3, a4, a5, a6, a7] (.int x :: st) h = a_run d ML_law 951 [a0, a1, a2, a3, a4, a5, some (.int x), a7] st h := w_stI dL_law_949 (Nat.le_of_ble_eq_true rfl) rfl
theorem w_L_law_951 (d : Nat) (a0 a1 a3 a4 a5 a6 a7 : Option Value) (x : Nat) (st : List Value) (h : a_H) : a_run d ML_law 951 [a0, a1, some (.ref x), a3, a4, a5, a6, a7] st h = a_run d ML_law 952 [a0, a1, some (.ref x), a3, a4, a5, a6, a7] (.ref x :: st) h := w_ldAn dL_law_951 rfl
theorem w_L_law_951N (d : Nat) (a0 a1 a3 a4 a5 a6 a7 : Option Value) (st : List Value) (h : a_H) : a_run d ML_law 951 [a0, a1, some .null, a3, a4, a5, a6, a7] st h = a_run d ML_law 952 [a0, a1, some .null, a3, a4, a5, a6, a7] (.null :: st) h := w_ldNn dL_law_951 rfl
theorem w_L_law_952 (d : Nat) (a1 a2 a3 a4 a5 a6 a7 : Option Value) (x : Nat) (st : List Value) (h : a_H) : a_run d ML_law 952 [some (.ref x), a1, a2, a3, a4, a5, a6, a7] st h = a_run d ML_law 953 [some (.ref x), a1, a2, a3, a4, a5, a6, a7] (.ref x :: st) h := w_ldAn dL_law_952 rfl
theorem w_L_law_953 (d : Nat) (a0 a1 a2 a3 a4 a6 a7 : Option Value) (x : Int32) (st : List Value) (h : a_H) : a_run d ML_law 953 [a0, a1, a2, a3, a4, some (.int x), a6, a7] st h = a_run d ML_law 955 [a0, a1, a2, a3, a4, some (.int x), a6, a7] (.int x :: st) h := w_ldI dL_law_953 rfl
theorem w_L_law_955 (d : Nat) (L : a_L) (st : List Value) (h : a_H) : a_run d ML_law 955 L st h = a_run d ML_law 956 L (.int (nI 1) :: st) h := w_iconst dL_law_955 rfl
theorem w_L_law_956 (d : Nat) (L : a_L) (x y : Int32) (st : List Value) (h : a_H) : a_run d ML_law 956 L (.int y :: .int x :: st) h = a_run d ML_law 957 L (.int (x + y) :: st) h := w_iadd dL_law_956
theorem w_L_law_957 (d : Nat) (L : a_L) (x : Int32) (i : Nat) (st : List Value) (h : a_H) : a_run d ML_law 957 L (.int x :: .ref i :: st) h = (a_rdi h i a_int x).bind fun v => a_run d ML_law 958 L (v :: st) h := w_iald dL_law_957
theorem w_L_law_958 (d : Nat) (a1 a2 a3 a4 a5 a6 a7 : Option Value) (x : Nat) (st : List Value) (h : a_H) : a_run d ML_law 958 [some (.ref x), a1, a2, a3, a4, a5, a6, a7] st h = a_run d ML_law 959 [some (.ref x), a1, a2, a3, a4, a5, a6, a7] (.ref x :: st) h := w_ldAn dL_law_958 rfl
theorem w_L_law_959 (d : Nat) (a0 a1 a2 a3 a4 a6 a7 : Option Value) (x : Int32) (st : List Value) (h : a_H) : a_run d ML_law 959 [a0, a1, a2, a3, a4, some (.int x), a6, a7] st h = a_run d ML_law 961 [a0, a1, a2, a3, a4, some (.int x), a6, a7] (.int x :: st) h := w_ldI dL_law_959 rfl
theorem w_L_law_961 (d : Nat) (L : a_L) (st : List Value) (h : a_H) : a_run d ML_law 961 L st h = a_run d ML_law 962 L (.int (nI 2) :: st) h := w_iconst dL_law_961 rfl
theorem w_L_law_962 (d : Nat) (L : a_L) (x y : Int32) (st : List Value) (h : a_H) : a_run d ML_law 962 L (.int y :: .int x :: st) h = a_run d ML_law 963 L (.int (x + y) :: st) h := w_iadd dL_law_962
theorem w_L_law_963 (d : Nat) (L : a_L) (x : Int32) (i : Nat) (st : List Value) (h : a_H) : a_run d ML_law 963 L (.int x :: .ref i :: st) h = (a_rdi h i a_int x).bind fun v => a_run d ML_law 964 L (v :: st) h := w_iald dL_law_963
theorem w_L_law_964 (d : Nat) (L : a_L) (i : Nat) (v1 v2 : Value) (st : List Value) (h : a_H) (hk : a_kls h i = some 2) (hc : a_cat st ≤ 8) : a_run d ML_law 964 L (v2 :: v1 :: .ref i :: st) h = a_cont d ML_law (a_bk ML_law 964 L st (a_call d MX3_whyRefused [.ref i, v1, v2] h)) := w_callV (as := [.ref i, v1, v2]) dL_law_964 rfl rfl rfl hc (a_rcv_of hk rfl)
theorem w_L_law_967 (d : Nat) (a0 a1 a2 a3 a4 a5 a6 a7 : Option Value) (x : Int32) (st : List Value) (h : a_H) : a_run d ML_law 967 [a0, a1, a2, a3, a4, a5, a6, a7] (.int x :: st) h = a_run d ML_law 969 [a0, a1, a2, a3, a4, a5, a6, some (.int x)] st h := w_stI dL_law_967 (Nat.le_of_ble_eq_true rfl) rfl
theorem w_L_law_969 (d : Nat) (a0 a1 a3 a4 a5 a6 a7 : Option Value) (x : Nat) (st : List Value) (h : a_H) : a_run d ML_law 969 [a0, a1, some (.ref x), a3, a4, a5, a6, a7] st h = a_run d ML_law 970 [a0, a1, some (.ref x), a3, a4, a5, a6, a7] (.ref x :: st) h := w_ldAn dL_law_969 rfl
theorem w_L_law_969N (d : Nat) (a0 a1 a3 a4 a5 a6 a7 : Option Value) (st : List Value) (h : a_H) : a_run d ML_law 969 [a0, a1, some .null, a3, a4, a5, a6, a7] st h = a_run d ML_law 970 [a0, a1, some .null, a3, a4, a5, a6, a7] (.null :: st) h := w_ldNn dL_law_969 rfl
theorem w_L_law_970 (d : Nat) (L : a_L) (i : Nat) (st : List Value) (h : a_H) (hk : a_kls h i = some 2) (hc : a_cat st ≤ 8) : a_run d ML_law 970 L (.ref i :: st) h = a_cont d ML_law (a_bk ML_law 970 L st (a_call d MX3_thrown [.ref i] h)) := w_callV (as := [.ref i]) dL_law_970 rfl rfl rfl hc (a_rcv_of hk rfl)
theorem w_L_law_973 (d : Nat) (a0 a1 a2 a3 a4 a5 a7 : Option Value) (x : Int32) (st : List Value) (h : a_H) : a_run d ML_law 973 [a0, a1, a2, a3, a4, a5, some (.int x), a7] st h = a_run d ML_law 975 [a0, a1, a2, a3, a4, a5, some (.int x), a7] (.int x :: st) h := w_ldI dL_law_973 rfl
theorem w_L_law_975 (d : Nat) (L : a_L) (x y : Int32) (st : List Value) (h : a_H) : a_run d ML_law 975 L (.int y :: .int x :: st) h = if x = y then a_run d ML_law 980 L st h else a_run d ML_law 978 L st h := w_icmp_eq dL_law_975 rfl
theorem w_L_law_978 (d : Nat) (L : a_L) (st : List Value) (h : a_H) : a_run d ML_law 978 L st h = a_run d ML_law 979 L (.int (nI 0) :: st) h := w_iconst dL_law_978 rfl
theorem w_L_law_979 (d : Nat) (L : a_L) (x : Int32) (h : a_H) (hx : x = 0 ∨ x = 1) : a_run d ML_law 979 L [.int x] h = some (.inl (some (.int x)), h) := w_iret dL_law_979 (w_retZ rfl hx)
theorem w_L_law_980 (d : Nat) (a0 a1 a2 a3 a4 a5 a7 : Option Value) (x : Int32) (st : List Value) (h : a_H) : a_run d ML_law 980 [a0, a1, a2, a3, a4, a5, some (.int x), a7] st h = a_run d ML_law 982 [a0, a1, a2, a3, a4, a5, some (.int x), a7] (.int x :: st) h := w_ldI dL_law_980 rfl
theorem w_L_law_982 (d : Nat) (L : a_L) (x : Int32) (st : List Value) (h : a_H) : a_run d ML_law 982 L (.int x :: st) h = if x = 0 then a_run d ML_law 985 L st h else a_run d ML_law 997 L st h := w_if_ne dL_law_982 rfl
theorem w_L_law_985 (d : Nat) (a0 a1 a2 a4 a5 a6 a7 : Option Value) (x : Nat) (st : List Value) (h : a_H) : a_run d ML_law 985 [a0, a1, a2, some (.ref x), a4, a5, a6, a7] st h = a_run d ML_law 986 [a0, a1, a2, some (.ref x), a4, a5, a6, a7] (.ref x :: st) h := w_ldAn dL_law_985 rfl
theorem w_L_law_985N (d : Nat) (a0 a1 a2 a4 a5 a6 a7 : Option Value) (st : List Value) (h : a_H) : a_run d ML_law 985 [a0, a1, a2, some .null, a4, a5, a6, a7] st h = a_run d ML_law 986 [a0, a1, a2, some .null, a4, a5, a6, a7] (.null :: st) h := w_ldNn dL_law_985 rfl
theorem w_L_law_986 (d : Nat) (L : a_L) (st : List Value) (h : a_H) : a_run d ML_law 986 L st h = a_run d ML_law 987 L (.int (nI 0) :: st) h := w_iconst dL_law_986 rfl
theorem w_L_law_987 (d : Nat) (L : a_L) (x : Int32) (i : Nat) (st : List Value) (h : a_H) : a_run d ML_law 987 L (.int x :: .ref i :: st) h = (a_rdl h i x).bind fun v => a_run d ML_law 988 L (v :: st) h := w_lald dL_law_987
theorem w_L_law_988 (d : Nat) (a0 a1 a2 a3 a4 a5 a6 : Option Value) (x : Int32) (st : List Value) (h : a_H) : a_run d ML_law 988 [a0, a1, a2, a3, a4, a5, a6, some (.int x)] st h = a_run d ML_law 990 [a0, a1, a2, a3, a4, a5, a6, some (.int x)] (.int x :: st) h := w_ldI dL_law_988 rfl
theorem w_L_law_990 (d : Nat) (L : a_L) (x : Int32) (st : List Value) (h : a_H) : a_run d ML_law 990 L (.int x :: st) h = a_run d ML_law 991 L (.long x.toInt64 :: st) h := w_i2l dL_law_990
theorem w_L_law_991 (d : Nat) (L : a_L) (x y : Int64) (st : List Value) (h : a_H) : a_run d ML_law 991 L (.long y :: .long x :: st) h = a_run d ML_law 992 L (.int (lg_cmp x y) :: st) h := w_lcmp dL_law_991
theorem w_L_law_992 (d : Nat) (L : a_L) (x : Int32) (st : List Value) (h : a_H) : a_run d ML_law 992 L (.int x :: st) h = if x = 0 then a_run d ML_law 997 L st h else a_run d ML_law 995 L st h := w_if_eq dL_law_992 rfl
theorem w_L_law_995 (d : Nat) (L : a_L) (st : List Value) (h : a_H) : a_run d ML_law 995 L st h = a_run d ML_law 996 L (.int (nI 0) :: st) h := w_iconst dL_law_995 rfl
theorem w_L_law_996 (d : Nat) (L : a_L) (x : Int32) (h : a_H) (hx : x = 0 ∨ x = 1) : a_run d ML_law 996 L [.int x] h = some (.inl (some (.int x)), h) := w_iret dL_law_996 (w_retZ rfl hx)
theorem w_L_law_997 (d : Nat) (L : a_L) (st : List Value) (h : a_H) : a_run d ML_law 997 L st h = a_run d ML_law 2985 L st h := w_goto dL_law_997 rfl
theorem w_L_law_1000 (d : Nat) (a0 a2 a3 a4 a5 a6 a7 : Option Value) (x : Nat) (st : List Value) (h : a_H) : a_run d ML_law 1000 [a0, some (.ref x), a2, a3, a4, a5, a6, a7] st h = a_run d ML_law 1001 [a0, some (.ref x), a2, a3, a4, a5, a6, a7] (.ref x :: st) h := w_ldAn dL_law_1000 rfl
theorem w_L_law_1000N (d : Nat) (a0 a2 a3 a4 a5 a6 a7 : Option Value) (st : List Value) (h : a_H) : a_run d ML_law 1000 [a0, some .null, a2, a3, a4, a5, a6, a7] st h = a_run d ML_law 1001 [a0, some .null, a2, a3, a4, a5, a6, a7] (.null :: st) h := w_ldNn dL_law_1000 rfl
theorem w_L_law_1001 (d : Nat) (a1 a2 a3 a4 a5 a6 a7 : Option Value) (x : Nat) (st : List Value) (h : a_H) : a_run d ML_law 1001 [some (.ref x), a1, a2, a3, a4, a5, a6, a7] st h = a_run d ML_law 1002 [some (.ref x), a1, a2, a3, a4, a5, a6, a7] (.ref x :: st) h := w_ldAn dL_law_1001 rfl
theorem w_L_law_1002 (d : Nat) (a0 a1 a2 a3 a4 a6 a7 : Option Value) (x : Int32) (st : List Value) (h : a_H) : a_run d ML_law 1002 [a0, a1, a2, a3, a4, some (.int x), a6, a7] st h = a_run d ML_law 1004 [a0, a1, a2, a3, a4, some (.int x), a6, a7] (.int x :: st) h := w_ldI dL_law_1002 rfl
theorem w_L_law_1004 (d : Nat) (L : a_L) (st : List Value) (h : a_H) : a_run d ML_law 1004 L st h = a_run d ML_law 1005 L (.int (nI 1) :: st) h := w_iconst dL_law_1004 rfl
theorem w_L_law_1005 (d : Nat) (L : a_L) (x y : Int32) (st : List Value) (h : a_H) : a_run d ML_law 1005 L (.int y :: .int x :: st) h = a_run d ML_law 1006 L (.int (x + y) :: st) h := w_iadd dL_law_1005
theorem w_L_law_1006 (d : Nat) (L : a_L) (x : Int32) (i : Nat) (st : List Value) (h : a_H) : a_run d ML_law 1006 L (.int x :: .ref i :: st) h = (a_rdi h i a_int x).bind fun v => a_run d ML_law 1007 L (v :: st) h := w_iald dL_law_1006
theorem w_L_law_1007 (d : Nat) (a1 a2 a3 a4 a5 a6 a7 : Option Value) (x : Nat) (st : List Value) (h : a_H) : a_run d ML_law 1007 [some (.ref x), a1, a2, a3, a4, a5, a6, a7] st h = a_run d ML_law 1008 [some (.ref x), a1, a2, a3, a4, a5, a6, a7] (.ref x :: st) h := w_ldAn dL_law_1007 rfl
theorem w_L_law_1008 (d : Nat) (a0 a1 a2 a3 a4 a6 a7 : Option Value) (x : Int32) (st : List Value) (h : a_H) : a_run d ML_law 1008 [a0, a1, a2, a3, a4, some (.int x), a6, a7] st h = a_run d ML_law 1010 [a0, a1, a2, a3, a4, some (.int x), a6, a7] (.int x :: st) h := w_ldI dL_law_1008 rfl
theorem w_L_law_1010 (d : Nat) (L : a_L) (st : List Value) (h : a_H) : a_run d ML_law 1010 L st h = a_run d ML_law 1011 L (.int (nI 2) :: st) h := w_iconst dL_law_1010 rfl
theorem w_L_law_1011 (d : Nat) (L : a_L) (x y : Int32) (st : List Value) (h : a_H) : a_run d ML_law 1011 L (.int y :: .int x :: st) h = a_run d ML_law 1012 L (.int (x + y) :: st) h := w_iadd dL_law_1011
theorem w_L_law_1012 (d : Nat) (L : a_L) (x : Int32) (i : Nat) (st : List Value) (h : a_H) : a_run d ML_law 1012 L (.int x :: .ref i :: st) h = (a_rdi h i a_int x).bind fun v => a_run d ML_law 1013 L (v :: st) h := w_iald dL_law_1012
theorem w_L_law_1013 (d : Nat) (a1 a2 a3 a4 a5 a6 a7 : Option Value) (x : Nat) (st : List Value) (h : a_H) : a_run d ML_law 1013 [some (.ref x), a1, a2, a3, a4, a5, a6, a7] st h = a_run d ML_law 1014 [some (.ref x), a1, a2, a3, a4, a5, a6, a7] (.ref x :: st) h := w_ldAn dL_law_1013 rfl
theorem w_L_law_1014 (d : Nat) (a0 a1 a2 a3 a4 a6 a7 : Option Value) (x : Int32) (st : List Value) (h : a_H) : a_run d ML_law 1014 [a0, a1, a2, a3, a4, some (.int x), a6, a7] st h = a_run d ML_law 1016 [a0, a1, a2, a3, a4, some (.int x), a6, a7] (.int x :: st) h := w_ldI dL_law_1014 rfl
theorem w_L_law_1016 (d : Nat) (L : a_L) (st : List Value) (h : a_H) : a_run d ML_law 1016 L st h = a_run d ML_law 1017 L (.int (nI 3) :: st) h := w_iconst dL_law_1016 rfl
theorem w_L_law_1017 (d : Nat) (L : a_L) (x y : Int32) (st : List Value) (h : a_H) : a_run d ML_law 1017 L (.int y :: .int x :: st) h = a_run d ML_law 1018 L (.int (x + y) :: st) h := w_iadd dL_law_1017
theorem w_L_law_1018 (d : Nat) (L : a_L) (x : Int32) (i : Nat) (st : List Value) (h : a_H) : a_run d ML_law 1018 L (.int x :: .ref i :: st) h = (a_rdi h i a_int x).bind fun v => a_run d ML_law 1019 L (v :: st) h := w_iald dL_law_1018
theorem w_L_law_1019 (d : Nat) (a0 a1 a2 a4 a5 a6 a7 : Option Value) (x : Nat) (st : List Value) (h : a_H) : a_run d ML_law 1019 [a0, a1, a2, some (.ref x), a4, a5, a6, a7] st h = a_run d ML_law 1020 [a0, a1, a2, some (.ref x), a4, a5, a6, a7] (.ref x :: st) h := w_ldAn dL_law_1019 rfl
theorem w_L_law_1019N (d : Nat) (a0 a1 a2 a4 a5 a6 a7 : Option Value) (st : List Value) (h : a_H) : a_run d ML_law 1019 [a0, a1, a2, some .null, a4, a5, a6, a7] st h = a_run d ML_law 1020 [a0, a1, a2, some .null, a4, a5, a6, a7] (.null :: st) h := w_ldNn dL_law_1019 rfl
theorem w_L_law_1020 (d : Nat) (L : a_L) (v0 v1 v2 v3 v4 : Value) (st : List Value) (h : a_H) (hc : a_cat st ≤ 8) : a_run d ML_law 1020 L (v4 :: v3 :: v2 :: v1 :: v0 :: st) h = a_cont d ML_law (a_bk ML_law 1020 L st (a_call d MX0_whyNoChain [v0, v1, v2, v3, v4] h)) := w_callS (as := [v0, v1, v2, v3, v4]) dL_law_1020 rfl rfl rfl hc
theorem w_L_law_1023 (d : Nat) (a0 a1 a2 a3 a4 a5 a6 a7 : Option Value) (x : Int32) (st : List Value) (h : a_H) : a_run d ML_law 1023 [a0, a1, a2, a3, a4, a5, a6, a7] (.int x :: st) h = a_run d ML_law 1025 [a0, a1, a2, a3, a4, a5, some (.int x), a7] st h := w_stI dL_law_1023 (Nat.le_of_ble_eq_true rfl) rfl
theorem w_L_law_1025 (d : Nat) (a0 a1 a3 a4 a5 a6 a7 : Option Value) (x : Nat) (st : List Value) (h : a_H) : a_run d ML_law 1025 [a0, a1, some (.ref x), a3, a4, a5, a6, a7] st h = a_run d ML_law 1026 [a0, a1, some (.ref x), a3, a4, a5, a6, a7] (.ref x :: st) h := w_ldAn dL_law_1025 rfl
theorem w_L_law_1025N (d : Nat) (a0 a1 a3 a4 a5 a6 a7 : Option Value) (st : List Value) (h : a_H) : a_run d ML_law 1025 [a0, a1, some .null, a3, a4, a5, a6, a7] st h = a_run d ML_law 1026 [a0, a1, some .null, a3, a4, a5, a6, a7] (.null :: st) h := w_ldNn dL_law_1025 rfl
theorem w_L_law_1026 (d : Nat) (a1 a2 a3 a4 a5 a6 a7 : Option Value) (x : Nat) (st : List Value) (h : a_H) : a_run d ML_law 1026 [some (.ref x), a1, a2, a3, a4, a5, a6, a7] st h = a_run d ML_law 1027 [some (.ref x), a1, a2, a3, a4, a5, a6, a7] (.ref x :: st) h := w_ldAn dL_law_1026 rfl
theorem w_L_law_1027 (d : Nat) (a0 a1 a2 a3 a4 a6 a7 : Option Value) (x : Int32) (st : List Value) (h : a_H) : a_run d ML_law 1027 [a0, a1, a2, a3, a4, some (.int x), a6, a7] st h = a_run d ML_law 1029 [a0, a1, a2, a3, a4, some (.int x), a6, a7] (.int x :: st) h := w_ldI dL_law_1027 rfl
theorem w_L_law_1029 (d : Nat) (L : a_L) (st : List Value) (h : a_H) : a_run d ML_law 1029 L st h = a_run d ML_law 1030 L (.int (nI 1) :: st) h := w_iconst dL_law_1029 rfl
theorem w_L_law_1030 (d : Nat) (L : a_L) (x y : Int32) (st : List Value) (h : a_H) : a_run d ML_law 1030 L (.int y :: .int x :: st) h = a_run d ML_law 1031 L (.int (x + y) :: st) h := w_iadd dL_law_1030
theorem w_L_law_1031 (d : Nat) (L : a_L) (x : Int32) (i : Nat) (st : List Value) (h : a_H) : a_run d ML_law 1031 L (.int x :: .ref i :: st) h = (a_rdi h i a_int x).bind fun v => a_run d ML_law 1032 L (v :: st) h := w_iald dL_law_1031
theorem w_L_law_1032 (d : Nat) (a1 a2 a3 a4 a5 a6 a7 : Option Value) (x : Nat) (st : List Value) (h : a_H) : a_run d ML_law 1032 [some (.ref x), a1, a2, a3, a4, a5, a6, a7] st h = a_run d ML_law 1033 [some (.ref x), a1, a2, a3, a4, a5, a6, a7] (.ref x :: st) h := w_ldAn dL_law_1032 rfl
theorem w_L_law_1033 (d : Nat) (a0 a1 a2 a3 a4 a6 a7 : Option Value) (x : Int32) (st : List Value) (h : a_H) : a_run d ML_law 1033 [a0, a1, a2, a3, a4, some (.int x), a6, a7] st h = a_run d ML_law 1035 [a0, a1, a2, a3, a4, some (.int x), a6, a7] (.int x :: st) h := w_ldI dL_law_1033 rfl
theorem w_L_law_1035 (d : Nat) (L : a_L) (st : List Value) (h : a_H) : a_run d ML_law 1035 L st h = a_run d ML_law 1036 L (.int (nI 2) :: st) h := w_iconst dL_law_1035 rfl
theorem w_L_law_1036 (d : Nat) (L : a_L) (x y : Int32) (st : List Value) (h : a_H) : a_run d ML_law 1036 L (.int y :: .int x :: st) h = a_run d ML_law 1037 L (.int (x + y) :: st) h := w_iadd dL_law_1036
theorem w_L_law_1037 (d : Nat) (L : a_L) (x : Int32) (i : Nat) (st : List Value) (h : a_H) : a_run d ML_law 1037 L (.int x :: .ref i :: st) h = (a_rdi h i a_int x).bind fun v => a_run d ML_law 1038 L (v :: st) h := w_iald dL_law_1037
theorem w_L_law_1038 (d : Nat) (a1 a2 a3 a4 a5 a6 a7 : Option Value) (x : Nat) (st : List Value) (h : a_H) : a_run d ML_law 1038 [some (.ref x), a1, a2, a3, a4, a5, a6, a7] st h = a_run d ML_law 1039 [some (.ref x), a1, a2, a3, a4, a5, a6, a7] (.ref x :: st) h := w_ldAn dL_law_1038 rfl
theorem w_L_law_1039 (d : Nat) (a0 a1 a2 a3 a4 a6 a7 : Option Value) (x : Int32) (st : List Value) (h : a_H) : a_run d ML_law 1039 [a0, a1, a2, a3, a4, some (.int x), a6, a7] st h = a_run d ML_law 1041 [a0, a1, a2, a3, a4, some (.int x), a6, a7] (.int x :: st) h := w_ldI dL_law_1039 rfl
theorem w_L_law_1041 (d : Nat) (L : a_L) (st : List Value) (h : a_H) : a_run d ML_law 1041 L st h = a_run d ML_law 1042 L (.int (nI 3) :: st) h := w_iconst dL_law_1041 rfl
theorem w_L_law_1042 (d : Nat) (L : a_L) (x y : Int32) (st : List Value) (h : a_H) : a_run d ML_law 1042 L (.int y :: .int x :: st) h = a_run d ML_law 1043 L (.int (x + y) :: st) h := w_iadd dL_law_1042
theorem w_L_law_1043 (d : Nat) (L : a_L) (x : Int32) (i : Nat) (st : List Value) (h : a_H) : a_run d ML_law 1043 L (.int x :: .ref i :: st) h = (a_rdi h i a_int x).bind fun v => a_run d ML_law 1044 L (v :: st) h := w_iald dL_law_1043
theorem w_L_law_1044 (d : Nat) (L : a_L) (i : Nat) (v1 v2 v3 : Value) (st : List Value) (h : a_H) (hk : a_kls h i = some 2) (hc : a_cat st ≤ 8) : a_run d ML_law 1044 L (v3 :: v2 :: v1 :: .ref i :: st) h = a_cont d ML_law (a_bk ML_law 1044 L st (a_call d MX3_whyNoChain [.ref i, v1, v2, v3] h)) := w_callV (as := [.ref i, v1, v2, v3]) dL_law_1044 rfl rfl rfl hc (a_rcv_of hk rfl)
theorem w_L_law_1047 (d : Nat) (a0 a1 a2 a3 a4 a5 a6 a7 : Option Value) (x : Int32) (st : List Value) (h : a_H) : a_run d ML_law 1047 [a0, a1, a2, a3, a4, a5, a6, a7] (.int x :: st) h = a_run d ML_law 1049 [a0, a1, a2, a3, a4, a5, a6, some (.int x)] st h := w_stI dL_law_1047 (Nat.le_of_ble_eq_true rfl) rfl
theorem w_L_law_1049 (d : Nat) (a0 a1 a3 a4 a5 a6 a7 : Option Value) (x : Nat) (st : List Value) (h : a_H) : a_run d ML_law 1049 [a0, a1, some (.ref x), a3, a4, a5, a6, a7] st h = a_run d ML_law 1050 [a0, a1, some (.ref x), a3, a4, a5, a6, a7] (.ref x :: st) h := w_ldAn dL_law_1049 rfl
theorem w_L_law_1049N (d : Nat) (a0 a1 a3 a4 a5 a6 a7 : Option Value) (st : List Value) (h : a_H) : a_run d ML_law 1049 [a0, a1, some .null, a3, a4, a5, a6, a7] st h = a_run d ML_law 1050 [a0, a1, some .null, a3, a4, a5, a6, a7] (.null :: st) h := w_ldNn dL_law_1049 rfl
theorem w_L_law_1050 (d : Nat) (L : a_L) (i : Nat) (st : List Value) (h : a_H) (hk : a_kls h i = some 2) (hc : a_cat st ≤ 8) : a_run d ML_law 1050 L (.ref i :: st) h = a_cont d ML_law (a_bk ML_law 1050 L st (a_call d MX3_thrown [.ref i] h)) := w_callV (as := [.ref i]) dL_law_1050 rfl rfl rfl hc (a_rcv_of hk rfl)
theorem w_L_law_1053 (d : Nat) (a0 a1 a2 a3 a4 a5 a7 : Option Value) (x : Int32) (st : List Value) (h : a_H) : a_run d ML_law 1053 [a0, a1, a2, a3, a4, a5, some (.int x), a7] st h = a_run d ML_law 1055 [a0, a1, a2, a3, a4, a5, some (.int x), a7] (.int x :: st) h := w_ldI dL_law_1053 rfl
theorem w_L_law_1055 (d : Nat) (L : a_L) (x y : Int32) (st : List Value) (h : a_H) : a_run d ML_law 1055 L (.int y :: .int x :: st) h = if x = y then a_run d ML_law 1060 L st h else a_run d ML_law 1058 L st h := w_icmp_eq dL_law_1055 rfl
theorem w_L_law_1058 (d : Nat) (L : a_L) (st : List Value) (h : a_H) : a_run d ML_law 1058 L st h = a_run d ML_law 1059 L (.int (nI 0) :: st) h := w_iconst dL_law_1058 rfl
theorem w_L_law_1059 (d : Nat) (L : a_L) (x : Int32) (h : a_H) (hx : x = 0 ∨ x = 1) : a_run d ML_law 1059 L [.int x] h = some (.inl (some (.int x)), h) := w_iret dL_law_1059 (w_retZ rfl hx)
theorem w_L_law_1060 (d : Nat) (a0 a1 a2 a3 a4 a5 a7 : Option Value) (x : Int32) (st : List Value) (h : a_H) : a_run d ML_law 1060 [a0, a1, a2, a3, a4, a5, some (.int x), a7] st h = a_run d ML_law 1062 [a0, a1, a2, a3, a4, a5, some (.int x), a7] (.int x :: st) h := w_ldI dL_law_1060 rfl
theorem w_L_law_1062 (d : Nat) (L : a_L) (x : Int32) (st : List Value) (h : a_H) : a_run d ML_law 1062 L (.int x :: st) h = if x = 0 then a_run d ML_law 1065 L st h else a_run d ML_law 1077 L st h := w_if_ne dL_law_1062 rfl
theorem w_L_law_1065 (d : Nat) (a0 a1 a2 a4 a5 a6 a7 : Option Value) (x : Nat) (st : List Value) (h : a_H) : a_run d ML_law 1065 [a0, a1, a2, some (.ref x), a4, a5, a6, a7] st h = a_run d ML_law 1066 [a0, a1, a2, some (.ref x), a4, a5, a6, a7] (.ref x :: st) h := w_ldAn dL_law_1065 rfl
theorem w_L_law_1065N (d : Nat) (a0 a1 a2 a4 a5 a6 a7 : Option Value) (st : List Value) (h : a_H) : a_run d ML_law 1065 [a0, a1, a2, some .null, a4, a5, a6, a7] st h = a_run d ML_law 1066 [a0, a1, a2, some .null, a4, a5, a6, a7] (.null :: st) h := w_ldNn dL_law_1065 rfl
theorem w_L_law_1066 (d : Nat) (L : a_L) (st : List Value) (h : a_H) : a_run d ML_law 1066 L st h = a_run d ML_law 1067 L (.int (nI 0) :: st) h := w_iconst dL_law_1066 rfl
theorem w_L_law_1067 (d : Nat) (L : a_L) (x : Int32) (i : Nat) (st : List Value) (h : a_H) : a_run d ML_law 1067 L (.int x :: .ref i :: st) h = (a_rdl h i x).bind fun v => a_run d ML_law 1068 L (v :: st) h := w_lald dL_law_1067
theorem w_L_law_1068 (d : Nat) (a0 a1 a2 a3 a4 a5 a6 : Option Value) (x : Int32) (st : List Value) (h : a_H) : a_run d ML_law 1068 [a0, a1, a2, a3, a4, a5, a6, some (.int x)] st h = a_run d ML_law 1070 [a0, a1, a2, a3, a4, a5, a6, some (.int x)] (.int x :: st) h := w_ldI dL_law_1068 rfl
theorem w_L_law_1070 (d : Nat) (L : a_L) (x : Int32) (st : List Value) (h : a_H) : a_run d ML_law 1070 L (.int x :: st) h = a_run d ML_law 1071 L (.long x.toInt64 :: st) h := w_i2l dL_law_1070
theorem w_L_law_1071 (d : Nat) (L : a_L) (x y : Int64) (st : List Value) (h : a_H) : a_run d ML_law 1071 L (.long y :: .long x :: st) h = a_run d ML_law 1072 L (.int (lg_cmp x y) :: st) h := w_lcmp dL_law_1071
theorem w_L_law_1072 (d : Nat) (L : a_L) (x : Int32) (st : List Value) (h : a_H) : a_run d ML_law 1072 L (.int x :: st) h = if x = 0 then a_run d ML_law 1077 L st h else a_run d ML_law 1075 L st h := w_if_eq dL_law_1072 rfl
theorem w_L_law_1075 (d : Nat) (L : a_L) (st : List Value) (h : a_H) : a_run d ML_law 1075 L st h = a_run d ML_law 1076 L (.int (nI 0) :: st) h := w_iconst dL_law_1075 rfl
theorem w_L_law_1076 (d : Nat) (L : a_L) (x : Int32) (h : a_H) (hx : x = 0 ∨ x = 1) : a_run d ML_law 1076 L [.int x] h = some (.inl (some (.int x)), h) := w_iret dL_law_1076 (w_retZ rfl hx)
theorem w_L_law_1077 (d : Nat) (L : a_L) (st : List Value) (h : a_H) : a_run d ML_law 1077 L st h = a_run d ML_law 2985 L st h := w_goto dL_law_1077 rfl
theorem w_L_law_1080 (d : Nat) (a0 a2 a3 a4 a5 a6 a7 : Option Value) (x : Nat) (st : List Value) (h : a_H) : a_run d ML_law 1080 [a0, some (.ref x), a2, a3, a4, a5, a6, a7] st h = a_run d ML_law 1081 [a0, some (.ref x), a2, a3, a4, a5, a6, a7] (.ref x :: st) h := w_ldAn dL_law_1080 rfl
theorem w_L_law_1080N (d : Nat) (a0 a2 a3 a4 a5 a6 a7 : Option Value) (st : List Value) (h : a_H) : a_run d ML_law 1080 [a0, some .null, a2, a3, a4, a5, a6, a7] st h = a_run d ML_law 1081 [a0, some .null, a2, a3, a4, a5, a6, a7] (.null :: st) h := w_ldNn dL_law_1080 rfl
theorem w_L_law_1081 (d : Nat) (a1 a2 a3 a4 a5 a6 a7 : Option Value) (x : Nat) (st : List Value) (h : a_H) : a_run d ML_law 1081 [some (.ref x), a1, a2, a3, a4, a5, a6, a7] st h = a_run d ML_law 1082 [some (.ref x), a1, a2, a3, a4, a5, a6, a7] (.ref x :: st) h := w_ldAn dL_law_1081 rfl
theorem w_L_law_1082 (d : Nat) (a0 a1 a2 a3 a4 a6 a7 : Option Value) (x : Int32) (st : List Value) (h : a_H) : a_run d ML_law 1082 [a0, a1, a2, a3, a4, some (.int x), a6, a7] st h = a_run d ML_law 1084 [a0, a1, a2, a3, a4, some (.int x), a6, a7] (.int x :: st) h := w_ldI dL_law_1082 rfl
theorem w_L_law_1084 (d : Nat) (L : a_L) (st : List Value) (h : a_H) : a_run d ML_law 1084 L st h = a_run d ML_law 1085 L (.int (nI 1) :: st) h := w_iconst dL_law_1084 rfl
theorem w_L_law_1085 (d : Nat) (L : a_L) (x y : Int32) (st : List Value) (h : a_H) : a_run d ML_law 1085 L (.int y :: .int x :: st) h = a_run d ML_law 1086 L (.int (x + y) :: st) h := w_iadd dL_law_1085
theorem w_L_law_1086 (d : Nat) (L : a_L) (x : Int32) (i : Nat) (st : List Value) (h : a_H) : a_run d ML_law 1086 L (.int x :: .ref i :: st) h = (a_rdi h i a_int x).bind fun v => a_run d ML_law 1087 L (v :: st) h := w_iald dL_law_1086
theorem w_L_law_1087 (d : Nat) (a1 a2 a3 a4 a5 a6 a7 : Option Value) (x : Nat) (st : List Value) (h : a_H) : a_run d ML_law 1087 [some (.ref x), a1, a2, a3, a4, a5, a6, a7] st h = a_run d ML_law 1088 [some (.ref x), a1, a2, a3, a4, a5, a6, a7] (.ref x :: st) h := w_ldAn dL_law_1087 rfl
theorem w_L_law_1088 (d : Nat) (a0 a1 a2 a3 a4 a6 a7 : Option Value) (x : Int32) (st : List Value) (h : a_H) : a_run d ML_law 1088 [a0, a1, a2, a3, a4, some (.int x), a6, a7] st h = a_run d ML_law 1090 [a0, a1, a2, a3, a4, some (.int x), a6, a7] (.int x :: st) h := w_ldI dL_law_1088 rfl
theorem w_L_law_1090 (d : Nat) (L : a_L) (st : List Value) (h : a_H) : a_run d ML_law 1090 L st h = a_run d ML_law 1091 L (.int (nI 2) :: st) h := w_iconst dL_law_1090 rfl
theorem w_L_law_1091 (d : Nat) (L : a_L) (x y : Int32) (st : List Value) (h : a_H) : a_run d ML_law 1091 L (.int y :: .int x :: st) h = a_run d ML_law 1092 L (.int (x + y) :: st) h := w_iadd dL_law_1091
theorem w_L_law_1092 (d : Nat) (L : a_L) (x : Int32) (i : Nat) (st : List Value) (h : a_H) : a_run d ML_law 1092 L (.int x :: .ref i :: st) h = (a_rdi h i a_int x).bind fun v => a_run d ML_law 1093 L (v :: st) h := w_iald dL_law_1092
theorem w_L_law_1093 (d : Nat) (a0 a1 a2 a4 a5 a6 a7 : Option Value) (x : Nat) (st : List Value) (h : a_H) : a_run d ML_law 1093 [a0, a1, a2, some (.ref x), a4, a5, a6, a7] st h = a_run d ML_law 1094 [a0, a1, a2, some (.ref x), a4, a5, a6, a7] (.ref x :: st) h := w_ldAn dL_law_1093 rfl
theorem w_L_law_1093N (d : Nat) (a0 a1 a2 a4 a5 a6 a7 : Option Value) (st : List Value) (h : a_H) : a_run d ML_law 1093 [a0, a1, a2, some .null, a4, a5, a6, a7] st h = a_run d ML_law 1094 [a0, a1, a2, some .null, a4, a5, a6, a7] (.null :: st) h := w_ldNn dL_law_1093 rfl
theorem w_L_law_1094 (d : Nat) (L : a_L) (v0 v1 v2 v3 : Value) (st : List Value) (h : a_H) (hc : a_cat st ≤ 8) : a_run d ML_law 1094 L (v3 :: v2 :: v1 :: v0 :: st) h = a_cont d ML_law (a_bk ML_law 1094 L st (a_call d MX0_doesHear [v0, v1, v2, v3] h)) := w_callS (as := [v0, v1, v2, v3]) dL_law_1094 rfl rfl rfl hc
theorem w_L_law_1097 (d : Nat) (a0 a1 a2 a3 a4 a5 a6 a7 : Option Value) (x : Int32) (st : List Value) (h : a_H) : a_run d ML_law 1097 [a0, a1, a2, a3, a4, a5, a6, a7] (.int x :: st) h = a_run d ML_law 1099 [a0, a1, a2, a3, a4, a5, some (.int x), a7] st h := w_stI dL_law_1097 (Nat.le_of_ble_eq_true rfl) rfl
theorem w_L_law_1099 (d : Nat) (a0 a1 a3 a4 a5 a6 a7 : Option Value) (x : Nat) (st : List Value) (h : a_H) : a_run d ML_law 1099 [a0, a1, some (.ref x), a3, a4, a5, a6, a7] st h = a_run d ML_law 1100 [a0, a1, some (.ref x), a3, a4, a5, a6, a7] (.ref x :: st) h := w_ldAn dL_law_1099 rfl
theorem w_L_law_1099N (d : Nat) (a0 a1 a3 a4 a5 a6 a7 : Option Value) (st : List Value) (h : a_H) : a_run d ML_law 1099 [a0, a1, some .null, a3, a4, a5, a6, a7] st h = a_run d ML_law 1100 [a0, a1, some .null, a3, a4, a5, a6, a7] (.null :: st) h := w_ldNn dL_law_1099 rfl
theorem w_L_law_1100 (d : Nat) (a1 a2 a3 a4 a5 a6 a7 : Option Value) (x : Nat) (st : List Value) (h : a_H) : a_run d ML_law 1100 [some (.ref x), a1, a2, a3, a4, a5, a6, a7] st h = a_run d ML_law 1101 [some (.ref x), a1, a2, a3, a4, a5, a6, a7] (.ref x :: st) h := w_ldAn dL_law_1100 rfl
theorem w_L_law_1101 (d : Nat) (a0 a1 a2 a3 a4 a6 a7 : Option Value) (x : Int32) (st : List Value) (h : a_H) : a_run d ML_law 1101 [a0, a1, a2, a3, a4, some (.int x), a6, a7] st h = a_run d ML_law 1103 [a0, a1, a2, a3, a4, some (.int x), a6, a7] (.int x :: st) h := w_ldI dL_law_1101 rfl
theorem w_L_law_1103 (d : Nat) (L : a_L) (st : List Value) (h : a_H) : a_run d ML_law 1103 L st h = a_run d ML_law 1104 L (.int (nI 1) :: st) h := w_iconst dL_law_1103 rfl
theorem w_L_law_1104 (d : Nat) (L : a_L) (x y : Int32) (st : List Value) (h : a_H) : a_run d ML_law 1104 L (.int y :: .int x :: st) h = a_run d ML_law 1105 L (.int (x + y) :: st) h := w_iadd dL_law_1104
theorem w_L_law_1105 (d : Nat) (L : a_L) (x : Int32) (i : Nat) (st : List Value) (h : a_H) : a_run d ML_law 1105 L (.int x :: .ref i :: st) h = (a_rdi h i a_int x).bind fun v => a_run d ML_law 1106 L (v :: st) h := w_iald dL_law_1105
theorem w_L_law_1106 (d : Nat) (a1 a2 a3 a4 a5 a6 a7 : Option Value) (x : Nat) (st : List Value) (h : a_H) : a_run d ML_law 1106 [some (.ref x), a1, a2, a3, a4, a5, a6, a7] st h = a_run d ML_law 1107 [some (.ref x), a1, a2, a3, a4, a5, a6, a7] (.ref x :: st) h := w_ldAn dL_law_1106 rfl
theorem w_L_law_1107 (d : Nat) (a0 a1 a2 a3 a4 a6 a7 : Option Value) (x : Int32) (st : List Value) (h : a_H) : a_run d ML_law 1107 [a0, a1, a2, a3, a4, some (.int x), a6, a7] st h = a_run d ML_law 1109 [a0, a1, a2, a3, a4, some (.int x), a6, a7] (.int x :: st) h := w_ldI dL_law_1107 rfl
theorem w_L_law_1109 (d : Nat) (L : a_L) (st : List Value) (h : a_H) : a_run d ML_law 1109 L st h = a_run d ML_law 1110 L (.int (nI 2) :: st) h := w_iconst dL_law_1109 rfl
theorem w_L_law_1110 (d : Nat) (L : a_L) (x y : Int32) (st : List Value) (h : a_H) : a_run d ML_law 1110 L (.int y :: .int x :: st) h = a_run d ML_law 1111 L (.int (x + y) :: st) h := w_iadd dL_law_1110
theorem w_L_law_1111 (d : Nat) (L : a_L) (x : Int32) (i : Nat) (st : List Value) (h : a_H) : a_run d ML_law 1111 L (.int x :: .ref i :: st) h = (a_rdi h i a_int x).bind fun v => a_run d ML_law 1112 L (v :: st) h := w_iald dL_law_1111
theorem w_L_law_1112 (d : Nat) (L : a_L) (i : Nat) (v1 v2 : Value) (st : List Value) (h : a_H) (hk : a_kls h i = some 2) (hc : a_cat st ≤ 8) : a_run d ML_law 1112 L (v2 :: v1 :: .ref i :: st) h = a_cont d ML_law (a_bk ML_law 1112 L st (a_call d MX3_doesHear [.ref i, v1, v2] h)) := w_callV (as := [.ref i, v1, v2]) dL_law_1112 rfl rfl rfl hc (a_rcv_of hk rfl)
theorem w_L_law_1115 (d : Nat) (a0 a1 a2 a3 a4 a5 a6 a7 : Option Value) (x : Int32) (st : List Value) (h : a_H) : a_run d ML_law 1115 [a0, a1, a2, a3, a4, a5, a6, a7] (.int x :: st) h = a_run d ML_law 1117 [a0, a1, a2, a3, a4, a5, a6, some (.int x)] st h := w_stI dL_law_1115 (Nat.le_of_ble_eq_true rfl) rfl
theorem w_L_law_1117 (d : Nat) (a0 a1 a3 a4 a5 a6 a7 : Option Value) (x : Nat) (st : List Value) (h : a_H) : a_run d ML_law 1117 [a0, a1, some (.ref x), a3, a4, a5, a6, a7] st h = a_run d ML_law 1118 [a0, a1, some (.ref x), a3, a4, a5, a6, a7] (.ref x :: st) h := w_ldAn dL_law_1117 rfl
theorem w_L_law_1117N (d : Nat) (a0 a1 a3 a4 a5 a6 a7 : Option Value) (st : List Value) (h : a_H) : a_run d ML_law 1117 [a0, a1, some .null, a3, a4, a5, a6, a7] st h = a_run d ML_law 1118 [a0, a1, some .null, a3, a4, a5, a6, a7] (.null :: st) h := w_ldNn dL_law_1117 rfl
theorem w_L_law_1118 (d : Nat) (L : a_L) (i : Nat) (st : List Value) (h : a_H) (hk : a_kls h i = some 2) (hc : a_cat st ≤ 8) : a_run d ML_law 1118 L (.ref i :: st) h = a_cont d ML_law (a_bk ML_law 1118 L st (a_call d MX3_thrown [.ref i] h)) := w_callV (as := [.ref i]) dL_law_1118 rfl rfl rfl hc (a_rcv_of hk rfl)
theorem w_L_law_1121 (d : Nat) (a0 a1 a2 a3 a4 a5 a7 : Option Value) (x : Int32) (st : List Value) (h : a_H) : a_run d ML_law 1121 [a0, a1, a2, a3, a4, a5, some (.int x), a7] st h = a_run d ML_law 1123 [a0, a1, a2, a3, a4, a5, some (.int x), a7] (.int x :: st) h := w_ldI dL_law_1121 rfl
theorem w_L_law_1123 (d : Nat) (L : a_L) (x y : Int32) (st : List Value) (h : a_H) : a_run d ML_law 1123 L (.int y :: .int x :: st) h = if x = y then a_run d ML_law 1128 L st h else a_run d ML_law 1126 L st h := w_icmp_eq dL_law_1123 rfl
theorem w_L_law_1126 (d : Nat) (L : a_L) (st : List Value) (h : a_H) : a_run d ML_law 1126 L st h = a_run d ML_law 1127 L (.int (nI 0) :: st) h := w_iconst dL_law_1126 rfl
theorem w_L_law_1127 (d : Nat) (L : a_L) (x : Int32) (h : a_H) (hx : x = 0 ∨ x = 1) : a_run d ML_law 1127 L [.int x] h = some (.inl (some (.int x)), h) := w_iret dL_law_1127 (w_retZ rfl hx)
theorem w_L_law_1128 (d : Nat) (a0 a1 a2 a3 a4 a5 a7 : Option Value) (x : Int32) (st : List Value) (h : a_H) : a_run d ML_law 1128 [a0, a1, a2, a3, a4, a5, some (.int x), a7] st h = a_run d ML_law 1130 [a0, a1, a2, a3, a4, a5, some (.int x), a7] (.int x :: st) h := w_ldI dL_law_1128 rfl
theorem w_L_law_1130 (d : Nat) (L : a_L) (x : Int32) (st : List Value) (h : a_H) : a_run d ML_law 1130 L (.int x :: st) h = if x = 0 then a_run d ML_law 1133 L st h else a_run d ML_law 1152 L st h := w_if_ne dL_law_1130 rfl
theorem w_L_law_1133 (d : Nat) (a0 a1 a2 a4 a5 a6 a7 : Option Value) (x : Nat) (st : List Value) (h : a_H) : a_run d ML_law 1133 [a0, a1, a2, some (.ref x), a4, a5, a6, a7] st h = a_run d ML_law 1134 [a0, a1, a2, some (.ref x), a4, a5, a6, a7] (.ref x :: st) h := w_ldAn dL_law_1133 rfl
theorem w_L_law_1133N (d : Nat) (a0 a1 a2 a4 a5 a6 a7 : Option Value) (st : List Value) (h : a_H) : a_run d ML_law 1133 [a0, a1, a2, some .null, a4, a5, a6, a7] st h = a_run d ML_law 1134 [a0, a1, a2, some .null, a4, a5, a6, a7] (.null :: st) h := w_ldNn dL_law_1133 rfl
theorem w_L_law_1134 (d : Nat) (L : a_L) (st : List Value) (h : a_H) : a_run d ML_law 1134 L st h = a_run d ML_law 1135 L (.int (nI 0) :: st) h := w_iconst dL_law_1134 rfl
theorem w_L_law_1135 (d : Nat) (L : a_L) (x : Int32) (i : Nat) (st : List Value) (h : a_H) : a_run d ML_law 1135 L (.int x :: .ref i :: st) h = (a_rdl h i x).bind fun v => a_run d ML_law 1136 L (v :: st) h := w_lald dL_law_1135
theorem w_L_law_1136 (d : Nat) (a0 a1 a2 a3 a4 a5 a6 : Option Value) (x : Int32) (st : List Value) (h : a_H) : a_run d ML_law 1136 [a0, a1, a2, a3, a4, a5, a6, some (.int x)] st h = a_run d ML_law 1138 [a0, a1, a2, a3, a4, a5, a6, some (.int x)] (.int x :: st) h := w_ldI dL_law_1136 rfl
theorem w_L_law_1138 (d : Nat) (L : a_L) (x : Int32) (st : List Value) (h : a_H) : a_run d ML_law 1138 L (.int x :: st) h = if x = 0 then a_run d ML_law 1145 L st h else a_run d ML_law 1141 L st h := w_if_eq dL_law_1138 rfl
theorem w_L_law_1141 (d : Nat) (L : a_L) (st : List Value) (h : a_H) : a_run d ML_law 1141 L st h = a_run d ML_law 1142 L (.long (lN 1) :: st) h := (w_lconst dL_law_1141).trans rfl
theorem w_L_law_1142 (d : Nat) (L : a_L) (st : List Value) (h : a_H) : a_run d ML_law 1142 L st h = a_run d ML_law 1146 L st h := w_goto dL_law_1142 rfl
theorem w_L_law_1145 (d : Nat) (L : a_L) (st : List Value) (h : a_H) : a_run d ML_law 1145 L st h = a_run d ML_law 1146 L (.long (lN 0) :: st) h := (w_lconst dL_law_1145).trans rfl
theorem w_L_law_1146 (d : Nat) (L : a_L) (x y : Int64) (st : List Value) (h : a_H) : a_run d ML_law 1146 L (.long y :: .long x :: st) h = a_run d ML_law 1147 L (.int (lg_cmp x y) :: st) h := w_lcmp dL_law_1146
theorem w_L_law_1147 (d : Nat) (L : a_L) (x : Int32) (st : List Value) (h : a_H) : a_run d ML_law 1147 L (.int x :: st) h = if x = 0 then a_run d ML_law 1152 L st h else a_run d ML_law 1150 L st h := w_if_eq dL_law_1147 rfl
theorem w_L_law_1150 (d : Nat) (L : a_L) (st : List Value) (h : a_H) : a_run d ML_law 1150 L st h = a_run d ML_law 1151 L (.int (nI 0) :: st) h := w_iconst dL_law_1150 rfl
theorem w_L_law_1151 (d : Nat) (L : a_L) (x : Int32) (h : a_H) (hx : x = 0 ∨ x = 1) : a_run d ML_law 1151 L [.int x] h = some (.inl (some (.int x)), h) := w_iret dL_law_1151 (w_retZ rfl hx)
theorem w_L_law_1152 (d : Nat) (L : a_L) (st : List Value) (h : a_H) : a_run d ML_law 1152 L st h = a_run d ML_law 2985 L st h := w_goto dL_law_1152 rfl
theorem w_L_law_1155 (d : Nat) (a0 a2 a3 a4 a5 a6 a7 : Option Value) (x : Nat) (st : List Value) (h : a_H) : a_run d ML_law 1155 [a0, some (.ref x), a2, a3, a4, a5, a6, a7] st h = a_run d ML_law 1156 [a0, some (.ref x), a2, a3, a4, a5, a6, a7] (.ref x :: st) h := w_ldAn dL_law_1155 rfl
theorem w_L_law_1155N (d : Nat) (a0 a2 a3 a4 a5 a6 a7 : Option Value) (st : List Value) (h : a_H) : a_run d ML_law 1155 [a0, some .null, a2, a3, a4, a5, a6, a7] st h = a_run d ML_law 1156 [a0, some .null, a2, a3, a4, a5, a6, a7] (.null :: st) h := w_ldNn dL_law_1155 rfl
theorem w_L_law_1156 (d : Nat) (a1 a2 a3 a4 a5 a6 a7 : Option Value) (x : Nat) (st : List Value) (h : a_H) : a_run d ML_law 1156 [some (.ref x), a1, a2, a3, a4, a5, a6, a7] st h = a_run d ML_law 1157 [some (.ref x), a1, a2, a3, a4, a5, a6, a7] (.ref x :: st) h := w_ldAn dL_law_1156 rfl
theorem w_L_law_1157 (d : Nat) (a0 a1 a2 a3 a4 a6 a7 : Option Value) (x : Int32) (st : List Value) (h : a_H) : a_run d ML_law 1157 [a0, a1, a2, a3, a4, some (.int x), a6, a7] st h = a_run d ML_law 1159 [a0, a1, a2, a3, a4, some (.int x), a6, a7] (.int x :: st) h := w_ldI dL_law_1157 rfl
theorem w_L_law_1159 (d : Nat) (L : a_L) (st : List Value) (h : a_H) : a_run d ML_law 1159 L st h = a_run d ML_law 1160 L (.int (nI 1) :: st) h := w_iconst dL_law_1159 rfl
theorem w_L_law_1160 (d : Nat) (L : a_L) (x y : Int32) (st : List Value) (h : a_H) : a_run d ML_law 1160 L (.int y :: .int x :: st) h = a_run d ML_law 1161 L (.int (x + y) :: st) h := w_iadd dL_law_1160
theorem w_L_law_1161 (d : Nat) (L : a_L) (x : Int32) (i : Nat) (st : List Value) (h : a_H) : a_run d ML_law 1161 L (.int x :: .ref i :: st) h = (a_rdi h i a_int x).bind fun v => a_run d ML_law 1162 L (v :: st) h := w_iald dL_law_1161
theorem w_L_law_1162 (d : Nat) (a0 a1 a2 a4 a5 a6 a7 : Option Value) (x : Nat) (st : List Value) (h : a_H) : a_run d ML_law 1162 [a0, a1, a2, some (.ref x), a4, a5, a6, a7] st h = a_run d ML_law 1163 [a0, a1, a2, some (.ref x), a4, a5, a6, a7] (.ref x :: st) h := w_ldAn dL_law_1162 rfl
theorem w_L_law_1162N (d : Nat) (a0 a1 a2 a4 a5 a6 a7 : Option Value) (st : List Value) (h : a_H) : a_run d ML_law 1162 [a0, a1, a2, some .null, a4, a5, a6, a7] st h = a_run d ML_law 1163 [a0, a1, a2, some .null, a4, a5, a6, a7] (.null :: st) h := w_ldNn dL_law_1162 rfl
theorem w_L_law_1163 (d : Nat) (L : a_L) (v0 v1 v2 : Value) (st : List Value) (h : a_H) (hc : a_cat st ≤ 8) : a_run d ML_law 1163 L (v2 :: v1 :: v0 :: st) h = a_cont d ML_law (a_bk ML_law 1163 L st (a_call d MX0_hears [v0, v1, v2] h)) := w_callS (as := [v0, v1, v2]) dL_law_1163 rfl rfl rfl hc
theorem w_L_law_1166 (d : Nat) (a0 a1 a2 a3 a4 a5 a6 a7 : Option Value) (x : Int32) (st : List Value) (h : a_H) : a_run d ML_law 1166 [a0, a1, a2, a3, a4, a5, a6, a7] (.int x :: st) h = a_run d ML_law 1168 [a0, a1, a2, a3, a4, a5, some (.int x), a7] st h := w_stI dL_law_1166 (Nat.le_of_ble_eq_true rfl) rfl
theorem w_L_law_1168 (d : Nat) (a0 a1 a3 a4 a5 a6 a7 : Option Value) (x : Nat) (st : List Value) (h : a_H) : a_run d ML_law 1168 [a0, a1, some (.ref x), a3, a4, a5, a6, a7] st h = a_run d ML_law 1169 [a0, a1, some (.ref x), a3, a4, a5, a6, a7] (.ref x :: st) h := w_ldAn dL_law_1168 rfl
theorem w_L_law_1168N (d : Nat) (a0 a1 a3 a4 a5 a6 a7 : Option Value) (st : List Value) (h : a_H) : a_run d ML_law 1168 [a0, a1, some .null, a3, a4, a5, a6, a7] st h = a_run d ML_law 1169 [a0, a1, some .null, a3, a4, a5, a6, a7] (.null :: st) h := w_ldNn dL_law_1168 rfl
theorem w_L_law_1169 (d : Nat) (a1 a2 a3 a4 a5 a6 a7 : Option Value) (x : Nat) (st : List Value) (h : a_H) : a_run d ML_law 1169 [some (.ref x), a1, a2, a3, a4, a5, a6, a7] st h = a_run d ML_law 1170 [some (.ref x), a1, a2, a3, a4, a5, a6, a7] (.ref x :: st) h := w_ldAn dL_law_1169 rfl
theorem w_L_law_1170 (d : Nat) (a0 a1 a2 a3 a4 a6 a7 : Option Value) (x : Int32) (st : List Value) (h : a_H) : a_run d ML_law 1170 [a0, a1, a2, a3, a4, some (.int x), a6, a7] st h = a_run d ML_law 1172 [a0, a1, a2, a3, a4, some (.int x), a6, a7] (.int x :: st) h := w_ldI dL_law_1170 rfl
theorem w_L_law_1172 (d : Nat) (L : a_L) (st : List Value) (h : a_H) : a_run d ML_law 1172 L st h = a_run d ML_law 1173 L (.int (nI 1) :: st) h := w_iconst dL_law_1172 rfl
theorem w_L_law_1173 (d : Nat) (L : a_L) (x y : Int32) (st : List Value) (h : a_H) : a_run d ML_law 1173 L (.int y :: .int x :: st) h = a_run d ML_law 1174 L (.int (x + y) :: st) h := w_iadd dL_law_1173
theorem w_L_law_1174 (d : Nat) (L : a_L) (x : Int32) (i : Nat) (st : List Value) (h : a_H) : a_run d ML_law 1174 L (.int x :: .ref i :: st) h = (a_rdi h i a_int x).bind fun v => a_run d ML_law 1175 L (v :: st) h := w_iald dL_law_1174
theorem w_L_law_1175 (d : Nat) (L : a_L) (i : Nat) (v1 : Value) (st : List Value) (h : a_H) (hk : a_kls h i = some 2) (hc : a_cat st ≤ 8) : a_run d ML_law 1175 L (v1 :: .ref i :: st) h = a_cont d ML_law (a_bk ML_law 1175 L st (a_call d MX3_hears [.ref i, v1] h)) := w_callV (as := [.ref i, v1]) dL_law_1175 rfl rfl rfl hc (a_rcv_of hk rfl)
theorem w_L_law_1178 (d : Nat) (a0 a1 a2 a3 a4 a5 a6 a7 : Option Value) (x : Int32) (st : List Value) (h : a_H) : a_run d ML_law 1178 [a0, a1, a2, a3, a4, a5, a6, a7] (.int x :: st) h = a_run d ML_law 1180 [a0, a1, a2, a3, a4, a5, a6, some (.int x)] st h := w_stI dL_law_1178 (Nat.le_of_ble_eq_true rfl) rfl
theorem w_L_law_1180 (d : Nat) (a0 a1 a3 a4 a5 a6 a7 : Option Value) (x : Nat) (st : List Value) (h : a_H) : a_run d ML_law 1180 [a0, a1, some (.ref x), a3, a4, a5, a6, a7] st h = a_run d ML_law 1181 [a0, a1, some (.ref x), a3, a4, a5, a6, a7] (.ref x :: st) h := w_ldAn dL_law_1180 rfl
theorem w_L_law_1180N (d : Nat) (a0 a1 a3 a4 a5 a6 a7 : Option Value) (st : List Value) (h : a_H) : a_run d ML_law 1180 [a0, a1, some .null, a3, a4, a5, a6, a7] st h = a_run d ML_law 1181 [a0, a1, some .null, a3, a4, a5, a6, a7] (.null :: st) h := w_ldNn dL_law_1180 rfl
theorem w_L_law_1181 (d : Nat) (L : a_L) (i : Nat) (st : List Value) (h : a_H) (hk : a_kls h i = some 2) (hc : a_cat st ≤ 8) : a_run d ML_law 1181 L (.ref i :: st) h = a_cont d ML_law (a_bk ML_law 1181 L st (a_call d MX3_thrown [.ref i] h)) := w_callV (as := [.ref i]) dL_law_1181 rfl rfl rfl hc (a_rcv_of hk rfl)
theorem w_L_law_1184 (d : Nat) (a0 a1 a2 a3 a4 a5 a7 : Option Value) (x : Int32) (st : List Value) (h : a_H) : a_run d ML_law 1184 [a0, a1, a2, a3, a4, a5, some (.int x), a7] st h = a_run d ML_law 1186 [a0, a1, a2, a3, a4, a5, some (.int x), a7] (.int x :: st) h := w_ldI dL_law_1184 rfl
theorem w_L_law_1186 (d : Nat) (L : a_L) (x y : Int32) (st : List Value) (h : a_H) : a_run d ML_law 1186 L (.int y :: .int x :: st) h = if x = y then a_run d ML_law 1191 L st h else a_run d ML_law 1189 L st h := w_icmp_eq dL_law_1186 rfl
theorem w_L_law_1189 (d : Nat) (L : a_L) (st : List Value) (h : a_H) : a_run d ML_law 1189 L st h = a_run d ML_law 1190 L (.int (nI 0) :: st) h := w_iconst dL_law_1189 rfl
theorem w_L_law_1190 (d : Nat) (L : a_L) (x : Int32) (h : a_H) (hx : x = 0 ∨ x = 1) : a_run d ML_law 1190 L [.int x] h = some (.inl (some (.int x)), h) := w_iret dL_law_1190 (w_retZ rfl hx)
theorem w_L_law_1191 (d : Nat) (a0 a1 a2 a3 a4 a5 a7 : Option Value) (x : Int32) (st : List Value) (h : a_H) : a_run d ML_law 1191 [a0, a1, a2, a3, a4, a5, some (.int x), a7] st h = a_run d ML_law 1193 [a0, a1, a2, a3, a4, a5, some (.int x), a7] (.int x :: st) h := w_ldI dL_law_1191 rfl
theorem w_L_law_1193 (d : Nat) (L : a_L) (x : Int32) (st : List Value) (h : a_H) : a_run d ML_law 1193 L (.int x :: st) h = if x = 0 then a_run d ML_law 1196 L st h else a_run d ML_law 1208 L st h := w_if_ne dL_law_1193 rfl
theorem w_L_law_1196 (d : Nat) (a0 a1 a2 a4 a5 a6 a7 : Option Value) (x : Nat) (st : List Value) (h : a_H) : a_run d ML_law 1196 [a0, a1, a2, some (.ref x), a4, a5, a6, a7] st h = a_run d ML_law 1197 [a0, a1, a2, some (.ref x), a4, a5, a6, a7] (.ref x :: st) h := w_ldAn dL_law_1196 rfl
theorem w_L_law_1196N (d : Nat) (a0 a1 a2 a4 a5 a6 a7 : Option Value) (st : List Value) (h : a_H) : a_run d ML_law 1196 [a0, a1, a2, some .null, a4, a5, a6, a7] st h = a_run d ML_law 1197 [a0, a1, a2, some .null, a4, a5, a6, a7] (.null :: st) h := w_ldNn dL_law_1196 rfl
theorem w_L_law_1197 (d : Nat) (L : a_L) (st : List Value) (h : a_H) : a_run d ML_law 1197 L st h = a_run d ML_law 1198 L (.int (nI 0) :: st) h := w_iconst dL_law_1197 rfl
theorem w_L_law_1198 (d : Nat) (L : a_L) (x : Int32) (i : Nat) (st : List Value) (h : a_H) : a_run d ML_law 1198 L (.int x :: .ref i :: st) h = (a_rdl h i x).bind fun v => a_run d ML_law 1199 L (v :: st) h := w_lald dL_law_1198
theorem w_L_law_1199 (d : Nat) (a0 a1 a2 a3 a4 a5 a6 : Option Value) (x : Int32) (st : List Value) (h : a_H) : a_run d ML_law 1199 [a0, a1, a2, a3, a4, a5, a6, some (.int x)] st h = a_run d ML_law 1201 [a0, a1, a2, a3, a4, a5, a6, some (.int x)] (.int x :: st) h := w_ldI dL_law_1199 rfl
theorem w_L_law_1201 (d : Nat) (L : a_L) (x : Int32) (st : List Value) (h : a_H) : a_run d ML_law 1201 L (.int x :: st) h = a_run d ML_law 1202 L (.long x.toInt64 :: st) h := w_i2l dL_law_1201
theorem w_L_law_1202 (d : Nat) (L : a_L) (x y : Int64) (st : List Value) (h : a_H) : a_run d ML_law 1202 L (.long y :: .long x :: st) h = a_run d ML_law 1203 L (.int (lg_cmp x y) :: st) h := w_lcmp dL_law_1202
theorem w_L_law_1203 (d : Nat) (L : a_L) (x : Int32) (st : List Value) (h : a_H) : a_run d ML_law 1203 L (.int x :: st) h = if x = 0 then a_run d ML_law 1208 L st h else a_run d ML_law 1206 L st h := w_if_eq dL_law_1203 rfl
theorem w_L_law_1206 (d : Nat) (L : a_L) (st : List Value) (h : a_H) : a_run d ML_law 1206 L st h = a_run d ML_law 1207 L (.int (nI 0) :: st) h := w_iconst dL_law_1206 rfl
theorem w_L_law_1207 (d : Nat) (L : a_L) (x : Int32) (h : a_H) (hx : x = 0 ∨ x = 1) : a_run d ML_law 1207 L [.int x] h = some (.inl (some (.int x)), h) := w_iret dL_law_1207 (w_retZ rfl hx)
theorem w_L_law_1208 (d : Nat) (L : a_L) (st : List Value) (h : a_H) : a_run d ML_law 1208 L st h = a_run d ML_law 2985 L st h := w_goto dL_law_1208 rfl
theorem w_L_law_1211 (d : Nat) (a0 a2 a3 a4 a5 a6 a7 : Option Value) (x : Nat) (st : List Value) (h : a_H) : a_run d ML_law 1211 [a0, some (.ref x), a2, a3, a4, a5, a6, a7] st h = a_run d ML_law 1212 [a0, some (.ref x), a2, a3, a4, a5, a6, a7] (.ref x :: st) h := w_ldAn dL_law_1211 rfl
theorem w_L_law_1211N (d : Nat) (a0 a2 a3 a4 a5 a6 a7 : Option Value) (st : List Value) (h : a_H) : a_run d ML_law 1211 [a0, some .null, a2, a3, a4, a5, a6, a7] st h = a_run d ML_law 1212 [a0, some .null, a2, a3, a4, a5, a6, a7] (.null :: st) h := w_ldNn dL_law_1211 rfl
theorem w_L_law_1212 (d : Nat) (a1 a2 a3 a4 a5 a6 a7 : Option Value) (x : Nat) (st : List Value) (h : a_H) : a_run d ML_law 1212 [some (.ref x), a1, a2, a3, a4, a5, a6, a7] st h = a_run d ML_law 1213 [some (.ref x), a1, a2, a3, a4, a5, a6, a7] (.ref x :: st) h := w_ldAn dL_law_1212 rfl
theorem w_L_law_1213 (d : Nat) (a0 a1 a2 a3 a4 a6 a7 : Option Value) (x : Int32) (st : List Value) (h : a_H) : a_run d ML_law 1213 [a0, a1, a2, a3, a4, some (.int x), a6, a7] st h = a_run d ML_law 1215 [a0, a1, a2, a3, a4, some (.int x), a6, a7] (.int x :: st) h := w_ldI dL_law_1213 rfl
theorem w_L_law_1215 (d : Nat) (L : a_L) (st : List Value) (h : a_H) : a_run d ML_law 1215 L st h = a_run d ML_law 1216 L (.int (nI 1) :: st) h := w_iconst dL_law_1215 rfl
theorem w_L_law_1216 (d : Nat) (L : a_L) (x y : Int32) (st : List Value) (h : a_H) : a_run d ML_law 1216 L (.int y :: .int x :: st) h = a_run d ML_law 1217 L (.int (x + y) :: st) h := w_iadd dL_law_1216
theorem w_L_law_1217 (d : Nat) (L : a_L) (x : Int32) (i : Nat) (st : List Value) (h : a_H) : a_run d ML_law 1217 L (.int x :: .ref i :: st) h = (a_rdi h i a_int x).bind fun v => a_run d ML_law 1218 L (v :: st) h := w_iald dL_law_1217
theorem w_L_law_1218 (d : Nat) (a0 a1 a2 a4 a5 a6 a7 : Option Value) (x : Nat) (st : List Value) (h : a_H) : a_run d ML_law 1218 [a0, a1, a2, some (.ref x), a4, a5, a6, a7] st h = a_run d ML_law 1219 [a0, a1, a2, some (.ref x), a4, a5, a6, a7] (.ref x :: st) h := w_ldAn dL_law_1218 rfl
theorem w_L_law_1218N (d : Nat) (a0 a1 a2 a4 a5 a6 a7 : Option Value) (st : List Value) (h : a_H) : a_run d ML_law 1218 [a0, a1, a2, some .null, a4, a5, a6, a7] st h = a_run d ML_law 1219 [a0, a1, a2, some .null, a4, a5, a6, a7] (.null :: st) h := w_ldNn dL_law_1218 rfl
theorem w_L_law_1219 (d : Nat) (L : a_L) (v0 v1 v2 : Value) (st : List Value) (h : a_H) (hc : a_cat st ≤ 8) : a_run d ML_law 1219 L (v2 :: v1 :: v0 :: st) h = a_cont d ML_law (a_bk ML_law 1219 L st (a_call d MX0_isNeedless [v0, v1, v2] h)) := w_callS (as := [v0, v1, v2]) dL_law_1219 rfl rfl rfl hc
theorem w_L_law_1222 (d : Nat) (a0 a1 a2 a3 a4 a5 a6 a7 : Option Value) (x : Int32) (st : List Value) (h : a_H) : a_run d ML_law 1222 [a0, a1, a2, a3, a4, a5, a6, a7] (.int x :: st) h = a_run d ML_law 1224 [a0, a1, a2, a3, a4, a5, some (.int x), a7] st h := w_stI dL_law_1222 (Nat.le_of_ble_eq_true rfl) rfl
theorem w_L_law_1224 (d : Nat) (a0 a1 a3 a4 a5 a6 a7 : Option Value) (x : Nat) (st : List Value) (h : a_H) : a_run d ML_law 1224 [a0, a1, some (.ref x), a3, a4, a5, a6, a7] st h = a_run d ML_law 1225 [a0, a1, some (.ref x), a3, a4, a5, a6, a7] (.ref x :: st) h := w_ldAn dL_law_1224 rfl
theorem w_L_law_1224N (d : Nat) (a0 a1 a3 a4 a5 a6 a7 : Option Value) (st : List Value) (h : a_H) : a_run d ML_law 1224 [a0, a1, some .null, a3, a4, a5, a6, a7] st h = a_run d ML_law 1225 [a0, a1, some .null, a3, a4, a5, a6, a7] (.null :: st) h := w_ldNn dL_law_1224 rfl
theorem w_L_law_1225 (d : Nat) (a1 a2 a3 a4 a5 a6 a7 : Option Value) (x : Nat) (st : List Value) (h : a_H) : a_run d ML_law 1225 [some (.ref x), a1, a2, a3, a4, a5, a6, a7] st h = a_run d ML_law 1226 [some (.ref x), a1, a2, a3, a4, a5, a6, a7] (.ref x :: st) h := w_ldAn dL_law_1225 rfl
theorem w_L_law_1226 (d : Nat) (a0 a1 a2 a3 a4 a6 a7 : Option Value) (x : Int32) (st : List Value) (h : a_H) : a_run d ML_law 1226 [a0, a1, a2, a3, a4, some (.int x), a6, a7] st h = a_run d ML_law 1228 [a0, a1, a2, a3, a4, some (.int x), a6, a7] (.int x :: st) h := w_ldI dL_law_1226 rfl
theorem w_L_law_1228 (d : Nat) (L : a_L) (st : List Value) (h : a_H) : a_run d ML_law 1228 L st h = a_run d ML_law 1229 L (.int (nI 1) :: st) h := w_iconst dL_law_1228 rfl
theorem w_L_law_1229 (d : Nat) (L : a_L) (x y : Int32) (st : List Value) (h : a_H) : a_run d ML_law 1229 L (.int y :: .int x :: st) h = a_run d ML_law 1230 L (.int (x + y) :: st) h := w_iadd dL_law_1229
theorem w_L_law_1230 (d : Nat) (L : a_L) (x : Int32) (i : Nat) (st : List Value) (h : a_H) : a_run d ML_law 1230 L (.int x :: .ref i :: st) h = (a_rdi h i a_int x).bind fun v => a_run d ML_law 1231 L (v :: st) h := w_iald dL_law_1230
theorem w_L_law_1231 (d : Nat) (L : a_L) (i : Nat) (v1 : Value) (st : List Value) (h : a_H) (hk : a_kls h i = some 2) (hc : a_cat st ≤ 8) : a_run d ML_law 1231 L (v1 :: .ref i :: st) h = a_cont d ML_law (a_bk ML_law 1231 L st (a_call d MX3_isNeedless [.ref i, v1] h)) := w_callV (as := [.ref i, v1]) dL_law_1231 rfl rfl rfl hc (a_rcv_of hk rfl)
theorem w_L_law_1234 (d : Nat) (a0 a1 a2 a3 a4 a5 a6 a7 : Option Value) (x : Int32) (st : List Value) (h : a_H) : a_run d ML_law 1234 [a0, a1, a2, a3, a4, a5, a6, a7] (.int x :: st) h = a_run d ML_law 1236 [a0, a1, a2, a3, a4, a5, a6, some (.int x)] st h := w_stI dL_law_1234 (Nat.le_of_ble_eq_true rfl) rfl
theorem w_L_law_1236 (d : Nat) (a0 a1 a3 a4 a5 a6 a7 : Option Value) (x : Nat) (st : List Value) (h : a_H) : a_run d ML_law 1236 [a0, a1, some (.ref x), a3, a4, a5, a6, a7] st h = a_run d ML_law 1237 [a0, a1, some (.ref x), a3, a4, a5, a6, a7] (.ref x :: st) h := w_ldAn dL_law_1236 rfl
theorem w_L_law_1236N (d : Nat) (a0 a1 a3 a4 a5 a6 a7 : Option Value) (st : List Value) (h : a_H) : a_run d ML_law 1236 [a0, a1, some .null, a3, a4, a5, a6, a7] st h = a_run d ML_law 1237 [a0, a1, some .null, a3, a4, a5, a6, a7] (.null :: st) h := w_ldNn dL_law_1236 rfl
theorem w_L_law_1237 (d : Nat) (L : a_L) (i : Nat) (st : List Value) (h : a_H) (hk : a_kls h i = some 2) (hc : a_cat st ≤ 8) : a_run d ML_law 1237 L (.ref i :: st) h = a_cont d ML_law (a_bk ML_law 1237 L st (a_call d MX3_thrown [.ref i] h)) := w_callV (as := [.ref i]) dL_law_1237 rfl rfl rfl hc (a_rcv_of hk rfl)
theorem w_L_law_1240 (d : Nat) (a0 a1 a2 a3 a4 a5 a7 : Option Value) (x : Int32) (st : List Value) (h : a_H) : a_run d ML_law 1240 [a0, a1, a2, a3, a4, a5, some (.int x), a7] st h = a_run d ML_law 1242 [a0, a1, a2, a3, a4, a5, some (.int x), a7] (.int x :: st) h := w_ldI dL_law_1240 rfl
theorem w_L_law_1242 (d : Nat) (L : a_L) (x y : Int32) (st : List Value) (h : a_H) : a_run d ML_law 1242 L (.int y :: .int x :: st) h = if x = y then a_run d ML_law 1247 L st h else a_run d ML_law 1245 L st h := w_icmp_eq dL_law_1242 rfl
theorem w_L_law_1245 (d : Nat) (L : a_L) (st : List Value) (h : a_H) : a_run d ML_law 1245 L st h = a_run d ML_law 1246 L (.int (nI 0) :: st) h := w_iconst dL_law_1245 rfl
theorem w_L_law_1246 (d : Nat) (L : a_L) (x : Int32) (h : a_H) (hx : x = 0 ∨ x = 1) : a_run d ML_law 1246 L [.int x] h = some (.inl (some (.int x)), h) := w_iret dL_law_1246 (w_retZ rfl hx)
theorem w_L_law_1247 (d : Nat) (a0 a1 a2 a3 a4 a5 a7 : Option Value) (x : Int32) (st : List Value) (h : a_H) : a_run d ML_law 1247 [a0, a1, a2, a3, a4, a5, some (.int x), a7] st h = a_run d ML_law 1249 [a0, a1, a2, a3, a4, a5, some (.int x), a7] (.int x :: st) h := w_ldI dL_law_1247 rfl
theorem w_L_law_1249 (d : Nat) (L : a_L) (x : Int32) (st : List Value) (h : a_H) : a_run d ML_law 1249 L (.int x :: st) h = if x = 0 then a_run d ML_law 1252 L st h else a_run d ML_law 1271 L st h := w_if_ne dL_law_1249 rfl
theorem w_L_law_1252 (d : Nat) (a0 a1 a2 a4 a5 a6 a7 : Option Value) (x : Nat) (st : List Value) (h : a_H) : a_run d ML_law 1252 [a0, a1, a2, some (.ref x), a4, a5, a6, a7] st h = a_run d ML_law 1253 [a0, a1, a2, some (.ref x), a4, a5, a6, a7] (.ref x :: st) h := w_ldAn dL_law_1252 rfl
theorem w_L_law_1252N (d : Nat) (a0 a1 a2 a4 a5 a6 a7 : Option Value) (st : List Value) (h : a_H) : a_run d ML_law 1252 [a0, a1, a2, some .null, a4, a5, a6, a7] st h = a_run d ML_law 1253 [a0, a1, a2, some .null, a4, a5, a6, a7] (.null :: st) h := w_ldNn dL_law_1252 rfl
theorem w_L_law_1253 (d : Nat) (L : a_L) (st : List Value) (h : a_H) : a_run d ML_law 1253 L st h = a_run d ML_law 1254 L (.int (nI 0) :: st) h := w_iconst dL_law_1253 rfl
theorem w_L_law_1254 (d : Nat) (L : a_L) (x : Int32) (i : Nat) (st : List Value) (h : a_H) : a_run d ML_law 1254 L (.int x :: .ref i :: st) h = (a_rdl h i x).bind fun v => a_run d ML_law 1255 L (v :: st) h := w_lald dL_law_1254
theorem w_L_law_1255 (d : Nat) (a0 a1 a2 a3 a4 a5 a6 : Option Value) (x : Int32) (st : List Value) (h : a_H) : a_run d ML_law 1255 [a0, a1, a2, a3, a4, a5, a6, some (.int x)] st h = a_run d ML_law 1257 [a0, a1, a2, a3, a4, a5, a6, some (.int x)] (.int x :: st) h := w_ldI dL_law_1255 rfl
theorem w_L_law_1257 (d : Nat) (L : a_L) (x : Int32) (st : List Value) (h : a_H) : a_run d ML_law 1257 L (.int x :: st) h = if x = 0 then a_run d ML_law 1264 L st h else a_run d ML_law 1260 L st h := w_if_eq dL_law_1257 rfl
theorem w_L_law_1260 (d : Nat) (L : a_L) (st : List Value) (h : a_H) : a_run d ML_law 1260 L st h = a_run d ML_law 1261 L (.long (lN 1) :: st) h := (w_lconst dL_law_1260).trans rfl
theorem w_L_law_1261 (d : Nat) (L : a_L) (st : List Value) (h : a_H) : a_run d ML_law 1261 L st h = a_run d ML_law 1265 L st h := w_goto dL_law_1261 rfl
theorem w_L_law_1264 (d : Nat) (L : a_L) (st : List Value) (h : a_H) : a_run d ML_law 1264 L st h = a_run d ML_law 1265 L (.long (lN 0) :: st) h := (w_lconst dL_law_1264).trans rfl
theorem w_L_law_1265 (d : Nat) (L : a_L) (x y : Int64) (st : List Value) (h : a_H) : a_run d ML_law 1265 L (.long y :: .long x :: st) h = a_run d ML_law 1266 L (.int (lg_cmp x y) :: st) h := w_lcmp dL_law_1265
theorem w_L_law_1266 (d : Nat) (L : a_L) (x : Int32) (st : List Value) (h : a_H) : a_run d ML_law 1266 L (.int x :: st) h = if x = 0 then a_run d ML_law 1271 L st h else a_run d ML_law 1269 L st h := w_if_eq dL_law_1266 rfl
theorem w_L_law_1269 (d : Nat) (L : a_L) (st : List Value) (h : a_H) : a_run d ML_law 1269 L st h = a_run d ML_law 1270 L (.int (nI 0) :: st) h := w_iconst dL_law_1269 rfl
theorem w_L_law_1270 (d : Nat) (L : a_L) (x : Int32) (h : a_H) (hx : x = 0 ∨ x = 1) : a_run d ML_law 1270 L [.int x] h = some (.inl (some (.int x)), h) := w_iret dL_law_1270 (w_retZ rfl hx)
theorem w_L_law_1271 (d : Nat) (L : a_L) (st : List Value) (h : a_H) : a_run d ML_law 1271 L st h = a_run d ML_law 2985 L st h := w_goto dL_law_1271 rfl
theorem w_L_law_1274 (d : Nat) (a0 a2 a3 a4 a5 a6 a7 : Option Value) (x : Nat) (st : List Value) (h : a_H) : a_run d ML_law 1274 [a0, some (.ref x), a2, a3, a4, a5, a6, a7] st h = a_run d ML_law 1275 [a0, some (.ref x), a2, a3, a4, a5, a6, a7] (.ref x :: st) h := w_ldAn dL_law_1274 rfl
theorem w_L_law_1274N (d : Nat) (a0 a2 a3 a4 a5 a6 a7 : Option Value) (st : List Value) (h : a_H) : a_run d ML_law 1274 [a0, some .null, a2, a3, a4, a5, a6, a7] st h = a_run d ML_law 1275 [a0, some .null, a2, a3, a4, a5, a6, a7] (.null :: st) h := w_ldNn dL_law_1274 rfl
theorem w_L_law_1275 (d : Nat) (L : a_L) (i : Nat) (st : List Value) (h : a_H) (hk : a_kls h i = some 0) (hc : a_cat st ≤ 8) : a_run d ML_law 1275 L (.ref i :: st) h = a_cont d ML_law (a_bk ML_law 1275 L st (a_call d MX1_needless [.ref i] h)) := w_callV (as := [.ref i]) dL_law_1275 rfl rfl rfl hc (a_rcv_of hk rfl)
theorem w_L_law_1278 (d : Nat) (a0 a1 a3 a4 a5 a6 a7 : Option Value) (x : Nat) (st : List Value) (h : a_H) : a_run d ML_law 1278 [a0, a1, some (.ref x), a3, a4, a5, a6, a7] st h = a_run d ML_law 1279 [a0, a1, some (.ref x), a3, a4, a5, a6, a7] (.ref x :: st) h := w_ldAn dL_law_1278 rfl
theorem w_L_law_1278N (d : Nat) (a0 a1 a3 a4 a5 a6 a7 : Option Value) (st : List Value) (h : a_H) : a_run d ML_law 1278 [a0, a1, some .null, a3, a4, a5, a6, a7] st h = a_run d ML_law 1279 [a0, a1, some .null, a3, a4, a5, a6, a7] (.null :: st) h := w_ldNn dL_law_1278 rfl
theorem w_L_law_1279 (d : Nat) (L : a_L) (i : Nat) (st : List Value) (h : a_H) (hk : a_kls h i = some 2) (hc : a_cat st ≤ 8) : a_run d ML_law 1279 L (.ref i :: st) h = a_cont d ML_law (a_bk ML_law 1279 L st (a_call d MX3_needless [.ref i] h)) := w_callV (as := [.ref i]) dL_law_1279 rfl rfl rfl hc (a_rcv_of hk rfl)
theorem w_L_law_1282 (d : Nat) (L : a_L) (x y : Int32) (st : List Value) (h : a_H) : a_run d ML_law 1282 L (.int y :: .int x :: st) h = if x = y then a_run d ML_law 2985 L st h else a_run d ML_law 1285 L st h := w_icmp_eq dL_law_1282 rfl
theorem w_L_law_1285 (d : Nat) (L : a_L) (st : List Value) (h : a_H) : a_run d ML_law 1285 L st h = a_run d ML_law 1286 L (.int (nI 0) :: st) h := w_iconst dL_law_1285 rfl
theorem w_L_law_1286 (d : Nat) (L : a_L) (x : Int32) (h : a_H) (hx : x = 0 ∨ x = 1) : a_run d ML_law 1286 L [.int x] h = some (.inl (some (.int x)), h) := w_iret dL_law_1286 (w_retZ rfl hx)
theorem w_L_law_1287 (d : Nat) (a0 a2 a3 a4 a5 a6 a7 : Option Value) (x : Nat) (st : List Value) (h : a_H) : a_run d ML_law 1287 [a0, some (.ref x), a2, a3, a4, a5, a6, a7] st h = a_run d ML_law 1288 [a0, some (.ref x), a2, a3, a4, a5, a6, a7] (.ref x :: st) h := w_ldAn dL_law_1287 rfl
theorem w_L_law_1287N (d : Nat) (a0 a2 a3 a4 a5 a6 a7 : Option Value) (st : List Value) (h : a_H) : a_run d ML_law 1287 [a0, some .null, a2, a3, a4, a5, a6, a7] st h = a_run d ML_law 1288 [a0, some .null, a2, a3, a4, a5, a6, a7] (.null :: st) h := w_ldNn dL_law_1287 rfl
theorem w_L_law_1288 (d : Nat) (a1 a2 a3 a4 a5 a6 a7 : Option Value) (x : Nat) (st : List Value) (h : a_H) : a_run d ML_law 1288 [some (.ref x), a1, a2, a3, a4, a5, a6, a7] st h = a_run d ML_law 1289 [some (.ref x), a1, a2, a3, a4, a5, a6, a7] (.ref x :: st) h := w_ldAn dL_law_1288 rfl
theorem w_L_law_1289 (d : Nat) (a0 a1 a2 a3 a4 a6 a7 : Option Value) (x : Int32) (st : List Value) (h : a_H) : a_run d ML_law 1289 [a0, a1, a2, a3, a4, some (.int x), a6, a7] st h = a_run d ML_law 1291 [a0, a1, a2, a3, a4, some (.int x), a6, a7] (.int x :: st) h := w_ldI dL_law_1289 rfl
theorem w_L_law_1291 (d : Nat) (L : a_L) (st : List Value) (h : a_H) : a_run d ML_law 1291 L st h = a_run d ML_law 1292 L (.int (nI 1) :: st) h := w_iconst dL_law_1291 rfl
theorem w_L_law_1292 (d : Nat) (L : a_L) (x y : Int32) (st : List Value) (h : a_H) : a_run d ML_law 1292 L (.int y :: .int x :: st) h = a_run d ML_law 1293 L (.int (x + y) :: st) h := w_iadd dL_law_1292
theorem w_L_law_1293 (d : Nat) (L : a_L) (x : Int32) (i : Nat) (st : List Value) (h : a_H) : a_run d ML_law 1293 L (.int x :: .ref i :: st) h = (a_rdi h i a_int x).bind fun v => a_run d ML_law 1294 L (v :: st) h := w_iald dL_law_1293
theorem w_L_law_1294 (d : Nat) (a1 a2 a3 a4 a5 a6 a7 : Option Value) (x : Nat) (st : List Value) (h : a_H) : a_run d ML_law 1294 [some (.ref x), a1, a2, a3, a4, a5, a6, a7] st h = a_run d ML_law 1295 [some (.ref x), a1, a2, a3, a4, a5, a6, a7] (.ref x :: st) h := w_ldAn dL_law_1294 rfl
theorem w_L_law_1295 (d : Nat) (a0 a1 a2 a3 a4 a6 a7 : Option Value) (x : Int32) (st : List Value) (h : a_H) : a_run d ML_law 1295 [a0, a1, a2, a3, a4, some (.int x), a6, a7] st h = a_run d ML_law 1297 [a0, a1, a2, a3, a4, some (.int x), a6, a7] (.int x :: st) h := w_ldI dL_law_1295 rfl
theorem w_L_law_1297 (d : Nat) (L : a_L) (st : List Value) (h : a_H) : a_run d ML_law 1297 L st h = a_run d ML_law 1298 L (.int (nI 2) :: st) h := w_iconst dL_law_1297 rfl
theorem w_L_law_1298 (d : Nat) (L : a_L) (x y : Int32) (st : List Value) (h : a_H) : a_run d ML_law 1298 L (.int y :: .int x :: st) h = a_run d ML_law 1299 L (.int (x + y) :: st) h := w_iadd dL_law_1298
theorem w_L_law_1299 (d : Nat) (L : a_L) (x : Int32) (i : Nat) (st : List Value) (h : a_H) : a_run d ML_law 1299 L (.int x :: .ref i :: st) h = (a_rdi h i a_int x).bind fun v => a_run d ML_law 1300 L (v :: st) h := w_iald dL_law_1299
theorem w_L_law_1300 (d : Nat) (a0 a1 a2 a4 a5 a6 a7 : Option Value) (x : Nat) (st : List Value) (h : a_H) : a_run d ML_law 1300 [a0, a1, a2, some (.ref x), a4, a5, a6, a7] st h = a_run d ML_law 1301 [a0, a1, a2, some (.ref x), a4, a5, a6, a7] (.ref x :: st) h := w_ldAn dL_law_1300 rfl
theorem w_L_law_1300N (d : Nat) (a0 a1 a2 a4 a5 a6 a7 : Option Value) (st : List Value) (h : a_H) : a_run d ML_law 1300 [a0, a1, a2, some .null, a4, a5, a6, a7] st h = a_run d ML_law 1301 [a0, a1, a2, some .null, a4, a5, a6, a7] (.null :: st) h := w_ldNn dL_law_1300 rfl
theorem w_L_law_1301 (d : Nat) (L : a_L) (v0 v1 v2 v3 : Value) (st : List Value) (h : a_H) (hc : a_cat st ≤ 8) : a_run d ML_law 1301 L (v3 :: v2 :: v1 :: v0 :: st) h = a_cont d ML_law (a_bk ML_law 1301 L st (a_call d MX0_ways [v0, v1, v2, v3] h)) := w_callS (as := [v0, v1, v2, v3]) dL_law_1301 rfl rfl rfl hc
theorem w_L_law_1304 (d : Nat) (a0 a1 a2 a3 a4 a5 a6 a7 : Option Value) (x : Int32) (st : List Value) (h : a_H) : a_run d ML_law 1304 [a0, a1, a2, a3, a4, a5, a6, a7] (.int x :: st) h = a_run d ML_law 1306 [a0, a1, a2, a3, a4, a5, some (.int x), a7] st h := w_stI dL_law_1304 (Nat.le_of_ble_eq_true rfl) rfl
theorem w_L_law_1306 (d : Nat) (a0 a1 a3 a4 a5 a6 a7 : Option Value) (x : Nat) (st : List Value) (h : a_H) : a_run d ML_law 1306 [a0, a1, some (.ref x), a3, a4, a5, a6, a7] st h = a_run d ML_law 1307 [a0, a1, some (.ref x), a3, a4, a5, a6, a7] (.ref x :: st) h := w_ldAn dL_law_1306 rfl
theorem w_L_law_1306N (d : Nat) (a0 a1 a3 a4 a5 a6 a7 : Option Value) (st : List Value) (h : a_H) : a_run d ML_law 1306 [a0, a1, some .null, a3, a4, a5, a6, a7] st h = a_run d ML_law 1307 [a0, a1, some .null, a3, a4, a5, a6, a7] (.null :: st) h := w_ldNn dL_law_1306 rfl
theorem w_L_law_1307 (d : Nat) (a1 a2 a3 a4 a5 a6 a7 : Option Value) (x : Nat) (st : List Value) (h : a_H) : a_run d ML_law 1307 [some (.ref x), a1, a2, a3, a4, a5, a6, a7] st h = a_run d ML_law 1308 [some (.ref x), a1, a2, a3, a4, a5, a6, a7] (.ref x :: st) h := w_ldAn dL_law_1307 rfl
theorem w_L_law_1308 (d : Nat) (a0 a1 a2 a3 a4 a6 a7 : Option Value) (x : Int32) (st : List Value) (h : a_H) : a_run d ML_law 1308 [a0, a1, a2, a3, a4, some (.int x), a6, a7] st h = a_run d ML_law 1310 [a0, a1, a2, a3, a4, some (.int x), a6, a7] (.int x :: st) h := w_ldI dL_law_1308 rfl
theorem w_L_law_1310 (d : Nat) (L : a_L) (st : List Value) (h : a_H) : a_run d ML_law 1310 L st h = a_run d ML_law 1311 L (.int (nI 1) :: st) h := w_iconst dL_law_1310 rfl
theorem w_L_law_1311 (d : Nat) (L : a_L) (x y : Int32) (st : List Value) (h : a_H) : a_run d ML_law 1311 L (.int y :: .int x :: st) h = a_run d ML_law 1312 L (.int (x + y) :: st) h := w_iadd dL_law_1311
theorem w_L_law_1312 (d : Nat) (L : a_L) (x : Int32) (i : Nat) (st : List Value) (h : a_H) : a_run d ML_law 1312 L (.int x :: .ref i :: st) h = (a_rdi h i a_int x).bind fun v => a_run d ML_law 1313 L (v :: st) h := w_iald dL_law_1312
theorem w_L_law_1313 (d : Nat) (a1 a2 a3 a4 a5 a6 a7 : Option Value) (x : Nat) (st : List Value) (h : a_H) : a_run d ML_law 1313 [some (.ref x), a1, a2, a3, a4, a5, a6, a7] st h = a_run d ML_law 1314 [some (.ref x), a1, a2, a3, a4, a5, a6, a7] (.ref x :: st) h := w_ldAn dL_law_1313 rfl
theorem w_L_law_1314 (d : Nat) (a0 a1 a2 a3 a4 a6 a7 : Option Value) (x : Int32) (st : List Value) (h : a_H) : a_run d ML_law 1314 [a0, a1, a2, a3, a4, some (.int x), a6, a7] st h = a_run d ML_law 1316 [a0, a1, a2, a3, a4, some (.int x), a6, a7] (.int x :: st) h := w_ldI dL_law_1314 rfl
theorem w_L_law_1316 (d : Nat) (L : a_L) (st : List Value) (h : a_H) : a_run d ML_law 1316 L st h = a_run d ML_law 1317 L (.int (nI 2) :: st) h := w_iconst dL_law_1316 rfl
theorem w_L_law_1317 (d : Nat) (L : a_L) (x y : Int32) (st : List Value) (h : a_H) : a_run d ML_law 1317 L (.int y :: .int x :: st) h = a_run d ML_law 1318 L (.int (x + y) :: st) h := w_iadd dL_law_1317
theorem w_L_law_1318 (d : Nat) (L : a_L) (x : Int32) (i : Nat) (st : List Value) (h : a_H) : a_run d ML_law 1318 L (.int x :: .ref i :: st) h = (a_rdi h i a_int x).bind fun v => a_run d ML_law 1319 L (v :: st) h := w_iald dL_law_1318
theorem w_L_law_1319 (d : Nat) (L : a_L) (i : Nat) (v1 v2 : Value) (st : List Value) (h : a_H) (hk : a_kls h i = some 2) (hc : a_cat st ≤ 8) : a_run d ML_law 1319 L (v2 :: v1 :: .ref i :: st) h = a_cont d ML_law (a_bk ML_law 1319 L st (a_call d MX3_ways [.ref i, v1, v2] h)) := w_callV (as := [.ref i, v1, v2]) dL_law_1319 rfl rfl rfl hc (a_rcv_of hk rfl)
theorem w_L_law_1322 (d : Nat) (a0 a1 a2 a3 a4 a5 a6 a7 : Option Value) (x : Int32) (st : List Value) (h : a_H) : a_run d ML_law 1322 [a0, a1, a2, a3, a4, a5, a6, a7] (.int x :: st) h = a_run d ML_law 1324 [a0, a1, a2, a3, a4, a5, a6, some (.int x)] st h := w_stI dL_law_1322 (Nat.le_of_ble_eq_true rfl) rfl
theorem w_L_law_1324 (d : Nat) (a0 a1 a3 a4 a5 a6 a7 : Option Value) (x : Nat) (st : List Value) (h : a_H) : a_run d ML_law 1324 [a0, a1, some (.ref x), a3, a4, a5, a6, a7] st h = a_run d ML_law 1325 [a0, a1, some (.ref x), a3, a4, a5, a6, a7] (.ref x :: st) h := w_ldAn dL_law_1324 rfl
theorem w_L_law_1324N (d : Nat) (a0 a1 a3 a4 a5 a6 a7 : Option Value) (st : List Value) (h : a_H) : a_run d ML_law 1324 [a0, a1, some .null, a3, a4, a5, a6, a7] st h = a_run d ML_law 1325 [a0, a1, some .null, a3, a4, a5, a6, a7] (.null :: st) h := w_ldNn dL_law_1324 rfl
theorem w_L_law_1325 (d : Nat) (L : a_L) (i : Nat) (st : List Value) (h : a_H) (hk : a_kls h i = some 2) (hc : a_cat st ≤ 8) : a_run d ML_law 1325 L (.ref i :: st) h = a_cont d ML_law (a_bk ML_law 1325 L st (a_call d MX3_thrown [.ref i] h)) := w_callV (as := [.ref i]) dL_law_1325 rfl rfl rfl hc (a_rcv_of hk rfl)
theorem w_L_law_1328 (d : Nat) (a0 a1 a2 a3 a4 a5 a7 : Option Value) (x : Int32) (st : List Value) (h : a_H) : a_run d ML_law 1328 [a0, a1, a2, a3, a4, a5, some (.int x), a7] st h = a_run d ML_law 1330 [a0, a1, a2, a3, a4, a5, some (.int x), a7] (.int x :: st) h := w_ldI dL_law_1328 rfl
theorem w_L_law_1330 (d : Nat) (L : a_L) (x y : Int32) (st : List Value) (h : a_H) : a_run d ML_law 1330 L (.int y :: .int x :: st) h = if x = y then a_run d ML_law 1335 L st h else a_run d ML_law 1333 L st h := w_icmp_eq dL_law_1330 rfl
theorem w_L_law_1333 (d : Nat) (L : a_L) (st : List Value) (h : a_H) : a_run d ML_law 1333 L st h = a_run d ML_law 1334 L (.int (nI 0) :: st) h := w_iconst dL_law_1333 rfl
theorem w_L_law_1334 (d : Nat) (L : a_L) (x : Int32) (h : a_H) (hx : x = 0 ∨ x = 1) : a_run d ML_law 1334 L [.int x] h = some (.inl (some (.int x)), h) := w_iret dL_law_1334 (w_retZ rfl hx)
theorem w_L_law_1335 (d : Nat) (a0 a1 a2 a3 a4 a5 a7 : Option Value) (x : Int32) (st : List Value) (h : a_H) : a_run d ML_law 1335 [a0, a1, a2, a3, a4, a5, some (.int x), a7] st h = a_run d ML_law 1337 [a0, a1, a2, a3, a4, a5, some (.int x), a7] (.int x :: st) h := w_ldI dL_law_1335 rfl
theorem w_L_law_1337 (d : Nat) (L : a_L) (x : Int32) (st : List Value) (h : a_H) : a_run d ML_law 1337 L (.int x :: st) h = if x = 0 then a_run d ML_law 1340 L st h else a_run d ML_law 1352 L st h := w_if_ne dL_law_1337 rfl
theorem w_L_law_1340 (d : Nat) (a0 a1 a2 a4 a5 a6 a7 : Option Value) (x : Nat) (st : List Value) (h : a_H) : a_run d ML_law 1340 [a0, a1, a2, some (.ref x), a4, a5, a6, a7] st h = a_run d ML_law 1341 [a0, a1, a2, some (.ref x), a4, a5, a6, a7] (.ref x :: st) h := w_ldAn dL_law_1340 rfl
theorem w_L_law_1340N (d : Nat) (a0 a1 a2 a4 a5 a6 a7 : Option Value) (st : List Value) (h : a_H) : a_run d ML_law 1340 [a0, a1, a2, some .null, a4, a5, a6, a7] st h = a_run d ML_law 1341 [a0, a1, a2, some .null, a4, a5, a6, a7] (.null :: st) h := w_ldNn dL_law_1340 rfl
theorem w_L_law_1341 (d : Nat) (L : a_L) (st : List Value) (h : a_H) : a_run d ML_law 1341 L st h = a_run d ML_law 1342 L (.int (nI 0) :: st) h := w_iconst dL_law_1341 rfl
theorem w_L_law_1342 (d : Nat) (L : a_L) (x : Int32) (i : Nat) (st : List Value) (h : a_H) : a_run d ML_law 1342 L (.int x :: .ref i :: st) h = (a_rdl h i x).bind fun v => a_run d ML_law 1343 L (v :: st) h := w_lald dL_law_1342
theorem w_L_law_1343 (d : Nat) (a0 a1 a2 a3 a4 a5 a6 : Option Value) (x : Int32) (st : List Value) (h : a_H) : a_run d ML_law 1343 [a0, a1, a2, a3, a4, a5, a6, some (.int x)] st h = a_run d ML_law 1345 [a0, a1, a2, a3, a4, a5, a6, some (.int x)] (.int x :: st) h := w_ldI dL_law_1343 rfl
theorem w_L_law_1345 (d : Nat) (L : a_L) (x : Int32) (st : List Value) (h : a_H) : a_run d ML_law 1345 L (.int x :: st) h = a_run d ML_law 1346 L (.long x.toInt64 :: st) h := w_i2l dL_law_1345
theorem w_L_law_1346 (d : Nat) (L : a_L) (x y : Int64) (st : List Value) (h : a_H) : a_run d ML_law 1346 L (.long y :: .long x :: st) h = a_run d ML_law 1347 L (.int (lg_cmp x y) :: st) h := w_lcmp dL_law_1346
theorem w_L_law_1347 (d : Nat) (L : a_L) (x : Int32) (st : List Value) (h : a_H) : a_run d ML_law 1347 L (.int x :: st) h = if x = 0 then a_run d ML_law 1352 L st h else a_run d ML_law 1350 L st h := w_if_eq dL_law_1347 rfl
theorem w_L_law_1350 (d : Nat) (L : a_L) (st : List Value) (h : a_H) : a_run d ML_law 1350 L st h = a_run d ML_law 1351 L (.int (nI 0) :: st) h := w_iconst dL_law_1350 rfl
theorem w_L_law_1351 (d : Nat) (L : a_L) (x : Int32) (h : a_H) (hx : x = 0 ∨ x = 1) : a_run d ML_law 1351 L [.int x] h = some (.inl (some (.int x)), h) := w_iret dL_law_1351 (w_retZ rfl hx)
theorem w_L_law_1352 (d : Nat) (L : a_L) (st : List Value) (h : a_H) : a_run d ML_law 1352 L st h = a_run d ML_law 2985 L st h := w_goto dL_law_1352 rfl
theorem w_L_law_1355 (d : Nat) (a0 a2 a3 a4 a5 a6 a7 : Option Value) (x : Nat) (st : List Value) (h : a_H) : a_run d ML_law 1355 [a0, some (.ref x), a2, a3, a4, a5, a6, a7] st h = a_run d ML_law 1356 [a0, some (.ref x), a2, a3, a4, a5, a6, a7] (.ref x :: st) h := w_ldAn dL_law_1355 rfl
theorem w_L_law_1355N (d : Nat) (a0 a2 a3 a4 a5 a6 a7 : Option Value) (st : List Value) (h : a_H) : a_run d ML_law 1355 [a0, some .null, a2, a3, a4, a5, a6, a7] st h = a_run d ML_law 1356 [a0, some .null, a2, a3, a4, a5, a6, a7] (.null :: st) h := w_ldNn dL_law_1355 rfl
theorem w_L_law_1356 (d : Nat) (a1 a2 a3 a4 a5 a6 a7 : Option Value) (x : Nat) (st : List Value) (h : a_H) : a_run d ML_law 1356 [some (.ref x), a1, a2, a3, a4, a5, a6, a7] st h = a_run d ML_law 1357 [some (.ref x), a1, a2, a3, a4, a5, a6, a7] (.ref x :: st) h := w_ldAn dL_law_1356 rfl
theorem w_L_law_1357 (d : Nat) (a0 a1 a2 a3 a4 a6 a7 : Option Value) (x : Int32) (st : List Value) (h : a_H) : a_run d ML_law 1357 [a0, a1, a2, a3, a4, some (.int x), a6, a7] st h = a_run d ML_law 1359 [a0, a1, a2, a3, a4, some (.int x), a6, a7] (.int x :: st) h := w_ldI dL_law_1357 rfl
theorem w_L_law_1359 (d : Nat) (L : a_L) (st : List Value) (h : a_H) : a_run d ML_law 1359 L st h = a_run d ML_law 1360 L (.int (nI 1) :: st) h := w_iconst dL_law_1359 rfl
theorem w_L_law_1360 (d : Nat) (L : a_L) (x y : Int32) (st : List Value) (h : a_H) : a_run d ML_law 1360 L (.int y :: .int x :: st) h = a_run d ML_law 1361 L (.int (x + y) :: st) h := w_iadd dL_law_1360
theorem w_L_law_1361 (d : Nat) (L : a_L) (x : Int32) (i : Nat) (st : List Value) (h : a_H) : a_run d ML_law 1361 L (.int x :: .ref i :: st) h = (a_rdi h i a_int x).bind fun v => a_run d ML_law 1362 L (v :: st) h := w_iald dL_law_1361
theorem w_L_law_1362 (d : Nat) (a1 a2 a3 a4 a5 a6 a7 : Option Value) (x : Nat) (st : List Value) (h : a_H) : a_run d ML_law 1362 [some (.ref x), a1, a2, a3, a4, a5, a6, a7] st h = a_run d ML_law 1363 [some (.ref x), a1, a2, a3, a4, a5, a6, a7] (.ref x :: st) h := w_ldAn dL_law_1362 rfl
theorem w_L_law_1363 (d : Nat) (a0 a1 a2 a3 a4 a6 a7 : Option Value) (x : Int32) (st : List Value) (h : a_H) : a_run d ML_law 1363 [a0, a1, a2, a3, a4, some (.int x), a6, a7] st h = a_run d ML_law 1365 [a0, a1, a2, a3, a4, some (.int x), a6, a7] (.int x :: st) h := w_ldI dL_law_1363 rfl
theorem w_L_law_1365 (d : Nat) (L : a_L) (st : List Value) (h : a_H) : a_run d ML_law 1365 L st h = a_run d ML_law 1366 L (.int (nI 2) :: st) h := w_iconst dL_law_1365 rfl
theorem w_L_law_1366 (d : Nat) (L : a_L) (x y : Int32) (st : List Value) (h : a_H) : a_run d ML_law 1366 L (.int y :: .int x :: st) h = a_run d ML_law 1367 L (.int (x + y) :: st) h := w_iadd dL_law_1366
theorem w_L_law_1367 (d : Nat) (L : a_L) (x : Int32) (i : Nat) (st : List Value) (h : a_H) : a_run d ML_law 1367 L (.int x :: .ref i :: st) h = (a_rdi h i a_int x).bind fun v => a_run d ML_law 1368 L (v :: st) h := w_iald dL_law_1367
theorem w_L_law_1368 (d : Nat) (a0 a1 a2 a4 a5 a6 a7 : Option Value) (x : Nat) (st : List Value) (h : a_H) : a_run d ML_law 1368 [a0, a1, a2, some (.ref x), a4, a5, a6, a7] st h = a_run d ML_law 1369 [a0, a1, a2, some (.ref x), a4, a5, a6, a7] (.ref x :: st) h := w_ldAn dL_law_1368 rfl
theorem w_L_law_1368N (d : Nat) (a0 a1 a2 a4 a5 a6 a7 : Option Value) (st : List Value) (h : a_H) : a_run d ML_law 1368 [a0, a1, a2, some .null, a4, a5, a6, a7] st h = a_run d ML_law 1369 [a0, a1, a2, some .null, a4, a5, a6, a7] (.null :: st) h := w_ldNn dL_law_1368 rfl
theorem w_L_law_1369 (d : Nat) (L : a_L) (v0 v1 v2 v3 : Value) (st : List Value) (h : a_H) (hc : a_cat st ≤ 8) : a_run d ML_law 1369 L (v3 :: v2 :: v1 :: v0 :: st) h = a_cont d ML_law (a_bk ML_law 1369 L st (a_call d MX0_waysByGoingBack [v0, v1, v2, v3] h)) := w_callS (as := [v0, v1, v2, v3]) dL_law_1369 rfl rfl rfl hc
theorem w_L_law_1372 (d : Nat) (a0 a1 a2 a3 a4 a5 a6 a7 : Option Value) (x : Int32) (st : List Value) (h : a_H) : a_run d ML_law 1372 [a0, a1, a2, a3, a4, a5, a6, a7] (.int x :: st) h = a_run d ML_law 1374 [a0, a1, a2, a3, a4, a5, some (.int x), a7] st h := w_stI dL_law_1372 (Nat.le_of_ble_eq_true rfl) rfl
theorem w_L_law_1374 (d : Nat) (a0 a1 a3 a4 a5 a6 a7 : Option Value) (x : Nat) (st : List Value) (h : a_H) : a_run d ML_law 1374 [a0, a1, some (.ref x), a3, a4, a5, a6, a7] st h = a_run d ML_law 1375 [a0, a1, some (.ref x), a3, a4, a5, a6, a7] (.ref x :: st) h := w_ldAn dL_law_1374 rfl
theorem w_L_law_1374N (d : Nat) (a0 a1 a3 a4 a5 a6 a7 : Option Value) (st : List Value) (h : a_H) : a_run d ML_law 1374 [a0, a1, some .null, a3, a4, a5, a6, a7] st h = a_run d ML_law 1375 [a0, a1, some .null, a3, a4, a5, a6, a7] (.null :: st) h := w_ldNn dL_law_1374 rfl
theorem w_L_law_1375 (d : Nat) (a1 a2 a3 a4 a5 a6 a7 : Option Value) (x : Nat) (st : List Value) (h : a_H) : a_run d ML_law 1375 [some (.ref x), a1, a2, a3, a4, a5, a6, a7] st h = a_run d ML_law 1376 [some (.ref x), a1, a2, a3, a4, a5, a6, a7] (.ref x :: st) h := w_ldAn dL_law_1375 rfl
theorem w_L_law_1376 (d : Nat) (a0 a1 a2 a3 a4 a6 a7 : Option Value) (x : Int32) (st : List Value) (h : a_H) : a_run d ML_law 1376 [a0, a1, a2, a3, a4, some (.int x), a6, a7] st h = a_run d ML_law 1378 [a0, a1, a2, a3, a4, some (.int x), a6, a7] (.int x :: st) h := w_ldI dL_law_1376 rfl
theorem w_L_law_1378 (d : Nat) (L : a_L) (st : List Value) (h : a_H) : a_run d ML_law 1378 L st h = a_run d ML_law 1379 L (.int (nI 1) :: st) h := w_iconst dL_law_1378 rfl
theorem w_L_law_1379 (d : Nat) (L : a_L) (x y : Int32) (st : List Value) (h : a_H) : a_run d ML_law 1379 L (.int y :: .int x :: st) h = a_run d ML_law 1380 L (.int (x + y) :: st) h := w_iadd dL_law_1379
theorem w_L_law_1380 (d : Nat) (L : a_L) (x : Int32) (i : Nat) (st : List Value) (h : a_H) : a_run d ML_law 1380 L (.int x :: .ref i :: st) h = (a_rdi h i a_int x).bind fun v => a_run d ML_law 1381 L (v :: st) h := w_iald dL_law_1380
theorem w_L_law_1381 (d : Nat) (a1 a2 a3 a4 a5 a6 a7 : Option Value) (x : Nat) (st : List Value) (h : a_H) : a_run d ML_law 1381 [some (.ref x), a1, a2, a3, a4, a5, a6, a7] st h = a_run d ML_law 1382 [some (.ref x), a1, a2, a3, a4, a5, a6, a7] (.ref x :: st) h := w_ldAn dL_law_1381 rfl
theorem w_L_law_1382 (d : Nat) (a0 a1 a2 a3 a4 a6 a7 : Option Value) (x : Int32) (st : List Value) (h : a_H) : a_run d ML_law 1382 [a0, a1, a2, a3, a4, some (.int x), a6, a7] st h = a_run d ML_law 1384 [a0, a1, a2, a3, a4, some (.int x), a6, a7] (.int x :: st) h := w_ldI dL_law_1382 rfl
theorem w_L_law_1384 (d : Nat) (L : a_L) (st : List Value) (h : a_H) : a_run d ML_law 1384 L st h = a_run d ML_law 1385 L (.int (nI 2) :: st) h := w_iconst dL_law_1384 rfl
theorem w_L_law_1385 (d : Nat) (L : a_L) (x y : Int32) (st : List Value) (h : a_H) : a_run d ML_law 1385 L (.int y :: .int x :: st) h = a_run d ML_law 1386 L (.int (x + y) :: st) h := w_iadd dL_law_1385
theorem w_L_law_1386 (d : Nat) (L : a_L) (x : Int32) (i : Nat) (st : List Value) (h : a_H) : a_run d ML_law 1386 L (.int x :: .ref i :: st) h = (a_rdi h i a_int x).bind fun v => a_run d ML_law 1387 L (v :: st) h := w_iald dL_law_1386
theorem w_L_law_1387 (d : Nat) (L : a_L) (i : Nat) (v1 v2 : Value) (st : List Value) (h : a_H) (hk : a_kls h i = some 2) (hc : a_cat st ≤ 8) : a_run d ML_law 1387 L (v2 :: v1 :: .ref i :: st) h = a_cont d ML_law (a_bk ML_law 1387 L st (a_call d MX3_waysByGoingBack [.ref i, v1, v2] h)) := w_callV (as := [.ref i, v1, v2]) dL_law_1387 rfl rfl rfl hc (a_rcv_of hk rfl)
theorem w_L_law_1390 (d : Nat) (a0 a1 a2 a3 a4 a5 a6 a7 : Option Value) (x : Int32) (st : List Value) (h : a_H) : a_run d ML_law 1390 [a0, a1, a2, a3, a4, a5, a6, a7] (.int x :: st) h = a_run d ML_law 1392 [a0, a1, a2, a3, a4, a5, a6, some (.int x)] st h := w_stI dL_law_1390 (Nat.le_of_ble_eq_true rfl) rfl
theorem w_L_law_1392 (d : Nat) (a0 a1 a3 a4 a5 a6 a7 : Option Value) (x : Nat) (st : List Value) (h : a_H) : a_run d ML_law 1392 [a0, a1, some (.ref x), a3, a4, a5, a6, a7] st h = a_run d ML_law 1393 [a0, a1, some (.ref x), a3, a4, a5, a6, a7] (.ref x :: st) h := w_ldAn dL_law_1392 rfl
theorem w_L_law_1392N (d : Nat) (a0 a1 a3 a4 a5 a6 a7 : Option Value) (st : List Value) (h : a_H) : a_run d ML_law 1392 [a0, a1, some .null, a3, a4, a5, a6, a7] st h = a_run d ML_law 1393 [a0, a1, some .null, a3, a4, a5, a6, a7] (.null :: st) h := w_ldNn dL_law_1392 rfl
theorem w_L_law_1393 (d : Nat) (L : a_L) (i : Nat) (st : List Value) (h : a_H) (hk : a_kls h i = some 2) (hc : a_cat st ≤ 8) : a_run d ML_law 1393 L (.ref i :: st) h = a_cont d ML_law (a_bk ML_law 1393 L st (a_call d MX3_thrown [.ref i] h)) := w_callV (as := [.ref i]) dL_law_1393 rfl rfl rfl hc (a_rcv_of hk rfl)
theorem w_L_law_1396 (d : Nat) (a0 a1 a2 a3 a4 a5 a7 : Option Value) (x : Int32) (st : List Value) (h : a_H) : a_run d ML_law 1396 [a0, a1, a2, a3, a4, a5, some (.int x), a7] st h = a_run d ML_law 1398 [a0, a1, a2, a3, a4, a5, some (.int x), a7] (.int x :: st) h := w_ldI dL_law_1396 rfl
theorem w_L_law_1398 (d : Nat) (L : a_L) (x y : Int32) (st : List Value) (h : a_H) : a_run d ML_law 1398 L (.int y :: .int x :: st) h = if x = y then a_run d ML_law 1403 L st h else a_run d ML_law 1401 L st h := w_icmp_eq dL_law_1398 rfl
theorem w_L_law_1401 (d : Nat) (L : a_L) (st : List Value) (h : a_H) : a_run d ML_law 1401 L st h = a_run d ML_law 1402 L (.int (nI 0) :: st) h := w_iconst dL_law_1401 rfl
theorem w_L_law_1402 (d : Nat) (L : a_L) (x : Int32) (h : a_H) (hx : x = 0 ∨ x = 1) : a_run d ML_law 1402 L [.int x] h = some (.inl (some (.int x)), h) := w_iret dL_law_1402 (w_retZ rfl hx)
theorem w_L_law_1403 (d : Nat) (a0 a1 a2 a3 a4 a5 a7 : Option Value) (x : Int32) (st : List Value) (h : a_H) : a_run d ML_law 1403 [a0, a1, a2, a3, a4, a5, some (.int x), a7] st h = a_run d ML_law 1405 [a0, a1, a2, a3, a4, a5, some (.int x), a7] (.int x :: st) h := w_ldI dL_law_1403 rfl
theorem w_L_law_1405 (d : Nat) (L : a_L) (x : Int32) (st : List Value) (h : a_H) : a_run d ML_law 1405 L (.int x :: st) h = if x = 0 then a_run d ML_law 1408 L st h else a_run d ML_law 1420 L st h := w_if_ne dL_law_1405 rfl
theorem w_L_law_1408 (d : Nat) (a0 a1 a2 a4 a5 a6 a7 : Option Value) (x : Nat) (st : List Value) (h : a_H) : a_run d ML_law 1408 [a0, a1, a2, some (.ref x), a4, a5, a6, a7] st h = a_run d ML_law 1409 [a0, a1, a2, some (.ref x), a4, a5, a6, a7] (.ref x :: st) h := w_ldAn dL_law_1408 rfl
theorem w_L_law_1408N (d : Nat) (a0 a1 a2 a4 a5 a6 a7 : Option Value) (st : List Value) (h : a_H) : a_run d ML_law 1408 [a0, a1, a2, some .null, a4, a5, a6, a7] st h = a_run d ML_law 1409 [a0, a1, a2, some .null, a4, a5, a6, a7] (.null :: st) h := w_ldNn dL_law_1408 rfl
theorem w_L_law_1409 (d : Nat) (L : a_L) (st : List Value) (h : a_H) : a_run d ML_law 1409 L st h = a_run d ML_law 1410 L (.int (nI 0) :: st) h := w_iconst dL_law_1409 rfl
theorem w_L_law_1410 (d : Nat) (L : a_L) (x : Int32) (i : Nat) (st : List Value) (h : a_H) : a_run d ML_law 1410 L (.int x :: .ref i :: st) h = (a_rdl h i x).bind fun v => a_run d ML_law 1411 L (v :: st) h := w_lald dL_law_1410
theorem w_L_law_1411 (d : Nat) (a0 a1 a2 a3 a4 a5 a6 : Option Value) (x : Int32) (st : List Value) (h : a_H) : a_run d ML_law 1411 [a0, a1, a2, a3, a4, a5, a6, some (.int x)] st h = a_run d ML_law 1413 [a0, a1, a2, a3, a4, a5, a6, some (.int x)] (.int x :: st) h := w_ldI dL_law_1411 rfl
theorem w_L_law_1413 (d : Nat) (L : a_L) (x : Int32) (st : List Value) (h : a_H) : a_run d ML_law 1413 L (.int x :: st) h = a_run d ML_law 1414 L (.long x.toInt64 :: st) h := w_i2l dL_law_1413
theorem w_L_law_1414 (d : Nat) (L : a_L) (x y : Int64) (st : List Value) (h : a_H) : a_run d ML_law 1414 L (.long y :: .long x :: st) h = a_run d ML_law 1415 L (.int (lg_cmp x y) :: st) h := w_lcmp dL_law_1414
theorem w_L_law_1415 (d : Nat) (L : a_L) (x : Int32) (st : List Value) (h : a_H) : a_run d ML_law 1415 L (.int x :: st) h = if x = 0 then a_run d ML_law 1420 L st h else a_run d ML_law 1418 L st h := w_if_eq dL_law_1415 rfl
theorem w_L_law_1418 (d : Nat) (L : a_L) (st : List Value) (h : a_H) : a_run d ML_law 1418 L st h = a_run d ML_law 1419 L (.int (nI 0) :: st) h := w_iconst dL_law_1418 rfl
theorem w_L_law_1419 (d : Nat) (L : a_L) (x : Int32) (h : a_H) (hx : x = 0 ∨ x = 1) : a_run d ML_law 1419 L [.int x] h = some (.inl (some (.int x)), h) := w_iret dL_law_1419 (w_retZ rfl hx)
theorem w_L_law_1420 (d : Nat) (L : a_L) (st : List Value) (h : a_H) : a_run d ML_law 1420 L st h = a_run d ML_law 2985 L st h := w_goto dL_law_1420 rfl
theorem w_L_law_1423 (d : Nat) (a0 a2 a3 a4 a5 a6 a7 : Option Value) (x : Nat) (st : List Value) (h : a_H) : a_run d ML_law 1423 [a0, some (.ref x), a2, a3, a4, a5, a6, a7] st h = a_run d ML_law 1424 [a0, some (.ref x), a2, a3, a4, a5, a6, a7] (.ref x :: st) h := w_ldAn dL_law_1423 rfl
theorem w_L_law_1423N (d : Nat) (a0 a2 a3 a4 a5 a6 a7 : Option Value) (st : List Value) (h : a_H) : a_run d ML_law 1423 [a0, some .null, a2, a3, a4, a5, a6, a7] st h = a_run d ML_law 1424 [a0, some .null, a2, a3, a4, a5, a6, a7] (.null :: st) h := w_ldNn dL_law_1423 rfl
theorem w_L_law_1424 (d : Nat) (a1 a2 a3 a4 a5 a6 a7 : Option Value) (x : Nat) (st : List Value) (h : a_H) : a_run d ML_law 1424 [some (.ref x), a1, a2, a3, a4, a5, a6, a7] st h = a_run d ML_law 1425 [some (.ref x), a1, a2, a3, a4, a5, a6, a7] (.ref x :: st) h := w_ldAn dL_law_1424 rfl
theorem w_L_law_1425 (d : Nat) (a0 a1 a2 a3 a4 a6 a7 : Option Value) (x : Int32) (st : List Value) (h : a_H) : a_run d ML_law 1425 [a0, a1, a2, a3, a4, some (.int x), a6, a7] st h = a_run d ML_law 1427 [a0, a1, a2, a3, a4, some (.int x), a6, a7] (.int x :: st) h := w_ldI dL_law_1425 rfl
theorem w_L_law_1427 (d : Nat) (L : a_L) (st : List Value) (h : a_H) : a_run d ML_law 1427 L st h = a_run d ML_law 1428 L (.int (nI 1) :: st) h := w_iconst dL_law_1427 rfl
theorem w_L_law_1428 (d : Nat) (L : a_L) (x y : Int32) (st : List Value) (h : a_H) : a_run d ML_law 1428 L (.int y :: .int x :: st) h = a_run d ML_law 1429 L (.int (x + y) :: st) h := w_iadd dL_law_1428
theorem w_L_law_1429 (d : Nat) (L : a_L) (x : Int32) (i : Nat) (st : List Value) (h : a_H) : a_run d ML_law 1429 L (.int x :: .ref i :: st) h = (a_rdi h i a_int x).bind fun v => a_run d ML_law 1430 L (v :: st) h := w_iald dL_law_1429
theorem w_L_law_1430 (d : Nat) (a1 a2 a3 a4 a5 a6 a7 : Option Value) (x : Nat) (st : List Value) (h : a_H) : a_run d ML_law 1430 [some (.ref x), a1, a2, a3, a4, a5, a6, a7] st h = a_run d ML_law 1431 [some (.ref x), a1, a2, a3, a4, a5, a6, a7] (.ref x :: st) h := w_ldAn dL_law_1430 rfl
theorem w_L_law_1431 (d : Nat) (a0 a1 a2 a3 a4 a6 a7 : Option Value) (x : Int32) (st : List Value) (h : a_H) : a_run d ML_law 1431 [a0, a1, a2, a3, a4, some (.int x), a6, a7] st h = a_run d ML_law 1433 [a0, a1, a2, a3, a4, some (.int x), a6, a7] (.int x :: st) h := w_ldI dL_law_1431 rfl
theorem w_L_law_1433 (d : Nat) (L : a_L) (st : List Value) (h : a_H) : a_run d ML_law 1433 L st h = a_run d ML_law 1434 L (.int (nI 2) :: st) h := w_iconst dL_law_1433 rfl
theorem w_L_law_1434 (d : Nat) (L : a_L) (x y : Int32) (st : List Value) (h : a_H) : a_run d ML_law 1434 L (.int y :: .int x :: st) h = a_run d ML_law 1435 L (.int (x + y) :: st) h := w_iadd dL_law_1434
theorem w_L_law_1435 (d : Nat) (L : a_L) (x : Int32) (i : Nat) (st : List Value) (h : a_H) : a_run d ML_law 1435 L (.int x :: .ref i :: st) h = (a_rdi h i a_int x).bind fun v => a_run d ML_law 1436 L (v :: st) h := w_iald dL_law_1435
theorem w_L_law_1436 (d : Nat) (a0 a1 a2 a4 a5 a6 a7 : Option Value) (x : Nat) (st : List Value) (h : a_H) : a_run d ML_law 1436 [a0, a1, a2, some (.ref x), a4, a5, a6, a7] st h = a_run d ML_law 1437 [a0, a1, a2, some (.ref x), a4, a5, a6, a7] (.ref x :: st) h := w_ldAn dL_law_1436 rfl
theorem w_L_law_1436N (d : Nat) (a0 a1 a2 a4 a5 a6 a7 : Option Value) (st : List Value) (h : a_H) : a_run d ML_law 1436 [a0, a1, a2, some .null, a4, a5, a6, a7] st h = a_run d ML_law 1437 [a0, a1, a2, some .null, a4, a5, a6, a7] (.null :: st) h := w_ldNn dL_law_1436 rfl
theorem w_L_law_1437 (d : Nat) (L : a_L) (v0 v1 v2 v3 : Value) (st : List Value) (h : a_H) (hc : a_cat st ≤ 8) : a_run d ML_law 1437 L (v3 :: v2 :: v1 :: v0 :: st) h = a_cont d ML_law (a_bk ML_law 1437 L st (a_call d MX0_fewestArrows [v0, v1, v2, v3] h)) := w_callS (as := [v0, v1, v2, v3]) dL_law_1437 rfl rfl rfl hc
theorem w_L_law_1440 (d : Nat) (a0 a1 a2 a3 a4 a5 a6 a7 : Option Value) (x : Int32) (st : List Value) (h : a_H) : a_run d ML_law 1440 [a0, a1, a2, a3, a4, a5, a6, a7] (.int x :: st) h = a_run d ML_law 1442 [a0, a1, a2, a3, a4, a5, some (.int x), a7] st h := w_stI dL_law_1440 (Nat.le_of_ble_eq_true rfl) rfl
theorem w_L_law_1442 (d : Nat) (a0 a1 a3 a4 a5 a6 a7 : Option Value) (x : Nat) (st : List Value) (h : a_H) : a_run d ML_law 1442 [a0, a1, some (.ref x), a3, a4, a5, a6, a7] st h = a_run d ML_law 1443 [a0, a1, some (.ref x), a3, a4, a5, a6, a7] (.ref x :: st) h := w_ldAn dL_law_1442 rfl
theorem w_L_law_1442N (d : Nat) (a0 a1 a3 a4 a5 a6 a7 : Option Value) (st : List Value) (h : a_H) : a_run d ML_law 1442 [a0, a1, some .null, a3, a4, a5, a6, a7] st h = a_run d ML_law 1443 [a0, a1, some .null, a3, a4, a5, a6, a7] (.null :: st) h := w_ldNn dL_law_1442 rfl
theorem w_L_law_1443 (d : Nat) (a1 a2 a3 a4 a5 a6 a7 : Option Value) (x : Nat) (st : List Value) (h : a_H) : a_run d ML_law 1443 [some (.ref x), a1, a2, a3, a4, a5, a6, a7] st h = a_run d ML_law 1444 [some (.ref x), a1, a2, a3, a4, a5, a6, a7] (.ref x :: st) h := w_ldAn dL_law_1443 rfl
theorem w_L_law_1444 (d : Nat) (a0 a1 a2 a3 a4 a6 a7 : Option Value) (x : Int32) (st : List Value) (h : a_H) : a_run d ML_law 1444 [a0, a1, a2, a3, a4, some (.int x), a6, a7] st h = a_run d ML_law 1446 [a0, a1, a2, a3, a4, some (.int x), a6, a7] (.int x :: st) h := w_ldI dL_law_1444 rfl
theorem w_L_law_1446 (d : Nat) (L : a_L) (st : List Value) (h : a_H) : a_run d ML_law 1446 L st h = a_run d ML_law 1447 L (.int (nI 1) :: st) h := w_iconst dL_law_1446 rfl
theorem w_L_law_1447 (d : Nat) (L : a_L) (x y : Int32) (st : List Value) (h : a_H) : a_run d ML_law 1447 L (.int y :: .int x :: st) h = a_run d ML_law 1448 L (.int (x + y) :: st) h := w_iadd dL_law_1447
theorem w_L_law_1448 (d : Nat) (L : a_L) (x : Int32) (i : Nat) (st : List Value) (h : a_H) : a_run d ML_law 1448 L (.int x :: .ref i :: st) h = (a_rdi h i a_int x).bind fun v => a_run d ML_law 1449 L (v :: st) h := w_iald dL_law_1448
theorem w_L_law_1449 (d : Nat) (a1 a2 a3 a4 a5 a6 a7 : Option Value) (x : Nat) (st : List Value) (h : a_H) : a_run d ML_law 1449 [some (.ref x), a1, a2, a3, a4, a5, a6, a7] st h = a_run d ML_law 1450 [some (.ref x), a1, a2, a3, a4, a5, a6, a7] (.ref x :: st) h := w_ldAn dL_law_1449 rfl
theorem w_L_law_1450 (d : Nat) (a0 a1 a2 a3 a4 a6 a7 : Option Value) (x : Int32) (st : List Value) (h : a_H) : a_run d ML_law 1450 [a0, a1, a2, a3, a4, some (.int x), a6, a7] st h = a_run d ML_law 1452 [a0, a1, a2, a3, a4, some (.int x), a6, a7] (.int x :: st) h := w_ldI dL_law_1450 rfl
theorem w_L_law_1452 (d : Nat) (L : a_L) (st : List Value) (h : a_H) : a_run d ML_law 1452 L st h = a_run d ML_law 1453 L (.int (nI 2) :: st) h := w_iconst dL_law_1452 rfl
theorem w_L_law_1453 (d : Nat) (L : a_L) (x y : Int32) (st : List Value) (h : a_H) : a_run d ML_law 1453 L (.int y :: .int x :: st) h = a_run d ML_law 1454 L (.int (x + y) :: st) h := w_iadd dL_law_1453
theorem w_L_law_1454 (d : Nat) (L : a_L) (x : Int32) (i : Nat) (st : List Value) (h : a_H) : a_run d ML_law 1454 L (.int x :: .ref i :: st) h = (a_rdi h i a_int x).bind fun v => a_run d ML_law 1455 L (v :: st) h := w_iald dL_law_1454
theorem w_L_law_1455 (d : Nat) (L : a_L) (i : Nat) (v1 v2 : Value) (st : List Value) (h : a_H) (hk : a_kls h i = some 2) (hc : a_cat st ≤ 8) : a_run d ML_law 1455 L (v2 :: v1 :: .ref i :: st) h = a_cont d ML_law (a_bk ML_law 1455 L st (a_call d MX3_fewestArrows [.ref i, v1, v2] h)) := w_callV (as := [.ref i, v1, v2]) dL_law_1455 rfl rfl rfl hc (a_rcv_of hk rfl)
theorem w_L_law_1458 (d : Nat) (a0 a1 a2 a3 a4 a5 a6 a7 : Option Value) (x : Int32) (st : List Value) (h : a_H) : a_run d ML_law 1458 [a0, a1, a2, a3, a4, a5, a6, a7] (.int x :: st) h = a_run d ML_law 1460 [a0, a1, a2, a3, a4, a5, a6, some (.int x)] st h := w_stI dL_law_1458 (Nat.le_of_ble_eq_true rfl) rfl
theorem w_L_law_1460 (d : Nat) (a0 a1 a3 a4 a5 a6 a7 : Option Value) (x : Nat) (st : List Value) (h : a_H) : a_run d ML_law 1460 [a0, a1, some (.ref x), a3, a4, a5, a6, a7] st h = a_run d ML_law 1461 [a0, a1, some (.ref x), a3, a4, a5, a6, a7] (.ref x :: st) h := w_ldAn dL_law_1460 rfl
theorem w_L_law_1460N (d : Nat) (a0 a1 a3 a4 a5 a6 a7 : Option Value) (st : List Value) (h : a_H) : a_run d ML_law 1460 [a0, a1, some .null, a3, a4, a5, a6, a7] st h = a_run d ML_law 1461 [a0, a1, some .null, a3, a4, a5, a6, a7] (.null :: st) h := w_ldNn dL_law_1460 rfl
theorem w_L_law_1461 (d : Nat) (L : a_L) (i : Nat) (st : List Value) (h : a_H) (hk : a_kls h i = some 2) (hc : a_cat st ≤ 8) : a_run d ML_law 1461 L (.ref i :: st) h = a_cont d ML_law (a_bk ML_law 1461 L st (a_call d MX3_thrown [.ref i] h)) := w_callV (as := [.ref i]) dL_law_1461 rfl rfl rfl hc (a_rcv_of hk rfl)
theorem w_L_law_1464 (d : Nat) (a0 a1 a2 a3 a4 a5 a7 : Option Value) (x : Int32) (st : List Value) (h : a_H) : a_run d ML_law 1464 [a0, a1, a2, a3, a4, a5, some (.int x), a7] st h = a_run d ML_law 1466 [a0, a1, a2, a3, a4, a5, some (.int x), a7] (.int x :: st) h := w_ldI dL_law_1464 rfl
theorem w_L_law_1466 (d : Nat) (L : a_L) (x y : Int32) (st : List Value) (h : a_H) : a_run d ML_law 1466 L (.int y :: .int x :: st) h = if x = y then a_run d ML_law 1471 L st h else a_run d ML_law 1469 L st h := w_icmp_eq dL_law_1466 rfl
theorem w_L_law_1469 (d : Nat) (L : a_L) (st : List Value) (h : a_H) : a_run d ML_law 1469 L st h = a_run d ML_law 1470 L (.int (nI 0) :: st) h := w_iconst dL_law_1469 rfl
theorem w_L_law_1470 (d : Nat) (L : a_L) (x : Int32) (h : a_H) (hx : x = 0 ∨ x = 1) : a_run d ML_law 1470 L [.int x] h = some (.inl (some (.int x)), h) := w_iret dL_law_1470 (w_retZ rfl hx)
theorem w_L_law_1471 (d : Nat) (a0 a1 a2 a3 a4 a5 a7 : Option Value) (x : Int32) (st : List Value) (h : a_H) : a_run d ML_law 1471 [a0, a1, a2, a3, a4, a5, some (.int x), a7] st h = a_run d ML_law 1473 [a0, a1, a2, a3, a4, a5, some (.int x), a7] (.int x :: st) h := w_ldI dL_law_1471 rfl
theorem w_L_law_1473 (d : Nat) (L : a_L) (x : Int32) (st : List Value) (h : a_H) : a_run d ML_law 1473 L (.int x :: st) h = if x = 0 then a_run d ML_law 1476 L st h else a_run d ML_law 1488 L st h := w_if_ne dL_law_1473 rfl
theorem w_L_law_1476 (d : Nat) (a0 a1 a2 a4 a5 a6 a7 : Option Value) (x : Nat) (st : List Value) (h : a_H) : a_run d ML_law 1476 [a0, a1, a2, some (.ref x), a4, a5, a6, a7] st h = a_run d ML_law 1477 [a0, a1, a2, some (.ref x), a4, a5, a6, a7] (.ref x :: st) h := w_ldAn dL_law_1476 rfl
theorem w_L_law_1476N (d : Nat) (a0 a1 a2 a4 a5 a6 a7 : Option Value) (st : List Value) (h : a_H) : a_run d ML_law 1476 [a0, a1, a2, some .null, a4, a5, a6, a7] st h = a_run d ML_law 1477 [a0, a1, a2, some .null, a4, a5, a6, a7] (.null :: st) h := w_ldNn dL_law_1476 rfl
theorem w_L_law_1477 (d : Nat) (L : a_L) (st : List Value) (h : a_H) : a_run d ML_law 1477 L st h = a_run d ML_law 1478 L (.int (nI 0) :: st) h := w_iconst dL_law_1477 rfl
theorem w_L_law_1478 (d : Nat) (L : a_L) (x : Int32) (i : Nat) (st : List Value) (h : a_H) : a_run d ML_law 1478 L (.int x :: .ref i :: st) h = (a_rdl h i x).bind fun v => a_run d ML_law 1479 L (v :: st) h := w_lald dL_law_1478
theorem w_L_law_1479 (d : Nat) (a0 a1 a2 a3 a4 a5 a6 : Option Value) (x : Int32) (st : List Value) (h : a_H) : a_run d ML_law 1479 [a0, a1, a2, a3, a4, a5, a6, some (.int x)] st h = a_run d ML_law 1481 [a0, a1, a2, a3, a4, a5, a6, some (.int x)] (.int x :: st) h := w_ldI dL_law_1479 rfl
theorem w_L_law_1481 (d : Nat) (L : a_L) (x : Int32) (st : List Value) (h : a_H) : a_run d ML_law 1481 L (.int x :: st) h = a_run d ML_law 1482 L (.long x.toInt64 :: st) h := w_i2l dL_law_1481
theorem w_L_law_1482 (d : Nat) (L : a_L) (x y : Int64) (st : List Value) (h : a_H) : a_run d ML_law 1482 L (.long y :: .long x :: st) h = a_run d ML_law 1483 L (.int (lg_cmp x y) :: st) h := w_lcmp dL_law_1482
theorem w_L_law_1483 (d : Nat) (L : a_L) (x : Int32) (st : List Value) (h : a_H) : a_run d ML_law 1483 L (.int x :: st) h = if x = 0 then a_run d ML_law 1488 L st h else a_run d ML_law 1486 L st h := w_if_eq dL_law_1483 rfl
theorem w_L_law_1486 (d : Nat) (L : a_L) (st : List Value) (h : a_H) : a_run d ML_law 1486 L st h = a_run d ML_law 1487 L (.int (nI 0) :: st) h := w_iconst dL_law_1486 rfl
theorem w_L_law_1487 (d : Nat) (L : a_L) (x : Int32) (h : a_H) (hx : x = 0 ∨ x = 1) : a_run d ML_law 1487 L [.int x] h = some (.inl (some (.int x)), h) := w_iret dL_law_1487 (w_retZ rfl hx)
theorem w_L_law_1488 (d : Nat) (L : a_L) (st : List Value) (h : a_H) : a_run d ML_law 1488 L st h = a_run d ML_law 2985 L st h := w_goto dL_law_1488 rfl
theorem w_L_law_1491 (d : Nat) (a0 a2 a3 a4 a5 a6 a7 : Option Value) (x : Nat) (st : List Value) (h : a_H) : a_run d ML_law 1491 [a0, some (.ref x), a2, a3, a4, a5, a6, a7] st h = a_run d ML_law 1492 [a0, some (.ref x), a2, a3, a4, a5, a6, a7] (.ref x :: st) h := w_ldAn dL_law_1491 rfl
theorem w_L_law_1491N (d : Nat) (a0 a2 a3 a4 a5 a6 a7 : Option Value) (st : List Value) (h : a_H) : a_run d ML_law 1491 [a0, some .null, a2, a3, a4, a5, a6, a7] st h = a_run d ML_law 1492 [a0, some .null, a2, a3, a4, a5, a6, a7] (.null :: st) h := w_ldNn dL_law_1491 rfl
theorem w_L_law_1492 (d : Nat) (a1 a2 a3 a4 a5 a6 a7 : Option Value) (x : Nat) (st : List Value) (h : a_H) : a_run d ML_law 1492 [some (.ref x), a1, a2, a3, a4, a5, a6, a7] st h = a_run d ML_law 1493 [some (.ref x), a1, a2, a3, a4, a5, a6, a7] (.ref x :: st) h := w_ldAn dL_law_1492 rfl
theorem w_L_law_1493 (d : Nat) (a0 a1 a2 a3 a4 a6 a7 : Option Value) (x : Int32) (st : List Value) (h : a_H) : a_run d ML_law 1493 [a0, a1, a2, a3, a4, some (.int x), a6, a7] st h = a_run d ML_law 1495 [a0, a1, a2, a3, a4, some (.int x), a6, a7] (.int x :: st) h := w_ldI dL_law_1493 rfl
theorem w_L_law_1495 (d : Nat) (L : a_L) (st : List Value) (h : a_H) : a_run d ML_law 1495 L st h = a_run d ML_law 1496 L (.int (nI 1) :: st) h := w_iconst dL_law_1495 rfl
theorem w_L_law_1496 (d : Nat) (L : a_L) (x y : Int32) (st : List Value) (h : a_H) : a_run d ML_law 1496 L (.int y :: .int x :: st) h = a_run d ML_law 1497 L (.int (x + y) :: st) h := w_iadd dL_law_1496
theorem w_L_law_1497 (d : Nat) (L : a_L) (x : Int32) (i : Nat) (st : List Value) (h : a_H) : a_run d ML_law 1497 L (.int x :: .ref i :: st) h = (a_rdi h i a_int x).bind fun v => a_run d ML_law 1498 L (v :: st) h := w_iald dL_law_1497
theorem w_L_law_1498 (d : Nat) (a1 a2 a3 a4 a5 a6 a7 : Option Value) (x : Nat) (st : List Value) (h : a_H) : a_run d ML_law 1498 [some (.ref x), a1, a2, a3, a4, a5, a6, a7] st h = a_run d ML_law 1499 [some (.ref x), a1, a2, a3, a4, a5, a6, a7] (.ref x :: st) h := w_ldAn dL_law_1498 rfl
theorem w_L_law_1499 (d : Nat) (a0 a1 a2 a3 a4 a6 a7 : Option Value) (x : Int32) (st : List Value) (h : a_H) : a_run d ML_law 1499 [a0, a1, a2, a3, a4, some (.int x), a6, a7] st h = a_run d ML_law 1501 [a0, a1, a2, a3, a4, some (.int x), a6, a7] (.int x :: st) h := w_ldI dL_law_1499 rfl
theorem w_L_law_1501 (d : Nat) (L : a_L) (st : List Value) (h : a_H) : a_run d ML_law 1501 L st h = a_run d ML_law 1502 L (.int (nI 2) :: st) h := w_iconst dL_law_1501 rfl
theorem w_L_law_1502 (d : Nat) (L : a_L) (x y : Int32) (st : List Value) (h : a_H) : a_run d ML_law 1502 L (.int y :: .int x :: st) h = a_run d ML_law 1503 L (.int (x + y) :: st) h := w_iadd dL_law_1502
theorem w_L_law_1503 (d : Nat) (L : a_L) (x : Int32) (i : Nat) (st : List Value) (h : a_H) : a_run d ML_law 1503 L (.int x :: .ref i :: st) h = (a_rdi h i a_int x).bind fun v => a_run d ML_law 1504 L (v :: st) h := w_iald dL_law_1503
theorem w_L_law_1504 (d : Nat) (a0 a1 a2 a4 a5 a6 a7 : Option Value) (x : Nat) (st : List Value) (h : a_H) : a_run d ML_law 1504 [a0, a1, a2, some (.ref x), a4, a5, a6, a7] st h = a_run d ML_law 1505 [a0, a1, a2, some (.ref x), a4, a5, a6, a7] (.ref x :: st) h := w_ldAn dL_law_1504 rfl
theorem w_L_law_1504N (d : Nat) (a0 a1 a2 a4 a5 a6 a7 : Option Value) (st : List Value) (h : a_H) : a_run d ML_law 1504 [a0, a1, a2, some .null, a4, a5, a6, a7] st h = a_run d ML_law 1505 [a0, a1, a2, some .null, a4, a5, a6, a7] (.null :: st) h := w_ldNn dL_law_1504 rfl
theorem w_L_law_1505 (d : Nat) (L : a_L) (v0 v1 v2 v3 : Value) (st : List Value) (h : a_H) (hc : a_cat st ≤ 8) : a_run d ML_law 1505 L (v3 :: v2 :: v1 :: v0 :: st) h = a_cont d ML_law (a_bk ML_law 1505 L st (a_call d MX0_mostArrows [v0, v1, v2, v3] h)) := w_callS (as := [v0, v1, v2, v3]) dL_law_1505 rfl rfl rfl hc
theorem w_L_law_1508 (d : Nat) (a0 a1 a2 a3 a4 a5 a6 a7 : Option Value) (x : Int32) (st : List Value) (h : a_H) : a_run d ML_law 1508 [a0, a1, a2, a3, a4, a5, a6, a7] (.int x :: st) h = a_run d ML_law 1510 [a0, a1, a2, a3, a4, a5, some (.int x), a7] st h := w_stI dL_law_1508 (Nat.le_of_ble_eq_true rfl) rfl
theorem w_L_law_1510 (d : Nat) (a0 a1 a3 a4 a5 a6 a7 : Option Value) (x : Nat) (st : List Value) (h : a_H) : a_run d ML_law 1510 [a0, a1, some (.ref x), a3, a4, a5, a6, a7] st h = a_run d ML_law 1511 [a0, a1, some (.ref x), a3, a4, a5, a6, a7] (.ref x :: st) h := w_ldAn dL_law_1510 rfl
theorem w_L_law_1510N (d : Nat) (a0 a1 a3 a4 a5 a6 a7 : Option Value) (st : List Value) (h : a_H) : a_run d ML_law 1510 [a0, a1, some .null, a3, a4, a5, a6, a7] st h = a_run d ML_law 1511 [a0, a1, some .null, a3, a4, a5, a6, a7] (.null :: st) h := w_ldNn dL_law_1510 rfl
theorem w_L_law_1511 (d : Nat) (a1 a2 a3 a4 a5 a6 a7 : Option Value) (x : Nat) (st : List Value) (h : a_H) : a_run d ML_law 1511 [some (.ref x), a1, a2, a3, a4, a5, a6, a7] st h = a_run d ML_law 1512 [some (.ref x), a1, a2, a3, a4, a5, a6, a7] (.ref x :: st) h := w_ldAn dL_law_1511 rfl
theorem w_L_law_1512 (d : Nat) (a0 a1 a2 a3 a4 a6 a7 : Option Value) (x : Int32) (st : List Value) (h : a_H) : a_run d ML_law 1512 [a0, a1, a2, a3, a4, some (.int x), a6, a7] st h = a_run d ML_law 1514 [a0, a1, a2, a3, a4, some (.int x), a6, a7] (.int x :: st) h := w_ldI dL_law_1512 rfl
theorem w_L_law_1514 (d : Nat) (L : a_L) (st : List Value) (h : a_H) : a_run d ML_law 1514 L st h = a_run d ML_law 1515 L (.int (nI 1) :: st) h := w_iconst dL_law_1514 rfl
theorem w_L_law_1515 (d : Nat) (L : a_L) (x y : Int32) (st : List Value) (h : a_H) : a_run d ML_law 1515 L (.int y :: .int x :: st) h = a_run d ML_law 1516 L (.int (x + y) :: st) h := w_iadd dL_law_1515
theorem w_L_law_1516 (d : Nat) (L : a_L) (x : Int32) (i : Nat) (st : List Value) (h : a_H) : a_run d ML_law 1516 L (.int x :: .ref i :: st) h = (a_rdi h i a_int x).bind fun v => a_run d ML_law 1517 L (v :: st) h := w_iald dL_law_1516
theorem w_L_law_1517 (d : Nat) (a1 a2 a3 a4 a5 a6 a7 : Option Value) (x : Nat) (st : List Value) (h : a_H) : a_run d ML_law 1517 [some (.ref x), a1, a2, a3, a4, a5, a6, a7] st h = a_run d ML_law 1518 [some (.ref x), a1, a2, a3, a4, a5, a6, a7] (.ref x :: st) h := w_ldAn dL_law_1517 rfl
theorem w_L_law_1518 (d : Nat) (a0 a1 a2 a3 a4 a6 a7 : Option Value) (x : Int32) (st : List Value) (h : a_H) : a_run d ML_law 1518 [a0, a1, a2, a3, a4, some (.int x), a6, a7] st h = a_run d ML_law 1520 [a0, a1, a2, a3, a4, some (.int x), a6, a7] (.int x :: st) h := w_ldI dL_law_1518 rfl
theorem w_L_law_1520 (d : Nat) (L : a_L) (st : List Value) (h : a_H) : a_run d ML_law 1520 L st h = a_run d ML_law 1521 L (.int (nI 2) :: st) h := w_iconst dL_law_1520 rfl
theorem w_L_law_1521 (d : Nat) (L : a_L) (x y : Int32) (st : List Value) (h : a_H) : a_run d ML_law 1521 L (.int y :: .int x :: st) h = a_run d ML_law 1522 L (.int (x + y) :: st) h := w_iadd dL_law_1521
theorem w_L_law_1522 (d : Nat) (L : a_L) (x : Int32) (i : Nat) (st : List Value) (h : a_H) : a_run d ML_law 1522 L (.int x :: .ref i :: st) h = (a_rdi h i a_int x).bind fun v => a_run d ML_law 1523 L (v :: st) h := w_iald dL_law_1522
theorem w_L_law_1523 (d : Nat) (L : a_L) (i : Nat) (v1 v2 : Value) (st : List Value) (h : a_H) (hk : a_kls h i = some 2) (hc : a_cat st ≤ 8) : a_run d ML_law 1523 L (v2 :: v1 :: .ref i :: st) h = a_cont d ML_law (a_bk ML_law 1523 L st (a_call d MX3_mostArrows [.ref i, v1, v2] h)) := w_callV (as := [.ref i, v1, v2]) dL_law_1523 rfl rfl rfl hc (a_rcv_of hk rfl)
theorem w_L_law_1526 (d : Nat) (a0 a1 a2 a3 a4 a5 a6 a7 : Option Value) (x : Int32) (st : List Value) (h : a_H) : a_run d ML_law 1526 [a0, a1, a2, a3, a4, a5, a6, a7] (.int x :: st) h = a_run d ML_law 1528 [a0, a1, a2, a3, a4, a5, a6, some (.int x)] st h := w_stI dL_law_1526 (Nat.le_of_ble_eq_true rfl) rfl
theorem w_L_law_1528 (d : Nat) (a0 a1 a3 a4 a5 a6 a7 : Option Value) (x : Nat) (st : List Value) (h : a_H) : a_run d ML_law 1528 [a0, a1, some (.ref x), a3, a4, a5, a6, a7] st h = a_run d ML_law 1529 [a0, a1, some (.ref x), a3, a4, a5, a6, a7] (.ref x :: st) h := w_ldAn dL_law_1528 rfl
theorem w_L_law_1528N (d : Nat) (a0 a1 a3 a4 a5 a6 a7 : Option Value) (st : List Value) (h : a_H) : a_run d ML_law 1528 [a0, a1, some .null, a3, a4, a5, a6, a7] st h = a_run d ML_law 1529 [a0, a1, some .null, a3, a4, a5, a6, a7] (.null :: st) h := w_ldNn dL_law_1528 rfl
theorem w_L_law_1529 (d : Nat) (L : a_L) (i : Nat) (st : List Value) (h : a_H) (hk : a_kls h i = some 2) (hc : a_cat st ≤ 8) : a_run d ML_law 1529 L (.ref i :: st) h = a_cont d ML_law (a_bk ML_law 1529 L st (a_call d MX3_thrown [.ref i] h)) := w_callV (as := [.ref i]) dL_law_1529 rfl rfl rfl hc (a_rcv_of hk rfl)
theorem w_L_law_1532 (d : Nat) (a0 a1 a2 a3 a4 a5 a7 : Option Value) (x : Int32) (st : List Value) (h : a_H) : a_run d ML_law 1532 [a0, a1, a2, a3, a4, a5, some (.int x), a7] st h = a_run d ML_law 1534 [a0, a1, a2, a3, a4, a5, some (.int x), a7] (.int x :: st) h := w_ldI dL_law_1532 rfl
theorem w_L_law_1534 (d : Nat) (L : a_L) (x y : Int32) (st : List Value) (h : a_H) : a_run d ML_law 1534 L (.int y :: .int x :: st) h = if x = y then a_run d ML_law 1539 L st h else a_run d ML_law 1537 L st h := w_icmp_eq dL_law_1534 rfl
theorem w_L_law_1537 (d : Nat) (L : a_L) (st : List Value) (h : a_H) : a_run d ML_law 1537 L st h = a_run d ML_law 1538 L (.int (nI 0) :: st) h := w_iconst dL_law_1537 rfl
theorem w_L_law_1538 (d : Nat) (L : a_L) (x : Int32) (h : a_H) (hx : x = 0 ∨ x = 1) : a_run d ML_law 1538 L [.int x] h = some (.inl (some (.int x)), h) := w_iret dL_law_1538 (w_retZ rfl hx)
theorem w_L_law_1539 (d : Nat) (a0 a1 a2 a3 a4 a5 a7 : Option Value) (x : Int32) (st : List Value) (h : a_H) : a_run d ML_law 1539 [a0, a1, a2, a3, a4, a5, some (.int x), a7] st h = a_run d ML_law 1541 [a0, a1, a2, a3, a4, a5, some (.int x), a7] (.int x :: st) h := w_ldI dL_law_1539 rfl
theorem w_L_law_1541 (d : Nat) (L : a_L) (x : Int32) (st : List Value) (h : a_H) : a_run d ML_law 1541 L (.int x :: st) h = if x = 0 then a_run d ML_law 1544 L st h else a_run d ML_law 1556 L st h := w_if_ne dL_law_1541 rfl
theorem w_L_law_1544 (d : Nat) (a0 a1 a2 a4 a5 a6 a7 : Option Value) (x : Nat) (st : List Value) (h : a_H) : a_run d ML_law 1544 [a0, a1, a2, some (.ref x), a4, a5, a6, a7] st h = a_run d ML_law 1545 [a0, a1, a2, some (.ref x), a4, a5, a6, a7] (.ref x :: st) h := w_ldAn dL_law_1544 rfl
theorem w_L_law_1544N (d : Nat) (a0 a1 a2 a4 a5 a6 a7 : Option Value) (st : List Value) (h : a_H) : a_run d ML_law 1544 [a0, a1, a2, some .null, a4, a5, a6, a7] st h = a_run d ML_law 1545 [a0, a1, a2, some .null, a4, a5, a6, a7] (.null :: st) h := w_ldNn dL_law_1544 rfl
theorem w_L_law_1545 (d : Nat) (L : a_L) (st : List Value) (h : a_H) : a_run d ML_law 1545 L st h = a_run d ML_law 1546 L (.int (nI 0) :: st) h := w_iconst dL_law_1545 rfl
theorem w_L_law_1546 (d : Nat) (L : a_L) (x : Int32) (i : Nat) (st : List Value) (h : a_H) : a_run d ML_law 1546 L (.int x :: .ref i :: st) h = (a_rdl h i x).bind fun v => a_run d ML_law 1547 L (v :: st) h := w_lald dL_law_1546
theorem w_L_law_1547 (d : Nat) (a0 a1 a2 a3 a4 a5 a6 : Option Value) (x : Int32) (st : List Value) (h : a_H) : a_run d ML_law 1547 [a0, a1, a2, a3, a4, a5, a6, some (.int x)] st h = a_run d ML_law 1549 [a0, a1, a2, a3, a4, a5, a6, some (.int x)] (.int x :: st) h := w_ldI dL_law_1547 rfl
theorem w_L_law_1549 (d : Nat) (L : a_L) (x : Int32) (st : List Value) (h : a_H) : a_run d ML_law 1549 L (.int x :: st) h = a_run d ML_law 1550 L (.long x.toInt64 :: st) h := w_i2l dL_law_1549
theorem w_L_law_1550 (d : Nat) (L : a_L) (x y : Int64) (st : List Value) (h : a_H) : a_run d ML_law 1550 L (.long y :: .long x :: st) h = a_run d ML_law 1551 L (.int (lg_cmp x y) :: st) h := w_lcmp dL_law_1550
theorem w_L_law_1551 (d : Nat) (L : a_L) (x : Int32) (st : List Value) (h : a_H) : a_run d ML_law 1551 L (.int x :: st) h = if x = 0 then a_run d ML_law 1556 L st h else a_run d ML_law 1554 L st h := w_if_eq dL_law_1551 rfl
theorem w_L_law_1554 (d : Nat) (L : a_L) (st : List Value) (h : a_H) : a_run d ML_law 1554 L st h = a_run d ML_law 1555 L (.int (nI 0) :: st) h := w_iconst dL_law_1554 rfl
theorem w_L_law_1555 (d : Nat) (L : a_L) (x : Int32) (h : a_H) (hx : x = 0 ∨ x = 1) : a_run d ML_law 1555 L [.int x] h = some (.inl (some (.int x)), h) := w_iret dL_law_1555 (w_retZ rfl hx)
theorem w_L_law_1556 (d : Nat) (L : a_L) (st : List Value) (h : a_H) : a_run d ML_law 1556 L st h = a_run d ML_law 2985 L st h := w_goto dL_law_1556 rfl
theorem w_L_law_1559 (d : Nat) (a0 a2 a3 a4 a5 a6 a7 : Option Value) (x : Nat) (st : List Value) (h : a_H) : a_run d ML_law 1559 [a0, some (.ref x), a2, a3, a4, a5, a6, a7] st h = a_run d ML_law 1560 [a0, some (.ref x), a2, a3, a4, a5, a6, a7] (.ref x :: st) h := w_ldAn dL_law_1559 rfl
theorem w_L_law_1559N (d : Nat) (a0 a2 a3 a4 a5 a6 a7 : Option Value) (st : List Value) (h : a_H) : a_run d ML_law 1559 [a0, some .null, a2, a3, a4, a5, a6, a7] st h = a_run d ML_law 1560 [a0, some .null, a2, a3, a4, a5, a6, a7] (.null :: st) h := w_ldNn dL_law_1559 rfl
theorem w_L_law_1560 (d : Nat) (L : a_L) (i : Nat) (st : List Value) (h : a_H) (hk : a_kls h i = some 0) (hc : a_cat st ≤ 8) : a_run d ML_law 1560 L (.ref i :: st) h = a_cont d ML_law (a_bk ML_law 1560 L st (a_call d MX1_firstTellers [.ref i] h)) := w_callV (as := [.ref i]) dL_law_1560 rfl rfl rfl hc (a_rcv_of hk rfl)
theorem w_L_law_1563 (d : Nat) (a0 a1 a3 a4 a5 a6 a7 : Option Value) (x : Nat) (st : List Value) (h : a_H) : a_run d ML_law 1563 [a0, a1, some (.ref x), a3, a4, a5, a6, a7] st h = a_run d ML_law 1564 [a0, a1, some (.ref x), a3, a4, a5, a6, a7] (.ref x :: st) h := w_ldAn dL_law_1563 rfl
theorem w_L_law_1563N (d : Nat) (a0 a1 a3 a4 a5 a6 a7 : Option Value) (st : List Value) (h : a_H) : a_run d ML_law 1563 [a0, a1, some .null, a3, a4, a5, a6, a7] st h = a_run d ML_law 1564 [a0, a1, some .null, a3, a4, a5, a6, a7] (.null :: st) h := w_ldNn dL_law_1563 rfl
theorem w_L_law_1564 (d : Nat) (L : a_L) (i : Nat) (st : List Value) (h : a_H) (hk : a_kls h i = some 2) (hc : a_cat st ≤ 8) : a_run d ML_law 1564 L (.ref i :: st) h = a_cont d ML_law (a_bk ML_law 1564 L st (a_call d MX3_firstTellers [.ref i] h)) := w_callV (as := [.ref i]) dL_law_1564 rfl rfl rfl hc (a_rcv_of hk rfl)
theorem w_L_law_1567 (d : Nat) (L : a_L) (x y : Int32) (st : List Value) (h : a_H) : a_run d ML_law 1567 L (.int y :: .int x :: st) h = if x = y then a_run d ML_law 2985 L st h else a_run d ML_law 1570 L st h := w_icmp_eq dL_law_1567 rfl
theorem w_L_law_1570 (d : Nat) (L : a_L) (st : List Value) (h : a_H) : a_run d ML_law 1570 L st h = a_run d ML_law 1571 L (.int (nI 0) :: st) h := w_iconst dL_law_1570 rfl
theorem w_L_law_1571 (d : Nat) (L : a_L) (x : Int32) (h : a_H) (hx : x = 0 ∨ x = 1) : a_run d ML_law 1571 L [.int x] h = some (.inl (some (.int x)), h) := w_iret dL_law_1571 (w_retZ rfl hx)
theorem w_L_law_1572 (d : Nat) (a0 a2 a3 a4 a5 a6 a7 : Option Value) (x : Nat) (st : List Value) (h : a_H) : a_run d ML_law 1572 [a0, some (.ref x), a2, a3, a4, a5, a6, a7] st h = a_run d ML_law 1573 [a0, some (.ref x), a2, a3, a4, a5, a6, a7] (.ref x :: st) h := w_ldAn dL_law_1572 rfl
theorem w_L_law_1572N (d : Nat) (a0 a2 a3 a4 a5 a6 a7 : Option Value) (st : List Value) (h : a_H) : a_run d ML_law 1572 [a0, some .null, a2, a3, a4, a5, a6, a7] st h = a_run d ML_law 1573 [a0, some .null, a2, a3, a4, a5, a6, a7] (.null :: st) h := w_ldNn dL_law_1572 rfl
theorem w_L_law_1573 (d : Nat) (L : a_L) (i : Nat) (st : List Value) (h : a_H) (hk : a_kls h i = some 0) (hc : a_cat st ≤ 8) : a_run d ML_law 1573 L (.ref i :: st) h = a_cont d ML_law (a_bk ML_law 1573 L st (a_call d MX1_lastHearers [.ref i] h)) := w_callV (as := [.ref i]) dL_law_1573 rfl rfl rfl hc (a_rcv_of hk rfl)
theorem w_L_law_1576 (d : Nat) (a0 a1 a3 a4 a5 a6 a7 : Option Value) (x : Nat) (st : List Value) (h : a_H) : a_run d ML_law 1576 [a0, a1, some (.ref x), a3, a4, a5, a6, a7] st h = a_run d ML_law 1577 [a0, a1, some (.ref x), a3, a4, a5, a6, a7] (.ref x :: st) h := w_ldAn dL_law_1576 rfl
theorem w_L_law_1576N (d : Nat) (a0 a1 a3 a4 a5 a6 a7 : Option Value) (st : List Value) (h : a_H) : a_run d ML_law 1576 [a0, a1, some .null, a3, a4, a5, a6, a7] st h = a_run d ML_law 1577 [a0, a1, some .null, a3, a4, a5, a6, a7] (.null :: st) h := w_ldNn dL_law_1576 rfl
theorem w_L_law_1577 (d : Nat) (L : a_L) (i : Nat) (st : List Value) (h : a_H) (hk : a_kls h i = some 2) (hc : a_cat st ≤ 8) : a_run d ML_law 1577 L (.ref i :: st) h = a_cont d ML_law (a_bk ML_law 1577 L st (a_call d MX3_lastHearers [.ref i] h)) := w_callV (as := [.ref i]) dL_law_1577 rfl rfl rfl hc (a_rcv_of hk rfl)
theorem w_L_law_1580 (d : Nat) (L : a_L) (x y : Int32) (st : List Value) (h : a_H) : a_run d ML_law 1580 L (.int y :: .int x :: st) h = if x = y then a_run d ML_law 2985 L st h else a_run d ML_law 1583 L st h := w_icmp_eq dL_law_1580 rfl
theorem w_L_law_1583 (d : Nat) (L : a_L) (st : List Value) (h : a_H) : a_run d ML_law 1583 L st h = a_run d ML_law 1584 L (.int (nI 0) :: st) h := w_iconst dL_law_1583 rfl
theorem w_L_law_1584 (d : Nat) (L : a_L) (x : Int32) (h : a_H) (hx : x = 0 ∨ x = 1) : a_run d ML_law 1584 L [.int x] h = some (.inl (some (.int x)), h) := w_iret dL_law_1584 (w_retZ rfl hx)
theorem w_L_law_1585 (d : Nat) (a0 a2 a3 a4 a5 a6 a7 : Option Value) (x : Nat) (st : List Value) (h : a_H) : a_run d ML_law 1585 [a0, some (.ref x), a2, a3, a4, a5, a6, a7] st h = a_run d ML_law 1586 [a0, some (.ref x), a2, a3, a4, a5, a6, a7] (.ref x :: st) h := w_ldAn dL_law_1585 rfl
theorem w_L_law_1585N (d : Nat) (a0 a2 a3 a4 a5 a6 a7 : Option Value) (st : List Value) (h : a_H) : a_run d ML_law 1585 [a0, some .null, a2, a3, a4, a5, a6, a7] st h = a_run d ML_law 1586 [a0, some .null, a2, a3, a4, a5, a6, a7] (.null :: st) h := w_ldNn dL_law_1585 rfl
theorem w_L_law_1586 (d : Nat) (a1 a2 a3 a4 a5 a6 a7 : Option Value) (x : Nat) (st : List Value) (h : a_H) : a_run d ML_law 1586 [some (.ref x), a1, a2, a3, a4, a5, a6, a7] st h = a_run d ML_law 1587 [some (.ref x), a1, a2, a3, a4, a5, a6, a7] (.ref x :: st) h := w_ldAn dL_law_1586 rfl
theorem w_L_law_1587 (d : Nat) (a0 a1 a2 a3 a4 a6 a7 : Option Value) (x : Int32) (st : List Value) (h : a_H) : a_run d ML_law 1587 [a0, a1, a2, a3, a4, some (.int x), a6, a7] st h = a_run d ML_law 1589 [a0, a1, a2, a3, a4, some (.int x), a6, a7] (.int x :: st) h := w_ldI dL_law_1587 rfl
theorem w_L_law_1589 (d : Nat) (L : a_L) (st : List Value) (h : a_H) : a_run d ML_law 1589 L st h = a_run d ML_law 1590 L (.int (nI 1) :: st) h := w_iconst dL_law_1589 rfl
theorem w_L_law_1590 (d : Nat) (L : a_L) (x y : Int32) (st : List Value) (h : a_H) : a_run d ML_law 1590 L (.int y :: .int x :: st) h = a_run d ML_law 1591 L (.int (x + y) :: st) h := w_iadd dL_law_1590
theorem w_L_law_1591 (d : Nat) (L : a_L) (x : Int32) (i : Nat) (st : List Value) (h : a_H) : a_run d ML_law 1591 L (.int x :: .ref i :: st) h = (a_rdi h i a_int x).bind fun v => a_run d ML_law 1592 L (v :: st) h := w_iald dL_law_1591
theorem w_L_law_1592 (d : Nat) (a0 a1 a2 a4 a5 a6 a7 : Option Value) (x : Nat) (st : List Value) (h : a_H) : a_run d ML_law 1592 [a0, a1, a2, some (.ref x), a4, a5, a6, a7] st h = a_run d ML_law 1593 [a0, a1, a2, some (.ref x), a4, a5, a6, a7] (.ref x :: st) h := w_ldAn dL_law_1592 rfl
theorem w_L_law_1592N (d : Nat) (a0 a1 a2 a4 a5 a6 a7 : Option Value) (st : List Value) (h : a_H) : a_run d ML_law 1592 [a0, a1, a2, some .null, a4, a5, a6, a7] st h = a_run d ML_law 1593 [a0, a1, a2, some .null, a4, a5, a6, a7] (.null :: st) h := w_ldNn dL_law_1592 rfl
theorem w_L_law_1593 (d : Nat) (L : a_L) (v0 v1 v2 : Value) (st : List Value) (h : a_H) (hc : a_cat st ≤ 8) : a_run d ML_law 1593 L (v2 :: v1 :: v0 :: st) h = a_cont d ML_law (a_bk ML_law 1593 L st (a_call d MX0_layerOf [v0, v1, v2] h)) := w_callS (as := [v0, v1, v2]) dL_law_1593 rfl rfl rfl hc
theorem w_L_law_1596 (d : Nat) (a0 a1 a2 a3 a4 a5 a6 a7 : Option Value) (x : Int32) (st : List Value) (h : a_H) : a_run d ML_law 1596 [a0, a1, a2, a3, a4, a5, a6, a7] (.int x :: st) h = a_run d ML_law 1598 [a0, a1, a2, a3, a4, a5, some (.int x), a7] st h := w_stI dL_law_1596 (Nat.le_of_ble_eq_true rfl) rfl
theorem w_L_law_1598 (d : Nat) (a0 a1 a3 a4 a5 a6 a7 : Option Value) (x : Nat) (st : List Value) (h : a_H) : a_run d ML_law 1598 [a0, a1, some (.ref x), a3, a4, a5, a6, a7] st h = a_run d ML_law 1599 [a0, a1, some (.ref x), a3, a4, a5, a6, a7] (.ref x :: st) h := w_ldAn dL_law_1598 rfl
theorem w_L_law_1598N (d : Nat) (a0 a1 a3 a4 a5 a6 a7 : Option Value) (st : List Value) (h : a_H) : a_run d ML_law 1598 [a0, a1, some .null, a3, a4, a5, a6, a7] st h = a_run d ML_law 1599 [a0, a1, some .null, a3, a4, a5, a6, a7] (.null :: st) h := w_ldNn dL_law_1598 rfl
theorem w_L_law_1599 (d : Nat) (a1 a2 a3 a4 a5 a6 a7 : Option Value) (x : Nat) (st : List Value) (h : a_H) : a_run d ML_law 1599 [some (.ref x), a1, a2, a3, a4, a5, a6, a7] st h = a_run d ML_law 1600 [some (.ref x), a1, a2, a3, a4, a5, a6, a7] (.ref x :: st) h := w_ldAn dL_law_1599 rfl
theorem w_L_law_1600 (d : Nat) (a0 a1 a2 a3 a4 a6 a7 : Option Value) (x : Int32) (st : List Value) (h : a_H) : a_run d ML_law 1600 [a0, a1, a2, a3, a4, some (.int x), a6, a7] st h = a_run d ML_law 1602 [a0, a1, a2, a3, a4, some (.int x), a6, a7] (.int x :: st) h := w_ldI dL_law_1600 rfl
theorem w_L_law_1602 (d : Nat) (L : a_L) (st : List Value) (h : a_H) : a_run d ML_law 1602 L st h = a_run d ML_law 1603 L (.int (nI 1) :: st) h := w_iconst dL_law_1602 rfl
theorem w_L_law_1603 (d : Nat) (L : a_L) (x y : Int32) (st : List Value) (h : a_H) : a_run d ML_law 1603 L (.int y :: .int x :: st) h = a_run d ML_law 1604 L (.int (x + y) :: st) h := w_iadd dL_law_1603
theorem w_L_law_1604 (d : Nat) (L : a_L) (x : Int32) (i : Nat) (st : List Value) (h : a_H) : a_run d ML_law 1604 L (.int x :: .ref i :: st) h = (a_rdi h i a_int x).bind fun v => a_run d ML_law 1605 L (v :: st) h := w_iald dL_law_1604
theorem w_L_law_1605 (d : Nat) (L : a_L) (i : Nat) (v1 : Value) (st : List Value) (h : a_H) (hk : a_kls h i = some 2) (hc : a_cat st ≤ 8) : a_run d ML_law 1605 L (v1 :: .ref i :: st) h = a_cont d ML_law (a_bk ML_law 1605 L st (a_call d MX3_layerOf [.ref i, v1] h)) := w_callV (as := [.ref i, v1]) dL_law_1605 rfl rfl rfl hc (a_rcv_of hk rfl)
theorem w_L_law_1608 (d : Nat) (a0 a1 a2 a3 a4 a5 a6 a7 : Option Value) (x : Int32) (st : List Value) (h : a_H) : a_run d ML_law 1608 [a0, a1, a2, a3, a4, a5, a6, a7] (.int x :: st) h = a_run d ML_law 1610 [a0, a1, a2, a3, a4, a5, a6, some (.int x)] st h := w_stI dL_law_1608 (Nat.le_of_ble_eq_true rfl) rfl
theorem w_L_law_1610 (d : Nat) (a0 a1 a3 a4 a5 a6 a7 : Option Value) (x : Nat) (st : List Value) (h : a_H) : a_run d ML_law 1610 [a0, a1, some (.ref x), a3, a4, a5, a6, a7] st h = a_run d ML_law 1611 [a0, a1, some (.ref x), a3, a4, a5, a6, a7] (.ref x :: st) h := w_ldAn dL_law_1610 rfl
theorem w_L_law_1610N (d : Nat) (a0 a1 a3 a4 a5 a6 a7 : Option Value) (st : List Value) (h : a_H) : a_run d ML_law 1610 [a0, a1, some .null, a3, a4, a5, a6, a7] st h = a_run d ML_law 1611 [a0, a1, some .null, a3, a4, a5, a6, a7] (.null :: st) h := w_ldNn dL_law_1610 rfl
theorem w_L_law_1611 (d : Nat) (L : a_L) (i : Nat) (st : List Value) (h : a_H) (hk : a_kls h i = some 2) (hc : a_cat st ≤ 8) : a_run d ML_law 1611 L (.ref i :: st) h = a_cont d ML_law (a_bk ML_law 1611 L st (a_call d MX3_thrown [.ref i] h)) := w_callV (as := [.ref i]) dL_law_1611 rfl rfl rfl hc (a_rcv_of hk rfl)
theorem w_L_law_1614 (d : Nat) (a0 a1 a2 a3 a4 a5 a7 : Option Value) (x : Int32) (st : List Value) (h : a_H) : a_run d ML_law 1614 [a0, a1, a2, a3, a4, a5, some (.int x), a7] st h = a_run d ML_law 1616 [a0, a1, a2, a3, a4, a5, some (.int x), a7] (.int x :: st) h := w_ldI dL_law_1614 rfl
theorem w_L_law_1616 (d : Nat) (L : a_L) (x y : Int32) (st : List Value) (h : a_H) : a_run d ML_law 1616 L (.int y :: .int x :: st) h = if x = y then a_run d ML_law 1621 L st h else a_run d ML_law 1619 L st h := w_icmp_eq dL_law_1616 rfl
theorem w_L_law_1619 (d : Nat) (L : a_L) (st : List Value) (h : a_H) : a_run d ML_law 1619 L st h = a_run d ML_law 1620 L (.int (nI 0) :: st) h := w_iconst dL_law_1619 rfl
theorem w_L_law_1620 (d : Nat) (L : a_L) (x : Int32) (h : a_H) (hx : x = 0 ∨ x = 1) : a_run d ML_law 1620 L [.int x] h = some (.inl (some (.int x)), h) := w_iret dL_law_1620 (w_retZ rfl hx)
theorem w_L_law_1621 (d : Nat) (a0 a1 a2 a3 a4 a5 a7 : Option Value) (x : Int32) (st : List Value) (h : a_H) : a_run d ML_law 1621 [a0, a1, a2, a3, a4, a5, some (.int x), a7] st h = a_run d ML_law 1623 [a0, a1, a2, a3, a4, a5, some (.int x), a7] (.int x :: st) h := w_ldI dL_law_1621 rfl
theorem w_L_law_1623 (d : Nat) (L : a_L) (x : Int32) (st : List Value) (h : a_H) : a_run d ML_law 1623 L (.int x :: st) h = if x = 0 then a_run d ML_law 1626 L st h else a_run d ML_law 1638 L st h := w_if_ne dL_law_1623 rfl
theorem w_L_law_1626 (d : Nat) (a0 a1 a2 a4 a5 a6 a7 : Option Value) (x : Nat) (st : List Value) (h : a_H) : a_run d ML_law 1626 [a0, a1, a2, some (.ref x), a4, a5, a6, a7] st h = a_run d ML_law 1627 [a0, a1, a2, some (.ref x), a4, a5, a6, a7] (.ref x :: st) h := w_ldAn dL_law_1626 rfl
theorem w_L_law_1626N (d : Nat) (a0 a1 a2 a4 a5 a6 a7 : Option Value) (st : List Value) (h : a_H) : a_run d ML_law 1626 [a0, a1, a2, some .null, a4, a5, a6, a7] st h = a_run d ML_law 1627 [a0, a1, a2, some .null, a4, a5, a6, a7] (.null :: st) h := w_ldNn dL_law_1626 rfl
theorem w_L_law_1627 (d : Nat) (L : a_L) (st : List Value) (h : a_H) : a_run d ML_law 1627 L st h = a_run d ML_law 1628 L (.int (nI 0) :: st) h := w_iconst dL_law_1627 rfl
theorem w_L_law_1628 (d : Nat) (L : a_L) (x : Int32) (i : Nat) (st : List Value) (h : a_H) : a_run d ML_law 1628 L (.int x :: .ref i :: st) h = (a_rdl h i x).bind fun v => a_run d ML_law 1629 L (v :: st) h := w_lald dL_law_1628
theorem w_L_law_1629 (d : Nat) (a0 a1 a2 a3 a4 a5 a6 : Option Value) (x : Int32) (st : List Value) (h : a_H) : a_run d ML_law 1629 [a0, a1, a2, a3, a4, a5, a6, some (.int x)] st h = a_run d ML_law 1631 [a0, a1, a2, a3, a4, a5, a6, some (.int x)] (.int x :: st) h := w_ldI dL_law_1629 rfl
theorem w_L_law_1631 (d : Nat) (L : a_L) (x : Int32) (st : List Value) (h : a_H) : a_run d ML_law 1631 L (.int x :: st) h = a_run d ML_law 1632 L (.long x.toInt64 :: st) h := w_i2l dL_law_1631
theorem w_L_law_1632 (d : Nat) (L : a_L) (x y : Int64) (st : List Value) (h : a_H) : a_run d ML_law 1632 L (.long y :: .long x :: st) h = a_run d ML_law 1633 L (.int (lg_cmp x y) :: st) h := w_lcmp dL_law_1632
theorem w_L_law_1633 (d : Nat) (L : a_L) (x : Int32) (st : List Value) (h : a_H) : a_run d ML_law 1633 L (.int x :: st) h = if x = 0 then a_run d ML_law 1638 L st h else a_run d ML_law 1636 L st h := w_if_eq dL_law_1633 rfl
theorem w_L_law_1636 (d : Nat) (L : a_L) (st : List Value) (h : a_H) : a_run d ML_law 1636 L st h = a_run d ML_law 1637 L (.int (nI 0) :: st) h := w_iconst dL_law_1636 rfl
theorem w_L_law_1637 (d : Nat) (L : a_L) (x : Int32) (h : a_H) (hx : x = 0 ∨ x = 1) : a_run d ML_law 1637 L [.int x] h = some (.inl (some (.int x)), h) := w_iret dL_law_1637 (w_retZ rfl hx)
theorem w_L_law_1638 (d : Nat) (L : a_L) (st : List Value) (h : a_H) : a_run d ML_law 1638 L st h = a_run d ML_law 2985 L st h := w_goto dL_law_1638 rfl
theorem w_L_law_1641 (d : Nat) (a0 a2 a3 a4 a5 a6 a7 : Option Value) (x : Nat) (st : List Value) (h : a_H) : a_run d ML_law 1641 [a0, some (.ref x), a2, a3, a4, a5, a6, a7] st h = a_run d ML_law 1642 [a0, some (.ref x), a2, a3, a4, a5, a6, a7] (.ref x :: st) h := w_ldAn dL_law_1641 rfl
theorem w_L_law_1641N (d : Nat) (a0 a2 a3 a4 a5 a6 a7 : Option Value) (st : List Value) (h : a_H) : a_run d ML_law 1641 [a0, some .null, a2, a3, a4, a5, a6, a7] st h = a_run d ML_law 1642 [a0, some .null, a2, a3, a4, a5, a6, a7] (.null :: st) h := w_ldNn dL_law_1641 rfl
theorem w_L_law_1642 (d : Nat) (a1 a2 a3 a4 a5 a6 a7 : Option Value) (x : Nat) (st : List Value) (h : a_H) : a_run d ML_law 1642 [some (.ref x), a1, a2, a3, a4, a5, a6, a7] st h = a_run d ML_law 1643 [some (.ref x), a1, a2, a3, a4, a5, a6, a7] (.ref x :: st) h := w_ldAn dL_law_1642 rfl
theorem w_L_law_1643 (d : Nat) (a0 a1 a2 a3 a4 a6 a7 : Option Value) (x : Int32) (st : List Value) (h : a_H) : a_run d ML_law 1643 [a0, a1, a2, a3, a4, some (.int x), a6, a7] st h = a_run d ML_law 1645 [a0, a1, a2, a3, a4, some (.int x), a6, a7] (.int x :: st) h := w_ldI dL_law_1643 rfl
theorem w_L_law_1645 (d : Nat) (L : a_L) (st : List Value) (h : a_H) : a_run d ML_law 1645 L st h = a_run d ML_law 1646 L (.int (nI 1) :: st) h := w_iconst dL_law_1645 rfl
theorem w_L_law_1646 (d : Nat) (L : a_L) (x y : Int32) (st : List Value) (h : a_H) : a_run d ML_law 1646 L (.int y :: .int x :: st) h = a_run d ML_law 1647 L (.int (x + y) :: st) h := w_iadd dL_law_1646
theorem w_L_law_1647 (d : Nat) (L : a_L) (x : Int32) (i : Nat) (st : List Value) (h : a_H) : a_run d ML_law 1647 L (.int x :: .ref i :: st) h = (a_rdi h i a_int x).bind fun v => a_run d ML_law 1648 L (v :: st) h := w_iald dL_law_1647
theorem w_L_law_1648 (d : Nat) (a0 a1 a2 a4 a5 a6 a7 : Option Value) (x : Nat) (st : List Value) (h : a_H) : a_run d ML_law 1648 [a0, a1, a2, some (.ref x), a4, a5, a6, a7] st h = a_run d ML_law 1649 [a0, a1, a2, some (.ref x), a4, a5, a6, a7] (.ref x :: st) h := w_ldAn dL_law_1648 rfl
theorem w_L_law_1648N (d : Nat) (a0 a1 a2 a4 a5 a6 a7 : Option Value) (st : List Value) (h : a_H) : a_run d ML_law 1648 [a0, a1, a2, some .null, a4, a5, a6, a7] st h = a_run d ML_law 1649 [a0, a1, a2, some .null, a4, a5, a6, a7] (.null :: st) h := w_ldNn dL_law_1648 rfl
theorem w_L_law_1649 (d : Nat) (L : a_L) (v0 v1 v2 : Value) (st : List Value) (h : a_H) (hc : a_cat st ≤ 8) : a_run d ML_law 1649 L (v2 :: v1 :: v0 :: st) h = a_cont d ML_law (a_bk ML_law 1649 L st (a_call d MX0_layerByGoingBack [v0, v1, v2] h)) := w_callS (as := [v0, v1, v2]) dL_law_1649 rfl rfl rfl hc
theorem w_L_law_1652 (d : Nat) (a0 a1 a2 a3 a4 a5 a6 a7 : Option Value) (x : Int32) (st : List Value) (h : a_H) : a_run d ML_law 1652 [a0, a1, a2, a3, a4, a5, a6, a7] (.int x :: st) h = a_run d ML_law 1654 [a0, a1, a2, a3, a4, a5, some (.int x), a7] st h := w_stI dL_law_1652 (Nat.le_of_ble_eq_true rfl) rfl
theorem w_L_law_1654 (d : Nat) (a0 a1 a3 a4 a5 a6 a7 : Option Value) (x : Nat) (st : List Value) (h : a_H) : a_run d ML_law 1654 [a0, a1, some (.ref x), a3, a4, a5, a6, a7] st h = a_run d ML_law 1655 [a0, a1, some (.ref x), a3, a4, a5, a6, a7] (.ref x :: st) h := w_ldAn dL_law_1654 rfl
theorem w_L_law_1654N (d : Nat) (a0 a1 a3 a4 a5 a6 a7 : Option Value) (st : List Value) (h : a_H) : a_run d ML_law 1654 [a0, a1, some .null, a3, a4, a5, a6, a7] st h = a_run d ML_law 1655 [a0, a1, some .null, a3, a4, a5, a6, a7] (.null :: st) h := w_ldNn dL_law_1654 rfl
theorem w_L_law_1655 (d : Nat) (a1 a2 a3 a4 a5 a6 a7 : Option Value) (x : Nat) (st : List Value) (h : a_H) : a_run d ML_law 1655 [some (.ref x), a1, a2, a3, a4, a5, a6, a7] st h = a_run d ML_law 1656 [some (.ref x), a1, a2, a3, a4, a5, a6, a7] (.ref x :: st) h := w_ldAn dL_law_1655 rfl
theorem w_L_law_1656 (d : Nat) (a0 a1 a2 a3 a4 a6 a7 : Option Value) (x : Int32) (st : List Value) (h : a_H) : a_run d ML_law 1656 [a0, a1, a2, a3, a4, some (.int x), a6, a7] st h = a_run d ML_law 1658 [a0, a1, a2, a3, a4, some (.int x), a6, a7] (.int x :: st) h := w_ldI dL_law_1656 rfl
theorem w_L_law_1658 (d : Nat) (L : a_L) (st : List Value) (h : a_H) : a_run d ML_law 1658 L st h = a_run d ML_law 1659 L (.int (nI 1) :: st) h := w_iconst dL_law_1658 rfl
theorem w_L_law_1659 (d : Nat) (L : a_L) (x y : Int32) (st : List Value) (h : a_H) : a_run d ML_law 1659 L (.int y :: .int x :: st) h = a_run d ML_law 1660 L (.int (x + y) :: st) h := w_iadd dL_law_1659
theorem w_L_law_1660 (d : Nat) (L : a_L) (x : Int32) (i : Nat) (st : List Value) (h : a_H) : a_run d ML_law 1660 L (.int x :: .ref i :: st) h = (a_rdi h i a_int x).bind fun v => a_run d ML_law 1661 L (v :: st) h := w_iald dL_law_1660
theorem w_L_law_1661 (d : Nat) (L : a_L) (i : Nat) (v1 : Value) (st : List Value) (h : a_H) (hk : a_kls h i = some 2) (hc : a_cat st ≤ 8) : a_run d ML_law 1661 L (v1 :: .ref i :: st) h = a_cont d ML_law (a_bk ML_law 1661 L st (a_call d MX3_layerByGoingBack [.ref i, v1] h)) := w_callV (as := [.ref i, v1]) dL_law_1661 rfl rfl rfl hc (a_rcv_of hk rfl)
theorem w_L_law_1664 (d : Nat) (a0 a1 a2 a3 a4 a5 a6 a7 : Option Value) (x : Int32) (st : List Value) (h : a_H) : a_run d ML_law 1664 [a0, a1, a2, a3, a4, a5, a6, a7] (.int x :: st) h = a_run d ML_law 1666 [a0, a1, a2, a3, a4, a5, a6, some (.int x)] st h := w_stI dL_law_1664 (Nat.le_of_ble_eq_true rfl) rfl
theorem w_L_law_1666 (d : Nat) (a0 a1 a3 a4 a5 a6 a7 : Option Value) (x : Nat) (st : List Value) (h : a_H) : a_run d ML_law 1666 [a0, a1, some (.ref x), a3, a4, a5, a6, a7] st h = a_run d ML_law 1667 [a0, a1, some (.ref x), a3, a4, a5, a6, a7] (.ref x :: st) h := w_ldAn dL_law_1666 rfl
theorem w_L_law_1666N (d : Nat) (a0 a1 a3 a4 a5 a6 a7 : Option Value) (st : List Value) (h : a_H) : a_run d ML_law 1666 [a0, a1, some .null, a3, a4, a5, a6, a7] st h = a_run d ML_law 1667 [a0, a1, some .null, a3, a4, a5, a6, a7] (.null :: st) h := w_ldNn dL_law_1666 rfl
theorem w_L_law_1667 (d : Nat) (L : a_L) (i : Nat) (st : List Value) (h : a_H) (hk : a_kls h i = some 2) (hc : a_cat st ≤ 8) : a_run d ML_law 1667 L (.ref i :: st) h = a_cont d ML_law (a_bk ML_law 1667 L st (a_call d MX3_thrown [.ref i] h)) := w_callV (as := [.ref i]) dL_law_1667 rfl rfl rfl hc (a_rcv_of hk rfl)
theorem w_L_law_1670 (d : Nat) (a0 a1 a2 a3 a4 a5 a7 : Option Value) (x : Int32) (st : List Value) (h : a_H) : a_run d ML_law 1670 [a0, a1, a2, a3, a4, a5, some (.int x), a7] st h = a_run d ML_law 1672 [a0, a1, a2, a3, a4, a5, some (.int x), a7] (.int x :: st) h := w_ldI dL_law_1670 rfl
theorem w_L_law_1672 (d : Nat) (L : a_L) (x y : Int32) (st : List Value) (h : a_H) : a_run d ML_law 1672 L (.int y :: .int x :: st) h = if x = y then a_run d ML_law 1677 L st h else a_run d ML_law 1675 L st h := w_icmp_eq dL_law_1672 rfl
theorem w_L_law_1675 (d : Nat) (L : a_L) (st : List Value) (h : a_H) : a_run d ML_law 1675 L st h = a_run d ML_law 1676 L (.int (nI 0) :: st) h := w_iconst dL_law_1675 rfl
theorem w_L_law_1676 (d : Nat) (L : a_L) (x : Int32) (h : a_H) (hx : x = 0 ∨ x = 1) : a_run d ML_law 1676 L [.int x] h = some (.inl (some (.int x)), h) := w_iret dL_law_1676 (w_retZ rfl hx)
theorem w_L_law_1677 (d : Nat) (a0 a1 a2 a3 a4 a5 a7 : Option Value) (x : Int32) (st : List Value) (h : a_H) : a_run d ML_law 1677 [a0, a1, a2, a3, a4, a5, some (.int x), a7] st h = a_run d ML_law 1679 [a0, a1, a2, a3, a4, a5, some (.int x), a7] (.int x :: st) h := w_ldI dL_law_1677 rfl
theorem w_L_law_1679 (d : Nat) (L : a_L) (x : Int32) (st : List Value) (h : a_H) : a_run d ML_law 1679 L (.int x :: st) h = if x = 0 then a_run d ML_law 1682 L st h else a_run d ML_law 1694 L st h := w_if_ne dL_law_1679 rfl
theorem w_L_law_1682 (d : Nat) (a0 a1 a2 a4 a5 a6 a7 : Option Value) (x : Nat) (st : List Value) (h : a_H) : a_run d ML_law 1682 [a0, a1, a2, some (.ref x), a4, a5, a6, a7] st h = a_run d ML_law 1683 [a0, a1, a2, some (.ref x), a4, a5, a6, a7] (.ref x :: st) h := w_ldAn dL_law_1682 rfl
theorem w_L_law_1682N (d : Nat) (a0 a1 a2 a4 a5 a6 a7 : Option Value) (st : List Value) (h : a_H) : a_run d ML_law 1682 [a0, a1, a2, some .null, a4, a5, a6, a7] st h = a_run d ML_law 1683 [a0, a1, a2, some .null, a4, a5, a6, a7] (.null :: st) h := w_ldNn dL_law_1682 rfl
theorem w_L_law_1683 (d : Nat) (L : a_L) (st : List Value) (h : a_H) : a_run d ML_law 1683 L st h = a_run d ML_law 1684 L (.int (nI 0) :: st) h := w_iconst dL_law_1683 rfl
theorem w_L_law_1684 (d : Nat) (L : a_L) (x : Int32) (i : Nat) (st : List Value) (h : a_H) : a_run d ML_law 1684 L (.int x :: .ref i :: st) h = (a_rdl h i x).bind fun v => a_run d ML_law 1685 L (v :: st) h := w_lald dL_law_1684
theorem w_L_law_1685 (d : Nat) (a0 a1 a2 a3 a4 a5 a6 : Option Value) (x : Int32) (st : List Value) (h : a_H) : a_run d ML_law 1685 [a0, a1, a2, a3, a4, a5, a6, some (.int x)] st h = a_run d ML_law 1687 [a0, a1, a2, a3, a4, a5, a6, some (.int x)] (.int x :: st) h := w_ldI dL_law_1685 rfl
theorem w_L_law_1687 (d : Nat) (L : a_L) (x : Int32) (st : List Value) (h : a_H) : a_run d ML_law 1687 L (.int x :: st) h = a_run d ML_law 1688 L (.long x.toInt64 :: st) h := w_i2l dL_law_1687
theorem w_L_law_1688 (d : Nat) (L : a_L) (x y : Int64) (st : List Value) (h : a_H) : a_run d ML_law 1688 L (.long y :: .long x :: st) h = a_run d ML_law 1689 L (.int (lg_cmp x y) :: st) h := w_lcmp dL_law_1688
theorem w_L_law_1689 (d : Nat) (L : a_L) (x : Int32) (st : List Value) (h : a_H) : a_run d ML_law 1689 L (.int x :: st) h = if x = 0 then a_run d ML_law 1694 L st h else a_run d ML_law 1692 L st h := w_if_eq dL_law_1689 rfl
theorem w_L_law_1692 (d : Nat) (L : a_L) (st : List Value) (h : a_H) : a_run d ML_law 1692 L st h = a_run d ML_law 1693 L (.int (nI 0) :: st) h := w_iconst dL_law_1692 rfl
theorem w_L_law_1693 (d : Nat) (L : a_L) (x : Int32) (h : a_H) (hx : x = 0 ∨ x = 1) : a_run d ML_law 1693 L [.int x] h = some (.inl (some (.int x)), h) := w_iret dL_law_1693 (w_retZ rfl hx)
theorem w_L_law_1694 (d : Nat) (L : a_L) (st : List Value) (h : a_H) : a_run d ML_law 1694 L st h = a_run d ML_law 2985 L st h := w_goto dL_law_1694 rfl
theorem w_L_law_1697 (d : Nat) (a0 a2 a3 a4 a5 a6 a7 : Option Value) (x : Nat) (st : List Value) (h : a_H) : a_run d ML_law 1697 [a0, some (.ref x), a2, a3, a4, a5, a6, a7] st h = a_run d ML_law 1698 [a0, some (.ref x), a2, a3, a4, a5, a6, a7] (.ref x :: st) h := w_ldAn dL_law_1697 rfl
theorem w_L_law_1697N (d : Nat) (a0 a2 a3 a4 a5 a6 a7 : Option Value) (st : List Value) (h : a_H) : a_run d ML_law 1697 [a0, some .null, a2, a3, a4, a5, a6, a7] st h = a_run d ML_law 1698 [a0, some .null, a2, a3, a4, a5, a6, a7] (.null :: st) h := w_ldNn dL_law_1697 rfl
theorem w_L_law_1698 (d : Nat) (a1 a2 a3 a4 a5 a6 a7 : Option Value) (x : Nat) (st : List Value) (h : a_H) : a_run d ML_law 1698 [some (.ref x), a1, a2, a3, a4, a5, a6, a7] st h = a_run d ML_law 1699 [some (.ref x), a1, a2, a3, a4, a5, a6, a7] (.ref x :: st) h := w_ldAn dL_law_1698 rfl
theorem w_L_law_1699 (d : Nat) (a0 a1 a2 a3 a4 a6 a7 : Option Value) (x : Int32) (st : List Value) (h : a_H) : a_run d ML_law 1699 [a0, a1, a2, a3, a4, some (.int x), a6, a7] st h = a_run d ML_law 1701 [a0, a1, a2, a3, a4, some (.int x), a6, a7] (.int x :: st) h := w_ldI dL_law_1699 rfl
theorem w_L_law_1701 (d : Nat) (L : a_L) (st : List Value) (h : a_H) : a_run d ML_law 1701 L st h = a_run d ML_law 1702 L (.int (nI 1) :: st) h := w_iconst dL_law_1701 rfl
theorem w_L_law_1702 (d : Nat) (L : a_L) (x y : Int32) (st : List Value) (h : a_H) : a_run d ML_law 1702 L (.int y :: .int x :: st) h = a_run d ML_law 1703 L (.int (x + y) :: st) h := w_iadd dL_law_1702
theorem w_L_law_1703 (d : Nat) (L : a_L) (x : Int32) (i : Nat) (st : List Value) (h : a_H) : a_run d ML_law 1703 L (.int x :: .ref i :: st) h = (a_rdi h i a_int x).bind fun v => a_run d ML_law 1704 L (v :: st) h := w_iald dL_law_1703
theorem w_L_law_1704 (d : Nat) (a0 a1 a2 a4 a5 a6 a7 : Option Value) (x : Nat) (st : List Value) (h : a_H) : a_run d ML_law 1704 [a0, a1, a2, some (.ref x), a4, a5, a6, a7] st h = a_run d ML_law 1705 [a0, a1, a2, some (.ref x), a4, a5, a6, a7] (.ref x :: st) h := w_ldAn dL_law_1704 rfl
theorem w_L_law_1704N (d : Nat) (a0 a1 a2 a4 a5 a6 a7 : Option Value) (st : List Value) (h : a_H) : a_run d ML_law 1704 [a0, a1, a2, some .null, a4, a5, a6, a7] st h = a_run d ML_law 1705 [a0, a1, a2, some .null, a4, a5, a6, a7] (.null :: st) h := w_ldNn dL_law_1704 rfl
theorem w_L_law_1705 (d : Nat) (L : a_L) (v0 v1 v2 : Value) (st : List Value) (h : a_H) (hc : a_cat st ≤ 8) : a_run d ML_law 1705 L (v2 :: v1 :: v0 :: st) h = a_cont d ML_law (a_bk ML_law 1705 L st (a_call d MX0_leastOf [v0, v1, v2] h)) := w_callS (as := [v0, v1, v2]) dL_law_1705 rfl rfl rfl hc
theorem w_L_law_1708 (d : Nat) (a0 a1 a2 a3 a4 a5 a6 a7 : Option Value) (x : Int32) (st : List Value) (h : a_H) : a_run d ML_law 1708 [a0, a1, a2, a3, a4, a5, a6, a7] (.int x :: st) h = a_run d ML_law 1710 [a0, a1, a2, a3, a4, a5, some (.int x), a7] st h := w_stI dL_law_1708 (Nat.le_of_ble_eq_true rfl) rfl
theorem w_L_law_1710 (d : Nat) (a0 a1 a3 a4 a5 a6 a7 : Option Value) (x : Nat) (st : List Value) (h : a_H) : a_run d ML_law 1710 [a0, a1, some (.ref x), a3, a4, a5, a6, a7] st h = a_run d ML_law 1711 [a0, a1, some (.ref x), a3, a4, a5, a6, a7] (.ref x :: st) h := w_ldAn dL_law_1710 rfl
theorem w_L_law_1710N (d : Nat) (a0 a1 a3 a4 a5 a6 a7 : Option Value) (st : List Value) (h : a_H) : a_run d ML_law 1710 [a0, a1, some .null, a3, a4, a5, a6, a7] st h = a_run d ML_law 1711 [a0, a1, some .null, a3, a4, a5, a6, a7] (.null :: st) h := w_ldNn dL_law_1710 rfl
theorem w_L_law_1711 (d : Nat) (a1 a2 a3 a4 a5 a6 a7 : Option Value) (x : Nat) (st : List Value) (h : a_H) : a_run d ML_law 1711 [some (.ref x), a1, a2, a3, a4, a5, a6, a7] st h = a_run d ML_law 1712 [some (.ref x), a1, a2, a3, a4, a5, a6, a7] (.ref x :: st) h := w_ldAn dL_law_1711 rfl
theorem w_L_law_1712 (d : Nat) (a0 a1 a2 a3 a4 a6 a7 : Option Value) (x : Int32) (st : List Value) (h : a_H) : a_run d ML_law 1712 [a0, a1, a2, a3, a4, some (.int x), a6, a7] st h = a_run d ML_law 1714 [a0, a1, a2, a3, a4, some (.int x), a6, a7] (.int x :: st) h := w_ldI dL_law_1712 rfl
theorem w_L_law_1714 (d : Nat) (L : a_L) (st : List Value) (h : a_H) : a_run d ML_law 1714 L st h = a_run d ML_law 1715 L (.int (nI 1) :: st) h := w_iconst dL_law_1714 rfl
theorem w_L_law_1715 (d : Nat) (L : a_L) (x y : Int32) (st : List Value) (h : a_H) : a_run d ML_law 1715 L (.int y :: .int x :: st) h = a_run d ML_law 1716 L (.int (x + y) :: st) h := w_iadd dL_law_1715
theorem w_L_law_1716 (d : Nat) (L : a_L) (x : Int32) (i : Nat) (st : List Value) (h : a_H) : a_run d ML_law 1716 L (.int x :: .ref i :: st) h = (a_rdi h i a_int x).bind fun v => a_run d ML_law 1717 L (v :: st) h := w_iald dL_law_1716
theorem w_L_law_1717 (d : Nat) (L : a_L) (i : Nat) (v1 : Value) (st : List Value) (h : a_H) (hk : a_kls h i = some 2) (hc : a_cat st ≤ 8) : a_run d ML_law 1717 L (v1 :: .ref i :: st) h = a_cont d ML_law (a_bk ML_law 1717 L st (a_call d MX3_leastOf [.ref i, v1] h)) := w_callV (as := [.ref i, v1]) dL_law_1717 rfl rfl rfl hc (a_rcv_of hk rfl)
theorem w_L_law_1720 (d : Nat) (a0 a1 a2 a3 a4 a5 a6 a7 : Option Value) (x : Int32) (st : List Value) (h : a_H) : a_run d ML_law 1720 [a0, a1, a2, a3, a4, a5, a6, a7] (.int x :: st) h = a_run d ML_law 1722 [a0, a1, a2, a3, a4, a5, a6, some (.int x)] st h := w_stI dL_law_1720 (Nat.le_of_ble_eq_true rfl) rfl
theorem w_L_law_1722 (d : Nat) (a0 a1 a3 a4 a5 a6 a7 : Option Value) (x : Nat) (st : List Value) (h : a_H) : a_run d ML_law 1722 [a0, a1, some (.ref x), a3, a4, a5, a6, a7] st h = a_run d ML_law 1723 [a0, a1, some (.ref x), a3, a4, a5, a6, a7] (.ref x :: st) h := w_ldAn dL_law_1722 rfl
theorem w_L_law_1722N (d : Nat) (a0 a1 a3 a4 a5 a6 a7 : Option Value) (st : List Value) (h : a_H) : a_run d ML_law 1722 [a0, a1, some .null, a3, a4, a5, a6, a7] st h = a_run d ML_law 1723 [a0, a1, some .null, a3, a4, a5, a6, a7] (.null :: st) h := w_ldNn dL_law_1722 rfl
theorem w_L_law_1723 (d : Nat) (L : a_L) (i : Nat) (st : List Value) (h : a_H) (hk : a_kls h i = some 2) (hc : a_cat st ≤ 8) : a_run d ML_law 1723 L (.ref i :: st) h = a_cont d ML_law (a_bk ML_law 1723 L st (a_call d MX3_thrown [.ref i] h)) := w_callV (as := [.ref i]) dL_law_1723 rfl rfl rfl hc (a_rcv_of hk rfl)
theorem w_L_law_1726 (d : Nat) (a0 a1 a2 a3 a4 a5 a7 : Option Value) (x : Int32) (st : List Value) (h : a_H) : a_run d ML_law 1726 [a0, a1, a2, a3, a4, a5, some (.int x), a7] st h = a_run d ML_law 1728 [a0, a1, a2, a3, a4, a5, some (.int x), a7] (.int x :: st) h := w_ldI dL_law_1726 rfl
theorem w_L_law_1728 (d : Nat) (L : a_L) (x y : Int32) (st : List Value) (h : a_H) : a_run d ML_law 1728 L (.int y :: .int x :: st) h = if x = y then a_run d ML_law 1733 L st h else a_run d ML_law 1731 L st h := w_icmp_eq dL_law_1728 rfl
theorem w_L_law_1731 (d : Nat) (L : a_L) (st : List Value) (h : a_H) : a_run d ML_law 1731 L st h = a_run d ML_law 1732 L (.int (nI 0) :: st) h := w_iconst dL_law_1731 rfl
theorem w_L_law_1732 (d : Nat) (L : a_L) (x : Int32) (h : a_H) (hx : x = 0 ∨ x = 1) : a_run d ML_law 1732 L [.int x] h = some (.inl (some (.int x)), h) := w_iret dL_law_1732 (w_retZ rfl hx)
theorem w_L_law_1733 (d : Nat) (a0 a1 a2 a3 a4 a5 a7 : Option Value) (x : Int32) (st : List Value) (h : a_H) : a_run d ML_law 1733 [a0, a1, a2, a3, a4, a5, some (.int x), a7] st h = a_run d ML_law 1735 [a0, a1, a2, a3, a4, a5, some (.int x), a7] (.int x :: st) h := w_ldI dL_law_1733 rfl
theorem w_L_law_1735 (d : Nat) (L : a_L) (x : Int32) (st : List Value) (h : a_H) : a_run d ML_law 1735 L (.int x :: st) h = if x = 0 then a_run d ML_law 1738 L st h else a_run d ML_law 1750 L st h := w_if_ne dL_law_1735 rfl
theorem w_L_law_1738 (d : Nat) (a0 a1 a2 a4 a5 a6 a7 : Option Value) (x : Nat) (st : List Value) (h : a_H) : a_run d ML_law 1738 [a0, a1, a2, some (.ref x), a4, a5, a6, a7] st h = a_run d ML_law 1739 [a0, a1, a2, some (.ref x), a4, a5, a6, a7] (.ref x :: st) h := w_ldAn dL_law_1738 rfl
theorem w_L_law_1738N (d : Nat) (a0 a1 a2 a4 a5 a6 a7 : Option Value) (st : List Value) (h : a_H) : a_run d ML_law 1738 [a0, a1, a2, some .null, a4, a5, a6, a7] st h = a_run d ML_law 1739 [a0, a1, a2, some .null, a4, a5, a6, a7] (.null :: st) h := w_ldNn dL_law_1738 rfl
theorem w_L_law_1739 (d : Nat) (L : a_L) (st : List Value) (h : a_H) : a_run d ML_law 1739 L st h = a_run d ML_law 1740 L (.int (nI 0) :: st) h := w_iconst dL_law_1739 rfl
theorem w_L_law_1740 (d : Nat) (L : a_L) (x : Int32) (i : Nat) (st : List Value) (h : a_H) : a_run d ML_law 1740 L (.int x :: .ref i :: st) h = (a_rdl h i x).bind fun v => a_run d ML_law 1741 L (v :: st) h := w_lald dL_law_1740
theorem w_L_law_1741 (d : Nat) (a0 a1 a2 a3 a4 a5 a6 : Option Value) (x : Int32) (st : List Value) (h : a_H) : a_run d ML_law 1741 [a0, a1, a2, a3, a4, a5, a6, some (.int x)] st h = a_run d ML_law 1743 [a0, a1, a2, a3, a4, a5, a6, some (.int x)] (.int x :: st) h := w_ldI dL_law_1741 rfl
theorem w_L_law_1743 (d : Nat) (L : a_L) (x : Int32) (st : List Value) (h : a_H) : a_run d ML_law 1743 L (.int x :: st) h = a_run d ML_law 1744 L (.long x.toInt64 :: st) h := w_i2l dL_law_1743
theorem w_L_law_1744 (d : Nat) (L : a_L) (x y : Int64) (st : List Value) (h : a_H) : a_run d ML_law 1744 L (.long y :: .long x :: st) h = a_run d ML_law 1745 L (.int (lg_cmp x y) :: st) h := w_lcmp dL_law_1744
theorem w_L_law_1745 (d : Nat) (L : a_L) (x : Int32) (st : List Value) (h : a_H) : a_run d ML_law 1745 L (.int x :: st) h = if x = 0 then a_run d ML_law 1750 L st h else a_run d ML_law 1748 L st h := w_if_eq dL_law_1745 rfl
theorem w_L_law_1748 (d : Nat) (L : a_L) (st : List Value) (h : a_H) : a_run d ML_law 1748 L st h = a_run d ML_law 1749 L (.int (nI 0) :: st) h := w_iconst dL_law_1748 rfl
theorem w_L_law_1749 (d : Nat) (L : a_L) (x : Int32) (h : a_H) (hx : x = 0 ∨ x = 1) : a_run d ML_law 1749 L [.int x] h = some (.inl (some (.int x)), h) := w_iret dL_law_1749 (w_retZ rfl hx)
theorem w_L_law_1750 (d : Nat) (L : a_L) (st : List Value) (h : a_H) : a_run d ML_law 1750 L st h = a_run d ML_law 2985 L st h := w_goto dL_law_1750 rfl
theorem w_L_law_1753 (d : Nat) (a0 a2 a3 a4 a5 a6 a7 : Option Value) (x : Nat) (st : List Value) (h : a_H) : a_run d ML_law 1753 [a0, some (.ref x), a2, a3, a4, a5, a6, a7] st h = a_run d ML_law 1754 [a0, some (.ref x), a2, a3, a4, a5, a6, a7] (.ref x :: st) h := w_ldAn dL_law_1753 rfl
theorem w_L_law_1753N (d : Nat) (a0 a2 a3 a4 a5 a6 a7 : Option Value) (st : List Value) (h : a_H) : a_run d ML_law 1753 [a0, some .null, a2, a3, a4, a5, a6, a7] st h = a_run d ML_law 1754 [a0, some .null, a2, a3, a4, a5, a6, a7] (.null :: st) h := w_ldNn dL_law_1753 rfl
theorem w_L_law_1754 (d : Nat) (L : a_L) (i : Nat) (st : List Value) (h : a_H) (hk : a_kls h i = some 0) (hc : a_cat st ≤ 8) : a_run d ML_law 1754 L (.ref i :: st) h = a_cont d ML_law (a_bk ML_law 1754 L st (a_call d MX1_layers [.ref i] h)) := w_callV (as := [.ref i]) dL_law_1754 rfl rfl rfl hc (a_rcv_of hk rfl)
theorem w_L_law_1757 (d : Nat) (a0 a1 a3 a4 a5 a6 a7 : Option Value) (x : Nat) (st : List Value) (h : a_H) : a_run d ML_law 1757 [a0, a1, some (.ref x), a3, a4, a5, a6, a7] st h = a_run d ML_law 1758 [a0, a1, some (.ref x), a3, a4, a5, a6, a7] (.ref x :: st) h := w_ldAn dL_law_1757 rfl
theorem w_L_law_1757N (d : Nat) (a0 a1 a3 a4 a5 a6 a7 : Option Value) (st : List Value) (h : a_H) : a_run d ML_law 1757 [a0, a1, some .null, a3, a4, a5, a6, a7] st h = a_run d ML_law 1758 [a0, a1, some .null, a3, a4, a5, a6, a7] (.null :: st) h := w_ldNn dL_law_1757 rfl
theorem w_L_law_1758 (d : Nat) (L : a_L) (i : Nat) (st : List Value) (h : a_H) (hk : a_kls h i = some 2) (hc : a_cat st ≤ 8) : a_run d ML_law 1758 L (.ref i :: st) h = a_cont d ML_law (a_bk ML_law 1758 L st (a_call d MX3_layers [.ref i] h)) := w_callV (as := [.ref i]) dL_law_1758 rfl rfl rfl hc (a_rcv_of hk rfl)
theorem w_L_law_1761 (d : Nat) (L : a_L) (x y : Int32) (st : List Value) (h : a_H) : a_run d ML_law 1761 L (.int y :: .int x :: st) h = if x = y then a_run d ML_law 2985 L st h else a_run d ML_law 1764 L st h := w_icmp_eq dL_law_1761 rfl
theorem w_L_law_1764 (d : Nat) (L : a_L) (st : List Value) (h : a_H) : a_run d ML_law 1764 L st h = a_run d ML_law 1765 L (.int (nI 0) :: st) h := w_iconst dL_law_1764 rfl
theorem w_L_law_1765 (d : Nat) (L : a_L) (x : Int32) (h : a_H) (hx : x = 0 ∨ x = 1) : a_run d ML_law 1765 L [.int x] h = some (.inl (some (.int x)), h) := w_iret dL_law_1765 (w_retZ rfl hx)
theorem w_L_law_1766 (d : Nat) (a0 a2 a3 a4 a5 a6 a7 : Option Value) (x : Nat) (st : List Value) (h : a_H) : a_run d ML_law 1766 [a0, some (.ref x), a2, a3, a4, a5, a6, a7] st h = a_run d ML_law 1767 [a0, some (.ref x), a2, a3, a4, a5, a6, a7] (.ref x :: st) h := w_ldAn dL_law_1766 rfl
theorem w_L_law_1766N (d : Nat) (a0 a2 a3 a4 a5 a6 a7 : Option Value) (st : List Value) (h : a_H) : a_run d ML_law 1766 [a0, some .null, a2, a3, a4, a5, a6, a7] st h = a_run d ML_law 1767 [a0, some .null, a2, a3, a4, a5, a6, a7] (.null :: st) h := w_ldNn dL_law_1766 rfl
theorem w_L_law_1767 (d : Nat) (a1 a2 a3 a4 a5 a6 a7 : Option Value) (x : Nat) (st : List Value) (h : a_H) : a_run d ML_law 1767 [some (.ref x), a1, a2, a3, a4, a5, a6, a7] st h = a_run d ML_law 1768 [some (.ref x), a1, a2, a3, a4, a5, a6, a7] (.ref x :: st) h := w_ldAn dL_law_1767 rfl
theorem w_L_law_1768 (d : Nat) (a0 a1 a2 a3 a4 a6 a7 : Option Value) (x : Int32) (st : List Value) (h : a_H) : a_run d ML_law 1768 [a0, a1, a2, a3, a4, some (.int x), a6, a7] st h = a_run d ML_law 1770 [a0, a1, a2, a3, a4, some (.int x), a6, a7] (.int x :: st) h := w_ldI dL_law_1768 rfl
theorem w_L_law_1770 (d : Nat) (L : a_L) (st : List Value) (h : a_H) : a_run d ML_law 1770 L st h = a_run d ML_law 1771 L (.int (nI 1) :: st) h := w_iconst dL_law_1770 rfl
theorem w_L_law_1771 (d : Nat) (L : a_L) (x y : Int32) (st : List Value) (h : a_H) : a_run d ML_law 1771 L (.int y :: .int x :: st) h = a_run d ML_law 1772 L (.int (x + y) :: st) h := w_iadd dL_law_1771
theorem w_L_law_1772 (d : Nat) (L : a_L) (x : Int32) (i : Nat) (st : List Value) (h : a_H) : a_run d ML_law 1772 L (.int x :: .ref i :: st) h = (a_rdi h i a_int x).bind fun v => a_run d ML_law 1773 L (v :: st) h := w_iald dL_law_1772
theorem w_L_law_1773 (d : Nat) (a0 a1 a2 a4 a5 a6 a7 : Option Value) (x : Nat) (st : List Value) (h : a_H) : a_run d ML_law 1773 [a0, a1, a2, some (.ref x), a4, a5, a6, a7] st h = a_run d ML_law 1774 [a0, a1, a2, some (.ref x), a4, a5, a6, a7] (.ref x :: st) h := w_ldAn dL_law_1773 rfl
theorem w_L_law_1773N (d : Nat) (a0 a1 a2 a4 a5 a6 a7 : Option Value) (st : List Value) (h : a_H) : a_run d ML_law 1773 [a0, a1, a2, some .null, a4, a5, a6, a7] st h = a_run d ML_law 1774 [a0, a1, a2, some .null, a4, a5, a6, a7] (.null :: st) h := w_ldNn dL_law_1773 rfl
theorem w_L_law_1774 (d : Nat) (L : a_L) (v0 v1 v2 : Value) (st : List Value) (h : a_H) (hc : a_cat st ≤ 8) : a_run d ML_law 1774 L (v2 :: v1 :: v0 :: st) h = a_cont d ML_law (a_bk ML_law 1774 L st (a_call d MX0_spanOf [v0, v1, v2] h)) := w_callS (as := [v0, v1, v2]) dL_law_1774 rfl rfl rfl hc
theorem w_L_law_1777 (d : Nat) (a0 a1 a2 a3 a4 a5 a6 a7 : Option Value) (x : Int32) (st : List Value) (h : a_H) : a_run d ML_law 1777 [a0, a1, a2, a3, a4, a5, a6, a7] (.int x :: st) h = a_run d ML_law 1779 [a0, a1, a2, a3, a4, a5, some (.int x), a7] st h := w_stI dL_law_1777 (Nat.le_of_ble_eq_true rfl) rfl
theorem w_L_law_1779 (d : Nat) (a0 a1 a3 a4 a5 a6 a7 : Option Value) (x : Nat) (st : List Value) (h : a_H) : a_run d ML_law 1779 [a0, a1, some (.ref x), a3, a4, a5, a6, a7] st h = a_run d ML_law 1780 [a0, a1, some (.ref x), a3, a4, a5, a6, a7] (.ref x :: st) h := w_ldAn dL_law_1779 rfl
theorem w_L_law_1779N (d : Nat) (a0 a1 a3 a4 a5 a6 a7 : Option Value) (st : List Value) (h : a_H) : a_run d ML_law 1779 [a0, a1, some .null, a3, a4, a5, a6, a7] st h = a_run d ML_law 1780 [a0, a1, some .null, a3, a4, a5, a6, a7] (.null :: st) h := w_ldNn dL_law_1779 rfl
theorem w_L_law_1780 (d : Nat) (a1 a2 a3 a4 a5 a6 a7 : Option Value) (x : Nat) (st : List Value) (h : a_H) : a_run d ML_law 1780 [some (.ref x), a1, a2, a3, a4, a5, a6, a7] st h = a_run d ML_law 1781 [some (.ref x), a1, a2, a3, a4, a5, a6, a7] (.ref x :: st) h := w_ldAn dL_law_1780 rfl
theorem w_L_law_1781 (d : Nat) (a0 a1 a2 a3 a4 a6 a7 : Option Value) (x : Int32) (st : List Value) (h : a_H) : a_run d ML_law 1781 [a0, a1, a2, a3, a4, some (.int x), a6, a7] st h = a_run d ML_law 1783 [a0, a1, a2, a3, a4, some (.int x), a6, a7] (.int x :: st) h := w_ldI dL_law_1781 rfl
theorem w_L_law_1783 (d : Nat) (L : a_L) (st : List Value) (h : a_H) : a_run d ML_law 1783 L st h = a_run d ML_law 1784 L (.int (nI 1) :: st) h := w_iconst dL_law_1783 rfl
theorem w_L_law_1784 (d : Nat) (L : a_L) (x y : Int32) (st : List Value) (h : a_H) : a_run d ML_law 1784 L (.int y :: .int x :: st) h = a_run d ML_law 1785 L (.int (x + y) :: st) h := w_iadd dL_law_1784
theorem w_L_law_1785 (d : Nat) (L : a_L) (x : Int32) (i : Nat) (st : List Value) (h : a_H) : a_run d ML_law 1785 L (.int x :: .ref i :: st) h = (a_rdi h i a_int x).bind fun v => a_run d ML_law 1786 L (v :: st) h := w_iald dL_law_1785
theorem w_L_law_1786 (d : Nat) (L : a_L) (i : Nat) (v1 : Value) (st : List Value) (h : a_H) (hk : a_kls h i = some 2) (hc : a_cat st ≤ 8) : a_run d ML_law 1786 L (v1 :: .ref i :: st) h = a_cont d ML_law (a_bk ML_law 1786 L st (a_call d MX3_spanOf [.ref i, v1] h)) := w_callV (as := [.ref i, v1]) dL_law_1786 rfl rfl rfl hc (a_rcv_of hk rfl)
theorem w_L_law_1789 (d : Nat) (a0 a1 a2 a3 a4 a5 a6 a7 : Option Value) (x : Int32) (st : List Value) (h : a_H) : a_run d ML_law 1789 [a0, a1, a2, a3, a4, a5, a6, a7] (.int x :: st) h = a_run d ML_law 1791 [a0, a1, a2, a3, a4, a5, a6, some (.int x)] st h := w_stI dL_law_1789 (Nat.le_of_ble_eq_true rfl) rfl
theorem w_L_law_1791 (d : Nat) (a0 a1 a3 a4 a5 a6 a7 : Option Value) (x : Nat) (st : List Value) (h : a_H) : a_run d ML_law 1791 [a0, a1, some (.ref x), a3, a4, a5, a6, a7] st h = a_run d ML_law 1792 [a0, a1, some (.ref x), a3, a4, a5, a6, a7] (.ref x :: st) h := w_ldAn dL_law_1791 rfl
theorem w_L_law_1791N (d : Nat) (a0 a1 a3 a4 a5 a6 a7 : Option Value) (st : List Value) (h : a_H) : a_run d ML_law 1791 [a0, a1, some .null, a3, a4, a5, a6, a7] st h = a_run d ML_law 1792 [a0, a1, some .null, a3, a4, a5, a6, a7] (.null :: st) h := w_ldNn dL_law_1791 rfl
theorem w_L_law_1792 (d : Nat) (L : a_L) (i : Nat) (st : List Value) (h : a_H) (hk : a_kls h i = some 2) (hc : a_cat st ≤ 8) : a_run d ML_law 1792 L (.ref i :: st) h = a_cont d ML_law (a_bk ML_law 1792 L st (a_call d MX3_thrown [.ref i] h)) := w_callV (as := [.ref i]) dL_law_1792 rfl rfl rfl hc (a_rcv_of hk rfl)
theorem w_L_law_1795 (d : Nat) (a0 a1 a2 a3 a4 a5 a7 : Option Value) (x : Int32) (st : List Value) (h : a_H) : a_run d ML_law 1795 [a0, a1, a2, a3, a4, a5, some (.int x), a7] st h = a_run d ML_law 1797 [a0, a1, a2, a3, a4, a5, some (.int x), a7] (.int x :: st) h := w_ldI dL_law_1795 rfl
theorem w_L_law_1797 (d : Nat) (L : a_L) (x y : Int32) (st : List Value) (h : a_H) : a_run d ML_law 1797 L (.int y :: .int x :: st) h = if x = y then a_run d ML_law 1802 L st h else a_run d ML_law 1800 L st h := w_icmp_eq dL_law_1797 rfl
theorem w_L_law_1800 (d : Nat) (L : a_L) (st : List Value) (h : a_H) : a_run d ML_law 1800 L st h = a_run d ML_law 1801 L (.int (nI 0) :: st) h := w_iconst dL_law_1800 rfl
theorem w_L_law_1801 (d : Nat) (L : a_L) (x : Int32) (h : a_H) (hx : x = 0 ∨ x = 1) : a_run d ML_law 1801 L [.int x] h = some (.inl (some (.int x)), h) := w_iret dL_law_1801 (w_retZ rfl hx)
theorem w_L_law_1802 (d : Nat) (a0 a1 a2 a3 a4 a5 a7 : Option Value) (x : Int32) (st : List Value) (h : a_H) : a_run d ML_law 1802 [a0, a1, a2, a3, a4, a5, some (.int x), a7] st h = a_run d ML_law 1804 [a0, a1, a2, a3, a4, a5, some (.int x), a7] (.int x :: st) h := w_ldI dL_law_1802 rfl
theorem w_L_law_1804 (d : Nat) (L : a_L) (x : Int32) (st : List Value) (h : a_H) : a_run d ML_law 1804 L (.int x :: st) h = if x = 0 then a_run d ML_law 1807 L st h else a_run d ML_law 1819 L st h := w_if_ne dL_law_1804 rfl
theorem w_L_law_1807 (d : Nat) (a0 a1 a2 a4 a5 a6 a7 : Option Value) (x : Nat) (st : List Value) (h : a_H) : a_run d ML_law 1807 [a0, a1, a2, some (.ref x), a4, a5, a6, a7] st h = a_run d ML_law 1808 [a0, a1, a2, some (.ref x), a4, a5, a6, a7] (.ref x :: st) h := w_ldAn dL_law_1807 rfl
theorem w_L_law_1807N (d : Nat) (a0 a1 a2 a4 a5 a6 a7 : Option Value) (st : List Value) (h : a_H) : a_run d ML_law 1807 [a0, a1, a2, some .null, a4, a5, a6, a7] st h = a_run d ML_law 1808 [a0, a1, a2, some .null, a4, a5, a6, a7] (.null :: st) h := w_ldNn dL_law_1807 rfl
theorem w_L_law_1808 (d : Nat) (L : a_L) (st : List Value) (h : a_H) : a_run d ML_law 1808 L st h = a_run d ML_law 1809 L (.int (nI 0) :: st) h := w_iconst dL_law_1808 rfl
theorem w_L_law_1809 (d : Nat) (L : a_L) (x : Int32) (i : Nat) (st : List Value) (h : a_H) : a_run d ML_law 1809 L (.int x :: .ref i :: st) h = (a_rdl h i x).bind fun v => a_run d ML_law 1810 L (v :: st) h := w_lald dL_law_1809
theorem w_L_law_1810 (d : Nat) (a0 a1 a2 a3 a4 a5 a6 : Option Value) (x : Int32) (st : List Value) (h : a_H) : a_run d ML_law 1810 [a0, a1, a2, a3, a4, a5, a6, some (.int x)] st h = a_run d ML_law 1812 [a0, a1, a2, a3, a4, a5, a6, some (.int x)] (.int x :: st) h := w_ldI dL_law_1810 rfl
theorem w_L_law_1812 (d : Nat) (L : a_L) (x : Int32) (st : List Value) (h : a_H) : a_run d ML_law 1812 L (.int x :: st) h = a_run d ML_law 1813 L (.long x.toInt64 :: st) h := w_i2l dL_law_1812
theorem w_L_law_1813 (d : Nat) (L : a_L) (x y : Int64) (st : List Value) (h : a_H) : a_run d ML_law 1813 L (.long y :: .long x :: st) h = a_run d ML_law 1814 L (.int (lg_cmp x y) :: st) h := w_lcmp dL_law_1813
theorem w_L_law_1814 (d : Nat) (L : a_L) (x : Int32) (st : List Value) (h : a_H) : a_run d ML_law 1814 L (.int x :: st) h = if x = 0 then a_run d ML_law 1819 L st h else a_run d ML_law 1817 L st h := w_if_eq dL_law_1814 rfl
theorem w_L_law_1817 (d : Nat) (L : a_L) (st : List Value) (h : a_H) : a_run d ML_law 1817 L st h = a_run d ML_law 1818 L (.int (nI 0) :: st) h := w_iconst dL_law_1817 rfl
theorem w_L_law_1818 (d : Nat) (L : a_L) (x : Int32) (h : a_H) (hx : x = 0 ∨ x = 1) : a_run d ML_law 1818 L [.int x] h = some (.inl (some (.int x)), h) := w_iret dL_law_1818 (w_retZ rfl hx)
theorem w_L_law_1819 (d : Nat) (L : a_L) (st : List Value) (h : a_H) : a_run d ML_law 1819 L st h = a_run d ML_law 2985 L st h := w_goto dL_law_1819 rfl
theorem w_L_law_1822 (d : Nat) (a0 a2 a3 a4 a5 a6 a7 : Option Value) (x : Nat) (st : List Value) (h : a_H) : a_run d ML_law 1822 [a0, some (.ref x), a2, a3, a4, a5, a6, a7] st h = a_run d ML_law 1823 [a0, some (.ref x), a2, a3, a4, a5, a6, a7] (.ref x :: st) h := w_ldAn dL_law_1822 rfl
theorem w_L_law_1822N (d : Nat) (a0 a2 a3 a4 a5 a6 a7 : Option Value) (st : List Value) (h : a_H) : a_run d ML_law 1822 [a0, some .null, a2, a3, a4, a5, a6, a7] st h = a_run d ML_law 1823 [a0, some .null, a2, a3, a4, a5, a6, a7] (.null :: st) h := w_ldNn dL_law_1822 rfl
theorem w_L_law_1823 (d : Nat) (a1 a2 a3 a4 a5 a6 a7 : Option Value) (x : Nat) (st : List Value) (h : a_H) : a_run d ML_law 1823 [some (.ref x), a1, a2, a3, a4, a5, a6, a7] st h = a_run d ML_law 1824 [some (.ref x), a1, a2, a3, a4, a5, a6, a7] (.ref x :: st) h := w_ldAn dL_law_1823 rfl
theorem w_L_law_1824 (d : Nat) (a0 a1 a2 a3 a4 a6 a7 : Option Value) (x : Int32) (st : List Value) (h : a_H) : a_run d ML_law 1824 [a0, a1, a2, a3, a4, some (.int x), a6, a7] st h = a_run d ML_law 1826 [a0, a1, a2, a3, a4, some (.int x), a6, a7] (.int x :: st) h := w_ldI dL_law_1824 rfl
theorem w_L_law_1826 (d : Nat) (L : a_L) (st : List Value) (h : a_H) : a_run d ML_law 1826 L st h = a_run d ML_law 1827 L (.int (nI 1) :: st) h := w_iconst dL_law_1826 rfl
theorem w_L_law_1827 (d : Nat) (L : a_L) (x y : Int32) (st : List Value) (h : a_H) : a_run d ML_law 1827 L (.int y :: .int x :: st) h = a_run d ML_law 1828 L (.int (x + y) :: st) h := w_iadd dL_law_1827
theorem w_L_law_1828 (d : Nat) (L : a_L) (x : Int32) (i : Nat) (st : List Value) (h : a_H) : a_run d ML_law 1828 L (.int x :: .ref i :: st) h = (a_rdi h i a_int x).bind fun v => a_run d ML_law 1829 L (v :: st) h := w_iald dL_law_1828
theorem w_L_law_1829 (d : Nat) (a0 a1 a2 a4 a5 a6 a7 : Option Value) (x : Nat) (st : List Value) (h : a_H) : a_run d ML_law 1829 [a0, a1, a2, some (.ref x), a4, a5, a6, a7] st h = a_run d ML_law 1830 [a0, a1, a2, some (.ref x), a4, a5, a6, a7] (.ref x :: st) h := w_ldAn dL_law_1829 rfl
theorem w_L_law_1829N (d : Nat) (a0 a1 a2 a4 a5 a6 a7 : Option Value) (st : List Value) (h : a_H) : a_run d ML_law 1829 [a0, a1, a2, some .null, a4, a5, a6, a7] st h = a_run d ML_law 1830 [a0, a1, a2, some .null, a4, a5, a6, a7] (.null :: st) h := w_ldNn dL_law_1829 rfl
theorem w_L_law_1830 (d : Nat) (L : a_L) (v0 v1 v2 : Value) (st : List Value) (h : a_H) (hc : a_cat st ≤ 8) : a_run d ML_law 1830 L (v2 :: v1 :: v0 :: st) h = a_cont d ML_law (a_bk ML_law 1830 L st (a_call d MX0_pointsOf [v0, v1, v2] h)) := w_callS (as := [v0, v1, v2]) dL_law_1830 rfl rfl rfl hc
theorem w_L_law_1833 (d : Nat) (a0 a1 a2 a3 a4 a5 a6 a7 : Option Value) (x : Int32) (st : List Value) (h : a_H) : a_run d ML_law 1833 [a0, a1, a2, a3, a4, a5, a6, a7] (.int x :: st) h = a_run d ML_law 1835 [a0, a1, a2, a3, a4, a5, some (.int x), a7] st h := w_stI dL_law_1833 (Nat.le_of_ble_eq_true rfl) rfl
theorem w_L_law_1835 (d : Nat) (a0 a1 a3 a4 a5 a6 a7 : Option Value) (x : Nat) (st : List Value) (h : a_H) : a_run d ML_law 1835 [a0, a1, some (.ref x), a3, a4, a5, a6, a7] st h = a_run d ML_law 1836 [a0, a1, some (.ref x), a3, a4, a5, a6, a7] (.ref x :: st) h := w_ldAn dL_law_1835 rfl
theorem w_L_law_1835N (d : Nat) (a0 a1 a3 a4 a5 a6 a7 : Option Value) (st : List Value) (h : a_H) : a_run d ML_law 1835 [a0, a1, some .null, a3, a4, a5, a6, a7] st h = a_run d ML_law 1836 [a0, a1, some .null, a3, a4, a5, a6, a7] (.null :: st) h := w_ldNn dL_law_1835 rfl
theorem w_L_law_1836 (d : Nat) (a1 a2 a3 a4 a5 a6 a7 : Option Value) (x : Nat) (st : List Value) (h : a_H) : a_run d ML_law 1836 [some (.ref x), a1, a2, a3, a4, a5, a6, a7] st h = a_run d ML_law 1837 [some (.ref x), a1, a2, a3, a4, a5, a6, a7] (.ref x :: st) h := w_ldAn dL_law_1836 rfl
theorem w_L_law_1837 (d : Nat) (a0 a1 a2 a3 a4 a6 a7 : Option Value) (x : Int32) (st : List Value) (h : a_H) : a_run d ML_law 1837 [a0, a1, a2, a3, a4, some (.int x), a6, a7] st h = a_run d ML_law 1839 [a0, a1, a2, a3, a4, some (.int x), a6, a7] (.int x :: st) h := w_ldI dL_law_1837 rfl
theorem w_L_law_1839 (d : Nat) (L : a_L) (st : List Value) (h : a_H) : a_run d ML_law 1839 L st h = a_run d ML_law 1840 L (.int (nI 1) :: st) h := w_iconst dL_law_1839 rfl
theorem w_L_law_1840 (d : Nat) (L : a_L) (x y : Int32) (st : List Value) (h : a_H) : a_run d ML_law 1840 L (.int y :: .int x :: st) h = a_run d ML_law 1841 L (.int (x + y) :: st) h := w_iadd dL_law_1840
theorem w_L_law_1841 (d : Nat) (L : a_L) (x : Int32) (i : Nat) (st : List Value) (h : a_H) : a_run d ML_law 1841 L (.int x :: .ref i :: st) h = (a_rdi h i a_int x).bind fun v => a_run d ML_law 1842 L (v :: st) h := w_iald dL_law_1841
theorem w_L_law_1842 (d : Nat) (L : a_L) (i : Nat) (v1 : Value) (st : List Value) (h : a_H) (hk : a_kls h i = some 2) (hc : a_cat st ≤ 8) : a_run d ML_law 1842 L (v1 :: .ref i :: st) h = a_cont d ML_law (a_bk ML_law 1842 L st (a_call d MX3_pointsOf [.ref i, v1] h)) := w_callV (as := [.ref i, v1]) dL_law_1842 rfl rfl rfl hc (a_rcv_of hk rfl)
theorem w_L_law_1845 (d : Nat) (a0 a1 a2 a3 a4 a5 a6 a7 : Option Value) (x : Int32) (st : List Value) (h : a_H) : a_run d ML_law 1845 [a0, a1, a2, a3, a4, a5, a6, a7] (.int x :: st) h = a_run d ML_law 1847 [a0, a1, a2, a3, a4, a5, a6, some (.int x)] st h := w_stI dL_law_1845 (Nat.le_of_ble_eq_true rfl) rfl
theorem w_L_law_1847 (d : Nat) (a0 a1 a3 a4 a5 a6 a7 : Option Value) (x : Nat) (st : List Value) (h : a_H) : a_run d ML_law 1847 [a0, a1, some (.ref x), a3, a4, a5, a6, a7] st h = a_run d ML_law 1848 [a0, a1, some (.ref x), a3, a4, a5, a6, a7] (.ref x :: st) h := w_ldAn dL_law_1847 rfl
theorem w_L_law_1847N (d : Nat) (a0 a1 a3 a4 a5 a6 a7 : Option Value) (st : List Value) (h : a_H) : a_run d ML_law 1847 [a0, a1, some .null, a3, a4, a5, a6, a7] st h = a_run d ML_law 1848 [a0, a1, some .null, a3, a4, a5, a6, a7] (.null :: st) h := w_ldNn dL_law_1847 rfl
theorem w_L_law_1848 (d : Nat) (L : a_L) (i : Nat) (st : List Value) (h : a_H) (hk : a_kls h i = some 2) (hc : a_cat st ≤ 8) : a_run d ML_law 1848 L (.ref i :: st) h = a_cont d ML_law (a_bk ML_law 1848 L st (a_call d MX3_thrown [.ref i] h)) := w_callV (as := [.ref i]) dL_law_1848 rfl rfl rfl hc (a_rcv_of hk rfl)
theorem w_L_law_1851 (d : Nat) (a0 a1 a2 a3 a4 a5 a7 : Option Value) (x : Int32) (st : List Value) (h : a_H) : a_run d ML_law 1851 [a0, a1, a2, a3, a4, a5, some (.int x), a7] st h = a_run d ML_law 1853 [a0, a1, a2, a3, a4, a5, some (.int x), a7] (.int x :: st) h := w_ldI dL_law_1851 rfl
theorem w_L_law_1853 (d : Nat) (L : a_L) (x y : Int32) (st : List Value) (h : a_H) : a_run d ML_law 1853 L (.int y :: .int x :: st) h = if x = y then a_run d ML_law 1858 L st h else a_run d ML_law 1856 L st h := w_icmp_eq dL_law_1853 rfl
theorem w_L_law_1856 (d : Nat) (L : a_L) (st : List Value) (h : a_H) : a_run d ML_law 1856 L st h = a_run d ML_law 1857 L (.int (nI 0) :: st) h := w_iconst dL_law_1856 rfl
theorem w_L_law_1857 (d : Nat) (L : a_L) (x : Int32) (h : a_H) (hx : x = 0 ∨ x = 1) : a_run d ML_law 1857 L [.int x] h = some (.inl (some (.int x)), h) := w_iret dL_law_1857 (w_retZ rfl hx)
theorem w_L_law_1858 (d : Nat) (a0 a1 a2 a3 a4 a5 a7 : Option Value) (x : Int32) (st : List Value) (h : a_H) : a_run d ML_law 1858 [a0, a1, a2, a3, a4, a5, some (.int x), a7] st h = a_run d ML_law 1860 [a0, a1, a2, a3, a4, a5, some (.int x), a7] (.int x :: st) h := w_ldI dL_law_1858 rfl
theorem w_L_law_1860 (d : Nat) (L : a_L) (x : Int32) (st : List Value) (h : a_H) : a_run d ML_law 1860 L (.int x :: st) h = if x = 0 then a_run d ML_law 1863 L st h else a_run d ML_law 1875 L st h := w_if_ne dL_law_1860 rfl
theorem w_L_law_1863 (d : Nat) (a0 a1 a2 a4 a5 a6 a7 : Option Value) (x : Nat) (st : List Value) (h : a_H) : a_run d ML_law 1863 [a0, a1, a2, some (.ref x), a4, a5, a6, a7] st h = a_run d ML_law 1864 [a0, a1, a2, some (.ref x), a4, a5, a6, a7] (.ref x :: st) h := w_ldAn dL_law_1863 rfl
theorem w_L_law_1863N (d : Nat) (a0 a1 a2 a4 a5 a6 a7 : Option Value) (st : List Value) (h : a_H) : a_run d ML_law 1863 [a0, a1, a2, some .null, a4, a5, a6, a7] st h = a_run d ML_law 1864 [a0, a1, a2, some .null, a4, a5, a6, a7] (.null :: st) h := w_ldNn dL_law_1863 rfl
theorem w_L_law_1864 (d : Nat) (L : a_L) (st : List Value) (h : a_H) : a_run d ML_law 1864 L st h = a_run d ML_law 1865 L (.int (nI 0) :: st) h := w_iconst dL_law_1864 rfl
theorem w_L_law_1865 (d : Nat) (L : a_L) (x : Int32) (i : Nat) (st : List Value) (h : a_H) : a_run d ML_law 1865 L (.int x :: .ref i :: st) h = (a_rdl h i x).bind fun v => a_run d ML_law 1866 L (v :: st) h := w_lald dL_law_1865
theorem w_L_law_1866 (d : Nat) (a0 a1 a2 a3 a4 a5 a6 : Option Value) (x : Int32) (st : List Value) (h : a_H) : a_run d ML_law 1866 [a0, a1, a2, a3, a4, a5, a6, some (.int x)] st h = a_run d ML_law 1868 [a0, a1, a2, a3, a4, a5, a6, some (.int x)] (.int x :: st) h := w_ldI dL_law_1866 rfl
theorem w_L_law_1868 (d : Nat) (L : a_L) (x : Int32) (st : List Value) (h : a_H) : a_run d ML_law 1868 L (.int x :: st) h = a_run d ML_law 1869 L (.long x.toInt64 :: st) h := w_i2l dL_law_1868
theorem w_L_law_1869 (d : Nat) (L : a_L) (x y : Int64) (st : List Value) (h : a_H) : a_run d ML_law 1869 L (.long y :: .long x :: st) h = a_run d ML_law 1870 L (.int (lg_cmp x y) :: st) h := w_lcmp dL_law_1869
theorem w_L_law_1870 (d : Nat) (L : a_L) (x : Int32) (st : List Value) (h : a_H) : a_run d ML_law 1870 L (.int x :: st) h = if x = 0 then a_run d ML_law 1875 L st h else a_run d ML_law 1873 L st h := w_if_eq dL_law_1870 rfl
theorem w_L_law_1873 (d : Nat) (L : a_L) (st : List Value) (h : a_H) : a_run d ML_law 1873 L st h = a_run d ML_law 1874 L (.int (nI 0) :: st) h := w_iconst dL_law_1873 rfl
theorem w_L_law_1874 (d : Nat) (L : a_L) (x : Int32) (h : a_H) (hx : x = 0 ∨ x = 1) : a_run d ML_law 1874 L [.int x] h = some (.inl (some (.int x)), h) := w_iret dL_law_1874 (w_retZ rfl hx)
theorem w_L_law_1875 (d : Nat) (L : a_L) (st : List Value) (h : a_H) : a_run d ML_law 1875 L st h = a_run d ML_law 2985 L st h := w_goto dL_law_1875 rfl
theorem w_L_law_1878 (d : Nat) (a0 a2 a3 a4 a5 a6 a7 : Option Value) (x : Nat) (st : List Value) (h : a_H) : a_run d ML_law 1878 [a0, some (.ref x), a2, a3, a4, a5, a6, a7] st h = a_run d ML_law 1879 [a0, some (.ref x), a2, a3, a4, a5, a6, a7] (.ref x :: st) h := w_ldAn dL_law_1878 rfl
theorem w_L_law_1878N (d : Nat) (a0 a2 a3 a4 a5 a6 a7 : Option Value) (st : List Value) (h : a_H) : a_run d ML_law 1878 [a0, some .null, a2, a3, a4, a5, a6, a7] st h = a_run d ML_law 1879 [a0, some .null, a2, a3, a4, a5, a6, a7] (.null :: st) h := w_ldNn dL_law_1878 rfl
theorem w_L_law_1879 (d : Nat) (L : a_L) (i : Nat) (st : List Value) (h : a_H) (hk : a_kls h i = some 0) (hc : a_cat st ≤ 8) : a_run d ML_law 1879 L (.ref i :: st) h = a_cont d ML_law (a_bk ML_law 1879 L st (a_call d MX1_arrowPoints [.ref i] h)) := w_callV (as := [.ref i]) dL_law_1879 rfl rfl rfl hc (a_rcv_of hk rfl)
theorem w_L_law_1882 (d : Nat) (a0 a1 a3 a4 a5 a6 a7 : Option Value) (x : Nat) (st : List Value) (h : a_H) : a_run d ML_law 1882 [a0, a1, some (.ref x), a3, a4, a5, a6, a7] st h = a_run d ML_law 1883 [a0, a1, some (.ref x), a3, a4, a5, a6, a7] (.ref x :: st) h := w_ldAn dL_law_1882 rfl
theorem w_L_law_1882N (d : Nat) (a0 a1 a3 a4 a5 a6 a7 : Option Value) (st : List Value) (h : a_H) : a_run d ML_law 1882 [a0, a1, some .null, a3, a4, a5, a6, a7] st h = a_run d ML_law 1883 [a0, a1, some .null, a3, a4, a5, a6, a7] (.null :: st) h := w_ldNn dL_law_1882 rfl
theorem w_L_law_1883 (d : Nat) (L : a_L) (i : Nat) (st : List Value) (h : a_H) (hk : a_kls h i = some 2) (hc : a_cat st ≤ 8) : a_run d ML_law 1883 L (.ref i :: st) h = a_cont d ML_law (a_bk ML_law 1883 L st (a_call d MX3_arrowPoints [.ref i] h)) := w_callV (as := [.ref i]) dL_law_1883 rfl rfl rfl hc (a_rcv_of hk rfl)
theorem w_L_law_1886 (d : Nat) (L : a_L) (x y : Int32) (st : List Value) (h : a_H) : a_run d ML_law 1886 L (.int y :: .int x :: st) h = if x = y then a_run d ML_law 2985 L st h else a_run d ML_law 1889 L st h := w_icmp_eq dL_law_1886 rfl
theorem w_L_law_1889 (d : Nat) (L : a_L) (st : List Value) (h : a_H) : a_run d ML_law 1889 L st h = a_run d ML_law 1890 L (.int (nI 0) :: st) h := w_iconst dL_law_1889 rfl
theorem w_L_law_1890 (d : Nat) (L : a_L) (x : Int32) (h : a_H) (hx : x = 0 ∨ x = 1) : a_run d ML_law 1890 L [.int x] h = some (.inl (some (.int x)), h) := w_iret dL_law_1890 (w_retZ rfl hx)
theorem w_L_law_1891 (d : Nat) (a0 a2 a3 a4 a5 a6 a7 : Option Value) (x : Nat) (st : List Value) (h : a_H) : a_run d ML_law 1891 [a0, some (.ref x), a2, a3, a4, a5, a6, a7] st h = a_run d ML_law 1892 [a0, some (.ref x), a2, a3, a4, a5, a6, a7] (.ref x :: st) h := w_ldAn dL_law_1891 rfl
theorem w_L_law_1891N (d : Nat) (a0 a2 a3 a4 a5 a6 a7 : Option Value) (st : List Value) (h : a_H) : a_run d ML_law 1891 [a0, some .null, a2, a3, a4, a5, a6, a7] st h = a_run d ML_law 1892 [a0, some .null, a2, a3, a4, a5, a6, a7] (.null :: st) h := w_ldNn dL_law_1891 rfl
theorem w_L_law_1892 (d : Nat) (a1 a2 a3 a4 a5 a6 a7 : Option Value) (x : Nat) (st : List Value) (h : a_H) : a_run d ML_law 1892 [some (.ref x), a1, a2, a3, a4, a5, a6, a7] st h = a_run d ML_law 1893 [some (.ref x), a1, a2, a3, a4, a5, a6, a7] (.ref x :: st) h := w_ldAn dL_law_1892 rfl
theorem w_L_law_1893 (d : Nat) (a0 a1 a2 a3 a4 a6 a7 : Option Value) (x : Int32) (st : List Value) (h : a_H) : a_run d ML_law 1893 [a0, a1, a2, a3, a4, some (.int x), a6, a7] st h = a_run d ML_law 1895 [a0, a1, a2, a3, a4, some (.int x), a6, a7] (.int x :: st) h := w_ldI dL_law_1893 rfl
theorem w_L_law_1895 (d : Nat) (L : a_L) (st : List Value) (h : a_H) : a_run d ML_law 1895 L st h = a_run d ML_law 1896 L (.int (nI 1) :: st) h := w_iconst dL_law_1895 rfl
theorem w_L_law_1896 (d : Nat) (L : a_L) (x y : Int32) (st : List Value) (h : a_H) : a_run d ML_law 1896 L (.int y :: .int x :: st) h = a_run d ML_law 1897 L (.int (x + y) :: st) h := w_iadd dL_law_1896
theorem w_L_law_1897 (d : Nat) (L : a_L) (x : Int32) (i : Nat) (st : List Value) (h : a_H) : a_run d ML_law 1897 L (.int x :: .ref i :: st) h = (a_rdi h i a_int x).bind fun v => a_run d ML_law 1898 L (v :: st) h := w_iald dL_law_1897
theorem w_L_law_1898 (d : Nat) (a1 a2 a3 a4 a5 a6 a7 : Option Value) (x : Nat) (st : List Value) (h : a_H) : a_run d ML_law 1898 [some (.ref x), a1, a2, a3, a4, a5, a6, a7] st h = a_run d ML_law 1899 [some (.ref x), a1, a2, a3, a4, a5, a6, a7] (.ref x :: st) h := w_ldAn dL_law_1898 rfl
theorem w_L_law_1899 (d : Nat) (a0 a1 a2 a3 a4 a6 a7 : Option Value) (x : Int32) (st : List Value) (h : a_H) : a_run d ML_law 1899 [a0, a1, a2, a3, a4, some (.int x), a6, a7] st h = a_run d ML_law 1901 [a0, a1, a2, a3, a4, some (.int x), a6, a7] (.int x :: st) h := w_ldI dL_law_1899 rfl
theorem w_L_law_1901 (d : Nat) (L : a_L) (st : List Value) (h : a_H) : a_run d ML_law 1901 L st h = a_run d ML_law 1902 L (.int (nI 2) :: st) h := w_iconst dL_law_1901 rfl
theorem w_L_law_1902 (d : Nat) (L : a_L) (x y : Int32) (st : List Value) (h : a_H) : a_run d ML_law 1902 L (.int y :: .int x :: st) h = a_run d ML_law 1903 L (.int (x + y) :: st) h := w_iadd dL_law_1902
theorem w_L_law_1903 (d : Nat) (L : a_L) (x : Int32) (i : Nat) (st : List Value) (h : a_H) : a_run d ML_law 1903 L (.int x :: .ref i :: st) h = (a_rdi h i a_int x).bind fun v => a_run d ML_law 1904 L (v :: st) h := w_iald dL_law_1903
theorem w_L_law_1904 (d : Nat) (a0 a1 a2 a4 a5 a6 a7 : Option Value) (x : Nat) (st : List Value) (h : a_H) : a_run d ML_law 1904 [a0, a1, a2, some (.ref x), a4, a5, a6, a7] st h = a_run d ML_law 1905 [a0, a1, a2, some (.ref x), a4, a5, a6, a7] (.ref x :: st) h := w_ldAn dL_law_1904 rfl
theorem w_L_law_1904N (d : Nat) (a0 a1 a2 a4 a5 a6 a7 : Option Value) (st : List Value) (h : a_H) : a_run d ML_law 1904 [a0, a1, a2, some .null, a4, a5, a6, a7] st h = a_run d ML_law 1905 [a0, a1, a2, some .null, a4, a5, a6, a7] (.null :: st) h := w_ldNn dL_law_1904 rfl
theorem w_L_law_1905 (d : Nat) (L : a_L) (v0 v1 v2 v3 : Value) (st : List Value) (h : a_H) (hc : a_cat st ≤ 8) : a_run d ML_law 1905 L (v3 :: v2 :: v1 :: v0 :: st) h = a_cont d ML_law (a_bk ML_law 1905 L st (a_call d MX0_pointAt [v0, v1, v2, v3] h)) := w_callS (as := [v0, v1, v2, v3]) dL_law_1905 rfl rfl rfl hc
theorem w_L_law_1908 (d : Nat) (a0 a1 a2 a3 a4 a5 a6 a7 : Option Value) (x : Int32) (st : List Value) (h : a_H) : a_run d ML_law 1908 [a0, a1, a2, a3, a4, a5, a6, a7] (.int x :: st) h = a_run d ML_law 1910 [a0, a1, a2, a3, a4, a5, some (.int x), a7] st h := w_stI dL_law_1908 (Nat.le_of_ble_eq_true rfl) rfl
theorem w_L_law_1910 (d : Nat) (a0 a1 a3 a4 a5 a6 a7 : Option Value) (x : Nat) (st : List Value) (h : a_H) : a_run d ML_law 1910 [a0, a1, some (.ref x), a3, a4, a5, a6, a7] st h = a_run d ML_law 1911 [a0, a1, some (.ref x), a3, a4, a5, a6, a7] (.ref x :: st) h := w_ldAn dL_law_1910 rfl
theorem w_L_law_1910N (d : Nat) (a0 a1 a3 a4 a5 a6 a7 : Option Value) (st : List Value) (h : a_H) : a_run d ML_law 1910 [a0, a1, some .null, a3, a4, a5, a6, a7] st h = a_run d ML_law 1911 [a0, a1, some .null, a3, a4, a5, a6, a7] (.null :: st) h := w_ldNn dL_law_1910 rfl
theorem w_L_law_1911 (d : Nat) (a1 a2 a3 a4 a5 a6 a7 : Option Value) (x : Nat) (st : List Value) (h : a_H) : a_run d ML_law 1911 [some (.ref x), a1, a2, a3, a4, a5, a6, a7] st h = a_run d ML_law 1912 [some (.ref x), a1, a2, a3, a4, a5, a6, a7] (.ref x :: st) h := w_ldAn dL_law_1911 rfl
theorem w_L_law_1912 (d : Nat) (a0 a1 a2 a3 a4 a6 a7 : Option Value) (x : Int32) (st : List Value) (h : a_H) : a_run d ML_law 1912 [a0, a1, a2, a3, a4, some (.int x), a6, a7] st h = a_run d ML_law 1914 [a0, a1, a2, a3, a4, some (.int x), a6, a7] (.int x :: st) h := w_ldI dL_law_1912 rfl
theorem w_L_law_1914 (d : Nat) (L : a_L) (st : List Value) (h : a_H) : a_run d ML_law 1914 L st h = a_run d ML_law 1915 L (.int (nI 1) :: st) h := w_iconst dL_law_1914 rfl
theorem w_L_law_1915 (d : Nat) (L : a_L) (x y : Int32) (st : List Value) (h : a_H) : a_run d ML_law 1915 L (.int y :: .int x :: st) h = a_run d ML_law 1916 L (.int (x + y) :: st) h := w_iadd dL_law_1915
theorem w_L_law_1916 (d : Nat) (L : a_L) (x : Int32) (i : Nat) (st : List Value) (h : a_H) : a_run d ML_law 1916 L (.int x :: .ref i :: st) h = (a_rdi h i a_int x).bind fun v => a_run d ML_law 1917 L (v :: st) h := w_iald dL_law_1916
theorem w_L_law_1917 (d : Nat) (a1 a2 a3 a4 a5 a6 a7 : Option Value) (x : Nat) (st : List Value) (h : a_H) : a_run d ML_law 1917 [some (.ref x), a1, a2, a3, a4, a5, a6, a7] st h = a_run d ML_law 1918 [some (.ref x), a1, a2, a3, a4, a5, a6, a7] (.ref x :: st) h := w_ldAn dL_law_1917 rfl
theorem w_L_law_1918 (d : Nat) (a0 a1 a2 a3 a4 a6 a7 : Option Value) (x : Int32) (st : List Value) (h : a_H) : a_run d ML_law 1918 [a0, a1, a2, a3, a4, some (.int x), a6, a7] st h = a_run d ML_law 1920 [a0, a1, a2, a3, a4, some (.int x), a6, a7] (.int x :: st) h := w_ldI dL_law_1918 rfl
theorem w_L_law_1920 (d : Nat) (L : a_L) (st : List Value) (h : a_H) : a_run d ML_law 1920 L st h = a_run d ML_law 1921 L (.int (nI 2) :: st) h := w_iconst dL_law_1920 rfl
theorem w_L_law_1921 (d : Nat) (L : a_L) (x y : Int32) (st : List Value) (h : a_H) : a_run d ML_law 1921 L (.int y :: .int x :: st) h = a_run d ML_law 1922 L (.int (x + y) :: st) h := w_iadd dL_law_1921
theorem w_L_law_1922 (d : Nat) (L : a_L) (x : Int32) (i : Nat) (st : List Value) (h : a_H) : a_run d ML_law 1922 L (.int x :: .ref i :: st) h = (a_rdi h i a_int x).bind fun v => a_run d ML_law 1923 L (v :: st) h := w_iald dL_law_1922
theorem w_L_law_1923 (d : Nat) (L : a_L) (i : Nat) (v1 v2 : Value) (st : List Value) (h : a_H) (hk : a_kls h i = some 2) (hc : a_cat st ≤ 8) : a_run d ML_law 1923 L (v2 :: v1 :: .ref i :: st) h = a_cont d ML_law (a_bk ML_law 1923 L st (a_call d MX3_pointAt [.ref i, v1, v2] h)) := w_callV (as := [.ref i, v1, v2]) dL_law_1923 rfl rfl rfl hc (a_rcv_of hk rfl)
theorem w_L_law_1926 (d : Nat) (a0 a1 a2 a3 a4 a5 a6 a7 : Option Value) (x : Int32) (st : List Value) (h : a_H) : a_run d ML_law 1926 [a0, a1, a2, a3, a4, a5, a6, a7] (.int x :: st) h = a_run d ML_law 1928 [a0, a1, a2, a3, a4, a5, a6, some (.int x)] st h := w_stI dL_law_1926 (Nat.le_of_ble_eq_true rfl) rfl
theorem w_L_law_1928 (d : Nat) (a0 a1 a3 a4 a5 a6 a7 : Option Value) (x : Nat) (st : List Value) (h : a_H) : a_run d ML_law 1928 [a0, a1, some (.ref x), a3, a4, a5, a6, a7] st h = a_run d ML_law 1929 [a0, a1, some (.ref x), a3, a4, a5, a6, a7] (.ref x :: st) h := w_ldAn dL_law_1928 rfl
theorem w_L_law_1928N (d : Nat) (a0 a1 a3 a4 a5 a6 a7 : Option Value) (st : List Value) (h : a_H) : a_run d ML_law 1928 [a0, a1, some .null, a3, a4, a5, a6, a7] st h = a_run d ML_law 1929 [a0, a1, some .null, a3, a4, a5, a6, a7] (.null :: st) h := w_ldNn dL_law_1928 rfl
theorem w_L_law_1929 (d : Nat) (L : a_L) (i : Nat) (st : List Value) (h : a_H) (hk : a_kls h i = some 2) (hc : a_cat st ≤ 8) : a_run d ML_law 1929 L (.ref i :: st) h = a_cont d ML_law (a_bk ML_law 1929 L st (a_call d MX3_thrown [.ref i] h)) := w_callV (as := [.ref i]) dL_law_1929 rfl rfl rfl hc (a_rcv_of hk rfl)
theorem w_L_law_1932 (d : Nat) (a0 a1 a2 a3 a4 a5 a7 : Option Value) (x : Int32) (st : List Value) (h : a_H) : a_run d ML_law 1932 [a0, a1, a2, a3, a4, a5, some (.int x), a7] st h = a_run d ML_law 1934 [a0, a1, a2, a3, a4, a5, some (.int x), a7] (.int x :: st) h := w_ldI dL_law_1932 rfl
theorem w_L_law_1934 (d : Nat) (L : a_L) (x y : Int32) (st : List Value) (h : a_H) : a_run d ML_law 1934 L (.int y :: .int x :: st) h = if x = y then a_run d ML_law 1939 L st h else a_run d ML_law 1937 L st h := w_icmp_eq dL_law_1934 rfl
theorem w_L_law_1937 (d : Nat) (L : a_L) (st : List Value) (h : a_H) : a_run d ML_law 1937 L st h = a_run d ML_law 1938 L (.int (nI 0) :: st) h := w_iconst dL_law_1937 rfl
theorem w_L_law_1938 (d : Nat) (L : a_L) (x : Int32) (h : a_H) (hx : x = 0 ∨ x = 1) : a_run d ML_law 1938 L [.int x] h = some (.inl (some (.int x)), h) := w_iret dL_law_1938 (w_retZ rfl hx)
theorem w_L_law_1939 (d : Nat) (a0 a1 a2 a3 a4 a5 a7 : Option Value) (x : Int32) (st : List Value) (h : a_H) : a_run d ML_law 1939 [a0, a1, a2, a3, a4, a5, some (.int x), a7] st h = a_run d ML_law 1941 [a0, a1, a2, a3, a4, a5, some (.int x), a7] (.int x :: st) h := w_ldI dL_law_1939 rfl
theorem w_L_law_1941 (d : Nat) (L : a_L) (x : Int32) (st : List Value) (h : a_H) : a_run d ML_law 1941 L (.int x :: st) h = if x = 0 then a_run d ML_law 1944 L st h else a_run d ML_law 1956 L st h := w_if_ne dL_law_1941 rfl
theorem w_L_law_1944 (d : Nat) (a0 a1 a2 a4 a5 a6 a7 : Option Value) (x : Nat) (st : List Value) (h : a_H) : a_run d ML_law 1944 [a0, a1, a2, some (.ref x), a4, a5, a6, a7] st h = a_run d ML_law 1945 [a0, a1, a2, some (.ref x), a4, a5, a6, a7] (.ref x :: st) h := w_ldAn dL_law_1944 rfl
theorem w_L_law_1944N (d : Nat) (a0 a1 a2 a4 a5 a6 a7 : Option Value) (st : List Value) (h : a_H) : a_run d ML_law 1944 [a0, a1, a2, some .null, a4, a5, a6, a7] st h = a_run d ML_law 1945 [a0, a1, a2, some .null, a4, a5, a6, a7] (.null :: st) h := w_ldNn dL_law_1944 rfl
theorem w_L_law_1945 (d : Nat) (L : a_L) (st : List Value) (h : a_H) : a_run d ML_law 1945 L st h = a_run d ML_law 1946 L (.int (nI 0) :: st) h := w_iconst dL_law_1945 rfl
theorem w_L_law_1946 (d : Nat) (L : a_L) (x : Int32) (i : Nat) (st : List Value) (h : a_H) : a_run d ML_law 1946 L (.int x :: .ref i :: st) h = (a_rdl h i x).bind fun v => a_run d ML_law 1947 L (v :: st) h := w_lald dL_law_1946
theorem w_L_law_1947 (d : Nat) (a0 a1 a2 a3 a4 a5 a6 : Option Value) (x : Int32) (st : List Value) (h : a_H) : a_run d ML_law 1947 [a0, a1, a2, a3, a4, a5, a6, some (.int x)] st h = a_run d ML_law 1949 [a0, a1, a2, a3, a4, a5, a6, some (.int x)] (.int x :: st) h := w_ldI dL_law_1947 rfl
theorem w_L_law_1949 (d : Nat) (L : a_L) (x : Int32) (st : List Value) (h : a_H) : a_run d ML_law 1949 L (.int x :: st) h = a_run d ML_law 1950 L (.long x.toInt64 :: st) h := w_i2l dL_law_1949
theorem w_L_law_1950 (d : Nat) (L : a_L) (x y : Int64) (st : List Value) (h : a_H) : a_run d ML_law 1950 L (.long y :: .long x :: st) h = a_run d ML_law 1951 L (.int (lg_cmp x y) :: st) h := w_lcmp dL_law_1950
theorem w_L_law_1951 (d : Nat) (L : a_L) (x : Int32) (st : List Value) (h : a_H) : a_run d ML_law 1951 L (.int x :: st) h = if x = 0 then a_run d ML_law 1956 L st h else a_run d ML_law 1954 L st h := w_if_eq dL_law_1951 rfl
theorem w_L_law_1954 (d : Nat) (L : a_L) (st : List Value) (h : a_H) : a_run d ML_law 1954 L st h = a_run d ML_law 1955 L (.int (nI 0) :: st) h := w_iconst dL_law_1954 rfl
theorem w_L_law_1955 (d : Nat) (L : a_L) (x : Int32) (h : a_H) (hx : x = 0 ∨ x = 1) : a_run d ML_law 1955 L [.int x] h = some (.inl (some (.int x)), h) := w_iret dL_law_1955 (w_retZ rfl hx)
theorem w_L_law_1956 (d : Nat) (L : a_L) (st : List Value) (h : a_H) : a_run d ML_law 1956 L st h = a_run d ML_law 2985 L st h := w_goto dL_law_1956 rfl
theorem w_L_law_1959 (d : Nat) (a0 a2 a3 a4 a5 a6 a7 : Option Value) (x : Nat) (st : List Value) (h : a_H) : a_run d ML_law 1959 [a0, some (.ref x), a2, a3, a4, a5, a6, a7] st h = a_run d ML_law 1960 [a0, some (.ref x), a2, a3, a4, a5, a6, a7] (.ref x :: st) h := w_ldAn dL_law_1959 rfl
theorem w_L_law_1959N (d : Nat) (a0 a2 a3 a4 a5 a6 a7 : Option Value) (st : List Value) (h : a_H) : a_run d ML_law 1959 [a0, some .null, a2, a3, a4, a5, a6, a7] st h = a_run d ML_law 1960 [a0, some .null, a2, a3, a4, a5, a6, a7] (.null :: st) h := w_ldNn dL_law_1959 rfl
theorem w_L_law_1960 (d : Nat) (a1 a2 a3 a4 a5 a6 a7 : Option Value) (x : Nat) (st : List Value) (h : a_H) : a_run d ML_law 1960 [some (.ref x), a1, a2, a3, a4, a5, a6, a7] st h = a_run d ML_law 1961 [some (.ref x), a1, a2, a3, a4, a5, a6, a7] (.ref x :: st) h := w_ldAn dL_law_1960 rfl
theorem w_L_law_1961 (d : Nat) (a0 a1 a2 a3 a4 a6 a7 : Option Value) (x : Int32) (st : List Value) (h : a_H) : a_run d ML_law 1961 [a0, a1, a2, a3, a4, some (.int x), a6, a7] st h = a_run d ML_law 1963 [a0, a1, a2, a3, a4, some (.int x), a6, a7] (.int x :: st) h := w_ldI dL_law_1961 rfl
theorem w_L_law_1963 (d : Nat) (L : a_L) (st : List Value) (h : a_H) : a_run d ML_law 1963 L st h = a_run d ML_law 1964 L (.int (nI 1) :: st) h := w_iconst dL_law_1963 rfl
theorem w_L_law_1964 (d : Nat) (L : a_L) (x y : Int32) (st : List Value) (h : a_H) : a_run d ML_law 1964 L (.int y :: .int x :: st) h = a_run d ML_law 1965 L (.int (x + y) :: st) h := w_iadd dL_law_1964
theorem w_L_law_1965 (d : Nat) (L : a_L) (x : Int32) (i : Nat) (st : List Value) (h : a_H) : a_run d ML_law 1965 L (.int x :: .ref i :: st) h = (a_rdi h i a_int x).bind fun v => a_run d ML_law 1966 L (v :: st) h := w_iald dL_law_1965
theorem w_L_law_1966 (d : Nat) (a0 a1 a2 a4 a5 a6 a7 : Option Value) (x : Nat) (st : List Value) (h : a_H) : a_run d ML_law 1966 [a0, a1, a2, some (.ref x), a4, a5, a6, a7] st h = a_run d ML_law 1967 [a0, a1, a2, some (.ref x), a4, a5, a6, a7] (.ref x :: st) h := w_ldAn dL_law_1966 rfl
theorem w_L_law_1966N (d : Nat) (a0 a1 a2 a4 a5 a6 a7 : Option Value) (st : List Value) (h : a_H) : a_run d ML_law 1966 [a0, a1, a2, some .null, a4, a5, a6, a7] st h = a_run d ML_law 1967 [a0, a1, a2, some .null, a4, a5, a6, a7] (.null :: st) h := w_ldNn dL_law_1966 rfl
theorem w_L_law_1967 (d : Nat) (L : a_L) (v0 v1 v2 : Value) (st : List Value) (h : a_H) (hc : a_cat st ≤ 8) : a_run d ML_law 1967 L (v2 :: v1 :: v0 :: st) h = a_cont d ML_law (a_bk ML_law 1967 L st (a_call d MX0_placeOf [v0, v1, v2] h)) := w_callS (as := [v0, v1, v2]) dL_law_1967 rfl rfl rfl hc
theorem w_L_law_1970 (d : Nat) (a0 a1 a2 a3 a4 a5 a6 a7 : Option Value) (x : Int32) (st : List Value) (h : a_H) : a_run d ML_law 1970 [a0, a1, a2, a3, a4, a5, a6, a7] (.int x :: st) h = a_run d ML_law 1972 [a0, a1, a2, a3, a4, a5, some (.int x), a7] st h := w_stI dL_law_1970 (Nat.le_of_ble_eq_true rfl) rfl
theorem w_L_law_1972 (d : Nat) (a0 a1 a3 a4 a5 a6 a7 : Option Value) (x : Nat) (st : List Value) (h : a_H) : a_run d ML_law 1972 [a0, a1, some (.ref x), a3, a4, a5, a6, a7] st h = a_run d ML_law 1973 [a0, a1, some (.ref x), a3, a4, a5, a6, a7] (.ref x :: st) h := w_ldAn dL_law_1972 rfl
theorem w_L_law_1972N (d : Nat) (a0 a1 a3 a4 a5 a6 a7 : Option Value) (st : List Value) (h : a_H) : a_run d ML_law 1972 [a0, a1, some .null, a3, a4, a5, a6, a7] st h = a_run d ML_law 1973 [a0, a1, some .null, a3, a4, a5, a6, a7] (.null :: st) h := w_ldNn dL_law_1972 rfl
theorem w_L_law_1973 (d : Nat) (a1 a2 a3 a4 a5 a6 a7 : Option Value) (x : Nat) (st : List Value) (h : a_H) : a_run d ML_law 1973 [some (.ref x), a1, a2, a3, a4, a5, a6, a7] st h = a_run d ML_law 1974 [some (.ref x), a1, a2, a3, a4, a5, a6, a7] (.ref x :: st) h := w_ldAn dL_law_1973 rfl
theorem w_L_law_1974 (d : Nat) (a0 a1 a2 a3 a4 a6 a7 : Option Value) (x : Int32) (st : List Value) (h : a_H) : a_run d ML_law 1974 [a0, a1, a2, a3, a4, some (.int x), a6, a7] st h = a_run d ML_law 1976 [a0, a1, a2, a3, a4, some (.int x), a6, a7] (.int x :: st) h := w_ldI dL_law_1974 rfl
theorem w_L_law_1976 (d : Nat) (L : a_L) (st : List Value) (h : a_H) : a_run d ML_law 1976 L st h = a_run d ML_law 1977 L (.int (nI 1) :: st) h := w_iconst dL_law_1976 rfl
theorem w_L_law_1977 (d : Nat) (L : a_L) (x y : Int32) (st : List Value) (h : a_H) : a_run d ML_law 1977 L (.int y :: .int x :: st) h = a_run d ML_law 1978 L (.int (x + y) :: st) h := w_iadd dL_law_1977
theorem w_L_law_1978 (d : Nat) (L : a_L) (x : Int32) (i : Nat) (st : List Value) (h : a_H) : a_run d ML_law 1978 L (.int x :: .ref i :: st) h = (a_rdi h i a_int x).bind fun v => a_run d ML_law 1979 L (v :: st) h := w_iald dL_law_1978
theorem w_L_law_1979 (d : Nat) (L : a_L) (i : Nat) (v1 : Value) (st : List Value) (h : a_H) (hk : a_kls h i = some 2) (hc : a_cat st ≤ 8) : a_run d ML_law 1979 L (v1 :: .ref i :: st) h = a_cont d ML_law (a_bk ML_law 1979 L st (a_call d MX3_placeOf [.ref i, v1] h)) := w_callV (as := [.ref i, v1]) dL_law_1979 rfl rfl rfl hc (a_rcv_of hk rfl)
theorem w_L_law_1982 (d : Nat) (a0 a1 a2 a3 a4 a5 a6 a7 : Option Value) (x : Int32) (st : List Value) (h : a_H) : a_run d ML_law 1982 [a0, a1, a2, a3, a4, a5, a6, a7] (.int x :: st) h = a_run d ML_law 1984 [a0, a1, a2, a3, a4, a5, a6, some (.int x)] st h := w_stI dL_law_1982 (Nat.le_of_ble_eq_true rfl) rfl
theorem w_L_law_1984 (d : Nat) (a0 a1 a3 a4 a5 a6 a7 : Option Value) (x : Nat) (st : List Value) (h : a_H) : a_run d ML_law 1984 [a0, a1, some (.ref x), a3, a4, a5, a6, a7] st h = a_run d ML_law 1985 [a0, a1, some (.ref x), a3, a4, a5, a6, a7] (.ref x :: st) h := w_ldAn dL_law_1984 rfl
theorem w_L_law_1984N (d : Nat) (a0 a1 a3 a4 a5 a6 a7 : Option Value) (st : List Value) (h : a_H) : a_run d ML_law 1984 [a0, a1, some .null, a3, a4, a5, a6, a7] st h = a_run d ML_law 1985 [a0, a1, some .null, a3, a4, a5, a6, a7] (.null :: st) h := w_ldNn dL_law_1984 rfl
theorem w_L_law_1985 (d : Nat) (L : a_L) (i : Nat) (st : List Value) (h : a_H) (hk : a_kls h i = some 2) (hc : a_cat st ≤ 8) : a_run d ML_law 1985 L (.ref i :: st) h = a_cont d ML_law (a_bk ML_law 1985 L st (a_call d MX3_thrown [.ref i] h)) := w_callV (as := [.ref i]) dL_law_1985 rfl rfl rfl hc (a_rcv_of hk rfl)
theorem w_L_law_1988 (d : Nat) (a0 a1 a2 a3 a4 a5 a7 : Option Value) (x : Int32) (st : List Value) (h : a_H) : a_run d ML_law 1988 [a0, a1, a2, a3, a4, a5, some (.int x), a7] st h = a_run d ML_law 1990 [a0, a1, a2, a3, a4, a5, some (.int x), a7] (.int x :: st) h := w_ldI dL_law_1988 rfl
theorem w_L_law_1990 (d : Nat) (L : a_L) (x y : Int32) (st : List Value) (h : a_H) : a_run d ML_law 1990 L (.int y :: .int x :: st) h = if x = y then a_run d ML_law 1995 L st h else a_run d ML_law 1993 L st h := w_icmp_eq dL_law_1990 rfl
theorem w_L_law_1993 (d : Nat) (L : a_L) (st : List Value) (h : a_H) : a_run d ML_law 1993 L st h = a_run d ML_law 1994 L (.int (nI 0) :: st) h := w_iconst dL_law_1993 rfl
theorem w_L_law_1994 (d : Nat) (L : a_L) (x : Int32) (h : a_H) (hx : x = 0 ∨ x = 1) : a_run d ML_law 1994 L [.int x] h = some (.inl (some (.int x)), h) := w_iret dL_law_1994 (w_retZ rfl hx)
theorem w_L_law_1995 (d : Nat) (a0 a1 a2 a3 a4 a5 a7 : Option Value) (x : Int32) (st : List Value) (h : a_H) : a_run d ML_law 1995 [a0, a1, a2, a3, a4, a5, some (.int x), a7] st h = a_run d ML_law 1997 [a0, a1, a2, a3, a4, a5, some (.int x), a7] (.int x :: st) h := w_ldI dL_law_1995 rfl
theorem w_L_law_1997 (d : Nat) (L : a_L) (x : Int32) (st : List Value) (h : a_H) : a_run d ML_law 1997 L (.int x :: st) h = if x = 0 then a_run d ML_law 2000 L st h else a_run d ML_law 2012 L st h := w_if_ne dL_law_1997 rfl
theorem w_L_law_2000 (d : Nat) (a0 a1 a2 a4 a5 a6 a7 : Option Value) (x : Nat) (st : List Value) (h : a_H) : a_run d ML_law 2000 [a0, a1, a2, some (.ref x), a4, a5, a6, a7] st h = a_run d ML_law 2001 [a0, a1, a2, some (.ref x), a4, a5, a6, a7] (.ref x :: st) h := w_ldAn dL_law_2000 rfl
theorem w_L_law_2000N (d : Nat) (a0 a1 a2 a4 a5 a6 a7 : Option Value) (st : List Value) (h : a_H) : a_run d ML_law 2000 [a0, a1, a2, some .null, a4, a5, a6, a7] st h = a_run d ML_law 2001 [a0, a1, a2, some .null, a4, a5, a6, a7] (.null :: st) h := w_ldNn dL_law_2000 rfl
theorem w_L_law_2001 (d : Nat) (L : a_L) (st : List Value) (h : a_H) : a_run d ML_law 2001 L st h = a_run d ML_law 2002 L (.int (nI 0) :: st) h := w_iconst dL_law_2001 rfl
theorem w_L_law_2002 (d : Nat) (L : a_L) (x : Int32) (i : Nat) (st : List Value) (h : a_H) : a_run d ML_law 2002 L (.int x :: .ref i :: st) h = (a_rdl h i x).bind fun v => a_run d ML_law 2003 L (v :: st) h := w_lald dL_law_2002
theorem w_L_law_2003 (d : Nat) (a0 a1 a2 a3 a4 a5 a6 : Option Value) (x : Int32) (st : List Value) (h : a_H) : a_run d ML_law 2003 [a0, a1, a2, a3, a4, a5, a6, some (.int x)] st h = a_run d ML_law 2005 [a0, a1, a2, a3, a4, a5, a6, some (.int x)] (.int x :: st) h := w_ldI dL_law_2003 rfl
theorem w_L_law_2005 (d : Nat) (L : a_L) (x : Int32) (st : List Value) (h : a_H) : a_run d ML_law 2005 L (.int x :: st) h = a_run d ML_law 2006 L (.long x.toInt64 :: st) h := w_i2l dL_law_2005
theorem w_L_law_2006 (d : Nat) (L : a_L) (x y : Int64) (st : List Value) (h : a_H) : a_run d ML_law 2006 L (.long y :: .long x :: st) h = a_run d ML_law 2007 L (.int (lg_cmp x y) :: st) h := w_lcmp dL_law_2006
theorem w_L_law_2007 (d : Nat) (L : a_L) (x : Int32) (st : List Value) (h : a_H) : a_run d ML_law 2007 L (.int x :: st) h = if x = 0 then a_run d ML_law 2012 L st h else a_run d ML_law 2010 L st h := w_if_eq dL_law_2007 rfl
theorem w_L_law_2010 (d : Nat) (L : a_L) (st : List Value) (h : a_H) : a_run d ML_law 2010 L st h = a_run d ML_law 2011 L (.int (nI 0) :: st) h := w_iconst dL_law_2010 rfl
theorem w_L_law_2011 (d : Nat) (L : a_L) (x : Int32) (h : a_H) (hx : x = 0 ∨ x = 1) : a_run d ML_law 2011 L [.int x] h = some (.inl (some (.int x)), h) := w_iret dL_law_2011 (w_retZ rfl hx)
theorem w_L_law_2012 (d : Nat) (L : a_L) (st : List Value) (h : a_H) : a_run d ML_law 2012 L st h = a_run d ML_law 2985 L st h := w_goto dL_law_2012 rfl
theorem w_L_law_2015 (d : Nat) (a0 a2 a3 a4 a5 a6 a7 : Option Value) (x : Nat) (st : List Value) (h : a_H) : a_run d ML_law 2015 [a0, some (.ref x), a2, a3, a4, a5, a6, a7] st h = a_run d ML_law 2016 [a0, some (.ref x), a2, a3, a4, a5, a6, a7] (.ref x :: st) h := w_ldAn dL_law_2015 rfl
theorem w_L_law_2015N (d : Nat) (a0 a2 a3 a4 a5 a6 a7 : Option Value) (st : List Value) (h : a_H) : a_run d ML_law 2015 [a0, some .null, a2, a3, a4, a5, a6, a7] st h = a_run d ML_law 2016 [a0, some .null, a2, a3, a4, a5, a6, a7] (.null :: st) h := w_ldNn dL_law_2015 rfl
theorem w_L_law_2016 (d : Nat) (a1 a2 a3 a4 a5 a6 a7 : Option Value) (x : Nat) (st : List Value) (h : a_H) : a_run d ML_law 2016 [some (.ref x), a1, a2, a3, a4, a5, a6, a7] st h = a_run d ML_law 2017 [some (.ref x), a1, a2, a3, a4, a5, a6, a7] (.ref x :: st) h := w_ldAn dL_law_2016 rfl
theorem w_L_law_2017 (d : Nat) (a0 a1 a2 a3 a4 a6 a7 : Option Value) (x : Int32) (st : List Value) (h : a_H) : a_run d ML_law 2017 [a0, a1, a2, a3, a4, some (.int x), a6, a7] st h = a_run d ML_law 2019 [a0, a1, a2, a3, a4, some (.int x), a6, a7] (.int x :: st) h := w_ldI dL_law_2017 rfl
theorem w_L_law_2019 (d : Nat) (L : a_L) (st : List Value) (h : a_H) : a_run d ML_law 2019 L st h = a_run d ML_law 2020 L (.int (nI 1) :: st) h := w_iconst dL_law_2019 rfl
theorem w_L_law_2020 (d : Nat) (L : a_L) (x y : Int32) (st : List Value) (h : a_H) : a_run d ML_law 2020 L (.int y :: .int x :: st) h = a_run d ML_law 2021 L (.int (x + y) :: st) h := w_iadd dL_law_2020
theorem w_L_law_2021 (d : Nat) (L : a_L) (x : Int32) (i : Nat) (st : List Value) (h : a_H) : a_run d ML_law 2021 L (.int x :: .ref i :: st) h = (a_rdi h i a_int x).bind fun v => a_run d ML_law 2022 L (v :: st) h := w_iald dL_law_2021
theorem w_L_law_2022 (d : Nat) (a1 a2 a3 a4 a5 a6 a7 : Option Value) (x : Nat) (st : List Value) (h : a_H) : a_run d ML_law 2022 [some (.ref x), a1, a2, a3, a4, a5, a6, a7] st h = a_run d ML_law 2023 [some (.ref x), a1, a2, a3, a4, a5, a6, a7] (.ref x :: st) h := w_ldAn dL_law_2022 rfl
theorem w_L_law_2023 (d : Nat) (a0 a1 a2 a3 a4 a6 a7 : Option Value) (x : Int32) (st : List Value) (h : a_H) : a_run d ML_law 2023 [a0, a1, a2, a3, a4, some (.int x), a6, a7] st h = a_run d ML_law 2025 [a0, a1, a2, a3, a4, some (.int x), a6, a7] (.int x :: st) h := w_ldI dL_law_2023 rfl
theorem w_L_law_2025 (d : Nat) (L : a_L) (st : List Value) (h : a_H) : a_run d ML_law 2025 L st h = a_run d ML_law 2026 L (.int (nI 2) :: st) h := w_iconst dL_law_2025 rfl
theorem w_L_law_2026 (d : Nat) (L : a_L) (x y : Int32) (st : List Value) (h : a_H) : a_run d ML_law 2026 L (.int y :: .int x :: st) h = a_run d ML_law 2027 L (.int (x + y) :: st) h := w_iadd dL_law_2026
theorem w_L_law_2027 (d : Nat) (L : a_L) (x : Int32) (i : Nat) (st : List Value) (h : a_H) : a_run d ML_law 2027 L (.int x :: .ref i :: st) h = (a_rdi h i a_int x).bind fun v => a_run d ML_law 2028 L (v :: st) h := w_iald dL_law_2027
theorem w_L_law_2028 (d : Nat) (a0 a1 a2 a4 a5 a6 a7 : Option Value) (x : Nat) (st : List Value) (h : a_H) : a_run d ML_law 2028 [a0, a1, a2, some (.ref x), a4, a5, a6, a7] st h = a_run d ML_law 2029 [a0, a1, a2, some (.ref x), a4, a5, a6, a7] (.ref x :: st) h := w_ldAn dL_law_2028 rfl
theorem w_L_law_2028N (d : Nat) (a0 a1 a2 a4 a5 a6 a7 : Option Value) (st : List Value) (h : a_H) : a_run d ML_law 2028 [a0, a1, a2, some .null, a4, a5, a6, a7] st h = a_run d ML_law 2029 [a0, a1, a2, some .null, a4, a5, a6, a7] (.null :: st) h := w_ldNn dL_law_2028 rfl
theorem w_L_law_2029 (d : Nat) (L : a_L) (v0 v1 v2 v3 : Value) (st : List Value) (h : a_H) (hc : a_cat st ≤ 8) : a_run d ML_law 2029 L (v3 :: v2 :: v1 :: v0 :: st) h = a_cont d ML_law (a_bk ML_law 2029 L st (a_call d MX0_medianAbove [v0, v1, v2, v3] h)) := w_callS (as := [v0, v1, v2, v3]) dL_law_2029 rfl rfl rfl hc
theorem w_L_law_2032 (d : Nat) (a0 a1 a2 a3 a4 a5 a6 a7 : Option Value) (x : Int32) (st : List Value) (h : a_H) : a_run d ML_law 2032 [a0, a1, a2, a3, a4, a5, a6, a7] (.int x :: st) h = a_run d ML_law 2034 [a0, a1, a2, a3, a4, a5, some (.int x), a7] st h := w_stI dL_law_2032 (Nat.le_of_ble_eq_true rfl) rfl
theorem w_L_law_2034 (d : Nat) (a0 a1 a3 a4 a5 a6 a7 : Option Value) (x : Nat) (st : List Value) (h : a_H) : a_run d ML_law 2034 [a0, a1, some (.ref x), a3, a4, a5, a6, a7] st h = a_run d ML_law 2035 [a0, a1, some (.ref x), a3, a4, a5, a6, a7] (.ref x :: st) h := w_ldAn dL_law_2034 rfl
theorem w_L_law_2034N (d : Nat) (a0 a1 a3 a4 a5 a6 a7 : Option Value) (st : List Value) (h : a_H) : a_run d ML_law 2034 [a0, a1, some .null, a3, a4, a5, a6, a7] st h = a_run d ML_law 2035 [a0, a1, some .null, a3, a4, a5, a6, a7] (.null :: st) h := w_ldNn dL_law_2034 rfl
theorem w_L_law_2035 (d : Nat) (a1 a2 a3 a4 a5 a6 a7 : Option Value) (x : Nat) (st : List Value) (h : a_H) : a_run d ML_law 2035 [some (.ref x), a1, a2, a3, a4, a5, a6, a7] st h = a_run d ML_law 2036 [some (.ref x), a1, a2, a3, a4, a5, a6, a7] (.ref x :: st) h := w_ldAn dL_law_2035 rfl
theorem w_L_law_2036 (d : Nat) (a0 a1 a2 a3 a4 a6 a7 : Option Value) (x : Int32) (st : List Value) (h : a_H) : a_run d ML_law 2036 [a0, a1, a2, a3, a4, some (.int x), a6, a7] st h = a_run d ML_law 2038 [a0, a1, a2, a3, a4, some (.int x), a6, a7] (.int x :: st) h := w_ldI dL_law_2036 rfl
theorem w_L_law_2038 (d : Nat) (L : a_L) (st : List Value) (h : a_H) : a_run d ML_law 2038 L st h = a_run d ML_law 2039 L (.int (nI 1) :: st) h := w_iconst dL_law_2038 rfl
theorem w_L_law_2039 (d : Nat) (L : a_L) (x y : Int32) (st : List Value) (h : a_H) : a_run d ML_law 2039 L (.int y :: .int x :: st) h = a_run d ML_law 2040 L (.int (x + y) :: st) h := w_iadd dL_law_2039
theorem w_L_law_2040 (d : Nat) (L : a_L) (x : Int32) (i : Nat) (st : List Value) (h : a_H) : a_run d ML_law 2040 L (.int x :: .ref i :: st) h = (a_rdi h i a_int x).bind fun v => a_run d ML_law 2041 L (v :: st) h := w_iald dL_law_2040
theorem w_L_law_2041 (d : Nat) (a1 a2 a3 a4 a5 a6 a7 : Option Value) (x : Nat) (st : List Value) (h : a_H) : a_run d ML_law 2041 [some (.ref x), a1, a2, a3, a4, a5, a6, a7] st h = a_run d ML_law 2042 [some (.ref x), a1, a2, a3, a4, a5, a6, a7] (.ref x :: st) h := w_ldAn dL_law_2041 rfl
theorem w_L_law_2042 (d : Nat) (a0 a1 a2 a3 a4 a6 a7 : Option Value) (x : Int32) (st : List Value) (h : a_H) : a_run d ML_law 2042 [a0, a1, a2, a3, a4, some (.int x), a6, a7] st h = a_run d ML_law 2044 [a0, a1, a2, a3, a4, some (.int x), a6, a7] (.int x :: st) h := w_ldI dL_law_2042 rfl
theorem w_L_law_2044 (d : Nat) (L : a_L) (st : List Value) (h : a_H) : a_run d ML_law 2044 L st h = a_run d ML_law 2045 L (.int (nI 2) :: st) h := w_iconst dL_law_2044 rfl
theorem w_L_law_2045 (d : Nat) (L : a_L) (x y : Int32) (st : List Value) (h : a_H) : a_run d ML_law 2045 L (.int y :: .int x :: st) h = a_run d ML_law 2046 L (.int (x + y) :: st) h := w_iadd dL_law_2045
theorem w_L_law_2046 (d : Nat) (L : a_L) (x : Int32) (i : Nat) (st : List Value) (h : a_H) : a_run d ML_law 2046 L (.int x :: .ref i :: st) h = (a_rdi h i a_int x).bind fun v => a_run d ML_law 2047 L (v :: st) h := w_iald dL_law_2046
theorem w_L_law_2047 (d : Nat) (L : a_L) (i : Nat) (v1 v2 : Value) (st : List Value) (h : a_H) (hk : a_kls h i = some 2) (hc : a_cat st ≤ 8) : a_run d ML_law 2047 L (v2 :: v1 :: .ref i :: st) h = a_cont d ML_law (a_bk ML_law 2047 L st (a_call d MX3_medianAbove [.ref i, v1, v2] h)) := w_callV (as := [.ref i, v1, v2]) dL_law_2047 rfl rfl rfl hc (a_rcv_of hk rfl)
theorem w_L_law_2050 (d : Nat) (a0 a1 a2 a3 a4 a5 a6 a7 : Option Value) (x : Int32) (st : List Value) (h : a_H) : a_run d ML_law 2050 [a0, a1, a2, a3, a4, a5, a6, a7] (.int x :: st) h = a_run d ML_law 2052 [a0, a1, a2, a3, a4, a5, a6, some (.int x)] st h := w_stI dL_law_2050 (Nat.le_of_ble_eq_true rfl) rfl
theorem w_L_law_2052 (d : Nat) (a0 a1 a3 a4 a5 a6 a7 : Option Value) (x : Nat) (st : List Value) (h : a_H) : a_run d ML_law 2052 [a0, a1, some (.ref x), a3, a4, a5, a6, a7] st h = a_run d ML_law 2053 [a0, a1, some (.ref x), a3, a4, a5, a6, a7] (.ref x :: st) h := w_ldAn dL_law_2052 rfl
theorem w_L_law_2052N (d : Nat) (a0 a1 a3 a4 a5 a6 a7 : Option Value) (st : List Value) (h : a_H) : a_run d ML_law 2052 [a0, a1, some .null, a3, a4, a5, a6, a7] st h = a_run d ML_law 2053 [a0, a1, some .null, a3, a4, a5, a6, a7] (.null :: st) h := w_ldNn dL_law_2052 rfl
theorem w_L_law_2053 (d : Nat) (L : a_L) (i : Nat) (st : List Value) (h : a_H) (hk : a_kls h i = some 2) (hc : a_cat st ≤ 8) : a_run d ML_law 2053 L (.ref i :: st) h = a_cont d ML_law (a_bk ML_law 2053 L st (a_call d MX3_thrown [.ref i] h)) := w_callV (as := [.ref i]) dL_law_2053 rfl rfl rfl hc (a_rcv_of hk rfl)
theorem w_L_law_2056 (d : Nat) (a0 a1 a2 a3 a4 a5 a7 : Option Value) (x : Int32) (st : List Value) (h : a_H) : a_run d ML_law 2056 [a0, a1, a2, a3, a4, a5, some (.int x), a7] st h = a_run d ML_law 2058 [a0, a1, a2, a3, a4, a5, some (.int x), a7] (.int x :: st) h := w_ldI dL_law_2056 rfl
theorem w_L_law_2058 (d : Nat) (L : a_L) (x y : Int32) (st : List Value) (h : a_H) : a_run d ML_law 2058 L (.int y :: .int x :: st) h = if x = y then a_run d ML_law 2063 L st h else a_run d ML_law 2061 L st h := w_icmp_eq dL_law_2058 rfl
theorem w_L_law_2061 (d : Nat) (L : a_L) (st : List Value) (h : a_H) : a_run d ML_law 2061 L st h = a_run d ML_law 2062 L (.int (nI 0) :: st) h := w_iconst dL_law_2061 rfl
theorem w_L_law_2062 (d : Nat) (L : a_L) (x : Int32) (h : a_H) (hx : x = 0 ∨ x = 1) : a_run d ML_law 2062 L [.int x] h = some (.inl (some (.int x)), h) := w_iret dL_law_2062 (w_retZ rfl hx)
theorem w_L_law_2063 (d : Nat) (a0 a1 a2 a3 a4 a5 a7 : Option Value) (x : Int32) (st : List Value) (h : a_H) : a_run d ML_law 2063 [a0, a1, a2, a3, a4, a5, some (.int x), a7] st h = a_run d ML_law 2065 [a0, a1, a2, a3, a4, a5, some (.int x), a7] (.int x :: st) h := w_ldI dL_law_2063 rfl
theorem w_L_law_2065 (d : Nat) (L : a_L) (x : Int32) (st : List Value) (h : a_H) : a_run d ML_law 2065 L (.int x :: st) h = if x = 0 then a_run d ML_law 2068 L st h else a_run d ML_law 2080 L st h := w_if_ne dL_law_2065 rfl
theorem w_L_law_2068 (d : Nat) (a0 a1 a2 a4 a5 a6 a7 : Option Value) (x : Nat) (st : List Value) (h : a_H) : a_run d ML_law 2068 [a0, a1, a2, some (.ref x), a4, a5, a6, a7] st h = a_run d ML_law 2069 [a0, a1, a2, some (.ref x), a4, a5, a6, a7] (.ref x :: st) h := w_ldAn dL_law_2068 rfl
theorem w_L_law_2068N (d : Nat) (a0 a1 a2 a4 a5 a6 a7 : Option Value) (st : List Value) (h : a_H) : a_run d ML_law 2068 [a0, a1, a2, some .null, a4, a5, a6, a7] st h = a_run d ML_law 2069 [a0, a1, a2, some .null, a4, a5, a6, a7] (.null :: st) h := w_ldNn dL_law_2068 rfl
theorem w_L_law_2069 (d : Nat) (L : a_L) (st : List Value) (h : a_H) : a_run d ML_law 2069 L st h = a_run d ML_law 2070 L (.int (nI 0) :: st) h := w_iconst dL_law_2069 rfl
theorem w_L_law_2070 (d : Nat) (L : a_L) (x : Int32) (i : Nat) (st : List Value) (h : a_H) : a_run d ML_law 2070 L (.int x :: .ref i :: st) h = (a_rdl h i x).bind fun v => a_run d ML_law 2071 L (v :: st) h := w_lald dL_law_2070
theorem w_L_law_2071 (d : Nat) (a0 a1 a2 a3 a4 a5 a6 : Option Value) (x : Int32) (st : List Value) (h : a_H) : a_run d ML_law 2071 [a0, a1, a2, a3, a4, a5, a6, some (.int x)] st h = a_run d ML_law 2073 [a0, a1, a2, a3, a4, a5, a6, some (.int x)] (.int x :: st) h := w_ldI dL_law_2071 rfl
theorem w_L_law_2073 (d : Nat) (L : a_L) (x : Int32) (st : List Value) (h : a_H) : a_run d ML_law 2073 L (.int x :: st) h = a_run d ML_law 2074 L (.long x.toInt64 :: st) h := w_i2l dL_law_2073
theorem w_L_law_2074 (d : Nat) (L : a_L) (x y : Int64) (st : List Value) (h : a_H) : a_run d ML_law 2074 L (.long y :: .long x :: st) h = a_run d ML_law 2075 L (.int (lg_cmp x y) :: st) h := w_lcmp dL_law_2074
theorem w_L_law_2075 (d : Nat) (L : a_L) (x : Int32) (st : List Value) (h : a_H) : a_run d ML_law 2075 L (.int x :: st) h = if x = 0 then a_run d ML_law 2080 L st h else a_run d ML_law 2078 L st h := w_if_eq dL_law_2075 rfl
theorem w_L_law_2078 (d : Nat) (L : a_L) (st : List Value) (h : a_H) : a_run d ML_law 2078 L st h = a_run d ML_law 2079 L (.int (nI 0) :: st) h := w_iconst dL_law_2078 rfl
theorem w_L_law_2079 (d : Nat) (L : a_L) (x : Int32) (h : a_H) (hx : x = 0 ∨ x = 1) : a_run d ML_law 2079 L [.int x] h = some (.inl (some (.int x)), h) := w_iret dL_law_2079 (w_retZ rfl hx)
theorem w_L_law_2080 (d : Nat) (L : a_L) (st : List Value) (h : a_H) : a_run d ML_law 2080 L st h = a_run d ML_law 2985 L st h := w_goto dL_law_2080 rfl
theorem w_L_law_2083 (d : Nat) (a0 a2 a3 a4 a5 a6 a7 : Option Value) (x : Nat) (st : List Value) (h : a_H) : a_run d ML_law 2083 [a0, some (.ref x), a2, a3, a4, a5, a6, a7] st h = a_run d ML_law 2084 [a0, some (.ref x), a2, a3, a4, a5, a6, a7] (.ref x :: st) h := w_ldAn dL_law_2083 rfl
theorem w_L_law_2083N (d : Nat) (a0 a2 a3 a4 a5 a6 a7 : Option Value) (st : List Value) (h : a_H) : a_run d ML_law 2083 [a0, some .null, a2, a3, a4, a5, a6, a7] st h = a_run d ML_law 2084 [a0, some .null, a2, a3, a4, a5, a6, a7] (.null :: st) h := w_ldNn dL_law_2083 rfl
theorem w_L_law_2084 (d : Nat) (a1 a2 a3 a4 a5 a6 a7 : Option Value) (x : Nat) (st : List Value) (h : a_H) : a_run d ML_law 2084 [some (.ref x), a1, a2, a3, a4, a5, a6, a7] st h = a_run d ML_law 2085 [some (.ref x), a1, a2, a3, a4, a5, a6, a7] (.ref x :: st) h := w_ldAn dL_law_2084 rfl
theorem w_L_law_2085 (d : Nat) (a0 a1 a2 a3 a4 a6 a7 : Option Value) (x : Int32) (st : List Value) (h : a_H) : a_run d ML_law 2085 [a0, a1, a2, a3, a4, some (.int x), a6, a7] st h = a_run d ML_law 2087 [a0, a1, a2, a3, a4, some (.int x), a6, a7] (.int x :: st) h := w_ldI dL_law_2085 rfl
theorem w_L_law_2087 (d : Nat) (L : a_L) (st : List Value) (h : a_H) : a_run d ML_law 2087 L st h = a_run d ML_law 2088 L (.int (nI 1) :: st) h := w_iconst dL_law_2087 rfl
theorem w_L_law_2088 (d : Nat) (L : a_L) (x y : Int32) (st : List Value) (h : a_H) : a_run d ML_law 2088 L (.int y :: .int x :: st) h = a_run d ML_law 2089 L (.int (x + y) :: st) h := w_iadd dL_law_2088
theorem w_L_law_2089 (d : Nat) (L : a_L) (x : Int32) (i : Nat) (st : List Value) (h : a_H) : a_run d ML_law 2089 L (.int x :: .ref i :: st) h = (a_rdi h i a_int x).bind fun v => a_run d ML_law 2090 L (v :: st) h := w_iald dL_law_2089
theorem w_L_law_2090 (d : Nat) (a1 a2 a3 a4 a5 a6 a7 : Option Value) (x : Nat) (st : List Value) (h : a_H) : a_run d ML_law 2090 [some (.ref x), a1, a2, a3, a4, a5, a6, a7] st h = a_run d ML_law 2091 [some (.ref x), a1, a2, a3, a4, a5, a6, a7] (.ref x :: st) h := w_ldAn dL_law_2090 rfl
theorem w_L_law_2091 (d : Nat) (a0 a1 a2 a3 a4 a6 a7 : Option Value) (x : Int32) (st : List Value) (h : a_H) : a_run d ML_law 2091 [a0, a1, a2, a3, a4, some (.int x), a6, a7] st h = a_run d ML_law 2093 [a0, a1, a2, a3, a4, some (.int x), a6, a7] (.int x :: st) h := w_ldI dL_law_2091 rfl
theorem w_L_law_2093 (d : Nat) (L : a_L) (st : List Value) (h : a_H) : a_run d ML_law 2093 L st h = a_run d ML_law 2094 L (.int (nI 2) :: st) h := w_iconst dL_law_2093 rfl
theorem w_L_law_2094 (d : Nat) (L : a_L) (x y : Int32) (st : List Value) (h : a_H) : a_run d ML_law 2094 L (.int y :: .int x :: st) h = a_run d ML_law 2095 L (.int (x + y) :: st) h := w_iadd dL_law_2094
theorem w_L_law_2095 (d : Nat) (L : a_L) (x : Int32) (i : Nat) (st : List Value) (h : a_H) : a_run d ML_law 2095 L (.int x :: .ref i :: st) h = (a_rdi h i a_int x).bind fun v => a_run d ML_law 2096 L (v :: st) h := w_iald dL_law_2095
theorem w_L_law_2096 (d : Nat) (a0 a1 a2 a4 a5 a6 a7 : Option Value) (x : Nat) (st : List Value) (h : a_H) : a_run d ML_law 2096 [a0, a1, a2, some (.ref x), a4, a5, a6, a7] st h = a_run d ML_law 2097 [a0, a1, a2, some (.ref x), a4, a5, a6, a7] (.ref x :: st) h := w_ldAn dL_law_2096 rfl
theorem w_L_law_2096N (d : Nat) (a0 a1 a2 a4 a5 a6 a7 : Option Value) (st : List Value) (h : a_H) : a_run d ML_law 2096 [a0, a1, a2, some .null, a4, a5, a6, a7] st h = a_run d ML_law 2097 [a0, a1, a2, some .null, a4, a5, a6, a7] (.null :: st) h := w_ldNn dL_law_2096 rfl
theorem w_L_law_2097 (d : Nat) (L : a_L) (v0 v1 v2 v3 : Value) (st : List Value) (h : a_H) (hc : a_cat st ≤ 8) : a_run d ML_law 2097 L (v3 :: v2 :: v1 :: v0 :: st) h = a_cont d ML_law (a_bk ML_law 2097 L st (a_call d MX0_medianBelow [v0, v1, v2, v3] h)) := w_callS (as := [v0, v1, v2, v3]) dL_law_2097 rfl rfl rfl hc
theorem w_L_law_2100 (d : Nat) (a0 a1 a2 a3 a4 a5 a6 a7 : Option Value) (x : Int32) (st : List Value) (h : a_H) : a_run d ML_law 2100 [a0, a1, a2, a3, a4, a5, a6, a7] (.int x :: st) h = a_run d ML_law 2102 [a0, a1, a2, a3, a4, a5, some (.int x), a7] st h := w_stI dL_law_2100 (Nat.le_of_ble_eq_true rfl) rfl
theorem w_L_law_2102 (d : Nat) (a0 a1 a3 a4 a5 a6 a7 : Option Value) (x : Nat) (st : List Value) (h : a_H) : a_run d ML_law 2102 [a0, a1, some (.ref x), a3, a4, a5, a6, a7] st h = a_run d ML_law 2103 [a0, a1, some (.ref x), a3, a4, a5, a6, a7] (.ref x :: st) h := w_ldAn dL_law_2102 rfl
theorem w_L_law_2102N (d : Nat) (a0 a1 a3 a4 a5 a6 a7 : Option Value) (st : List Value) (h : a_H) : a_run d ML_law 2102 [a0, a1, some .null, a3, a4, a5, a6, a7] st h = a_run d ML_law 2103 [a0, a1, some .null, a3, a4, a5, a6, a7] (.null :: st) h := w_ldNn dL_law_2102 rfl
theorem w_L_law_2103 (d : Nat) (a1 a2 a3 a4 a5 a6 a7 : Option Value) (x : Nat) (st : List Value) (h : a_H) : a_run d ML_law 2103 [some (.ref x), a1, a2, a3, a4, a5, a6, a7] st h = a_run d ML_law 2104 [some (.ref x), a1, a2, a3, a4, a5, a6, a7] (.ref x :: st) h := w_ldAn dL_law_2103 rfl
theorem w_L_law_2104 (d : Nat) (a0 a1 a2 a3 a4 a6 a7 : Option Value) (x : Int32) (st : List Value) (h : a_H) : a_run d ML_law 2104 [a0, a1, a2, a3, a4, some (.int x), a6, a7] st h = a_run d ML_law 2106 [a0, a1, a2, a3, a4, some (.int x), a6, a7] (.int x :: st) h := w_ldI dL_law_2104 rfl
theorem w_L_law_2106 (d : Nat) (L : a_L) (st : List Value) (h : a_H) : a_run d ML_law 2106 L st h = a_run d ML_law 2107 L (.int (nI 1) :: st) h := w_iconst dL_law_2106 rfl
theorem w_L_law_2107 (d : Nat) (L : a_L) (x y : Int32) (st : List Value) (h : a_H) : a_run d ML_law 2107 L (.int y :: .int x :: st) h = a_run d ML_law 2108 L (.int (x + y) :: st) h := w_iadd dL_law_2107
theorem w_L_law_2108 (d : Nat) (L : a_L) (x : Int32) (i : Nat) (st : List Value) (h : a_H) : a_run d ML_law 2108 L (.int x :: .ref i :: st) h = (a_rdi h i a_int x).bind fun v => a_run d ML_law 2109 L (v :: st) h := w_iald dL_law_2108
theorem w_L_law_2109 (d : Nat) (a1 a2 a3 a4 a5 a6 a7 : Option Value) (x : Nat) (st : List Value) (h : a_H) : a_run d ML_law 2109 [some (.ref x), a1, a2, a3, a4, a5, a6, a7] st h = a_run d ML_law 2110 [some (.ref x), a1, a2, a3, a4, a5, a6, a7] (.ref x :: st) h := w_ldAn dL_law_2109 rfl
theorem w_L_law_2110 (d : Nat) (a0 a1 a2 a3 a4 a6 a7 : Option Value) (x : Int32) (st : List Value) (h : a_H) : a_run d ML_law 2110 [a0, a1, a2, a3, a4, some (.int x), a6, a7] st h = a_run d ML_law 2112 [a0, a1, a2, a3, a4, some (.int x), a6, a7] (.int x :: st) h := w_ldI dL_law_2110 rfl
theorem w_L_law_2112 (d : Nat) (L : a_L) (st : List Value) (h : a_H) : a_run d ML_law 2112 L st h = a_run d ML_law 2113 L (.int (nI 2) :: st) h := w_iconst dL_law_2112 rfl
theorem w_L_law_2113 (d : Nat) (L : a_L) (x y : Int32) (st : List Value) (h : a_H) : a_run d ML_law 2113 L (.int y :: .int x :: st) h = a_run d ML_law 2114 L (.int (x + y) :: st) h := w_iadd dL_law_2113
theorem w_L_law_2114 (d : Nat) (L : a_L) (x : Int32) (i : Nat) (st : List Value) (h : a_H) : a_run d ML_law 2114 L (.int x :: .ref i :: st) h = (a_rdi h i a_int x).bind fun v => a_run d ML_law 2115 L (v :: st) h := w_iald dL_law_2114
theorem w_L_law_2115 (d : Nat) (L : a_L) (i : Nat) (v1 v2 : Value) (st : List Value) (h : a_H) (hk : a_kls h i = some 2) (hc : a_cat st ≤ 8) : a_run d ML_law 2115 L (v2 :: v1 :: .ref i :: st) h = a_cont d ML_law (a_bk ML_law 2115 L st (a_call d MX3_medianBelow [.ref i, v1, v2] h)) := w_callV (as := [.ref i, v1, v2]) dL_law_2115 rfl rfl rfl hc (a_rcv_of hk rfl)
theorem w_L_law_2118 (d : Nat) (a0 a1 a2 a3 a4 a5 a6 a7 : Option Value) (x : Int32) (st : List Value) (h : a_H) : a_run d ML_law 2118 [a0, a1, a2, a3, a4, a5, a6, a7] (.int x :: st) h = a_run d ML_law 2120 [a0, a1, a2, a3, a4, a5, a6, some (.int x)] st h := w_stI dL_law_2118 (Nat.le_of_ble_eq_true rfl) rfl
theorem w_L_law_2120 (d : Nat) (a0 a1 a3 a4 a5 a6 a7 : Option Value) (x : Nat) (st : List Value) (h : a_H) : a_run d ML_law 2120 [a0, a1, some (.ref x), a3, a4, a5, a6, a7] st h = a_run d ML_law 2121 [a0, a1, some (.ref x), a3, a4, a5, a6, a7] (.ref x :: st) h := w_ldAn dL_law_2120 rfl
theorem w_L_law_2120N (d : Nat) (a0 a1 a3 a4 a5 a6 a7 : Option Value) (st : List Value) (h : a_H) : a_run d ML_law 2120 [a0, a1, some .null, a3, a4, a5, a6, a7] st h = a_run d ML_law 2121 [a0, a1, some .null, a3, a4, a5, a6, a7] (.null :: st) h := w_ldNn dL_law_2120 rfl
theorem w_L_law_2121 (d : Nat) (L : a_L) (i : Nat) (st : List Value) (h : a_H) (hk : a_kls h i = some 2) (hc : a_cat st ≤ 8) : a_run d ML_law 2121 L (.ref i :: st) h = a_cont d ML_law (a_bk ML_law 2121 L st (a_call d MX3_thrown [.ref i] h)) := w_callV (as := [.ref i]) dL_law_2121 rfl rfl rfl hc (a_rcv_of hk rfl)
theorem w_L_law_2124 (d : Nat) (a0 a1 a2 a3 a4 a5 a7 : Option Value) (x : Int32) (st : List Value) (h : a_H) : a_run d ML_law 2124 [a0, a1, a2, a3, a4, a5, some (.int x), a7] st h = a_run d ML_law 2126 [a0, a1, a2, a3, a4, a5, some (.int x), a7] (.int x :: st) h := w_ldI dL_law_2124 rfl
theorem w_L_law_2126 (d : Nat) (L : a_L) (x y : Int32) (st : List Value) (h : a_H) : a_run d ML_law 2126 L (.int y :: .int x :: st) h = if x = y then a_run d ML_law 2131 L st h else a_run d ML_law 2129 L st h := w_icmp_eq dL_law_2126 rfl
theorem w_L_law_2129 (d : Nat) (L : a_L) (st : List Value) (h : a_H) : a_run d ML_law 2129 L st h = a_run d ML_law 2130 L (.int (nI 0) :: st) h := w_iconst dL_law_2129 rfl
theorem w_L_law_2130 (d : Nat) (L : a_L) (x : Int32) (h : a_H) (hx : x = 0 ∨ x = 1) : a_run d ML_law 2130 L [.int x] h = some (.inl (some (.int x)), h) := w_iret dL_law_2130 (w_retZ rfl hx)
theorem w_L_law_2131 (d : Nat) (a0 a1 a2 a3 a4 a5 a7 : Option Value) (x : Int32) (st : List Value) (h : a_H) : a_run d ML_law 2131 [a0, a1, a2, a3, a4, a5, some (.int x), a7] st h = a_run d ML_law 2133 [a0, a1, a2, a3, a4, a5, some (.int x), a7] (.int x :: st) h := w_ldI dL_law_2131 rfl
theorem w_L_law_2133 (d : Nat) (L : a_L) (x : Int32) (st : List Value) (h : a_H) : a_run d ML_law 2133 L (.int x :: st) h = if x = 0 then a_run d ML_law 2136 L st h else a_run d ML_law 2148 L st h := w_if_ne dL_law_2133 rfl
theorem w_L_law_2136 (d : Nat) (a0 a1 a2 a4 a5 a6 a7 : Option Value) (x : Nat) (st : List Value) (h : a_H) : a_run d ML_law 2136 [a0, a1, a2, some (.ref x), a4, a5, a6, a7] st h = a_run d ML_law 2137 [a0, a1, a2, some (.ref x), a4, a5, a6, a7] (.ref x :: st) h := w_ldAn dL_law_2136 rfl
theorem w_L_law_2136N (d : Nat) (a0 a1 a2 a4 a5 a6 a7 : Option Value) (st : List Value) (h : a_H) : a_run d ML_law 2136 [a0, a1, a2, some .null, a4, a5, a6, a7] st h = a_run d ML_law 2137 [a0, a1, a2, some .null, a4, a5, a6, a7] (.null :: st) h := w_ldNn dL_law_2136 rfl
theorem w_L_law_2137 (d : Nat) (L : a_L) (st : List Value) (h : a_H) : a_run d ML_law 2137 L st h = a_run d ML_law 2138 L (.int (nI 0) :: st) h := w_iconst dL_law_2137 rfl
theorem w_L_law_2138 (d : Nat) (L : a_L) (x : Int32) (i : Nat) (st : List Value) (h : a_H) : a_run d ML_law 2138 L (.int x :: .ref i :: st) h = (a_rdl h i x).bind fun v => a_run d ML_law 2139 L (v :: st) h := w_lald dL_law_2138
theorem w_L_law_2139 (d : Nat) (a0 a1 a2 a3 a4 a5 a6 : Option Value) (x : Int32) (st : List Value) (h : a_H) : a_run d ML_law 2139 [a0, a1, a2, a3, a4, a5, a6, some (.int x)] st h = a_run d ML_law 2141 [a0, a1, a2, a3, a4, a5, a6, some (.int x)] (.int x :: st) h := w_ldI dL_law_2139 rfl
theorem w_L_law_2141 (d : Nat) (L : a_L) (x : Int32) (st : List Value) (h : a_H) : a_run d ML_law 2141 L (.int x :: st) h = a_run d ML_law 2142 L (.long x.toInt64 :: st) h := w_i2l dL_law_2141
theorem w_L_law_2142 (d : Nat) (L : a_L) (x y : Int64) (st : List Value) (h : a_H) : a_run d ML_law 2142 L (.long y :: .long x :: st) h = a_run d ML_law 2143 L (.int (lg_cmp x y) :: st) h := w_lcmp dL_law_2142
theorem w_L_law_2143 (d : Nat) (L : a_L) (x : Int32) (st : List Value) (h : a_H) : a_run d ML_law 2143 L (.int x :: st) h = if x = 0 then a_run d ML_law 2148 L st h else a_run d ML_law 2146 L st h := w_if_eq dL_law_2143 rfl
theorem w_L_law_2146 (d : Nat) (L : a_L) (st : List Value) (h : a_H) : a_run d ML_law 2146 L st h = a_run d ML_law 2147 L (.int (nI 0) :: st) h := w_iconst dL_law_2146 rfl
theorem w_L_law_2147 (d : Nat) (L : a_L) (x : Int32) (h : a_H) (hx : x = 0 ∨ x = 1) : a_run d ML_law 2147 L [.int x] h = some (.inl (some (.int x)), h) := w_iret dL_law_2147 (w_retZ rfl hx)
theorem w_L_law_2148 (d : Nat) (L : a_L) (st : List Value) (h : a_H) : a_run d ML_law 2148 L st h = a_run d ML_law 2985 L st h := w_goto dL_law_2148 rfl
theorem w_L_law_2151 (d : Nat) (a0 a2 a3 a4 a5 a6 a7 : Option Value) (x : Nat) (st : List Value) (h : a_H) : a_run d ML_law 2151 [a0, some (.ref x), a2, a3, a4, a5, a6, a7] st h = a_run d ML_law 2152 [a0, some (.ref x), a2, a3, a4, a5, a6, a7] (.ref x :: st) h := w_ldAn dL_law_2151 rfl
theorem w_L_law_2151N (d : Nat) (a0 a2 a3 a4 a5 a6 a7 : Option Value) (st : List Value) (h : a_H) : a_run d ML_law 2151 [a0, some .null, a2, a3, a4, a5, a6, a7] st h = a_run d ML_law 2152 [a0, some .null, a2, a3, a4, a5, a6, a7] (.null :: st) h := w_ldNn dL_law_2151 rfl
theorem w_L_law_2152 (d : Nat) (a0 a1 a2 a4 a5 a6 a7 : Option Value) (x : Nat) (st : List Value) (h : a_H) : a_run d ML_law 2152 [a0, a1, a2, some (.ref x), a4, a5, a6, a7] st h = a_run d ML_law 2153 [a0, a1, a2, some (.ref x), a4, a5, a6, a7] (.ref x :: st) h := w_ldAn dL_law_2152 rfl
theorem w_L_law_2152N (d : Nat) (a0 a1 a2 a4 a5 a6 a7 : Option Value) (st : List Value) (h : a_H) : a_run d ML_law 2152 [a0, a1, a2, some .null, a4, a5, a6, a7] st h = a_run d ML_law 2153 [a0, a1, a2, some .null, a4, a5, a6, a7] (.null :: st) h := w_ldNn dL_law_2152 rfl
theorem w_L_law_2153 (d : Nat) (L : a_L) (v0 v1 : Value) (st : List Value) (h : a_H) (hc : a_cat st ≤ 8) : a_run d ML_law 2153 L (v1 :: v0 :: st) h = a_cont d ML_law (a_bk ML_law 2153 L st (a_call d MX0_crowdedLayer [v0, v1] h)) := w_callS (as := [v0, v1]) dL_law_2153 rfl rfl rfl hc
theorem w_L_law_2156 (d : Nat) (a0 a1 a2 a3 a4 a5 a6 a7 : Option Value) (x : Int32) (st : List Value) (h : a_H) : a_run d ML_law 2156 [a0, a1, a2, a3, a4, a5, a6, a7] (.int x :: st) h = a_run d ML_law 2158 [a0, a1, a2, a3, a4, a5, some (.int x), a7] st h := w_stI dL_law_2156 (Nat.le_of_ble_eq_true rfl) rfl
theorem w_L_law_2158 (d : Nat) (a0 a1 a3 a4 a5 a6 a7 : Option Value) (x : Nat) (st : List Value) (h : a_H) : a_run d ML_law 2158 [a0, a1, some (.ref x), a3, a4, a5, a6, a7] st h = a_run d ML_law 2159 [a0, a1, some (.ref x), a3, a4, a5, a6, a7] (.ref x :: st) h := w_ldAn dL_law_2158 rfl
theorem w_L_law_2158N (d : Nat) (a0 a1 a3 a4 a5 a6 a7 : Option Value) (st : List Value) (h : a_H) : a_run d ML_law 2158 [a0, a1, some .null, a3, a4, a5, a6, a7] st h = a_run d ML_law 2159 [a0, a1, some .null, a3, a4, a5, a6, a7] (.null :: st) h := w_ldNn dL_law_2158 rfl
theorem w_L_law_2159 (d : Nat) (L : a_L) (i : Nat) (st : List Value) (h : a_H) (hk : a_kls h i = some 2) (hc : a_cat st ≤ 8) : a_run d ML_law 2159 L (.ref i :: st) h = a_cont d ML_law (a_bk ML_law 2159 L st (a_call d MX3_crowdedLayer [.ref i] h)) := w_callV (as := [.ref i]) dL_law_2159 rfl rfl rfl hc (a_rcv_of hk rfl)
theorem w_L_law_2162 (d : Nat) (a0 a1 a2 a3 a4 a5 a6 a7 : Option Value) (x : Int32) (st : List Value) (h : a_H) : a_run d ML_law 2162 [a0, a1, a2, a3, a4, a5, a6, a7] (.int x :: st) h = a_run d ML_law 2164 [a0, a1, a2, a3, a4, a5, a6, some (.int x)] st h := w_stI dL_law_2162 (Nat.le_of_ble_eq_true rfl) rfl
theorem w_L_law_2164 (d : Nat) (a0 a1 a3 a4 a5 a6 a7 : Option Value) (x : Nat) (st : List Value) (h : a_H) : a_run d ML_law 2164 [a0, a1, some (.ref x), a3, a4, a5, a6, a7] st h = a_run d ML_law 2165 [a0, a1, some (.ref x), a3, a4, a5, a6, a7] (.ref x :: st) h := w_ldAn dL_law_2164 rfl
theorem w_L_law_2164N (d : Nat) (a0 a1 a3 a4 a5 a6 a7 : Option Value) (st : List Value) (h : a_H) : a_run d ML_law 2164 [a0, a1, some .null, a3, a4, a5, a6, a7] st h = a_run d ML_law 2165 [a0, a1, some .null, a3, a4, a5, a6, a7] (.null :: st) h := w_ldNn dL_law_2164 rfl
theorem w_L_law_2165 (d : Nat) (L : a_L) (i : Nat) (st : List Value) (h : a_H) (hk : a_kls h i = some 2) (hc : a_cat st ≤ 8) : a_run d ML_law 2165 L (.ref i :: st) h = a_cont d ML_law (a_bk ML_law 2165 L st (a_call d MX3_thrown [.ref i] h)) := w_callV (as := [.ref i]) dL_law_2165 rfl rfl rfl hc (a_rcv_of hk rfl)
theorem w_L_law_2168 (d : Nat) (a0 a1 a2 a3 a4 a5 a7 : Option Value) (x : Int32) (st : List Value) (h : a_H) : a_run d ML_law 2168 [a0, a1, a2, a3, a4, a5, some (.int x), a7] st h = a_run d ML_law 2170 [a0, a1, a2, a3, a4, a5, some (.int x), a7] (.int x :: st) h := w_ldI dL_law_2168 rfl
theorem w_L_law_2170 (d : Nat) (L : a_L) (x y : Int32) (st : List Value) (h : a_H) : a_run d ML_law 2170 L (.int y :: .int x :: st) h = if x = y then a_run d ML_law 2175 L st h else a_run d ML_law 2173 L st h := w_icmp_eq dL_law_2170 rfl
theorem w_L_law_2173 (d : Nat) (L : a_L) (st : List Value) (h : a_H) : a_run d ML_law 2173 L st h = a_run d ML_law 2174 L (.int (nI 0) :: st) h := w_iconst dL_law_2173 rfl
theorem w_L_law_2174 (d : Nat) (L : a_L) (x : Int32) (h : a_H) (hx : x = 0 ∨ x = 1) : a_run d ML_law 2174 L [.int x] h = some (.inl (some (.int x)), h) := w_iret dL_law_2174 (w_retZ rfl hx)
theorem w_L_law_2175 (d : Nat) (a0 a1 a2 a3 a4 a5 a7 : Option Value) (x : Int32) (st : List Value) (h : a_H) : a_run d ML_law 2175 [a0, a1, a2, a3, a4, a5, some (.int x), a7] st h = a_run d ML_law 2177 [a0, a1, a2, a3, a4, a5, some (.int x), a7] (.int x :: st) h := w_ldI dL_law_2175 rfl
theorem w_L_law_2177 (d : Nat) (L : a_L) (x : Int32) (st : List Value) (h : a_H) : a_run d ML_law 2177 L (.int x :: st) h = if x = 0 then a_run d ML_law 2180 L st h else a_run d ML_law 2192 L st h := w_if_ne dL_law_2177 rfl
theorem w_L_law_2180 (d : Nat) (a0 a1 a2 a4 a5 a6 a7 : Option Value) (x : Nat) (st : List Value) (h : a_H) : a_run d ML_law 2180 [a0, a1, a2, some (.ref x), a4, a5, a6, a7] st h = a_run d ML_law 2181 [a0, a1, a2, some (.ref x), a4, a5, a6, a7] (.ref x :: st) h := w_ldAn dL_law_2180 rfl
theorem w_L_law_2180N (d : Nat) (a0 a1 a2 a4 a5 a6 a7 : Option Value) (st : List Value) (h : a_H) : a_run d ML_law 2180 [a0, a1, a2, some .null, a4, a5, a6, a7] st h = a_run d ML_law 2181 [a0, a1, a2, some .null, a4, a5, a6, a7] (.null :: st) h := w_ldNn dL_law_2180 rfl
theorem w_L_law_2181 (d : Nat) (L : a_L) (st : List Value) (h : a_H) : a_run d ML_law 2181 L st h = a_run d ML_law 2182 L (.int (nI 0) :: st) h := w_iconst dL_law_2181 rfl
theorem w_L_law_2182 (d : Nat) (L : a_L) (x : Int32) (i : Nat) (st : List Value) (h : a_H) : a_run d ML_law 2182 L (.int x :: .ref i :: st) h = (a_rdl h i x).bind fun v => a_run d ML_law 2183 L (v :: st) h := w_lald dL_law_2182
theorem w_L_law_2183 (d : Nat) (a0 a1 a2 a3 a4 a5 a6 : Option Value) (x : Int32) (st : List Value) (h : a_H) : a_run d ML_law 2183 [a0, a1, a2, a3, a4, a5, a6, some (.int x)] st h = a_run d ML_law 2185 [a0, a1, a2, a3, a4, a5, a6, some (.int x)] (.int x :: st) h := w_ldI dL_law_2183 rfl
theorem w_L_law_2185 (d : Nat) (L : a_L) (x : Int32) (st : List Value) (h : a_H) : a_run d ML_law 2185 L (.int x :: st) h = a_run d ML_law 2186 L (.long x.toInt64 :: st) h := w_i2l dL_law_2185
theorem w_L_law_2186 (d : Nat) (L : a_L) (x y : Int64) (st : List Value) (h : a_H) : a_run d ML_law 2186 L (.long y :: .long x :: st) h = a_run d ML_law 2187 L (.int (lg_cmp x y) :: st) h := w_lcmp dL_law_2186
theorem w_L_law_2187 (d : Nat) (L : a_L) (x : Int32) (st : List Value) (h : a_H) : a_run d ML_law 2187 L (.int x :: st) h = if x = 0 then a_run d ML_law 2192 L st h else a_run d ML_law 2190 L st h := w_if_eq dL_law_2187 rfl
theorem w_L_law_2190 (d : Nat) (L : a_L) (st : List Value) (h : a_H) : a_run d ML_law 2190 L st h = a_run d ML_law 2191 L (.int (nI 0) :: st) h := w_iconst dL_law_2190 rfl
theorem w_L_law_2191 (d : Nat) (L : a_L) (x : Int32) (h : a_H) (hx : x = 0 ∨ x = 1) : a_run d ML_law 2191 L [.int x] h = some (.inl (some (.int x)), h) := w_iret dL_law_2191 (w_retZ rfl hx)
theorem w_L_law_2192 (d : Nat) (L : a_L) (st : List Value) (h : a_H) : a_run d ML_law 2192 L st h = a_run d ML_law 2985 L st h := w_goto dL_law_2192 rfl
theorem w_L_law_2195 (d : Nat) (a0 a2 a3 a4 a5 a6 a7 : Option Value) (x : Nat) (st : List Value) (h : a_H) : a_run d ML_law 2195 [a0, some (.ref x), a2, a3, a4, a5, a6, a7] st h = a_run d ML_law 2196 [a0, some (.ref x), a2, a3, a4, a5, a6, a7] (.ref x :: st) h := w_ldAn dL_law_2195 rfl
theorem w_L_law_2195N (d : Nat) (a0 a2 a3 a4 a5 a6 a7 : Option Value) (st : List Value) (h : a_H) : a_run d ML_law 2195 [a0, some .null, a2, a3, a4, a5, a6, a7] st h = a_run d ML_law 2196 [a0, some .null, a2, a3, a4, a5, a6, a7] (.null :: st) h := w_ldNn dL_law_2195 rfl
theorem w_L_law_2196 (d : Nat) (L : a_L) (i : Nat) (st : List Value) (h : a_H) (hk : a_kls h i = some 0) (hc : a_cat st ≤ 8) : a_run d ML_law 2196 L (.ref i :: st) h = a_cont d ML_law (a_bk ML_law 2196 L st (a_call d MX1_crossings [.ref i] h)) := w_callV (as := [.ref i]) dL_law_2196 rfl rfl rfl hc (a_rcv_of hk rfl)
theorem w_L_law_2199 (d : Nat) (a0 a1 a3 a4 a5 a6 a7 : Option Value) (x : Nat) (st : List Value) (h : a_H) : a_run d ML_law 2199 [a0, a1, some (.ref x), a3, a4, a5, a6, a7] st h = a_run d ML_law 2200 [a0, a1, some (.ref x), a3, a4, a5, a6, a7] (.ref x :: st) h := w_ldAn dL_law_2199 rfl
theorem w_L_law_2199N (d : Nat) (a0 a1 a3 a4 a5 a6 a7 : Option Value) (st : List Value) (h : a_H) : a_run d ML_law 2199 [a0, a1, some .null, a3, a4, a5, a6, a7] st h = a_run d ML_law 2200 [a0, a1, some .null, a3, a4, a5, a6, a7] (.null :: st) h := w_ldNn dL_law_2199 rfl
theorem w_L_law_2200 (d : Nat) (L : a_L) (i : Nat) (st : List Value) (h : a_H) (hk : a_kls h i = some 2) (hc : a_cat st ≤ 8) : a_run d ML_law 2200 L (.ref i :: st) h = a_cont d ML_law (a_bk ML_law 2200 L st (a_call d MX3_crossings [.ref i] h)) := w_callV (as := [.ref i]) dL_law_2200 rfl rfl rfl hc (a_rcv_of hk rfl)
theorem w_L_law_2203 (d : Nat) (L : a_L) (x y : Int32) (st : List Value) (h : a_H) : a_run d ML_law 2203 L (.int y :: .int x :: st) h = if x = y then a_run d ML_law 2985 L st h else a_run d ML_law 2206 L st h := w_icmp_eq dL_law_2203 rfl
theorem w_L_law_2206 (d : Nat) (L : a_L) (st : List Value) (h : a_H) : a_run d ML_law 2206 L st h = a_run d ML_law 2207 L (.int (nI 0) :: st) h := w_iconst dL_law_2206 rfl
theorem w_L_law_2207 (d : Nat) (L : a_L) (x : Int32) (h : a_H) (hx : x = 0 ∨ x = 1) : a_run d ML_law 2207 L [.int x] h = some (.inl (some (.int x)), h) := w_iret dL_law_2207 (w_retZ rfl hx)
theorem w_L_law_2208 (d : Nat) (a0 a2 a3 a4 a5 a6 a7 : Option Value) (x : Nat) (st : List Value) (h : a_H) : a_run d ML_law 2208 [a0, some (.ref x), a2, a3, a4, a5, a6, a7] st h = a_run d ML_law 2209 [a0, some (.ref x), a2, a3, a4, a5, a6, a7] (.ref x :: st) h := w_ldAn dL_law_2208 rfl
theorem w_L_law_2208N (d : Nat) (a0 a2 a3 a4 a5 a6 a7 : Option Value) (st : List Value) (h : a_H) : a_run d ML_law 2208 [a0, some .null, a2, a3, a4, a5, a6, a7] st h = a_run d ML_law 2209 [a0, some .null, a2, a3, a4, a5, a6, a7] (.null :: st) h := w_ldNn dL_law_2208 rfl
theorem w_L_law_2209 (d : Nat) (L : a_L) (i : Nat) (st : List Value) (h : a_H) (hk : a_kls h i = some 0) (hc : a_cat st ≤ 8) : a_run d ML_law 2209 L (.ref i :: st) h = a_cont d ML_law (a_bk ML_law 2209 L st (a_call d MX1_crossingsByPuttingIn [.ref i] h)) := w_callV (as := [.ref i]) dL_law_2209 rfl rfl rfl hc (a_rcv_of hk rfl)
theorem w_L_law_2212 (d : Nat) (a0 a1 a3 a4 a5 a6 a7 : Option Value) (x : Nat) (st : List Value) (h : a_H) : a_run d ML_law 2212 [a0, a1, some (.ref x), a3, a4, a5, a6, a7] st h = a_run d ML_law 2213 [a0, a1, some (.ref x), a3, a4, a5, a6, a7] (.ref x :: st) h := w_ldAn dL_law_2212 rfl
theorem w_L_law_2212N (d : Nat) (a0 a1 a3 a4 a5 a6 a7 : Option Value) (st : List Value) (h : a_H) : a_run d ML_law 2212 [a0, a1, some .null, a3, a4, a5, a6, a7] st h = a_run d ML_law 2213 [a0, a1, some .null, a3, a4, a5, a6, a7] (.null :: st) h := w_ldNn dL_law_2212 rfl
theorem w_L_law_2213 (d : Nat) (L : a_L) (i : Nat) (st : List Value) (h : a_H) (hk : a_kls h i = some 2) (hc : a_cat st ≤ 8) : a_run d ML_law 2213 L (.ref i :: st) h = a_cont d ML_law (a_bk ML_law 2213 L st (a_call d MX3_crossingsByPuttingIn [.ref i] h)) := w_callV (as := [.ref i]) dL_law_2213 rfl rfl rfl hc (a_rcv_of hk rfl)
theorem w_L_law_2216 (d : Nat) (L : a_L) (x y : Int32) (st : List Value) (h : a_H) : a_run d ML_law 2216 L (.int y :: .int x :: st) h = if x = y then a_run d ML_law 2985 L st h else a_run d ML_law 2219 L st h := w_icmp_eq dL_law_2216 rfl
theorem w_L_law_2219 (d : Nat) (L : a_L) (st : List Value) (h : a_H) : a_run d ML_law 2219 L st h = a_run d ML_law 2220 L (.int (nI 0) :: st) h := w_iconst dL_law_2219 rfl
theorem w_L_law_2220 (d : Nat) (L : a_L) (x : Int32) (h : a_H) (hx : x = 0 ∨ x = 1) : a_run d ML_law 2220 L [.int x] h = some (.inl (some (.int x)), h) := w_iret dL_law_2220 (w_retZ rfl hx)
theorem w_L_law_2221 (d : Nat) (a0 a2 a3 a4 a5 a6 a7 : Option Value) (x : Nat) (st : List Value) (h : a_H) : a_run d ML_law 2221 [a0, some (.ref x), a2, a3, a4, a5, a6, a7] st h = a_run d ML_law 2222 [a0, some (.ref x), a2, a3, a4, a5, a6, a7] (.ref x :: st) h := w_ldAn dL_law_2221 rfl
theorem w_L_law_2221N (d : Nat) (a0 a2 a3 a4 a5 a6 a7 : Option Value) (st : List Value) (h : a_H) : a_run d ML_law 2221 [a0, some .null, a2, a3, a4, a5, a6, a7] st h = a_run d ML_law 2222 [a0, some .null, a2, a3, a4, a5, a6, a7] (.null :: st) h := w_ldNn dL_law_2221 rfl
theorem w_L_law_2222 (d : Nat) (a1 a2 a3 a4 a5 a6 a7 : Option Value) (x : Nat) (st : List Value) (h : a_H) : a_run d ML_law 2222 [some (.ref x), a1, a2, a3, a4, a5, a6, a7] st h = a_run d ML_law 2223 [some (.ref x), a1, a2, a3, a4, a5, a6, a7] (.ref x :: st) h := w_ldAn dL_law_2222 rfl
theorem w_L_law_2223 (d : Nat) (a0 a1 a2 a3 a4 a6 a7 : Option Value) (x : Int32) (st : List Value) (h : a_H) : a_run d ML_law 2223 [a0, a1, a2, a3, a4, some (.int x), a6, a7] st h = a_run d ML_law 2225 [a0, a1, a2, a3, a4, some (.int x), a6, a7] (.int x :: st) h := w_ldI dL_law_2223 rfl
theorem w_L_law_2225 (d : Nat) (L : a_L) (st : List Value) (h : a_H) : a_run d ML_law 2225 L st h = a_run d ML_law 2226 L (.int (nI 1) :: st) h := w_iconst dL_law_2225 rfl
theorem w_L_law_2226 (d : Nat) (L : a_L) (x y : Int32) (st : List Value) (h : a_H) : a_run d ML_law 2226 L (.int y :: .int x :: st) h = a_run d ML_law 2227 L (.int (x + y) :: st) h := w_iadd dL_law_2226
theorem w_L_law_2227 (d : Nat) (L : a_L) (x : Int32) (i : Nat) (st : List Value) (h : a_H) : a_run d ML_law 2227 L (.int x :: .ref i :: st) h = (a_rdi h i a_int x).bind fun v => a_run d ML_law 2228 L (v :: st) h := w_iald dL_law_2227
theorem w_L_law_2228 (d : Nat) (a0 a1 a2 a4 a5 a6 a7 : Option Value) (x : Nat) (st : List Value) (h : a_H) : a_run d ML_law 2228 [a0, a1, a2, some (.ref x), a4, a5, a6, a7] st h = a_run d ML_law 2229 [a0, a1, a2, some (.ref x), a4, a5, a6, a7] (.ref x :: st) h := w_ldAn dL_law_2228 rfl
theorem w_L_law_2228N (d : Nat) (a0 a1 a2 a4 a5 a6 a7 : Option Value) (st : List Value) (h : a_H) : a_run d ML_law 2228 [a0, a1, a2, some .null, a4, a5, a6, a7] st h = a_run d ML_law 2229 [a0, a1, a2, some .null, a4, a5, a6, a7] (.null :: st) h := w_ldNn dL_law_2228 rfl
theorem w_L_law_2229 (d : Nat) (L : a_L) (v0 v1 v2 : Value) (st : List Value) (h : a_H) (hc : a_cat st ≤ 8) : a_run d ML_law 2229 L (v2 :: v1 :: v0 :: st) h = a_cont d ML_law (a_bk ML_law 2229 L st (a_call d MX0_crossingsBelow [v0, v1, v2] h)) := w_callS (as := [v0, v1, v2]) dL_law_2229 rfl rfl rfl hc
theorem w_L_law_2232 (d : Nat) (a0 a1 a2 a3 a4 a5 a6 a7 : Option Value) (x : Int32) (st : List Value) (h : a_H) : a_run d ML_law 2232 [a0, a1, a2, a3, a4, a5, a6, a7] (.int x :: st) h = a_run d ML_law 2234 [a0, a1, a2, a3, a4, a5, some (.int x), a7] st h := w_stI dL_law_2232 (Nat.le_of_ble_eq_true rfl) rfl
theorem w_L_law_2234 (d : Nat) (a0 a1 a3 a4 a5 a6 a7 : Option Value) (x : Nat) (st : List Value) (h : a_H) : a_run d ML_law 2234 [a0, a1, some (.ref x), a3, a4, a5, a6, a7] st h = a_run d ML_law 2235 [a0, a1, some (.ref x), a3, a4, a5, a6, a7] (.ref x :: st) h := w_ldAn dL_law_2234 rfl
theorem w_L_law_2234N (d : Nat) (a0 a1 a3 a4 a5 a6 a7 : Option Value) (st : List Value) (h : a_H) : a_run d ML_law 2234 [a0, a1, some .null, a3, a4, a5, a6, a7] st h = a_run d ML_law 2235 [a0, a1, some .null, a3, a4, a5, a6, a7] (.null :: st) h := w_ldNn dL_law_2234 rfl
theorem w_L_law_2235 (d : Nat) (a1 a2 a3 a4 a5 a6 a7 : Option Value) (x : Nat) (st : List Value) (h : a_H) : a_run d ML_law 2235 [some (.ref x), a1, a2, a3, a4, a5, a6, a7] st h = a_run d ML_law 2236 [some (.ref x), a1, a2, a3, a4, a5, a6, a7] (.ref x :: st) h := w_ldAn dL_law_2235 rfl
theorem w_L_law_2236 (d : Nat) (a0 a1 a2 a3 a4 a6 a7 : Option Value) (x : Int32) (st : List Value) (h : a_H) : a_run d ML_law 2236 [a0, a1, a2, a3, a4, some (.int x), a6, a7] st h = a_run d ML_law 2238 [a0, a1, a2, a3, a4, some (.int x), a6, a7] (.int x :: st) h := w_ldI dL_law_2236 rfl
theorem w_L_law_2238 (d : Nat) (L : a_L) (st : List Value) (h : a_H) : a_run d ML_law 2238 L st h = a_run d ML_law 2239 L (.int (nI 1) :: st) h := w_iconst dL_law_2238 rfl
theorem w_L_law_2239 (d : Nat) (L : a_L) (x y : Int32) (st : List Value) (h : a_H) : a_run d ML_law 2239 L (.int y :: .int x :: st) h = a_run d ML_law 2240 L (.int (x + y) :: st) h := w_iadd dL_law_2239
theorem w_L_law_2240 (d : Nat) (L : a_L) (x : Int32) (i : Nat) (st : List Value) (h : a_H) : a_run d ML_law 2240 L (.int x :: .ref i :: st) h = (a_rdi h i a_int x).bind fun v => a_run d ML_law 2241 L (v :: st) h := w_iald dL_law_2240
theorem w_L_law_2241 (d : Nat) (L : a_L) (i : Nat) (v1 : Value) (st : List Value) (h : a_H) (hk : a_kls h i = some 2) (hc : a_cat st ≤ 8) : a_run d ML_law 2241 L (v1 :: .ref i :: st) h = a_cont d ML_law (a_bk ML_law 2241 L st (a_call d MX3_crossingsBelow [.ref i, v1] h)) := w_callV (as := [.ref i, v1]) dL_law_2241 rfl rfl rfl hc (a_rcv_of hk rfl)
theorem w_L_law_2244 (d : Nat) (a0 a1 a2 a3 a4 a5 a6 a7 : Option Value) (x : Int32) (st : List Value) (h : a_H) : a_run d ML_law 2244 [a0, a1, a2, a3, a4, a5, a6, a7] (.int x :: st) h = a_run d ML_law 2246 [a0, a1, a2, a3, a4, a5, a6, some (.int x)] st h := w_stI dL_law_2244 (Nat.le_of_ble_eq_true rfl) rfl
theorem w_L_law_2246 (d : Nat) (a0 a1 a3 a4 a5 a6 a7 : Option Value) (x : Nat) (st : List Value) (h : a_H) : a_run d ML_law 2246 [a0, a1, some (.ref x), a3, a4, a5, a6, a7] st h = a_run d ML_law 2247 [a0, a1, some (.ref x), a3, a4, a5, a6, a7] (.ref x :: st) h := w_ldAn dL_law_2246 rfl
theorem w_L_law_2246N (d : Nat) (a0 a1 a3 a4 a5 a6 a7 : Option Value) (st : List Value) (h : a_H) : a_run d ML_law 2246 [a0, a1, some .null, a3, a4, a5, a6, a7] st h = a_run d ML_law 2247 [a0, a1, some .null, a3, a4, a5, a6, a7] (.null :: st) h := w_ldNn dL_law_2246 rfl
theorem w_L_law_2247 (d : Nat) (L : a_L) (i : Nat) (st : List Value) (h : a_H) (hk : a_kls h i = some 2) (hc : a_cat st ≤ 8) : a_run d ML_law 2247 L (.ref i :: st) h = a_cont d ML_law (a_bk ML_law 2247 L st (a_call d MX3_thrown [.ref i] h)) := w_callV (as := [.ref i]) dL_law_2247 rfl rfl rfl hc (a_rcv_of hk rfl)
theorem w_L_law_2250 (d : Nat) (a0 a1 a2 a3 a4 a5 a7 : Option Value) (x : Int32) (st : List Value) (h : a_H) : a_run d ML_law 2250 [a0, a1, a2, a3, a4, a5, some (.int x), a7] st h = a_run d ML_law 2252 [a0, a1, a2, a3, a4, a5, some (.int x), a7] (.int x :: st) h := w_ldI dL_law_2250 rfl
theorem w_L_law_2252 (d : Nat) (L : a_L) (x y : Int32) (st : List Value) (h : a_H) : a_run d ML_law 2252 L (.int y :: .int x :: st) h = if x = y then a_run d ML_law 2257 L st h else a_run d ML_law 2255 L st h := w_icmp_eq dL_law_2252 rfl
theorem w_L_law_2255 (d : Nat) (L : a_L) (st : List Value) (h : a_H) : a_run d ML_law 2255 L st h = a_run d ML_law 2256 L (.int (nI 0) :: st) h := w_iconst dL_law_2255 rfl
theorem w_L_law_2256 (d : Nat) (L : a_L) (x : Int32) (h : a_H) (hx : x = 0 ∨ x = 1) : a_run d ML_law 2256 L [.int x] h = some (.inl (some (.int x)), h) := w_iret dL_law_2256 (w_retZ rfl hx)
theorem w_L_law_2257 (d : Nat) (a0 a1 a2 a3 a4 a5 a7 : Option Value) (x : Int32) (st : List Value) (h : a_H) : a_run d ML_law 2257 [a0, a1, a2, a3, a4, a5, some (.int x), a7] st h = a_run d ML_law 2259 [a0, a1, a2, a3, a4, a5, some (.int x), a7] (.int x :: st) h := w_ldI dL_law_2257 rfl
theorem w_L_law_2259 (d : Nat) (L : a_L) (x : Int32) (st : List Value) (h : a_H) : a_run d ML_law 2259 L (.int x :: st) h = if x = 0 then a_run d ML_law 2262 L st h else a_run d ML_law 2274 L st h := w_if_ne dL_law_2259 rfl
theorem w_L_law_2262 (d : Nat) (a0 a1 a2 a4 a5 a6 a7 : Option Value) (x : Nat) (st : List Value) (h : a_H) : a_run d ML_law 2262 [a0, a1, a2, some (.ref x), a4, a5, a6, a7] st h = a_run d ML_law 2263 [a0, a1, a2, some (.ref x), a4, a5, a6, a7] (.ref x :: st) h := w_ldAn dL_law_2262 rfl
theorem w_L_law_2262N (d : Nat) (a0 a1 a2 a4 a5 a6 a7 : Option Value) (st : List Value) (h : a_H) : a_run d ML_law 2262 [a0, a1, a2, some .null, a4, a5, a6, a7] st h = a_run d ML_law 2263 [a0, a1, a2, some .null, a4, a5, a6, a7] (.null :: st) h := w_ldNn dL_law_2262 rfl
theorem w_L_law_2263 (d : Nat) (L : a_L) (st : List Value) (h : a_H) : a_run d ML_law 2263 L st h = a_run d ML_law 2264 L (.int (nI 0) :: st) h := w_iconst dL_law_2263 rfl
theorem w_L_law_2264 (d : Nat) (L : a_L) (x : Int32) (i : Nat) (st : List Value) (h : a_H) : a_run d ML_law 2264 L (.int x :: .ref i :: st) h = (a_rdl h i x).bind fun v => a_run d ML_law 2265 L (v :: st) h := w_lald dL_law_2264
theorem w_L_law_2265 (d : Nat) (a0 a1 a2 a3 a4 a5 a6 : Option Value) (x : Int32) (st : List Value) (h : a_H) : a_run d ML_law 2265 [a0, a1, a2, a3, a4, a5, a6, some (.int x)] st h = a_run d ML_law 2267 [a0, a1, a2, a3, a4, a5, a6, some (.int x)] (.int x :: st) h := w_ldI dL_law_2265 rfl
theorem w_L_law_2267 (d : Nat) (L : a_L) (x : Int32) (st : List Value) (h : a_H) : a_run d ML_law 2267 L (.int x :: st) h = a_run d ML_law 2268 L (.long x.toInt64 :: st) h := w_i2l dL_law_2267
theorem w_L_law_2268 (d : Nat) (L : a_L) (x y : Int64) (st : List Value) (h : a_H) : a_run d ML_law 2268 L (.long y :: .long x :: st) h = a_run d ML_law 2269 L (.int (lg_cmp x y) :: st) h := w_lcmp dL_law_2268
theorem w_L_law_2269 (d : Nat) (L : a_L) (x : Int32) (st : List Value) (h : a_H) : a_run d ML_law 2269 L (.int x :: st) h = if x = 0 then a_run d ML_law 2274 L st h else a_run d ML_law 2272 L st h := w_if_eq dL_law_2269 rfl
theorem w_L_law_2272 (d : Nat) (L : a_L) (st : List Value) (h : a_H) : a_run d ML_law 2272 L st h = a_run d ML_law 2273 L (.int (nI 0) :: st) h := w_iconst dL_law_2272 rfl
theorem w_L_law_2273 (d : Nat) (L : a_L) (x : Int32) (h : a_H) (hx : x = 0 ∨ x = 1) : a_run d ML_law 2273 L [.int x] h = some (.inl (some (.int x)), h) := w_iret dL_law_2273 (w_retZ rfl hx)
theorem w_L_law_2274 (d : Nat) (L : a_L) (st : List Value) (h : a_H) : a_run d ML_law 2274 L st h = a_run d ML_law 2985 L st h := w_goto dL_law_2274 rfl
theorem w_L_law_2277 (d : Nat) (a0 a2 a3 a4 a5 a6 a7 : Option Value) (x : Nat) (st : List Value) (h : a_H) : a_run d ML_law 2277 [a0, some (.ref x), a2, a3, a4, a5, a6, a7] st h = a_run d ML_law 2278 [a0, some (.ref x), a2, a3, a4, a5, a6, a7] (.ref x :: st) h := w_ldAn dL_law_2277 rfl
theorem w_L_law_2277N (d : Nat) (a0 a2 a3 a4 a5 a6 a7 : Option Value) (st : List Value) (h : a_H) : a_run d ML_law 2277 [a0, some .null, a2, a3, a4, a5, a6, a7] st h = a_run d ML_law 2278 [a0, some .null, a2, a3, a4, a5, a6, a7] (.null :: st) h := w_ldNn dL_law_2277 rfl
theorem w_L_law_2278 (d : Nat) (a1 a2 a3 a4 a5 a6 a7 : Option Value) (x : Nat) (st : List Value) (h : a_H) : a_run d ML_law 2278 [some (.ref x), a1, a2, a3, a4, a5, a6, a7] st h = a_run d ML_law 2279 [some (.ref x), a1, a2, a3, a4, a5, a6, a7] (.ref x :: st) h := w_ldAn dL_law_2278 rfl
theorem w_L_law_2279 (d : Nat) (a0 a1 a2 a3 a4 a6 a7 : Option Value) (x : Int32) (st : List Value) (h : a_H) : a_run d ML_law 2279 [a0, a1, a2, a3, a4, some (.int x), a6, a7] st h = a_run d ML_law 2281 [a0, a1, a2, a3, a4, some (.int x), a6, a7] (.int x :: st) h := w_ldI dL_law_2279 rfl
theorem w_L_law_2281 (d : Nat) (L : a_L) (st : List Value) (h : a_H) : a_run d ML_law 2281 L st h = a_run d ML_law 2282 L (.int (nI 1) :: st) h := w_iconst dL_law_2281 rfl
theorem w_L_law_2282 (d : Nat) (L : a_L) (x y : Int32) (st : List Value) (h : a_H) : a_run d ML_law 2282 L (.int y :: .int x :: st) h = a_run d ML_law 2283 L (.int (x + y) :: st) h := w_iadd dL_law_2282
theorem w_L_law_2283 (d : Nat) (L : a_L) (x : Int32) (i : Nat) (st : List Value) (h : a_H) : a_run d ML_law 2283 L (.int x :: .ref i :: st) h = (a_rdi h i a_int x).bind fun v => a_run d ML_law 2284 L (v :: st) h := w_iald dL_law_2283
theorem w_L_law_2284 (d : Nat) (a0 a1 a2 a4 a5 a6 a7 : Option Value) (x : Nat) (st : List Value) (h : a_H) : a_run d ML_law 2284 [a0, a1, a2, some (.ref x), a4, a5, a6, a7] st h = a_run d ML_law 2285 [a0, a1, a2, some (.ref x), a4, a5, a6, a7] (.ref x :: st) h := w_ldAn dL_law_2284 rfl
theorem w_L_law_2284N (d : Nat) (a0 a1 a2 a4 a5 a6 a7 : Option Value) (st : List Value) (h : a_H) : a_run d ML_law 2284 [a0, a1, a2, some .null, a4, a5, a6, a7] st h = a_run d ML_law 2285 [a0, a1, a2, some .null, a4, a5, a6, a7] (.null :: st) h := w_ldNn dL_law_2284 rfl
theorem w_L_law_2285 (d : Nat) (L : a_L) (v0 v1 v2 : Value) (st : List Value) (h : a_H) (hc : a_cat st ≤ 8) : a_run d ML_law 2285 L (v2 :: v1 :: v0 :: st) h = a_cont d ML_law (a_bk ML_law 2285 L st (a_call d MX0_crossingsOf [v0, v1, v2] h)) := w_callS (as := [v0, v1, v2]) dL_law_2285 rfl rfl rfl hc
theorem w_L_law_2288 (d : Nat) (a0 a1 a2 a3 a4 a5 a6 a7 : Option Value) (x : Int32) (st : List Value) (h : a_H) : a_run d ML_law 2288 [a0, a1, a2, a3, a4, a5, a6, a7] (.int x :: st) h = a_run d ML_law 2290 [a0, a1, a2, a3, a4, a5, some (.int x), a7] st h := w_stI dL_law_2288 (Nat.le_of_ble_eq_true rfl) rfl
theorem w_L_law_2290 (d : Nat) (a0 a1 a3 a4 a5 a6 a7 : Option Value) (x : Nat) (st : List Value) (h : a_H) : a_run d ML_law 2290 [a0, a1, some (.ref x), a3, a4, a5, a6, a7] st h = a_run d ML_law 2291 [a0, a1, some (.ref x), a3, a4, a5, a6, a7] (.ref x :: st) h := w_ldAn dL_law_2290 rfl
theorem w_L_law_2290N (d : Nat) (a0 a1 a3 a4 a5 a6 a7 : Option Value) (st : List Value) (h : a_H) : a_run d ML_law 2290 [a0, a1, some .null, a3, a4, a5, a6, a7] st h = a_run d ML_law 2291 [a0, a1, some .null, a3, a4, a5, a6, a7] (.null :: st) h := w_ldNn dL_law_2290 rfl
theorem w_L_law_2291 (d : Nat) (a1 a2 a3 a4 a5 a6 a7 : Option Value) (x : Nat) (st : List Value) (h : a_H) : a_run d ML_law 2291 [some (.ref x), a1, a2, a3, a4, a5, a6, a7] st h = a_run d ML_law 2292 [some (.ref x), a1, a2, a3, a4, a5, a6, a7] (.ref x :: st) h := w_ldAn dL_law_2291 rfl
theorem w_L_law_2292 (d : Nat) (a0 a1 a2 a3 a4 a6 a7 : Option Value) (x : Int32) (st : List Value) (h : a_H) : a_run d ML_law 2292 [a0, a1, a2, a3, a4, some (.int x), a6, a7] st h = a_run d ML_law 2294 [a0, a1, a2, a3, a4, some (.int x), a6, a7] (.int x :: st) h := w_ldI dL_law_2292 rfl
theorem w_L_law_2294 (d : Nat) (L : a_L) (st : List Value) (h : a_H) : a_run d ML_law 2294 L st h = a_run d ML_law 2295 L (.int (nI 1) :: st) h := w_iconst dL_law_2294 rfl
theorem w_L_law_2295 (d : Nat) (L : a_L) (x y : Int32) (st : List Value) (h : a_H) : a_run d ML_law 2295 L (.int y :: .int x :: st) h = a_run d ML_law 2296 L (.int (x + y) :: st) h := w_iadd dL_law_2295
theorem w_L_law_2296 (d : Nat) (L : a_L) (x : Int32) (i : Nat) (st : List Value) (h : a_H) : a_run d ML_law 2296 L (.int x :: .ref i :: st) h = (a_rdi h i a_int x).bind fun v => a_run d ML_law 2297 L (v :: st) h := w_iald dL_law_2296
theorem w_L_law_2297 (d : Nat) (L : a_L) (i : Nat) (v1 : Value) (st : List Value) (h : a_H) (hk : a_kls h i = some 2) (hc : a_cat st ≤ 8) : a_run d ML_law 2297 L (v1 :: .ref i :: st) h = a_cont d ML_law (a_bk ML_law 2297 L st (a_call d MX3_crossingsOf [.ref i, v1] h)) := w_callV (as := [.ref i, v1]) dL_law_2297 rfl rfl rfl hc (a_rcv_of hk rfl)
theorem w_L_law_2300 (d : Nat) (a0 a1 a2 a3 a4 a5 a6 a7 : Option Value) (x : Int32) (st : List Value) (h : a_H) : a_run d ML_law 2300 [a0, a1, a2, a3, a4, a5, a6, a7] (.int x :: st) h = a_run d ML_law 2302 [a0, a1, a2, a3, a4, a5, a6, some (.int x)] st h := w_stI dL_law_2300 (Nat.le_of_ble_eq_true rfl) rfl
theorem w_L_law_2302 (d : Nat) (a0 a1 a3 a4 a5 a6 a7 : Option Value) (x : Nat) (st : List Value) (h : a_H) : a_run d ML_law 2302 [a0, a1, some (.ref x), a3, a4, a5, a6, a7] st h = a_run d ML_law 2303 [a0, a1, some (.ref x), a3, a4, a5, a6, a7] (.ref x :: st) h := w_ldAn dL_law_2302 rfl
theorem w_L_law_2302N (d : Nat) (a0 a1 a3 a4 a5 a6 a7 : Option Value) (st : List Value) (h : a_H) : a_run d ML_law 2302 [a0, a1, some .null, a3, a4, a5, a6, a7] st h = a_run d ML_law 2303 [a0, a1, some .null, a3, a4, a5, a6, a7] (.null :: st) h := w_ldNn dL_law_2302 rfl
theorem w_L_law_2303 (d : Nat) (L : a_L) (i : Nat) (st : List Value) (h : a_H) (hk : a_kls h i = some 2) (hc : a_cat st ≤ 8) : a_run d ML_law 2303 L (.ref i :: st) h = a_cont d ML_law (a_bk ML_law 2303 L st (a_call d MX3_thrown [.ref i] h)) := w_callV (as := [.ref i]) dL_law_2303 rfl rfl rfl hc (a_rcv_of hk rfl)
theorem w_L_law_2306 (d : Nat) (a0 a1 a2 a3 a4 a5 a7 : Option Value) (x : Int32) (st : List Value) (h : a_H) : a_run d ML_law 2306 [a0, a1, a2, a3, a4, a5, some (.int x), a7] st h = a_run d ML_law 2308 [a0, a1, a2, a3, a4, a5, some (.int x), a7] (.int x :: st) h := w_ldI dL_law_2306 rfl
theorem w_L_law_2308 (d : Nat) (L : a_L) (x y : Int32) (st : List Value) (h : a_H) : a_run d ML_law 2308 L (.int y :: .int x :: st) h = if x = y then a_run d ML_law 2313 L st h else a_run d ML_law 2311 L st h := w_icmp_eq dL_law_2308 rfl
theorem w_L_law_2311 (d : Nat) (L : a_L) (st : List Value) (h : a_H) : a_run d ML_law 2311 L st h = a_run d ML_law 2312 L (.int (nI 0) :: st) h := w_iconst dL_law_2311 rfl
theorem w_L_law_2312 (d : Nat) (L : a_L) (x : Int32) (h : a_H) (hx : x = 0 ∨ x = 1) : a_run d ML_law 2312 L [.int x] h = some (.inl (some (.int x)), h) := w_iret dL_law_2312 (w_retZ rfl hx)
theorem w_L_law_2313 (d : Nat) (a0 a1 a2 a3 a4 a5 a7 : Option Value) (x : Int32) (st : List Value) (h : a_H) : a_run d ML_law 2313 [a0, a1, a2, a3, a4, a5, some (.int x), a7] st h = a_run d ML_law 2315 [a0, a1, a2, a3, a4, a5, some (.int x), a7] (.int x :: st) h := w_ldI dL_law_2313 rfl
theorem w_L_law_2315 (d : Nat) (L : a_L) (x : Int32) (st : List Value) (h : a_H) : a_run d ML_law 2315 L (.int x :: st) h = if x = 0 then a_run d ML_law 2318 L st h else a_run d ML_law 2330 L st h := w_if_ne dL_law_2315 rfl
theorem w_L_law_2318 (d : Nat) (a0 a1 a2 a4 a5 a6 a7 : Option Value) (x : Nat) (st : List Value) (h : a_H) : a_run d ML_law 2318 [a0, a1, a2, some (.ref x), a4, a5, a6, a7] st h = a_run d ML_law 2319 [a0, a1, a2, some (.ref x), a4, a5, a6, a7] (.ref x :: st) h := w_ldAn dL_law_2318 rfl
theorem w_L_law_2318N (d : Nat) (a0 a1 a2 a4 a5 a6 a7 : Option Value) (st : List Value) (h : a_H) : a_run d ML_law 2318 [a0, a1, a2, some .null, a4, a5, a6, a7] st h = a_run d ML_law 2319 [a0, a1, a2, some .null, a4, a5, a6, a7] (.null :: st) h := w_ldNn dL_law_2318 rfl
theorem w_L_law_2319 (d : Nat) (L : a_L) (st : List Value) (h : a_H) : a_run d ML_law 2319 L st h = a_run d ML_law 2320 L (.int (nI 0) :: st) h := w_iconst dL_law_2319 rfl
theorem w_L_law_2320 (d : Nat) (L : a_L) (x : Int32) (i : Nat) (st : List Value) (h : a_H) : a_run d ML_law 2320 L (.int x :: .ref i :: st) h = (a_rdl h i x).bind fun v => a_run d ML_law 2321 L (v :: st) h := w_lald dL_law_2320
theorem w_L_law_2321 (d : Nat) (a0 a1 a2 a3 a4 a5 a6 : Option Value) (x : Int32) (st : List Value) (h : a_H) : a_run d ML_law 2321 [a0, a1, a2, a3, a4, a5, a6, some (.int x)] st h = a_run d ML_law 2323 [a0, a1, a2, a3, a4, a5, a6, some (.int x)] (.int x :: st) h := w_ldI dL_law_2321 rfl
theorem w_L_law_2323 (d : Nat) (L : a_L) (x : Int32) (st : List Value) (h : a_H) : a_run d ML_law 2323 L (.int x :: st) h = a_run d ML_law 2324 L (.long x.toInt64 :: st) h := w_i2l dL_law_2323
theorem w_L_law_2324 (d : Nat) (L : a_L) (x y : Int64) (st : List Value) (h : a_H) : a_run d ML_law 2324 L (.long y :: .long x :: st) h = a_run d ML_law 2325 L (.int (lg_cmp x y) :: st) h := w_lcmp dL_law_2324
theorem w_L_law_2325 (d : Nat) (L : a_L) (x : Int32) (st : List Value) (h : a_H) : a_run d ML_law 2325 L (.int x :: st) h = if x = 0 then a_run d ML_law 2330 L st h else a_run d ML_law 2328 L st h := w_if_eq dL_law_2325 rfl
theorem w_L_law_2328 (d : Nat) (L : a_L) (st : List Value) (h : a_H) : a_run d ML_law 2328 L st h = a_run d ML_law 2329 L (.int (nI 0) :: st) h := w_iconst dL_law_2328 rfl
theorem w_L_law_2329 (d : Nat) (L : a_L) (x : Int32) (h : a_H) (hx : x = 0 ∨ x = 1) : a_run d ML_law 2329 L [.int x] h = some (.inl (some (.int x)), h) := w_iret dL_law_2329 (w_retZ rfl hx)
theorem w_L_law_2330 (d : Nat) (L : a_L) (st : List Value) (h : a_H) : a_run d ML_law 2330 L st h = a_run d ML_law 2985 L st h := w_goto dL_law_2330 rfl
theorem w_L_law_2333 (d : Nat) (a0 a2 a3 a4 a5 a6 a7 : Option Value) (x : Nat) (st : List Value) (h : a_H) : a_run d ML_law 2333 [a0, some (.ref x), a2, a3, a4, a5, a6, a7] st h = a_run d ML_law 2334 [a0, some (.ref x), a2, a3, a4, a5, a6, a7] (.ref x :: st) h := w_ldAn dL_law_2333 rfl
theorem w_L_law_2333N (d : Nat) (a0 a2 a3 a4 a5 a6 a7 : Option Value) (st : List Value) (h : a_H) : a_run d ML_law 2333 [a0, some .null, a2, a3, a4, a5, a6, a7] st h = a_run d ML_law 2334 [a0, some .null, a2, a3, a4, a5, a6, a7] (.null :: st) h := w_ldNn dL_law_2333 rfl
theorem w_L_law_2334 (d : Nat) (L : a_L) (i : Nat) (st : List Value) (h : a_H) (hk : a_kls h i = some 0) (hc : a_cat st ≤ 8) : a_run d ML_law 2334 L (.ref i :: st) h = a_cont d ML_law (a_bk ML_law 2334 L st (a_call d MX1_ifSweptDown [.ref i] h)) := w_callV (as := [.ref i]) dL_law_2334 rfl rfl rfl hc (a_rcv_of hk rfl)
theorem w_L_law_2337 (d : Nat) (a0 a1 a3 a4 a5 a6 a7 : Option Value) (x : Nat) (st : List Value) (h : a_H) : a_run d ML_law 2337 [a0, a1, some (.ref x), a3, a4, a5, a6, a7] st h = a_run d ML_law 2338 [a0, a1, some (.ref x), a3, a4, a5, a6, a7] (.ref x :: st) h := w_ldAn dL_law_2337 rfl
theorem w_L_law_2337N (d : Nat) (a0 a1 a3 a4 a5 a6 a7 : Option Value) (st : List Value) (h : a_H) : a_run d ML_law 2337 [a0, a1, some .null, a3, a4, a5, a6, a7] st h = a_run d ML_law 2338 [a0, a1, some .null, a3, a4, a5, a6, a7] (.null :: st) h := w_ldNn dL_law_2337 rfl
theorem w_L_law_2338 (d : Nat) (L : a_L) (i : Nat) (st : List Value) (h : a_H) (hk : a_kls h i = some 2) (hc : a_cat st ≤ 8) : a_run d ML_law 2338 L (.ref i :: st) h = a_cont d ML_law (a_bk ML_law 2338 L st (a_call d MX3_ifSweptDown [.ref i] h)) := w_callV (as := [.ref i]) dL_law_2338 rfl rfl rfl hc (a_rcv_of hk rfl)
theorem w_L_law_2341 (d : Nat) (L : a_L) (x y : Int32) (st : List Value) (h : a_H) : a_run d ML_law 2341 L (.int y :: .int x :: st) h = if x = y then a_run d ML_law 2985 L st h else a_run d ML_law 2344 L st h := w_icmp_eq dL_law_2341 rfl
theorem w_L_law_2344 (d : Nat) (L : a_L) (st : List Value) (h : a_H) : a_run d ML_law 2344 L st h = a_run d ML_law 2345 L (.int (nI 0) :: st) h := w_iconst dL_law_2344 rfl
theorem w_L_law_2345 (d : Nat) (L : a_L) (x : Int32) (h : a_H) (hx : x = 0 ∨ x = 1) : a_run d ML_law 2345 L [.int x] h = some (.inl (some (.int x)), h) := w_iret dL_law_2345 (w_retZ rfl hx)
theorem w_L_law_2346 (d : Nat) (a0 a2 a3 a4 a5 a6 a7 : Option Value) (x : Nat) (st : List Value) (h : a_H) : a_run d ML_law 2346 [a0, some (.ref x), a2, a3, a4, a5, a6, a7] st h = a_run d ML_law 2347 [a0, some (.ref x), a2, a3, a4, a5, a6, a7] (.ref x :: st) h := w_ldAn dL_law_2346 rfl
theorem w_L_law_2346N (d : Nat) (a0 a2 a3 a4 a5 a6 a7 : Option Value) (st : List Value) (h : a_H) : a_run d ML_law 2346 [a0, some .null, a2, a3, a4, a5, a6, a7] st h = a_run d ML_law 2347 [a0, some .null, a2, a3, a4, a5, a6, a7] (.null :: st) h := w_ldNn dL_law_2346 rfl
theorem w_L_law_2347 (d : Nat) (L : a_L) (i : Nat) (st : List Value) (h : a_H) (hk : a_kls h i = some 0) (hc : a_cat st ≤ 8) : a_run d ML_law 2347 L (.ref i :: st) h = a_cont d ML_law (a_bk ML_law 2347 L st (a_call d MX1_ifSweptUp [.ref i] h)) := w_callV (as := [.ref i]) dL_law_2347 rfl rfl rfl hc (a_rcv_of hk rfl)
theorem w_L_law_2350 (d : Nat) (a0 a1 a3 a4 a5 a6 a7 : Option Value) (x : Nat) (st : List Value) (h : a_H) : a_run d ML_law 2350 [a0, a1, some (.ref x), a3, a4, a5, a6, a7] st h = a_run d ML_law 2351 [a0, a1, some (.ref x), a3, a4, a5, a6, a7] (.ref x :: st) h := w_ldAn dL_law_2350 rfl
theorem w_L_law_2350N (d : Nat) (a0 a1 a3 a4 a5 a6 a7 : Option Value) (st : List Value) (h : a_H) : a_run d ML_law 2350 [a0, a1, some .null, a3, a4, a5, a6, a7] st h = a_run d ML_law 2351 [a0, a1, some .null, a3, a4, a5, a6, a7] (.null :: st) h := w_ldNn dL_law_2350 rfl
theorem w_L_law_2351 (d : Nat) (L : a_L) (i : Nat) (st : List Value) (h : a_H) (hk : a_kls h i = some 2) (hc : a_cat st ≤ 8) : a_run d ML_law 2351 L (.ref i :: st) h = a_cont d ML_law (a_bk ML_law 2351 L st (a_call d MX3_ifSweptUp [.ref i] h)) := w_callV (as := [.ref i]) dL_law_2351 rfl rfl rfl hc (a_rcv_of hk rfl)
theorem w_L_law_2354 (d : Nat) (L : a_L) (x y : Int32) (st : List Value) (h : a_H) : a_run d ML_law 2354 L (.int y :: .int x :: st) h = if x = y then a_run d ML_law 2985 L st h else a_run d ML_law 2357 L st h := w_icmp_eq dL_law_2354 rfl
theorem w_L_law_2357 (d : Nat) (L : a_L) (st : List Value) (h : a_H) : a_run d ML_law 2357 L st h = a_run d ML_law 2358 L (.int (nI 0) :: st) h := w_iconst dL_law_2357 rfl
theorem w_L_law_2358 (d : Nat) (L : a_L) (x : Int32) (h : a_H) (hx : x = 0 ∨ x = 1) : a_run d ML_law 2358 L [.int x] h = some (.inl (some (.int x)), h) := w_iret dL_law_2358 (w_retZ rfl hx)
theorem w_L_law_2359 (d : Nat) (a0 a2 a3 a4 a5 a6 a7 : Option Value) (x : Nat) (st : List Value) (h : a_H) : a_run d ML_law 2359 [a0, some (.ref x), a2, a3, a4, a5, a6, a7] st h = a_run d ML_law 2360 [a0, some (.ref x), a2, a3, a4, a5, a6, a7] (.ref x :: st) h := w_ldAn dL_law_2359 rfl
theorem w_L_law_2359N (d : Nat) (a0 a2 a3 a4 a5 a6 a7 : Option Value) (st : List Value) (h : a_H) : a_run d ML_law 2359 [a0, some .null, a2, a3, a4, a5, a6, a7] st h = a_run d ML_law 2360 [a0, some .null, a2, a3, a4, a5, a6, a7] (.null :: st) h := w_ldNn dL_law_2359 rfl
theorem w_L_law_2360 (d : Nat) (a1 a2 a3 a4 a5 a6 a7 : Option Value) (x : Nat) (st : List Value) (h : a_H) : a_run d ML_law 2360 [some (.ref x), a1, a2, a3, a4, a5, a6, a7] st h = a_run d ML_law 2361 [some (.ref x), a1, a2, a3, a4, a5, a6, a7] (.ref x :: st) h := w_ldAn dL_law_2360 rfl
theorem w_L_law_2361 (d : Nat) (a0 a1 a2 a3 a4 a6 a7 : Option Value) (x : Int32) (st : List Value) (h : a_H) : a_run d ML_law 2361 [a0, a1, a2, a3, a4, some (.int x), a6, a7] st h = a_run d ML_law 2363 [a0, a1, a2, a3, a4, some (.int x), a6, a7] (.int x :: st) h := w_ldI dL_law_2361 rfl
theorem w_L_law_2363 (d : Nat) (L : a_L) (st : List Value) (h : a_H) : a_run d ML_law 2363 L st h = a_run d ML_law 2364 L (.int (nI 1) :: st) h := w_iconst dL_law_2363 rfl
theorem w_L_law_2364 (d : Nat) (L : a_L) (x y : Int32) (st : List Value) (h : a_H) : a_run d ML_law 2364 L (.int y :: .int x :: st) h = a_run d ML_law 2365 L (.int (x + y) :: st) h := w_iadd dL_law_2364
theorem w_L_law_2365 (d : Nat) (L : a_L) (x : Int32) (i : Nat) (st : List Value) (h : a_H) : a_run d ML_law 2365 L (.int x :: .ref i :: st) h = (a_rdi h i a_int x).bind fun v => a_run d ML_law 2366 L (v :: st) h := w_iald dL_law_2365
theorem w_L_law_2366 (d : Nat) (a1 a2 a3 a4 a5 a6 a7 : Option Value) (x : Nat) (st : List Value) (h : a_H) : a_run d ML_law 2366 [some (.ref x), a1, a2, a3, a4, a5, a6, a7] st h = a_run d ML_law 2367 [some (.ref x), a1, a2, a3, a4, a5, a6, a7] (.ref x :: st) h := w_ldAn dL_law_2366 rfl
theorem w_L_law_2367 (d : Nat) (a0 a1 a2 a3 a4 a6 a7 : Option Value) (x : Int32) (st : List Value) (h : a_H) : a_run d ML_law 2367 [a0, a1, a2, a3, a4, some (.int x), a6, a7] st h = a_run d ML_law 2369 [a0, a1, a2, a3, a4, some (.int x), a6, a7] (.int x :: st) h := w_ldI dL_law_2367 rfl
theorem w_L_law_2369 (d : Nat) (L : a_L) (st : List Value) (h : a_H) : a_run d ML_law 2369 L st h = a_run d ML_law 2370 L (.int (nI 2) :: st) h := w_iconst dL_law_2369 rfl
theorem w_L_law_2370 (d : Nat) (L : a_L) (x y : Int32) (st : List Value) (h : a_H) : a_run d ML_law 2370 L (.int y :: .int x :: st) h = a_run d ML_law 2371 L (.int (x + y) :: st) h := w_iadd dL_law_2370
theorem w_L_law_2371 (d : Nat) (L : a_L) (x : Int32) (i : Nat) (st : List Value) (h : a_H) : a_run d ML_law 2371 L (.int x :: .ref i :: st) h = (a_rdi h i a_int x).bind fun v => a_run d ML_law 2372 L (v :: st) h := w_iald dL_law_2371
theorem w_L_law_2372 (d : Nat) (a0 a1 a2 a4 a5 a6 a7 : Option Value) (x : Nat) (st : List Value) (h : a_H) : a_run d ML_law 2372 [a0, a1, a2, some (.ref x), a4, a5, a6, a7] st h = a_run d ML_law 2373 [a0, a1, a2, some (.ref x), a4, a5, a6, a7] (.ref x :: st) h := w_ldAn dL_law_2372 rfl
theorem w_L_law_2372N (d : Nat) (a0 a1 a2 a4 a5 a6 a7 : Option Value) (st : List Value) (h : a_H) : a_run d ML_law 2372 [a0, a1, a2, some .null, a4, a5, a6, a7] st h = a_run d ML_law 2373 [a0, a1, a2, some .null, a4, a5, a6, a7] (.null :: st) h := w_ldNn dL_law_2372 rfl
theorem w_L_law_2373 (d : Nat) (L : a_L) (v0 v1 v2 v3 : Value) (st : List Value) (h : a_H) (hc : a_cat st ≤ 8) : a_run d ML_law 2373 L (v3 :: v2 :: v1 :: v0 :: st) h = a_cont d ML_law (a_bk ML_law 2373 L st (a_call d MX0_columnAt [v0, v1, v2, v3] h)) := w_callS (as := [v0, v1, v2, v3]) dL_law_2373 rfl rfl rfl hc
theorem w_L_law_2376 (d : Nat) (a0 a1 a2 a3 a4 a5 a6 a7 : Option Value) (x : Int32) (st : List Value) (h : a_H) : a_run d ML_law 2376 [a0, a1, a2, a3, a4, a5, a6, a7] (.int x :: st) h = a_run d ML_law 2378 [a0, a1, a2, a3, a4, a5, some (.int x), a7] st h := w_stI dL_law_2376 (Nat.le_of_ble_eq_true rfl) rfl
theorem w_L_law_2378 (d : Nat) (a0 a1 a3 a4 a5 a6 a7 : Option Value) (x : Nat) (st : List Value) (h : a_H) : a_run d ML_law 2378 [a0, a1, some (.ref x), a3, a4, a5, a6, a7] st h = a_run d ML_law 2379 [a0, a1, some (.ref x), a3, a4, a5, a6, a7] (.ref x :: st) h := w_ldAn dL_law_2378 rfl
theorem w_L_law_2378N (d : Nat) (a0 a1 a3 a4 a5 a6 a7 : Option Value) (st : List Value) (h : a_H) : a_run d ML_law 2378 [a0, a1, some .null, a3, a4, a5, a6, a7] st h = a_run d ML_law 2379 [a0, a1, some .null, a3, a4, a5, a6, a7] (.null :: st) h := w_ldNn dL_law_2378 rfl
theorem w_L_law_2379 (d : Nat) (a1 a2 a3 a4 a5 a6 a7 : Option Value) (x : Nat) (st : List Value) (h : a_H) : a_run d ML_law 2379 [some (.ref x), a1, a2, a3, a4, a5, a6, a7] st h = a_run d ML_law 2380 [some (.ref x), a1, a2, a3, a4, a5, a6, a7] (.ref x :: st) h := w_ldAn dL_law_2379 rfl
theorem w_L_law_2380 (d : Nat) (a0 a1 a2 a3 a4 a6 a7 : Option Value) (x : Int32) (st : List Value) (h : a_H) : a_run d ML_law 2380 [a0, a1, a2, a3, a4, some (.int x), a6, a7] st h = a_run d ML_law 2382 [a0, a1, a2, a3, a4, some (.int x), a6, a7] (.int x :: st) h := w_ldI dL_law_2380 rfl
theorem w_L_law_2382 (d : Nat) (L : a_L) (st : List Value) (h : a_H) : a_run d ML_law 2382 L st h = a_run d ML_law 2383 L (.int (nI 1) :: st) h := w_iconst dL_law_2382 rfl
theorem w_L_law_2383 (d : Nat) (L : a_L) (x y : Int32) (st : List Value) (h : a_H) : a_run d ML_law 2383 L (.int y :: .int x :: st) h = a_run d ML_law 2384 L (.int (x + y) :: st) h := w_iadd dL_law_2383
theorem w_L_law_2384 (d : Nat) (L : a_L) (x : Int32) (i : Nat) (st : List Value) (h : a_H) : a_run d ML_law 2384 L (.int x :: .ref i :: st) h = (a_rdi h i a_int x).bind fun v => a_run d ML_law 2385 L (v :: st) h := w_iald dL_law_2384
theorem w_L_law_2385 (d : Nat) (a1 a2 a3 a4 a5 a6 a7 : Option Value) (x : Nat) (st : List Value) (h : a_H) : a_run d ML_law 2385 [some (.ref x), a1, a2, a3, a4, a5, a6, a7] st h = a_run d ML_law 2386 [some (.ref x), a1, a2, a3, a4, a5, a6, a7] (.ref x :: st) h := w_ldAn dL_law_2385 rfl
theorem w_L_law_2386 (d : Nat) (a0 a1 a2 a3 a4 a6 a7 : Option Value) (x : Int32) (st : List Value) (h : a_H) : a_run d ML_law 2386 [a0, a1, a2, a3, a4, some (.int x), a6, a7] st h = a_run d ML_law 2388 [a0, a1, a2, a3, a4, some (.int x), a6, a7] (.int x :: st) h := w_ldI dL_law_2386 rfl
theorem w_L_law_2388 (d : Nat) (L : a_L) (st : List Value) (h : a_H) : a_run d ML_law 2388 L st h = a_run d ML_law 2389 L (.int (nI 2) :: st) h := w_iconst dL_law_2388 rfl
theorem w_L_law_2389 (d : Nat) (L : a_L) (x y : Int32) (st : List Value) (h : a_H) : a_run d ML_law 2389 L (.int y :: .int x :: st) h = a_run d ML_law 2390 L (.int (x + y) :: st) h := w_iadd dL_law_2389
theorem w_L_law_2390 (d : Nat) (L : a_L) (x : Int32) (i : Nat) (st : List Value) (h : a_H) : a_run d ML_law 2390 L (.int x :: .ref i :: st) h = (a_rdi h i a_int x).bind fun v => a_run d ML_law 2391 L (v :: st) h := w_iald dL_law_2390
theorem w_L_law_2391 (d : Nat) (L : a_L) (i : Nat) (v1 v2 : Value) (st : List Value) (h : a_H) (hk : a_kls h i = some 2) (hc : a_cat st ≤ 8) : a_run d ML_law 2391 L (v2 :: v1 :: .ref i :: st) h = a_cont d ML_law (a_bk ML_law 2391 L st (a_call d MX3_columnAt [.ref i, v1, v2] h)) := w_callV (as := [.ref i, v1, v2]) dL_law_2391 rfl rfl rfl hc (a_rcv_of hk rfl)
theorem w_L_law_2394 (d : Nat) (a0 a1 a2 a3 a4 a5 a6 a7 : Option Value) (x : Int32) (st : List Value) (h : a_H) : a_run d ML_law 2394 [a0, a1, a2, a3, a4, a5, a6, a7] (.int x :: st) h = a_run d ML_law 2396 [a0, a1, a2, a3, a4, a5, a6, some (.int x)] st h := w_stI dL_law_2394 (Nat.le_of_ble_eq_true rfl) rfl
theorem w_L_law_2396 (d : Nat) (a0 a1 a3 a4 a5 a6 a7 : Option Value) (x : Nat) (st : List Value) (h : a_H) : a_run d ML_law 2396 [a0, a1, some (.ref x), a3, a4, a5, a6, a7] st h = a_run d ML_law 2397 [a0, a1, some (.ref x), a3, a4, a5, a6, a7] (.ref x :: st) h := w_ldAn dL_law_2396 rfl
theorem w_L_law_2396N (d : Nat) (a0 a1 a3 a4 a5 a6 a7 : Option Value) (st : List Value) (h : a_H) : a_run d ML_law 2396 [a0, a1, some .null, a3, a4, a5, a6, a7] st h = a_run d ML_law 2397 [a0, a1, some .null, a3, a4, a5, a6, a7] (.null :: st) h := w_ldNn dL_law_2396 rfl
theorem w_L_law_2397 (d : Nat) (L : a_L) (i : Nat) (st : List Value) (h : a_H) (hk : a_kls h i = some 2) (hc : a_cat st ≤ 8) : a_run d ML_law 2397 L (.ref i :: st) h = a_cont d ML_law (a_bk ML_law 2397 L st (a_call d MX3_thrown [.ref i] h)) := w_callV (as := [.ref i]) dL_law_2397 rfl rfl rfl hc (a_rcv_of hk rfl)
theorem w_L_law_2400 (d : Nat) (a0 a1 a2 a3 a4 a5 a7 : Option Value) (x : Int32) (st : List Value) (h : a_H) : a_run d ML_law 2400 [a0, a1, a2, a3, a4, a5, some (.int x), a7] st h = a_run d ML_law 2402 [a0, a1, a2, a3, a4, a5, some (.int x), a7] (.int x :: st) h := w_ldI dL_law_2400 rfl
theorem w_L_law_2402 (d : Nat) (L : a_L) (x y : Int32) (st : List Value) (h : a_H) : a_run d ML_law 2402 L (.int y :: .int x :: st) h = if x = y then a_run d ML_law 2407 L st h else a_run d ML_law 2405 L st h := w_icmp_eq dL_law_2402 rfl
theorem w_L_law_2405 (d : Nat) (L : a_L) (st : List Value) (h : a_H) : a_run d ML_law 2405 L st h = a_run d ML_law 2406 L (.int (nI 0) :: st) h := w_iconst dL_law_2405 rfl
theorem w_L_law_2406 (d : Nat) (L : a_L) (x : Int32) (h : a_H) (hx : x = 0 ∨ x = 1) : a_run d ML_law 2406 L [.int x] h = some (.inl (some (.int x)), h) := w_iret dL_law_2406 (w_retZ rfl hx)
theorem w_L_law_2407 (d : Nat) (a0 a1 a2 a3 a4 a5 a7 : Option Value) (x : Int32) (st : List Value) (h : a_H) : a_run d ML_law 2407 [a0, a1, a2, a3, a4, a5, some (.int x), a7] st h = a_run d ML_law 2409 [a0, a1, a2, a3, a4, a5, some (.int x), a7] (.int x :: st) h := w_ldI dL_law_2407 rfl
theorem w_L_law_2409 (d : Nat) (L : a_L) (x : Int32) (st : List Value) (h : a_H) : a_run d ML_law 2409 L (.int x :: st) h = if x = 0 then a_run d ML_law 2412 L st h else a_run d ML_law 2424 L st h := w_if_ne dL_law_2409 rfl
theorem w_L_law_2412 (d : Nat) (a0 a1 a2 a4 a5 a6 a7 : Option Value) (x : Nat) (st : List Value) (h : a_H) : a_run d ML_law 2412 [a0, a1, a2, some (.ref x), a4, a5, a6, a7] st h = a_run d ML_law 2413 [a0, a1, a2, some (.ref x), a4, a5, a6, a7] (.ref x :: st) h := w_ldAn dL_law_2412 rfl
theorem w_L_law_2412N (d : Nat) (a0 a1 a2 a4 a5 a6 a7 : Option Value) (st : List Value) (h : a_H) : a_run d ML_law 2412 [a0, a1, a2, some .null, a4, a5, a6, a7] st h = a_run d ML_law 2413 [a0, a1, a2, some .null, a4, a5, a6, a7] (.null :: st) h := w_ldNn dL_law_2412 rfl
theorem w_L_law_2413 (d : Nat) (L : a_L) (st : List Value) (h : a_H) : a_run d ML_law 2413 L st h = a_run d ML_law 2414 L (.int (nI 0) :: st) h := w_iconst dL_law_2413 rfl
theorem w_L_law_2414 (d : Nat) (L : a_L) (x : Int32) (i : Nat) (st : List Value) (h : a_H) : a_run d ML_law 2414 L (.int x :: .ref i :: st) h = (a_rdl h i x).bind fun v => a_run d ML_law 2415 L (v :: st) h := w_lald dL_law_2414
theorem w_L_law_2415 (d : Nat) (a0 a1 a2 a3 a4 a5 a6 : Option Value) (x : Int32) (st : List Value) (h : a_H) : a_run d ML_law 2415 [a0, a1, a2, a3, a4, a5, a6, some (.int x)] st h = a_run d ML_law 2417 [a0, a1, a2, a3, a4, a5, a6, some (.int x)] (.int x :: st) h := w_ldI dL_law_2415 rfl
theorem w_L_law_2417 (d : Nat) (L : a_L) (x : Int32) (st : List Value) (h : a_H) : a_run d ML_law 2417 L (.int x :: st) h = a_run d ML_law 2418 L (.long x.toInt64 :: st) h := w_i2l dL_law_2417
theorem w_L_law_2418 (d : Nat) (L : a_L) (x y : Int64) (st : List Value) (h : a_H) : a_run d ML_law 2418 L (.long y :: .long x :: st) h = a_run d ML_law 2419 L (.int (lg_cmp x y) :: st) h := w_lcmp dL_law_2418
theorem w_L_law_2419 (d : Nat) (L : a_L) (x : Int32) (st : List Value) (h : a_H) : a_run d ML_law 2419 L (.int x :: st) h = if x = 0 then a_run d ML_law 2424 L st h else a_run d ML_law 2422 L st h := w_if_eq dL_law_2419 rfl
theorem w_L_law_2422 (d : Nat) (L : a_L) (st : List Value) (h : a_H) : a_run d ML_law 2422 L st h = a_run d ML_law 2423 L (.int (nI 0) :: st) h := w_iconst dL_law_2422 rfl
theorem w_L_law_2423 (d : Nat) (L : a_L) (x : Int32) (h : a_H) (hx : x = 0 ∨ x = 1) : a_run d ML_law 2423 L [.int x] h = some (.inl (some (.int x)), h) := w_iret dL_law_2423 (w_retZ rfl hx)
theorem w_L_law_2424 (d : Nat) (L : a_L) (st : List Value) (h : a_H) : a_run d ML_law 2424 L st h = a_run d ML_law 2985 L st h := w_goto dL_law_2424 rfl
theorem w_L_law_2427 (d : Nat) (a0 a2 a3 a4 a5 a6 a7 : Option Value) (x : Nat) (st : List Value) (h : a_H) : a_run d ML_law 2427 [a0, some (.ref x), a2, a3, a4, a5, a6, a7] st h = a_run d ML_law 2428 [a0, some (.ref x), a2, a3, a4, a5, a6, a7] (.ref x :: st) h := w_ldAn dL_law_2427 rfl
theorem w_L_law_2427N (d : Nat) (a0 a2 a3 a4 a5 a6 a7 : Option Value) (st : List Value) (h : a_H) : a_run d ML_law 2427 [a0, some .null, a2, a3, a4, a5, a6, a7] st h = a_run d ML_law 2428 [a0, some .null, a2, a3, a4, a5, a6, a7] (.null :: st) h := w_ldNn dL_law_2427 rfl
theorem w_L_law_2428 (d : Nat) (a1 a2 a3 a4 a5 a6 a7 : Option Value) (x : Nat) (st : List Value) (h : a_H) : a_run d ML_law 2428 [some (.ref x), a1, a2, a3, a4, a5, a6, a7] st h = a_run d ML_law 2429 [some (.ref x), a1, a2, a3, a4, a5, a6, a7] (.ref x :: st) h := w_ldAn dL_law_2428 rfl
theorem w_L_law_2429 (d : Nat) (a0 a1 a2 a3 a4 a6 a7 : Option Value) (x : Int32) (st : List Value) (h : a_H) : a_run d ML_law 2429 [a0, a1, a2, a3, a4, some (.int x), a6, a7] st h = a_run d ML_law 2431 [a0, a1, a2, a3, a4, some (.int x), a6, a7] (.int x :: st) h := w_ldI dL_law_2429 rfl
theorem w_L_law_2431 (d : Nat) (L : a_L) (st : List Value) (h : a_H) : a_run d ML_law 2431 L st h = a_run d ML_law 2432 L (.int (nI 1) :: st) h := w_iconst dL_law_2431 rfl
theorem w_L_law_2432 (d : Nat) (L : a_L) (x y : Int32) (st : List Value) (h : a_H) : a_run d ML_law 2432 L (.int y :: .int x :: st) h = a_run d ML_law 2433 L (.int (x + y) :: st) h := w_iadd dL_law_2432
theorem w_L_law_2433 (d : Nat) (L : a_L) (x : Int32) (i : Nat) (st : List Value) (h : a_H) : a_run d ML_law 2433 L (.int x :: .ref i :: st) h = (a_rdi h i a_int x).bind fun v => a_run d ML_law 2434 L (v :: st) h := w_iald dL_law_2433
theorem w_L_law_2434 (d : Nat) (a0 a1 a2 a4 a5 a6 a7 : Option Value) (x : Nat) (st : List Value) (h : a_H) : a_run d ML_law 2434 [a0, a1, a2, some (.ref x), a4, a5, a6, a7] st h = a_run d ML_law 2435 [a0, a1, a2, some (.ref x), a4, a5, a6, a7] (.ref x :: st) h := w_ldAn dL_law_2434 rfl
theorem w_L_law_2434N (d : Nat) (a0 a1 a2 a4 a5 a6 a7 : Option Value) (st : List Value) (h : a_H) : a_run d ML_law 2434 [a0, a1, a2, some .null, a4, a5, a6, a7] st h = a_run d ML_law 2435 [a0, a1, a2, some .null, a4, a5, a6, a7] (.null :: st) h := w_ldNn dL_law_2434 rfl
theorem w_L_law_2435 (d : Nat) (L : a_L) (v0 v1 v2 : Value) (st : List Value) (h : a_H) (hc : a_cat st ≤ 8) : a_run d ML_law 2435 L (v2 :: v1 :: v0 :: st) h = a_cont d ML_law (a_bk ML_law 2435 L st (a_call d MX0_bendsOf [v0, v1, v2] h)) := w_callS (as := [v0, v1, v2]) dL_law_2435 rfl rfl rfl hc
theorem w_L_law_2438 (d : Nat) (a0 a1 a2 a3 a4 a5 a6 a7 : Option Value) (x : Int32) (st : List Value) (h : a_H) : a_run d ML_law 2438 [a0, a1, a2, a3, a4, a5, a6, a7] (.int x :: st) h = a_run d ML_law 2440 [a0, a1, a2, a3, a4, a5, some (.int x), a7] st h := w_stI dL_law_2438 (Nat.le_of_ble_eq_true rfl) rfl
theorem w_L_law_2440 (d : Nat) (a0 a1 a3 a4 a5 a6 a7 : Option Value) (x : Nat) (st : List Value) (h : a_H) : a_run d ML_law 2440 [a0, a1, some (.ref x), a3, a4, a5, a6, a7] st h = a_run d ML_law 2441 [a0, a1, some (.ref x), a3, a4, a5, a6, a7] (.ref x :: st) h := w_ldAn dL_law_2440 rfl
theorem w_L_law_2440N (d : Nat) (a0 a1 a3 a4 a5 a6 a7 : Option Value) (st : List Value) (h : a_H) : a_run d ML_law 2440 [a0, a1, some .null, a3, a4, a5, a6, a7] st h = a_run d ML_law 2441 [a0, a1, some .null, a3, a4, a5, a6, a7] (.null :: st) h := w_ldNn dL_law_2440 rfl
theorem w_L_law_2441 (d : Nat) (a1 a2 a3 a4 a5 a6 a7 : Option Value) (x : Nat) (st : List Value) (h : a_H) : a_run d ML_law 2441 [some (.ref x), a1, a2, a3, a4, a5, a6, a7] st h = a_run d ML_law 2442 [some (.ref x), a1, a2, a3, a4, a5, a6, a7] (.ref x :: st) h := w_ldAn dL_law_2441 rfl
theorem w_L_law_2442 (d : Nat) (a0 a1 a2 a3 a4 a6 a7 : Option Value) (x : Int32) (st : List Value) (h : a_H) : a_run d ML_law 2442 [a0, a1, a2, a3, a4, some (.int x), a6, a7] st h = a_run d ML_law 2444 [a0, a1, a2, a3, a4, some (.int x), a6, a7] (.int x :: st) h := w_ldI dL_law_2442 rfl
theorem w_L_law_2444 (d : Nat) (L : a_L) (st : List Value) (h : a_H) : a_run d ML_law 2444 L st h = a_run d ML_law 2445 L (.int (nI 1) :: st) h := w_iconst dL_law_2444 rfl
theorem w_L_law_2445 (d : Nat) (L : a_L) (x y : Int32) (st : List Value) (h : a_H) : a_run d ML_law 2445 L (.int y :: .int x :: st) h = a_run d ML_law 2446 L (.int (x + y) :: st) h := w_iadd dL_law_2445
theorem w_L_law_2446 (d : Nat) (L : a_L) (x : Int32) (i : Nat) (st : List Value) (h : a_H) : a_run d ML_law 2446 L (.int x :: .ref i :: st) h = (a_rdi h i a_int x).bind fun v => a_run d ML_law 2447 L (v :: st) h := w_iald dL_law_2446
theorem w_L_law_2447 (d : Nat) (L : a_L) (i : Nat) (v1 : Value) (st : List Value) (h : a_H) (hk : a_kls h i = some 2) (hc : a_cat st ≤ 8) : a_run d ML_law 2447 L (v1 :: .ref i :: st) h = a_cont d ML_law (a_bk ML_law 2447 L st (a_call d MX3_bendsOf [.ref i, v1] h)) := w_callV (as := [.ref i, v1]) dL_law_2447 rfl rfl rfl hc (a_rcv_of hk rfl)
theorem w_L_law_2450 (d : Nat) (a0 a1 a2 a3 a4 a5 a6 a7 : Option Value) (x : Int32) (st : List Value) (h : a_H) : a_run d ML_law 2450 [a0, a1, a2, a3, a4, a5, a6, a7] (.int x :: st) h = a_run d ML_law 2452 [a0, a1, a2, a3, a4, a5, a6, some (.int x)] st h := w_stI dL_law_2450 (Nat.le_of_ble_eq_true rfl) rfl
theorem w_L_law_2452 (d : Nat) (a0 a1 a3 a4 a5 a6 a7 : Option Value) (x : Nat) (st : List Value) (h : a_H) : a_run d ML_law 2452 [a0, a1, some (.ref x), a3, a4, a5, a6, a7] st h = a_run d ML_law 2453 [a0, a1, some (.ref x), a3, a4, a5, a6, a7] (.ref x :: st) h := w_ldAn dL_law_2452 rfl
theorem w_L_law_2452N (d : Nat) (a0 a1 a3 a4 a5 a6 a7 : Option Value) (st : List Value) (h : a_H) : a_run d ML_law 2452 [a0, a1, some .null, a3, a4, a5, a6, a7] st h = a_run d ML_law 2453 [a0, a1, some .null, a3, a4, a5, a6, a7] (.null :: st) h := w_ldNn dL_law_2452 rfl
theorem w_L_law_2453 (d : Nat) (L : a_L) (i : Nat) (st : List Value) (h : a_H) (hk : a_kls h i = some 2) (hc : a_cat st ≤ 8) : a_run d ML_law 2453 L (.ref i :: st) h = a_cont d ML_law (a_bk ML_law 2453 L st (a_call d MX3_thrown [.ref i] h)) := w_callV (as := [.ref i]) dL_law_2453 rfl rfl rfl hc (a_rcv_of hk rfl)
theorem w_L_law_2456 (d : Nat) (a0 a1 a2 a3 a4 a5 a7 : Option Value) (x : Int32) (st : List Value) (h : a_H) : a_run d ML_law 2456 [a0, a1, a2, a3, a4, a5, some (.int x), a7] st h = a_run d ML_law 2458 [a0, a1, a2, a3, a4, a5, some (.int x), a7] (.int x :: st) h := w_ldI dL_law_2456 rfl
theorem w_L_law_2458 (d : Nat) (L : a_L) (x y : Int32) (st : List Value) (h : a_H) : a_run d ML_law 2458 L (.int y :: .int x :: st) h = if x = y then a_run d ML_law 2463 L st h else a_run d ML_law 2461 L st h := w_icmp_eq dL_law_2458 rfl
theorem w_L_law_2461 (d : Nat) (L : a_L) (st : List Value) (h : a_H) : a_run d ML_law 2461 L st h = a_run d ML_law 2462 L (.int (nI 0) :: st) h := w_iconst dL_law_2461 rfl
theorem w_L_law_2462 (d : Nat) (L : a_L) (x : Int32) (h : a_H) (hx : x = 0 ∨ x = 1) : a_run d ML_law 2462 L [.int x] h = some (.inl (some (.int x)), h) := w_iret dL_law_2462 (w_retZ rfl hx)
theorem w_L_law_2463 (d : Nat) (a0 a1 a2 a3 a4 a5 a7 : Option Value) (x : Int32) (st : List Value) (h : a_H) : a_run d ML_law 2463 [a0, a1, a2, a3, a4, a5, some (.int x), a7] st h = a_run d ML_law 2465 [a0, a1, a2, a3, a4, a5, some (.int x), a7] (.int x :: st) h := w_ldI dL_law_2463 rfl
theorem w_L_law_2465 (d : Nat) (L : a_L) (x : Int32) (st : List Value) (h : a_H) : a_run d ML_law 2465 L (.int x :: st) h = if x = 0 then a_run d ML_law 2468 L st h else a_run d ML_law 2480 L st h := w_if_ne dL_law_2465 rfl
theorem w_L_law_2468 (d : Nat) (a0 a1 a2 a4 a5 a6 a7 : Option Value) (x : Nat) (st : List Value) (h : a_H) : a_run d ML_law 2468 [a0, a1, a2, some (.ref x), a4, a5, a6, a7] st h = a_run d ML_law 2469 [a0, a1, a2, some (.ref x), a4, a5, a6, a7] (.ref x :: st) h := w_ldAn dL_law_2468 rfl
theorem w_L_law_2468N (d : Nat) (a0 a1 a2 a4 a5 a6 a7 : Option Value) (st : List Value) (h : a_H) : a_run d ML_law 2468 [a0, a1, a2, some .null, a4, a5, a6, a7] st h = a_run d ML_law 2469 [a0, a1, a2, some .null, a4, a5, a6, a7] (.null :: st) h := w_ldNn dL_law_2468 rfl
theorem w_L_law_2469 (d : Nat) (L : a_L) (st : List Value) (h : a_H) : a_run d ML_law 2469 L st h = a_run d ML_law 2470 L (.int (nI 0) :: st) h := w_iconst dL_law_2469 rfl
theorem w_L_law_2470 (d : Nat) (L : a_L) (x : Int32) (i : Nat) (st : List Value) (h : a_H) : a_run d ML_law 2470 L (.int x :: .ref i :: st) h = (a_rdl h i x).bind fun v => a_run d ML_law 2471 L (v :: st) h := w_lald dL_law_2470
theorem w_L_law_2471 (d : Nat) (a0 a1 a2 a3 a4 a5 a6 : Option Value) (x : Int32) (st : List Value) (h : a_H) : a_run d ML_law 2471 [a0, a1, a2, a3, a4, a5, a6, some (.int x)] st h = a_run d ML_law 2473 [a0, a1, a2, a3, a4, a5, a6, some (.int x)] (.int x :: st) h := w_ldI dL_law_2471 rfl
theorem w_L_law_2473 (d : Nat) (L : a_L) (x : Int32) (st : List Value) (h : a_H) : a_run d ML_law 2473 L (.int x :: st) h = a_run d ML_law 2474 L (.long x.toInt64 :: st) h := w_i2l dL_law_2473
theorem w_L_law_2474 (d : Nat) (L : a_L) (x y : Int64) (st : List Value) (h : a_H) : a_run d ML_law 2474 L (.long y :: .long x :: st) h = a_run d ML_law 2475 L (.int (lg_cmp x y) :: st) h := w_lcmp dL_law_2474
theorem w_L_law_2475 (d : Nat) (L : a_L) (x : Int32) (st : List Value) (h : a_H) : a_run d ML_law 2475 L (.int x :: st) h = if x = 0 then a_run d ML_law 2480 L st h else a_run d ML_law 2478 L st h := w_if_eq dL_law_2475 rfl
theorem w_L_law_2478 (d : Nat) (L : a_L) (st : List Value) (h : a_H) : a_run d ML_law 2478 L st h = a_run d ML_law 2479 L (.int (nI 0) :: st) h := w_iconst dL_law_2478 rfl
theorem w_L_law_2479 (d : Nat) (L : a_L) (x : Int32) (h : a_H) (hx : x = 0 ∨ x = 1) : a_run d ML_law 2479 L [.int x] h = some (.inl (some (.int x)), h) := w_iret dL_law_2479 (w_retZ rfl hx)
theorem w_L_law_2480 (d : Nat) (L : a_L) (st : List Value) (h : a_H) : a_run d ML_law 2480 L st h = a_run d ML_law 2985 L st h := w_goto dL_law_2480 rfl
theorem w_L_law_2483 (d : Nat) (a0 a2 a3 a4 a5 a6 a7 : Option Value) (x : Nat) (st : List Value) (h : a_H) : a_run d ML_law 2483 [a0, some (.ref x), a2, a3, a4, a5, a6, a7] st h = a_run d ML_law 2484 [a0, some (.ref x), a2, a3, a4, a5, a6, a7] (.ref x :: st) h := w_ldAn dL_law_2483 rfl
theorem w_L_law_2483N (d : Nat) (a0 a2 a3 a4 a5 a6 a7 : Option Value) (st : List Value) (h : a_H) : a_run d ML_law 2483 [a0, some .null, a2, a3, a4, a5, a6, a7] st h = a_run d ML_law 2484 [a0, some .null, a2, a3, a4, a5, a6, a7] (.null :: st) h := w_ldNn dL_law_2483 rfl
theorem w_L_law_2484 (d : Nat) (L : a_L) (i : Nat) (st : List Value) (h : a_H) (hk : a_kls h i = some 0) (hc : a_cat st ≤ 8) : a_run d ML_law 2484 L (.ref i :: st) h = a_cont d ML_law (a_bk ML_law 2484 L st (a_call d MX1_bends [.ref i] h)) := w_callV (as := [.ref i]) dL_law_2484 rfl rfl rfl hc (a_rcv_of hk rfl)
theorem w_L_law_2487 (d : Nat) (a0 a1 a3 a4 a5 a6 a7 : Option Value) (x : Nat) (st : List Value) (h : a_H) : a_run d ML_law 2487 [a0, a1, some (.ref x), a3, a4, a5, a6, a7] st h = a_run d ML_law 2488 [a0, a1, some (.ref x), a3, a4, a5, a6, a7] (.ref x :: st) h := w_ldAn dL_law_2487 rfl
theorem w_L_law_2487N (d : Nat) (a0 a1 a3 a4 a5 a6 a7 : Option Value) (st : List Value) (h : a_H) : a_run d ML_law 2487 [a0, a1, some .null, a3, a4, a5, a6, a7] st h = a_run d ML_law 2488 [a0, a1, some .null, a3, a4, a5, a6, a7] (.null :: st) h := w_ldNn dL_law_2487 rfl
theorem w_L_law_2488 (d : Nat) (L : a_L) (i : Nat) (st : List Value) (h : a_H) (hk : a_kls h i = some 2) (hc : a_cat st ≤ 8) : a_run d ML_law 2488 L (.ref i :: st) h = a_cont d ML_law (a_bk ML_law 2488 L st (a_call d MX3_bends [.ref i] h)) := w_callV (as := [.ref i]) dL_law_2488 rfl rfl rfl hc (a_rcv_of hk rfl)
theorem w_L_law_2491 (d : Nat) (L : a_L) (x y : Int32) (st : List Value) (h : a_H) : a_run d ML_law 2491 L (.int y :: .int x :: st) h = if x = y then a_run d ML_law 2985 L st h else a_run d ML_law 2494 L st h := w_icmp_eq dL_law_2491 rfl
theorem w_L_law_2494 (d : Nat) (L : a_L) (st : List Value) (h : a_H) : a_run d ML_law 2494 L st h = a_run d ML_law 2495 L (.int (nI 0) :: st) h := w_iconst dL_law_2494 rfl
theorem w_L_law_2495 (d : Nat) (L : a_L) (x : Int32) (h : a_H) (hx : x = 0 ∨ x = 1) : a_run d ML_law 2495 L [.int x] h = some (.inl (some (.int x)), h) := w_iret dL_law_2495 (w_retZ rfl hx)
theorem w_L_law_2496 (d : Nat) (a0 a2 a3 a4 a5 a6 a7 : Option Value) (x : Nat) (st : List Value) (h : a_H) : a_run d ML_law 2496 [a0, some (.ref x), a2, a3, a4, a5, a6, a7] st h = a_run d ML_law 2497 [a0, some (.ref x), a2, a3, a4, a5, a6, a7] (.ref x :: st) h := w_ldAn dL_law_2496 rfl
theorem w_L_law_2496N (d : Nat) (a0 a2 a3 a4 a5 a6 a7 : Option Value) (st : List Value) (h : a_H) : a_run d ML_law 2496 [a0, some .null, a2, a3, a4, a5, a6, a7] st h = a_run d ML_law 2497 [a0, some .null, a2, a3, a4, a5, a6, a7] (.null :: st) h := w_ldNn dL_law_2496 rfl
theorem w_L_law_2497 (d : Nat) (L : a_L) (i : Nat) (st : List Value) (h : a_H) (hk : a_kls h i = some 0) (hc : a_cat st ≤ 8) : a_run d ML_law 2497 L (.ref i :: st) h = a_cont d ML_law (a_bk ML_law 2497 L st (a_call d MX1_widest [.ref i] h)) := w_callV (as := [.ref i]) dL_law_2497 rfl rfl rfl hc (a_rcv_of hk rfl)
theorem w_L_law_2500 (d : Nat) (a0 a1 a3 a4 a5 a6 a7 : Option Value) (x : Nat) (st : List Value) (h : a_H) : a_run d ML_law 2500 [a0, a1, some (.ref x), a3, a4, a5, a6, a7] st h = a_run d ML_law 2501 [a0, a1, some (.ref x), a3, a4, a5, a6, a7] (.ref x :: st) h := w_ldAn dL_law_2500 rfl
theorem w_L_law_2500N (d : Nat) (a0 a1 a3 a4 a5 a6 a7 : Option Value) (st : List Value) (h : a_H) : a_run d ML_law 2500 [a0, a1, some .null, a3, a4, a5, a6, a7] st h = a_run d ML_law 2501 [a0, a1, some .null, a3, a4, a5, a6, a7] (.null :: st) h := w_ldNn dL_law_2500 rfl
theorem w_L_law_2501 (d : Nat) (L : a_L) (i : Nat) (st : List Value) (h : a_H) (hk : a_kls h i = some 2) (hc : a_cat st ≤ 8) : a_run d ML_law 2501 L (.ref i :: st) h = a_cont d ML_law (a_bk ML_law 2501 L st (a_call d MX3_widest [.ref i] h)) := w_callV (as := [.ref i]) dL_law_2501 rfl rfl rfl hc (a_rcv_of hk rfl)
theorem w_L_law_2504 (d : Nat) (L : a_L) (x y : Int32) (st : List Value) (h : a_H) : a_run d ML_law 2504 L (.int y :: .int x :: st) h = if x = y then a_run d ML_law 2985 L st h else a_run d ML_law 2507 L st h := w_icmp_eq dL_law_2504 rfl
theorem w_L_law_2507 (d : Nat) (L : a_L) (st : List Value) (h : a_H) : a_run d ML_law 2507 L st h = a_run d ML_law 2508 L (.int (nI 0) :: st) h := w_iconst dL_law_2507 rfl
theorem w_L_law_2508 (d : Nat) (L : a_L) (x : Int32) (h : a_H) (hx : x = 0 ∨ x = 1) : a_run d ML_law 2508 L [.int x] h = some (.inl (some (.int x)), h) := w_iret dL_law_2508 (w_retZ rfl hx)
theorem w_L_law_2509 (d : Nat) (a0 a2 a3 a4 a5 a6 a7 : Option Value) (x : Nat) (st : List Value) (h : a_H) : a_run d ML_law 2509 [a0, some (.ref x), a2, a3, a4, a5, a6, a7] st h = a_run d ML_law 2510 [a0, some (.ref x), a2, a3, a4, a5, a6, a7] (.ref x :: st) h := w_ldAn dL_law_2509 rfl
theorem w_L_law_2509N (d : Nat) (a0 a2 a3 a4 a5 a6 a7 : Option Value) (st : List Value) (h : a_H) : a_run d ML_law 2509 [a0, some .null, a2, a3, a4, a5, a6, a7] st h = a_run d ML_law 2510 [a0, some .null, a2, a3, a4, a5, a6, a7] (.null :: st) h := w_ldNn dL_law_2509 rfl
theorem w_L_law_2510 (d : Nat) (L : a_L) (i : Nat) (st : List Value) (h : a_H) (hk : a_kls h i = some 0) (hc : a_cat st ≤ 8) : a_run d ML_law 2510 L (.ref i :: st) h = a_cont d ML_law (a_bk ML_law 2510 L st (a_call d MX1_slant [.ref i] h)) := w_callV (as := [.ref i]) dL_law_2510 rfl rfl rfl hc (a_rcv_of hk rfl)
theorem w_L_law_2513 (d : Nat) (a0 a1 a3 a4 a5 a6 a7 : Option Value) (x : Nat) (st : List Value) (h : a_H) : a_run d ML_law 2513 [a0, a1, some (.ref x), a3, a4, a5, a6, a7] st h = a_run d ML_law 2514 [a0, a1, some (.ref x), a3, a4, a5, a6, a7] (.ref x :: st) h := w_ldAn dL_law_2513 rfl
theorem w_L_law_2513N (d : Nat) (a0 a1 a3 a4 a5 a6 a7 : Option Value) (st : List Value) (h : a_H) : a_run d ML_law 2513 [a0, a1, some .null, a3, a4, a5, a6, a7] st h = a_run d ML_law 2514 [a0, a1, some .null, a3, a4, a5, a6, a7] (.null :: st) h := w_ldNn dL_law_2513 rfl
theorem w_L_law_2514 (d : Nat) (L : a_L) (i : Nat) (st : List Value) (h : a_H) (hk : a_kls h i = some 2) (hc : a_cat st ≤ 8) : a_run d ML_law 2514 L (.ref i :: st) h = a_cont d ML_law (a_bk ML_law 2514 L st (a_call d MX3_slant [.ref i] h)) := w_callV (as := [.ref i]) dL_law_2514 rfl rfl rfl hc (a_rcv_of hk rfl)
theorem w_L_law_2517 (d : Nat) (L : a_L) (x y : Int32) (st : List Value) (h : a_H) : a_run d ML_law 2517 L (.int y :: .int x :: st) h = if x = y then a_run d ML_law 2985 L st h else a_run d ML_law 2520 L st h := w_icmp_eq dL_law_2517 rfl
theorem w_L_law_2520 (d : Nat) (L : a_L) (st : List Value) (h : a_H) : a_run d ML_law 2520 L st h = a_run d ML_law 2521 L (.int (nI 0) :: st) h := w_iconst dL_law_2520 rfl
theorem w_L_law_2521 (d : Nat) (L : a_L) (x : Int32) (h : a_H) (hx : x = 0 ∨ x = 1) : a_run d ML_law 2521 L [.int x] h = some (.inl (some (.int x)), h) := w_iret dL_law_2521 (w_retZ rfl hx)
theorem w_L_law_2522 (d : Nat) (a0 a2 a3 a4 a5 a6 a7 : Option Value) (x : Nat) (st : List Value) (h : a_H) : a_run d ML_law 2522 [a0, some (.ref x), a2, a3, a4, a5, a6, a7] st h = a_run d ML_law 2523 [a0, some (.ref x), a2, a3, a4, a5, a6, a7] (.ref x :: st) h := w_ldAn dL_law_2522 rfl
theorem w_L_law_2522N (d : Nat) (a0 a2 a3 a4 a5 a6 a7 : Option Value) (st : List Value) (h : a_H) : a_run d ML_law 2522 [a0, some .null, a2, a3, a4, a5, a6, a7] st h = a_run d ML_law 2523 [a0, some .null, a2, a3, a4, a5, a6, a7] (.null :: st) h := w_ldNn dL_law_2522 rfl
theorem w_L_law_2523 (d : Nat) (L : a_L) (i : Nat) (st : List Value) (h : a_H) (hk : a_kls h i = some 0) (hc : a_cat st ≤ 8) : a_run d ML_law 2523 L (.ref i :: st) h = a_cont d ML_law (a_bk ML_law 2523 L st (a_call d MX1_straightLines [.ref i] h)) := w_callV (as := [.ref i]) dL_law_2523 rfl rfl rfl hc (a_rcv_of hk rfl)
theorem w_L_law_2526 (d : Nat) (a0 a1 a3 a4 a5 a6 a7 : Option Value) (x : Nat) (st : List Value) (h : a_H) : a_run d ML_law 2526 [a0, a1, some (.ref x), a3, a4, a5, a6, a7] st h = a_run d ML_law 2527 [a0, a1, some (.ref x), a3, a4, a5, a6, a7] (.ref x :: st) h := w_ldAn dL_law_2526 rfl
theorem w_L_law_2526N (d : Nat) (a0 a1 a3 a4 a5 a6 a7 : Option Value) (st : List Value) (h : a_H) : a_run d ML_law 2526 [a0, a1, some .null, a3, a4, a5, a6, a7] st h = a_run d ML_law 2527 [a0, a1, some .null, a3, a4, a5, a6, a7] (.null :: st) h := w_ldNn dL_law_2526 rfl
theorem w_L_law_2527 (d : Nat) (L : a_L) (i : Nat) (st : List Value) (h : a_H) (hk : a_kls h i = some 2) (hc : a_cat st ≤ 8) : a_run d ML_law 2527 L (.ref i :: st) h = a_cont d ML_law (a_bk ML_law 2527 L st (a_call d MX3_straightLines [.ref i] h)) := w_callV (as := [.ref i]) dL_law_2527 rfl rfl rfl hc (a_rcv_of hk rfl)
theorem w_L_law_2530 (d : Nat) (L : a_L) (x y : Int32) (st : List Value) (h : a_H) : a_run d ML_law 2530 L (.int y :: .int x :: st) h = if x = y then a_run d ML_law 2985 L st h else a_run d ML_law 2533 L st h := w_icmp_eq dL_law_2530 rfl
theorem w_L_law_2533 (d : Nat) (L : a_L) (st : List Value) (h : a_H) : a_run d ML_law 2533 L st h = a_run d ML_law 2534 L (.int (nI 0) :: st) h := w_iconst dL_law_2533 rfl
theorem w_L_law_2534 (d : Nat) (L : a_L) (x : Int32) (h : a_H) (hx : x = 0 ∨ x = 1) : a_run d ML_law 2534 L [.int x] h = some (.inl (some (.int x)), h) := w_iret dL_law_2534 (w_retZ rfl hx)
theorem w_L_law_2535 (d : Nat) (a0 a2 a3 a4 a5 a6 a7 : Option Value) (x : Nat) (st : List Value) (h : a_H) : a_run d ML_law 2535 [a0, some (.ref x), a2, a3, a4, a5, a6, a7] st h = a_run d ML_law 2536 [a0, some (.ref x), a2, a3, a4, a5, a6, a7] (.ref x :: st) h := w_ldAn dL_law_2535 rfl
theorem w_L_law_2535N (d : Nat) (a0 a2 a3 a4 a5 a6 a7 : Option Value) (st : List Value) (h : a_H) : a_run d ML_law 2535 [a0, some .null, a2, a3, a4, a5, a6, a7] st h = a_run d ML_law 2536 [a0, some .null, a2, a3, a4, a5, a6, a7] (.null :: st) h := w_ldNn dL_law_2535 rfl
theorem w_L_law_2536 (d : Nat) (L : a_L) (i : Nat) (st : List Value) (h : a_H) (hk : a_kls h i = some 0) (hc : a_cat st ≤ 8) : a_run d ML_law 2536 L (.ref i :: st) h = a_cont d ML_law (a_bk ML_law 2536 L st (a_call d MX1_sweeps [.ref i] h)) := w_callV (as := [.ref i]) dL_law_2536 rfl rfl rfl hc (a_rcv_of hk rfl)
theorem w_L_law_2539 (d : Nat) (a0 a1 a3 a4 a5 a6 a7 : Option Value) (x : Nat) (st : List Value) (h : a_H) : a_run d ML_law 2539 [a0, a1, some (.ref x), a3, a4, a5, a6, a7] st h = a_run d ML_law 2540 [a0, a1, some (.ref x), a3, a4, a5, a6, a7] (.ref x :: st) h := w_ldAn dL_law_2539 rfl
theorem w_L_law_2539N (d : Nat) (a0 a1 a3 a4 a5 a6 a7 : Option Value) (st : List Value) (h : a_H) : a_run d ML_law 2539 [a0, a1, some .null, a3, a4, a5, a6, a7] st h = a_run d ML_law 2540 [a0, a1, some .null, a3, a4, a5, a6, a7] (.null :: st) h := w_ldNn dL_law_2539 rfl
theorem w_L_law_2540 (d : Nat) (L : a_L) (i : Nat) (st : List Value) (h : a_H) (hk : a_kls h i = some 2) (hc : a_cat st ≤ 8) : a_run d ML_law 2540 L (.ref i :: st) h = a_cont d ML_law (a_bk ML_law 2540 L st (a_call d MX3_sweeps [.ref i] h)) := w_callV (as := [.ref i]) dL_law_2540 rfl rfl rfl hc (a_rcv_of hk rfl)
theorem w_L_law_2543 (d : Nat) (L : a_L) (x y : Int32) (st : List Value) (h : a_H) : a_run d ML_law 2543 L (.int y :: .int x :: st) h = if x = y then a_run d ML_law 2985 L st h else a_run d ML_law 2546 L st h := w_icmp_eq dL_law_2543 rfl
theorem w_L_law_2546 (d : Nat) (L : a_L) (st : List Value) (h : a_H) : a_run d ML_law 2546 L st h = a_run d ML_law 2547 L (.int (nI 0) :: st) h := w_iconst dL_law_2546 rfl
theorem w_L_law_2547 (d : Nat) (L : a_L) (x : Int32) (h : a_H) (hx : x = 0 ∨ x = 1) : a_run d ML_law 2547 L [.int x] h = some (.inl (some (.int x)), h) := w_iret dL_law_2547 (w_retZ rfl hx)
theorem w_L_law_2548 (d : Nat) (a0 a2 a3 a4 a5 a6 a7 : Option Value) (x : Nat) (st : List Value) (h : a_H) : a_run d ML_law 2548 [a0, some (.ref x), a2, a3, a4, a5, a6, a7] st h = a_run d ML_law 2549 [a0, some (.ref x), a2, a3, a4, a5, a6, a7] (.ref x :: st) h := w_ldAn dL_law_2548 rfl
theorem w_L_law_2548N (d : Nat) (a0 a2 a3 a4 a5 a6 a7 : Option Value) (st : List Value) (h : a_H) : a_run d ML_law 2548 [a0, some .null, a2, a3, a4, a5, a6, a7] st h = a_run d ML_law 2549 [a0, some .null, a2, a3, a4, a5, a6, a7] (.null :: st) h := w_ldNn dL_law_2548 rfl
theorem w_L_law_2549 (d : Nat) (L : a_L) (i : Nat) (st : List Value) (h : a_H) (hk : a_kls h i = some 0) (hc : a_cat st ≤ 8) : a_run d ML_law 2549 L (.ref i :: st) h = a_cont d ML_law (a_bk ML_law 2549 L st (a_call d MX1_came [.ref i] h)) := w_callV (as := [.ref i]) dL_law_2549 rfl rfl rfl hc (a_rcv_of hk rfl)
theorem w_L_law_2552 (d : Nat) (a0 a1 a3 a4 a5 a6 a7 : Option Value) (x : Nat) (st : List Value) (h : a_H) : a_run d ML_law 2552 [a0, a1, some (.ref x), a3, a4, a5, a6, a7] st h = a_run d ML_law 2553 [a0, a1, some (.ref x), a3, a4, a5, a6, a7] (.ref x :: st) h := w_ldAn dL_law_2552 rfl
theorem w_L_law_2552N (d : Nat) (a0 a1 a3 a4 a5 a6 a7 : Option Value) (st : List Value) (h : a_H) : a_run d ML_law 2552 [a0, a1, some .null, a3, a4, a5, a6, a7] st h = a_run d ML_law 2553 [a0, a1, some .null, a3, a4, a5, a6, a7] (.null :: st) h := w_ldNn dL_law_2552 rfl
theorem w_L_law_2553 (d : Nat) (L : a_L) (i : Nat) (st : List Value) (h : a_H) (hk : a_kls h i = some 2) (hc : a_cat st ≤ 8) : a_run d ML_law 2553 L (.ref i :: st) h = a_cont d ML_law (a_bk ML_law 2553 L st (a_call d MX3_came [.ref i] h)) := w_callV (as := [.ref i]) dL_law_2553 rfl rfl rfl hc (a_rcv_of hk rfl)
theorem w_L_law_2556 (d : Nat) (L : a_L) (x y : Int32) (st : List Value) (h : a_H) : a_run d ML_law 2556 L (.int y :: .int x :: st) h = if x = y then a_run d ML_law 2985 L st h else a_run d ML_law 2559 L st h := w_icmp_eq dL_law_2556 rfl
theorem w_L_law_2559 (d : Nat) (L : a_L) (st : List Value) (h : a_H) : a_run d ML_law 2559 L st h = a_run d ML_law 2560 L (.int (nI 0) :: st) h := w_iconst dL_law_2559 rfl
theorem w_L_law_2560 (d : Nat) (L : a_L) (x : Int32) (h : a_H) (hx : x = 0 ∨ x = 1) : a_run d ML_law 2560 L [.int x] h = some (.inl (some (.int x)), h) := w_iret dL_law_2560 (w_retZ rfl hx)
theorem w_L_law_2561 (d : Nat) (a0 a2 a3 a4 a5 a6 a7 : Option Value) (x : Nat) (st : List Value) (h : a_H) : a_run d ML_law 2561 [a0, some (.ref x), a2, a3, a4, a5, a6, a7] st h = a_run d ML_law 2562 [a0, some (.ref x), a2, a3, a4, a5, a6, a7] (.ref x :: st) h := w_ldAn dL_law_2561 rfl
theorem w_L_law_2561N (d : Nat) (a0 a2 a3 a4 a5 a6 a7 : Option Value) (st : List Value) (h : a_H) : a_run d ML_law 2561 [a0, some .null, a2, a3, a4, a5, a6, a7] st h = a_run d ML_law 2562 [a0, some .null, a2, a3, a4, a5, a6, a7] (.null :: st) h := w_ldNn dL_law_2561 rfl
theorem w_L_law_2562 (d : Nat) (a0 a1 a2 a3 a5 a6 a7 : Option Value) (x : Nat) (st : List Value) (h : a_H) : a_run d ML_law 2562 [a0, a1, a2, a3, some (.ref x), a5, a6, a7] st h = a_run d ML_law 2564 [a0, a1, a2, a3, some (.ref x), a5, a6, a7] (.ref x :: st) h := w_ldA dL_law_2562 rfl
theorem w_L_law_2562N (d : Nat) (a0 a1 a2 a3 a5 a6 a7 : Option Value) (st : List Value) (h : a_H) : a_run d ML_law 2562 [a0, a1, a2, a3, some .null, a5, a6, a7] st h = a_run d ML_law 2564 [a0, a1, a2, a3, some .null, a5, a6, a7] (.null :: st) h := w_ldN dL_law_2562 rfl
theorem w_L_law_2564 (d : Nat) (L : a_L) (v0 v1 : Value) (st : List Value) (h : a_H) (hc : a_cat st ≤ 8) : a_run d ML_law 2564 L (v1 :: v0 :: st) h = a_cont d ML_law (a_bk ML_law 2564 L st (a_call d MX0_meanPoints [v0, v1] h)) := w_callS (as := [v0, v1]) dL_law_2564 rfl rfl rfl hc
theorem w_L_law_2567 (d : Nat) (a0 a1 a2 a3 a4 a5 a6 a7 : Option Value) (x : Int32) (st : List Value) (h : a_H) : a_run d ML_law 2567 [a0, a1, a2, a3, a4, a5, a6, a7] (.int x :: st) h = a_run d ML_law 2569 [a0, a1, a2, a3, a4, a5, some (.int x), a7] st h := w_stI dL_law_2567 (Nat.le_of_ble_eq_true rfl) rfl
theorem w_L_law_2569 (d : Nat) (a0 a1 a3 a4 a5 a6 a7 : Option Value) (x : Nat) (st : List Value) (h : a_H) : a_run d ML_law 2569 [a0, a1, some (.ref x), a3, a4, a5, a6, a7] st h = a_run d ML_law 2570 [a0, a1, some (.ref x), a3, a4, a5, a6, a7] (.ref x :: st) h := w_ldAn dL_law_2569 rfl
theorem w_L_law_2569N (d : Nat) (a0 a1 a3 a4 a5 a6 a7 : Option Value) (st : List Value) (h : a_H) : a_run d ML_law 2569 [a0, a1, some .null, a3, a4, a5, a6, a7] st h = a_run d ML_law 2570 [a0, a1, some .null, a3, a4, a5, a6, a7] (.null :: st) h := w_ldNn dL_law_2569 rfl
theorem w_L_law_2570 (d : Nat) (L : a_L) (i : Nat) (st : List Value) (h : a_H) (hk : a_kls h i = some 2) (hc : a_cat st ≤ 8) : a_run d ML_law 2570 L (.ref i :: st) h = a_cont d ML_law (a_bk ML_law 2570 L st (a_call d MX3_meanPoints [.ref i] h)) := w_callV (as := [.ref i]) dL_law_2570 rfl rfl rfl hc (a_rcv_of hk rfl)
theorem w_L_law_2573 (d : Nat) (a0 a1 a2 a3 a4 a5 a6 a7 : Option Value) (x : UInt32) (st : List Value) (h : a_H) : a_run d ML_law 2573 [a0, a1, a2, a3, a4, a5, a6, a7] (.float x :: st) h = a_run d ML_law 2575 [a0, a1, a2, a3, a4, a5, a6, some (.float x)] st h := w_stF dL_law_2573 (Nat.le_of_ble_eq_true rfl) rfl
theorem w_L_law_2575 (d : Nat) (a0 a1 a3 a4 a5 a6 a7 : Option Value) (x : Nat) (st : List Value) (h : a_H) : a_run d ML_law 2575 [a0, a1, some (.ref x), a3, a4, a5, a6, a7] st h = a_run d ML_law 2576 [a0, a1, some (.ref x), a3, a4, a5, a6, a7] (.ref x :: st) h := w_ldAn dL_law_2575 rfl
theorem w_L_law_2575N (d : Nat) (a0 a1 a3 a4 a5 a6 a7 : Option Value) (st : List Value) (h : a_H) : a_run d ML_law 2575 [a0, a1, some .null, a3, a4, a5, a6, a7] st h = a_run d ML_law 2576 [a0, a1, some .null, a3, a4, a5, a6, a7] (.null :: st) h := w_ldNn dL_law_2575 rfl
theorem w_L_law_2576 (d : Nat) (L : a_L) (i : Nat) (st : List Value) (h : a_H) (hk : a_kls h i = some 2) (hc : a_cat st ≤ 8) : a_run d ML_law 2576 L (.ref i :: st) h = a_cont d ML_law (a_bk ML_law 2576 L st (a_call d MX3_thrown [.ref i] h)) := w_callV (as := [.ref i]) dL_law_2576 rfl rfl rfl hc (a_rcv_of hk rfl)
theorem w_L_law_2579 (d : Nat) (a0 a1 a2 a3 a4 a5 a7 : Option Value) (x : Int32) (st : List Value) (h : a_H) : a_run d ML_law 2579 [a0, a1, a2, a3, a4, a5, some (.int x), a7] st h = a_run d ML_law 2581 [a0, a1, a2, a3, a4, a5, some (.int x), a7] (.int x :: st) h := w_ldI dL_law_2579 rfl
theorem w_L_law_2581 (d : Nat) (L : a_L) (x y : Int32) (st : List Value) (h : a_H) : a_run d ML_law 2581 L (.int y :: .int x :: st) h = if x = y then a_run d ML_law 2586 L st h else a_run d ML_law 2584 L st h := w_icmp_eq dL_law_2581 rfl
theorem w_L_law_2584 (d : Nat) (L : a_L) (st : List Value) (h : a_H) : a_run d ML_law 2584 L st h = a_run d ML_law 2585 L (.int (nI 0) :: st) h := w_iconst dL_law_2584 rfl
theorem w_L_law_2585 (d : Nat) (L : a_L) (x : Int32) (h : a_H) (hx : x = 0 ∨ x = 1) : a_run d ML_law 2585 L [.int x] h = some (.inl (some (.int x)), h) := w_iret dL_law_2585 (w_retZ rfl hx)
theorem w_L_law_2586 (d : Nat) (a0 a1 a2 a3 a4 a5 a7 : Option Value) (x : Int32) (st : List Value) (h : a_H) : a_run d ML_law 2586 [a0, a1, a2, a3, a4, a5, some (.int x), a7] st h = a_run d ML_law 2588 [a0, a1, a2, a3, a4, a5, some (.int x), a7] (.int x :: st) h := w_ldI dL_law_2586 rfl
theorem w_L_law_2588 (d : Nat) (L : a_L) (x : Int32) (st : List Value) (h : a_H) : a_run d ML_law 2588 L (.int x :: st) h = if x = 0 then a_run d ML_law 2591 L st h else a_run d ML_law 2623 L st h := w_if_ne dL_law_2588 rfl
theorem w_L_law_2591 (d : Nat) (a0 a1 a2 a3 a5 a6 a7 : Option Value) (x : Nat) (st : List Value) (h : a_H) : a_run d ML_law 2591 [a0, a1, a2, a3, some (.ref x), a5, a6, a7] st h = a_run d ML_law 2593 [a0, a1, a2, a3, some (.ref x), a5, a6, a7] (.ref x :: st) h := w_ldA dL_law_2591 rfl
theorem w_L_law_2591N (d : Nat) (a0 a1 a2 a3 a5 a6 a7 : Option Value) (st : List Value) (h : a_H) : a_run d ML_law 2591 [a0, a1, a2, a3, some .null, a5, a6, a7] st h = a_run d ML_law 2593 [a0, a1, a2, a3, some .null, a5, a6, a7] (.null :: st) h := w_ldN dL_law_2591 rfl
theorem w_L_law_2593 (d : Nat) (L : a_L) (st : List Value) (h : a_H) : a_run d ML_law 2593 L st h = a_run d ML_law 2594 L (.int (nI 0) :: st) h := w_iconst dL_law_2593 rfl
theorem w_L_law_2594 (d : Nat) (L : a_L) (x : Int32) (i : Nat) (st : List Value) (h : a_H) : a_run d ML_law 2594 L (.int x :: .ref i :: st) h = (a_rdf h i x).bind fun v => a_run d ML_law 2595 L (v :: st) h := w_fald dL_law_2594
theorem w_L_law_2595 (d : Nat) (a0 a1 a2 a3 a4 a5 a6 : Option Value) (x : UInt32) (st : List Value) (h : a_H) : a_run d ML_law 2595 [a0, a1, a2, a3, a4, a5, a6, some (.float x)] st h = a_run d ML_law 2597 [a0, a1, a2, a3, a4, a5, a6, some (.float x)] (.float x :: st) h := w_ldF dL_law_2595 rfl
theorem w_L_law_2597 (d : Nat) (L : a_L) (x y : UInt32) (st : List Value) (h : a_H) : a_run d ML_law 2597 L (.float y :: .float x :: st) h = a_run d ML_law 2598 L (.int (Op.cmpValue (FP.fcmp x y) .l) :: st) h := w_fcmp dL_law_2597
theorem w_L_law_2598 (d : Nat) (L : a_L) (x : Int32) (st : List Value) (h : a_H) : a_run d ML_law 2598 L (.int x :: st) h = if x = 0 then a_run d ML_law 2623 L st h else a_run d ML_law 2601 L st h := w_if_eq dL_law_2598 rfl
theorem w_L_law_2601 (d : Nat) (a0 a1 a2 a3 a5 a6 a7 : Option Value) (x : Nat) (st : List Value) (h : a_H) : a_run d ML_law 2601 [a0, a1, a2, a3, some (.ref x), a5, a6, a7] st h = a_run d ML_law 2603 [a0, a1, a2, a3, some (.ref x), a5, a6, a7] (.ref x :: st) h := w_ldA dL_law_2601 rfl
theorem w_L_law_2601N (d : Nat) (a0 a1 a2 a3 a5 a6 a7 : Option Value) (st : List Value) (h : a_H) : a_run d ML_law 2601 [a0, a1, a2, a3, some .null, a5, a6, a7] st h = a_run d ML_law 2603 [a0, a1, a2, a3, some .null, a5, a6, a7] (.null :: st) h := w_ldN dL_law_2601 rfl
theorem w_L_law_2603 (d : Nat) (L : a_L) (st : List Value) (h : a_H) : a_run d ML_law 2603 L st h = a_run d ML_law 2604 L (.int (nI 0) :: st) h := w_iconst dL_law_2603 rfl
theorem w_L_law_2604 (d : Nat) (L : a_L) (x : Int32) (i : Nat) (st : List Value) (h : a_H) : a_run d ML_law 2604 L (.int x :: .ref i :: st) h = (a_rdf h i x).bind fun v => a_run d ML_law 2605 L (v :: st) h := w_fald dL_law_2604
theorem w_L_law_2605 (d : Nat) (a0 a1 a2 a3 a5 a6 a7 : Option Value) (x : Nat) (st : List Value) (h : a_H) : a_run d ML_law 2605 [a0, a1, a2, a3, some (.ref x), a5, a6, a7] st h = a_run d ML_law 2607 [a0, a1, a2, a3, some (.ref x), a5, a6, a7] (.ref x :: st) h := w_ldA dL_law_2605 rfl
theorem w_L_law_2605N (d : Nat) (a0 a1 a2 a3 a5 a6 a7 : Option Value) (st : List Value) (h : a_H) : a_run d ML_law 2605 [a0, a1, a2, a3, some .null, a5, a6, a7] st h = a_run d ML_law 2607 [a0, a1, a2, a3, some .null, a5, a6, a7] (.null :: st) h := w_ldN dL_law_2605 rfl
theorem w_L_law_2607 (d : Nat) (L : a_L) (st : List Value) (h : a_H) : a_run d ML_law 2607 L st h = a_run d ML_law 2608 L (.int (nI 0) :: st) h := w_iconst dL_law_2607 rfl
theorem w_L_law_2608 (d : Nat) (L : a_L) (x : Int32) (i : Nat) (st : List Value) (h : a_H) : a_run d ML_law 2608 L (.int x :: .ref i :: st) h = (a_rdf h i x).bind fun v => a_run d ML_law 2609 L (v :: st) h := w_fald dL_law_2608
theorem w_L_law_2609 (d : Nat) (L : a_L) (x y : UInt32) (st : List Value) (h : a_H) : a_run d ML_law 2609 L (.float y :: .float x :: st) h = a_run d ML_law 2610 L (.int (Op.cmpValue (FP.fcmp x y) .l) :: st) h := w_fcmp dL_law_2609
theorem w_L_law_2610 (d : Nat) (L : a_L) (x : Int32) (st : List Value) (h : a_H) : a_run d ML_law 2610 L (.int x :: st) h = if x = 0 then a_run d ML_law 2621 L st h else a_run d ML_law 2613 L st h := w_if_eq dL_law_2610 rfl
theorem w_L_law_2613 (d : Nat) (a0 a1 a2 a3 a4 a5 a6 : Option Value) (x : UInt32) (st : List Value) (h : a_H) : a_run d ML_law 2613 [a0, a1, a2, a3, a4, a5, a6, some (.float x)] st h = a_run d ML_law 2615 [a0, a1, a2, a3, a4, a5, a6, some (.float x)] (.float x :: st) h := w_ldF dL_law_2613 rfl
theorem w_L_law_2615 (d : Nat) (a0 a1 a2 a3 a4 a5 a6 : Option Value) (x : UInt32) (st : List Value) (h : a_H) : a_run d ML_law 2615 [a0, a1, a2, a3, a4, a5, a6, some (.float x)] st h = a_run d ML_law 2617 [a0, a1, a2, a3, a4, a5, a6, some (.float x)] (.float x :: st) h := w_ldF dL_law_2615 rfl
theorem w_L_law_2617 (d : Nat) (L : a_L) (x y : UInt32) (st : List Value) (h : a_H) : a_run d ML_law 2617 L (.float y :: .float x :: st) h = a_run d ML_law 2618 L (.int (Op.cmpValue (FP.fcmp x y) .l) :: st) h := w_fcmp dL_law_2617
theorem w_L_law_2618 (d : Nat) (L : a_L) (x : Int32) (st : List Value) (h : a_H) : a_run d ML_law 2618 L (.int x :: st) h = if x = 0 then a_run d ML_law 2621 L st h else a_run d ML_law 2623 L st h := w_if_ne dL_law_2618 rfl
theorem w_L_law_2621 (d : Nat) (L : a_L) (st : List Value) (h : a_H) : a_run d ML_law 2621 L st h = a_run d ML_law 2622 L (.int (nI 0) :: st) h := w_iconst dL_law_2621 rfl
theorem w_L_law_2622 (d : Nat) (L : a_L) (x : Int32) (h : a_H) (hx : x = 0 ∨ x = 1) : a_run d ML_law 2622 L [.int x] h = some (.inl (some (.int x)), h) := w_iret dL_law_2622 (w_retZ rfl hx)
theorem w_L_law_2623 (d : Nat) (L : a_L) (st : List Value) (h : a_H) : a_run d ML_law 2623 L st h = a_run d ML_law 2985 L st h := w_goto dL_law_2623 rfl
theorem w_L_law_2626 (d : Nat) (a0 a2 a3 a4 a5 a6 a7 : Option Value) (x : Nat) (st : List Value) (h : a_H) : a_run d ML_law 2626 [a0, some (.ref x), a2, a3, a4, a5, a6, a7] st h = a_run d ML_law 2627 [a0, some (.ref x), a2, a3, a4, a5, a6, a7] (.ref x :: st) h := w_ldAn dL_law_2626 rfl
theorem w_L_law_2626N (d : Nat) (a0 a2 a3 a4 a5 a6 a7 : Option Value) (st : List Value) (h : a_H) : a_run d ML_law 2626 [a0, some .null, a2, a3, a4, a5, a6, a7] st h = a_run d ML_law 2627 [a0, some .null, a2, a3, a4, a5, a6, a7] (.null :: st) h := w_ldNn dL_law_2626 rfl
theorem w_L_law_2627 (d : Nat) (L : a_L) (i : Nat) (st : List Value) (h : a_H) (hk : a_kls h i = some 0) (hc : a_cat st ≤ 8) : a_run d ML_law 2627 L (.ref i :: st) h = a_cont d ML_law (a_bk ML_law 2627 L st (a_call d MX1_keep [.ref i] h)) := w_callV (as := [.ref i]) dL_law_2627 rfl rfl rfl hc (a_rcv_of hk rfl)
theorem w_L_law_2630 (d : Nat) (a0 a1 a3 a4 a5 a6 a7 : Option Value) (x : Nat) (st : List Value) (h : a_H) : a_run d ML_law 2630 [a0, a1, some (.ref x), a3, a4, a5, a6, a7] st h = a_run d ML_law 2631 [a0, a1, some (.ref x), a3, a4, a5, a6, a7] (.ref x :: st) h := w_ldAn dL_law_2630 rfl
theorem w_L_law_2630N (d : Nat) (a0 a1 a3 a4 a5 a6 a7 : Option Value) (st : List Value) (h : a_H) : a_run d ML_law 2630 [a0, a1, some .null, a3, a4, a5, a6, a7] st h = a_run d ML_law 2631 [a0, a1, some .null, a3, a4, a5, a6, a7] (.null :: st) h := w_ldNn dL_law_2630 rfl
theorem w_L_law_2631 (d : Nat) (L : a_L) (i : Nat) (st : List Value) (h : a_H) (hk : a_kls h i = some 2) (hc : a_cat st ≤ 8) : a_run d ML_law 2631 L (.ref i :: st) h = a_cont d ML_law (a_bk ML_law 2631 L st (a_call d MX3_keep [.ref i] h)) := w_callV (as := [.ref i]) dL_law_2631 rfl rfl rfl hc (a_rcv_of hk rfl)
theorem w_L_law_2634 (d : Nat) (L : a_L) (x y : Int32) (st : List Value) (h : a_H) : a_run d ML_law 2634 L (.int y :: .int x :: st) h = if x = y then a_run d ML_law 2985 L st h else a_run d ML_law 2637 L st h := w_icmp_eq dL_law_2634 rfl
theorem w_L_law_2637 (d : Nat) (L : a_L) (st : List Value) (h : a_H) : a_run d ML_law 2637 L st h = a_run d ML_law 2638 L (.int (nI 0) :: st) h := w_iconst dL_law_2637 rfl
theorem w_L_law_2638 (d : Nat) (L : a_L) (x : Int32) (h : a_H) (hx : x = 0 ∨ x = 1) : a_run d ML_law 2638 L [.int x] h = some (.inl (some (.int x)), h) := w_iret dL_law_2638 (w_retZ rfl hx)
theorem w_L_law_2639 (d : Nat) (a0 a2 a3 a4 a5 a6 a7 : Option Value) (x : Nat) (st : List Value) (h : a_H) : a_run d ML_law 2639 [a0, some (.ref x), a2, a3, a4, a5, a6, a7] st h = a_run d ML_law 2640 [a0, some (.ref x), a2, a3, a4, a5, a6, a7] (.ref x :: st) h := w_ldAn dL_law_2639 rfl
theorem w_L_law_2639N (d : Nat) (a0 a2 a3 a4 a5 a6 a7 : Option Value) (st : List Value) (h : a_H) : a_run d ML_law 2639 [a0, some .null, a2, a3, a4, a5, a6, a7] st h = a_run d ML_law 2640 [a0, some .null, a2, a3, a4, a5, a6, a7] (.null :: st) h := w_ldNn dL_law_2639 rfl
theorem w_L_law_2640 (d : Nat) (a0 a1 a2 a4 a5 a6 a7 : Option Value) (x : Nat) (st : List Value) (h : a_H) : a_run d ML_law 2640 [a0, a1, a2, some (.ref x), a4, a5, a6, a7] st h = a_run d ML_law 2641 [a0, a1, a2, some (.ref x), a4, a5, a6, a7] (.ref x :: st) h := w_ldAn dL_law_2640 rfl
theorem w_L_law_2640N (d : Nat) (a0 a1 a2 a4 a5 a6 a7 : Option Value) (st : List Value) (h : a_H) : a_run d ML_law 2640 [a0, a1, a2, some .null, a4, a5, a6, a7] st h = a_run d ML_law 2641 [a0, a1, a2, some .null, a4, a5, a6, a7] (.null :: st) h := w_ldNn dL_law_2640 rfl
theorem w_L_law_2641 (d : Nat) (L : a_L) (v0 v1 : Value) (st : List Value) (h : a_H) (hc : a_cat st ≤ 8) : a_run d ML_law 2641 L (v1 :: v0 :: st) h = a_cont d ML_law (a_bk ML_law 2641 L st (a_call d MX0_goBack [v0, v1] h)) := w_callS (as := [v0, v1]) dL_law_2641 rfl rfl rfl hc
theorem w_L_law_2644 (d : Nat) (a0 a1 a2 a3 a4 a5 a6 a7 : Option Value) (x : Int32) (st : List Value) (h : a_H) : a_run d ML_law 2644 [a0, a1, a2, a3, a4, a5, a6, a7] (.int x :: st) h = a_run d ML_law 2646 [a0, a1, a2, a3, a4, a5, some (.int x), a7] st h := w_stI dL_law_2644 (Nat.le_of_ble_eq_true rfl) rfl
theorem w_L_law_2646 (d : Nat) (a0 a1 a3 a4 a5 a6 a7 : Option Value) (x : Nat) (st : List Value) (h : a_H) : a_run d ML_law 2646 [a0, a1, some (.ref x), a3, a4, a5, a6, a7] st h = a_run d ML_law 2647 [a0, a1, some (.ref x), a3, a4, a5, a6, a7] (.ref x :: st) h := w_ldAn dL_law_2646 rfl
theorem w_L_law_2646N (d : Nat) (a0 a1 a3 a4 a5 a6 a7 : Option Value) (st : List Value) (h : a_H) : a_run d ML_law 2646 [a0, a1, some .null, a3, a4, a5, a6, a7] st h = a_run d ML_law 2647 [a0, a1, some .null, a3, a4, a5, a6, a7] (.null :: st) h := w_ldNn dL_law_2646 rfl
theorem w_L_law_2647 (d : Nat) (L : a_L) (i : Nat) (st : List Value) (h : a_H) (hk : a_kls h i = some 2) (hc : a_cat st ≤ 8) : a_run d ML_law 2647 L (.ref i :: st) h = a_cont d ML_law (a_bk ML_law 2647 L st (a_call d MX3_goBack [.ref i] h)) := w_callV (as := [.ref i]) dL_law_2647 rfl rfl rfl hc (a_rcv_of hk rfl)
theorem w_L_law_2650 (d : Nat) (a0 a1 a2 a3 a4 a5 a6 a7 : Option Value) (x : Int32) (st : List Value) (h : a_H) : a_run d ML_law 2650 [a0, a1, a2, a3, a4, a5, a6, a7] (.int x :: st) h = a_run d ML_law 2652 [a0, a1, a2, a3, a4, a5, a6, some (.int x)] st h := w_stI dL_law_2650 (Nat.le_of_ble_eq_true rfl) rfl
theorem w_L_law_2652 (d : Nat) (a0 a1 a3 a4 a5 a6 a7 : Option Value) (x : Nat) (st : List Value) (h : a_H) : a_run d ML_law 2652 [a0, a1, some (.ref x), a3, a4, a5, a6, a7] st h = a_run d ML_law 2653 [a0, a1, some (.ref x), a3, a4, a5, a6, a7] (.ref x :: st) h := w_ldAn dL_law_2652 rfl
theorem w_L_law_2652N (d : Nat) (a0 a1 a3 a4 a5 a6 a7 : Option Value) (st : List Value) (h : a_H) : a_run d ML_law 2652 [a0, a1, some .null, a3, a4, a5, a6, a7] st h = a_run d ML_law 2653 [a0, a1, some .null, a3, a4, a5, a6, a7] (.null :: st) h := w_ldNn dL_law_2652 rfl
theorem w_L_law_2653 (d : Nat) (L : a_L) (i : Nat) (st : List Value) (h : a_H) (hk : a_kls h i = some 2) (hc : a_cat st ≤ 8) : a_run d ML_law 2653 L (.ref i :: st) h = a_cont d ML_law (a_bk ML_law 2653 L st (a_call d MX3_thrown [.ref i] h)) := w_callV (as := [.ref i]) dL_law_2653 rfl rfl rfl hc (a_rcv_of hk rfl)
theorem w_L_law_2656 (d : Nat) (a0 a1 a2 a3 a4 a5 a7 : Option Value) (x : Int32) (st : List Value) (h : a_H) : a_run d ML_law 2656 [a0, a1, a2, a3, a4, a5, some (.int x), a7] st h = a_run d ML_law 2658 [a0, a1, a2, a3, a4, a5, some (.int x), a7] (.int x :: st) h := w_ldI dL_law_2656 rfl
theorem w_L_law_2658 (d : Nat) (L : a_L) (x y : Int32) (st : List Value) (h : a_H) : a_run d ML_law 2658 L (.int y :: .int x :: st) h = if x = y then a_run d ML_law 2663 L st h else a_run d ML_law 2661 L st h := w_icmp_eq dL_law_2658 rfl
theorem w_L_law_2661 (d : Nat) (L : a_L) (st : List Value) (h : a_H) : a_run d ML_law 2661 L st h = a_run d ML_law 2662 L (.int (nI 0) :: st) h := w_iconst dL_law_2661 rfl
theorem w_L_law_2662 (d : Nat) (L : a_L) (x : Int32) (h : a_H) (hx : x = 0 ∨ x = 1) : a_run d ML_law 2662 L [.int x] h = some (.inl (some (.int x)), h) := w_iret dL_law_2662 (w_retZ rfl hx)
theorem w_L_law_2663 (d : Nat) (a0 a1 a2 a3 a4 a5 a7 : Option Value) (x : Int32) (st : List Value) (h : a_H) : a_run d ML_law 2663 [a0, a1, a2, a3, a4, a5, some (.int x), a7] st h = a_run d ML_law 2665 [a0, a1, a2, a3, a4, a5, some (.int x), a7] (.int x :: st) h := w_ldI dL_law_2663 rfl
theorem w_L_law_2665 (d : Nat) (L : a_L) (x : Int32) (st : List Value) (h : a_H) : a_run d ML_law 2665 L (.int x :: st) h = if x = 0 then a_run d ML_law 2668 L st h else a_run d ML_law 2680 L st h := w_if_ne dL_law_2665 rfl
theorem w_L_law_2668 (d : Nat) (a0 a1 a2 a4 a5 a6 a7 : Option Value) (x : Nat) (st : List Value) (h : a_H) : a_run d ML_law 2668 [a0, a1, a2, some (.ref x), a4, a5, a6, a7] st h = a_run d ML_law 2669 [a0, a1, a2, some (.ref x), a4, a5, a6, a7] (.ref x :: st) h := w_ldAn dL_law_2668 rfl
theorem w_L_law_2668N (d : Nat) (a0 a1 a2 a4 a5 a6 a7 : Option Value) (st : List Value) (h : a_H) : a_run d ML_law 2668 [a0, a1, a2, some .null, a4, a5, a6, a7] st h = a_run d ML_law 2669 [a0, a1, a2, some .null, a4, a5, a6, a7] (.null :: st) h := w_ldNn dL_law_2668 rfl
theorem w_L_law_2669 (d : Nat) (L : a_L) (st : List Value) (h : a_H) : a_run d ML_law 2669 L st h = a_run d ML_law 2670 L (.int (nI 0) :: st) h := w_iconst dL_law_2669 rfl
theorem w_L_law_2670 (d : Nat) (L : a_L) (x : Int32) (i : Nat) (st : List Value) (h : a_H) : a_run d ML_law 2670 L (.int x :: .ref i :: st) h = (a_rdl h i x).bind fun v => a_run d ML_law 2671 L (v :: st) h := w_lald dL_law_2670
theorem w_L_law_2671 (d : Nat) (a0 a1 a2 a3 a4 a5 a6 : Option Value) (x : Int32) (st : List Value) (h : a_H) : a_run d ML_law 2671 [a0, a1, a2, a3, a4, a5, a6, some (.int x)] st h = a_run d ML_law 2673 [a0, a1, a2, a3, a4, a5, a6, some (.int x)] (.int x :: st) h := w_ldI dL_law_2671 rfl
theorem w_L_law_2673 (d : Nat) (L : a_L) (x : Int32) (st : List Value) (h : a_H) : a_run d ML_law 2673 L (.int x :: st) h = a_run d ML_law 2674 L (.long x.toInt64 :: st) h := w_i2l dL_law_2673
theorem w_L_law_2674 (d : Nat) (L : a_L) (x y : Int64) (st : List Value) (h : a_H) : a_run d ML_law 2674 L (.long y :: .long x :: st) h = a_run d ML_law 2675 L (.int (lg_cmp x y) :: st) h := w_lcmp dL_law_2674
theorem w_L_law_2675 (d : Nat) (L : a_L) (x : Int32) (st : List Value) (h : a_H) : a_run d ML_law 2675 L (.int x :: st) h = if x = 0 then a_run d ML_law 2680 L st h else a_run d ML_law 2678 L st h := w_if_eq dL_law_2675 rfl
theorem w_L_law_2678 (d : Nat) (L : a_L) (st : List Value) (h : a_H) : a_run d ML_law 2678 L st h = a_run d ML_law 2679 L (.int (nI 0) :: st) h := w_iconst dL_law_2678 rfl
theorem w_L_law_2679 (d : Nat) (L : a_L) (x : Int32) (h : a_H) (hx : x = 0 ∨ x = 1) : a_run d ML_law 2679 L [.int x] h = some (.inl (some (.int x)), h) := w_iret dL_law_2679 (w_retZ rfl hx)
theorem w_L_law_2680 (d : Nat) (L : a_L) (st : List Value) (h : a_H) : a_run d ML_law 2680 L st h = a_run d ML_law 2985 L st h := w_goto dL_law_2680 rfl
theorem w_L_law_2683 (d : Nat) (a0 a2 a3 a4 a5 a6 a7 : Option Value) (x : Nat) (st : List Value) (h : a_H) : a_run d ML_law 2683 [a0, some (.ref x), a2, a3, a4, a5, a6, a7] st h = a_run d ML_law 2684 [a0, some (.ref x), a2, a3, a4, a5, a6, a7] (.ref x :: st) h := w_ldAn dL_law_2683 rfl
theorem w_L_law_2683N (d : Nat) (a0 a2 a3 a4 a5 a6 a7 : Option Value) (st : List Value) (h : a_H) : a_run d ML_law 2683 [a0, some .null, a2, a3, a4, a5, a6, a7] st h = a_run d ML_law 2684 [a0, some .null, a2, a3, a4, a5, a6, a7] (.null :: st) h := w_ldNn dL_law_2683 rfl
theorem w_L_law_2684 (d : Nat) (L : a_L) (i : Nat) (st : List Value) (h : a_H) (hk : a_kls h i = some 0) (hc : a_cat st ≤ 8) : a_run d ML_law 2684 L (.ref i :: st) h = a_cont d ML_law (a_bk ML_law 2684 L st (a_call d MX1_states [.ref i] h)) := w_callV (as := [.ref i]) dL_law_2684 rfl rfl rfl hc (a_rcv_of hk rfl)
theorem w_L_law_2687 (d : Nat) (a0 a1 a3 a4 a5 a6 a7 : Option Value) (x : Nat) (st : List Value) (h : a_H) : a_run d ML_law 2687 [a0, a1, some (.ref x), a3, a4, a5, a6, a7] st h = a_run d ML_law 2688 [a0, a1, some (.ref x), a3, a4, a5, a6, a7] (.ref x :: st) h := w_ldAn dL_law_2687 rfl
theorem w_L_law_2687N (d : Nat) (a0 a1 a3 a4 a5 a6 a7 : Option Value) (st : List Value) (h : a_H) : a_run d ML_law 2687 [a0, a1, some .null, a3, a4, a5, a6, a7] st h = a_run d ML_law 2688 [a0, a1, some .null, a3, a4, a5, a6, a7] (.null :: st) h := w_ldNn dL_law_2687 rfl
theorem w_L_law_2688 (d : Nat) (L : a_L) (i : Nat) (st : List Value) (h : a_H) (hk : a_kls h i = some 2) (hc : a_cat st ≤ 8) : a_run d ML_law 2688 L (.ref i :: st) h = a_cont d ML_law (a_bk ML_law 2688 L st (a_call d MX3_states [.ref i] h)) := w_callV (as := [.ref i]) dL_law_2688 rfl rfl rfl hc (a_rcv_of hk rfl)
theorem w_L_law_2691 (d : Nat) (L : a_L) (x y : Int32) (st : List Value) (h : a_H) : a_run d ML_law 2691 L (.int y :: .int x :: st) h = if x = y then a_run d ML_law 2985 L st h else a_run d ML_law 2694 L st h := w_icmp_eq dL_law_2691 rfl
theorem w_L_law_2694 (d : Nat) (L : a_L) (st : List Value) (h : a_H) : a_run d ML_law 2694 L st h = a_run d ML_law 2695 L (.int (nI 0) :: st) h := w_iconst dL_law_2694 rfl
theorem w_L_law_2695 (d : Nat) (L : a_L) (x : Int32) (h : a_H) (hx : x = 0 ∨ x = 1) : a_run d ML_law 2695 L [.int x] h = some (.inl (some (.int x)), h) := w_iret dL_law_2695 (w_retZ rfl hx)
theorem w_L_law_2696 (d : Nat) (a0 a2 a3 a4 a5 a6 a7 : Option Value) (x : Nat) (st : List Value) (h : a_H) : a_run d ML_law 2696 [a0, some (.ref x), a2, a3, a4, a5, a6, a7] st h = a_run d ML_law 2697 [a0, some (.ref x), a2, a3, a4, a5, a6, a7] (.ref x :: st) h := w_ldAn dL_law_2696 rfl
theorem w_L_law_2696N (d : Nat) (a0 a2 a3 a4 a5 a6 a7 : Option Value) (st : List Value) (h : a_H) : a_run d ML_law 2696 [a0, some .null, a2, a3, a4, a5, a6, a7] st h = a_run d ML_law 2697 [a0, some .null, a2, a3, a4, a5, a6, a7] (.null :: st) h := w_ldNn dL_law_2696 rfl
theorem w_L_law_2697 (d : Nat) (a0 a1 a2 a4 a5 a6 a7 : Option Value) (x : Nat) (st : List Value) (h : a_H) : a_run d ML_law 2697 [a0, a1, a2, some (.ref x), a4, a5, a6, a7] st h = a_run d ML_law 2698 [a0, a1, a2, some (.ref x), a4, a5, a6, a7] (.ref x :: st) h := w_ldAn dL_law_2697 rfl
theorem w_L_law_2697N (d : Nat) (a0 a1 a2 a4 a5 a6 a7 : Option Value) (st : List Value) (h : a_H) : a_run d ML_law 2697 [a0, a1, a2, some .null, a4, a5, a6, a7] st h = a_run d ML_law 2698 [a0, a1, a2, some .null, a4, a5, a6, a7] (.null :: st) h := w_ldNn dL_law_2697 rfl
theorem w_L_law_2698 (d : Nat) (L : a_L) (v0 v1 : Value) (st : List Value) (h : a_H) (hc : a_cat st ≤ 8) : a_run d ML_law 2698 L (v1 :: v0 :: st) h = a_cont d ML_law (a_bk ML_law 2698 L st (a_call d MX0_undo [v0, v1] h)) := w_callS (as := [v0, v1]) dL_law_2698 rfl rfl rfl hc
theorem w_L_law_2701 (d : Nat) (a0 a1 a2 a3 a4 a5 a6 a7 : Option Value) (x : Int32) (st : List Value) (h : a_H) : a_run d ML_law 2701 [a0, a1, a2, a3, a4, a5, a6, a7] (.int x :: st) h = a_run d ML_law 2703 [a0, a1, a2, a3, a4, a5, some (.int x), a7] st h := w_stI dL_law_2701 (Nat.le_of_ble_eq_true rfl) rfl
theorem w_L_law_2703 (d : Nat) (a0 a1 a3 a4 a5 a6 a7 : Option Value) (x : Nat) (st : List Value) (h : a_H) : a_run d ML_law 2703 [a0, a1, some (.ref x), a3, a4, a5, a6, a7] st h = a_run d ML_law 2704 [a0, a1, some (.ref x), a3, a4, a5, a6, a7] (.ref x :: st) h := w_ldAn dL_law_2703 rfl
theorem w_L_law_2703N (d : Nat) (a0 a1 a3 a4 a5 a6 a7 : Option Value) (st : List Value) (h : a_H) : a_run d ML_law 2703 [a0, a1, some .null, a3, a4, a5, a6, a7] st h = a_run d ML_law 2704 [a0, a1, some .null, a3, a4, a5, a6, a7] (.null :: st) h := w_ldNn dL_law_2703 rfl
theorem w_L_law_2704 (d : Nat) (L : a_L) (i : Nat) (st : List Value) (h : a_H) (hk : a_kls h i = some 2) (hc : a_cat st ≤ 8) : a_run d ML_law 2704 L (.ref i :: st) h = a_cont d ML_law (a_bk ML_law 2704 L st (a_call d MX3_undo [.ref i] h)) := w_callV (as := [.ref i]) dL_law_2704 rfl rfl rfl hc (a_rcv_of hk rfl)
theorem w_L_law_2707 (d : Nat) (a0 a1 a2 a3 a4 a5 a6 a7 : Option Value) (x : Int32) (st : List Value) (h : a_H) : a_run d ML_law 2707 [a0, a1, a2, a3, a4, a5, a6, a7] (.int x :: st) h = a_run d ML_law 2709 [a0, a1, a2, a3, a4, a5, a6, some (.int x)] st h := w_stI dL_law_2707 (Nat.le_of_ble_eq_true rfl) rfl
theorem w_L_law_2709 (d : Nat) (a0 a1 a3 a4 a5 a6 a7 : Option Value) (x : Nat) (st : List Value) (h : a_H) : a_run d ML_law 2709 [a0, a1, some (.ref x), a3, a4, a5, a6, a7] st h = a_run d ML_law 2710 [a0, a1, some (.ref x), a3, a4, a5, a6, a7] (.ref x :: st) h := w_ldAn dL_law_2709 rfl
theorem w_L_law_2709N (d : Nat) (a0 a1 a3 a4 a5 a6 a7 : Option Value) (st : List Value) (h : a_H) : a_run d ML_law 2709 [a0, a1, some .null, a3, a4, a5, a6, a7] st h = a_run d ML_law 2710 [a0, a1, some .null, a3, a4, a5, a6, a7] (.null :: st) h := w_ldNn dL_law_2709 rfl
theorem w_L_law_2710 (d : Nat) (L : a_L) (i : Nat) (st : List Value) (h : a_H) (hk : a_kls h i = some 2) (hc : a_cat st ≤ 8) : a_run d ML_law 2710 L (.ref i :: st) h = a_cont d ML_law (a_bk ML_law 2710 L st (a_call d MX3_thrown [.ref i] h)) := w_callV (as := [.ref i]) dL_law_2710 rfl rfl rfl hc (a_rcv_of hk rfl)
theorem w_L_law_2713 (d : Nat) (a0 a1 a2 a3 a4 a5 a7 : Option Value) (x : Int32) (st : List Value) (h : a_H) : a_run d ML_law 2713 [a0, a1, a2, a3, a4, a5, some (.int x), a7] st h = a_run d ML_law 2715 [a0, a1, a2, a3, a4, a5, some (.int x), a7] (.int x :: st) h := w_ldI dL_law_2713 rfl
theorem w_L_law_2715 (d : Nat) (L : a_L) (x y : Int32) (st : List Value) (h : a_H) : a_run d ML_law 2715 L (.int y :: .int x :: st) h = if x = y then a_run d ML_law 2720 L st h else a_run d ML_law 2718 L st h := w_icmp_eq dL_law_2715 rfl
theorem w_L_law_2718 (d : Nat) (L : a_L) (st : List Value) (h : a_H) : a_run d ML_law 2718 L st h = a_run d ML_law 2719 L (.int (nI 0) :: st) h := w_iconst dL_law_2718 rfl
theorem w_L_law_2719 (d : Nat) (L : a_L) (x : Int32) (h : a_H) (hx : x = 0 ∨ x = 1) : a_run d ML_law 2719 L [.int x] h = some (.inl (some (.int x)), h) := w_iret dL_law_2719 (w_retZ rfl hx)
theorem w_L_law_2720 (d : Nat) (a0 a1 a2 a3 a4 a5 a7 : Option Value) (x : Int32) (st : List Value) (h : a_H) : a_run d ML_law 2720 [a0, a1, a2, a3, a4, a5, some (.int x), a7] st h = a_run d ML_law 2722 [a0, a1, a2, a3, a4, a5, some (.int x), a7] (.int x :: st) h := w_ldI dL_law_2720 rfl
theorem w_L_law_2722 (d : Nat) (L : a_L) (x : Int32) (st : List Value) (h : a_H) : a_run d ML_law 2722 L (.int x :: st) h = if x = 0 then a_run d ML_law 2725 L st h else a_run d ML_law 2737 L st h := w_if_ne dL_law_2722 rfl
theorem w_L_law_2725 (d : Nat) (a0 a1 a2 a4 a5 a6 a7 : Option Value) (x : Nat) (st : List Value) (h : a_H) : a_run d ML_law 2725 [a0, a1, a2, some (.ref x), a4, a5, a6, a7] st h = a_run d ML_law 2726 [a0, a1, a2, some (.ref x), a4, a5, a6, a7] (.ref x :: st) h := w_ldAn dL_law_2725 rfl
theorem w_L_law_2725N (d : Nat) (a0 a1 a2 a4 a5 a6 a7 : Option Value) (st : List Value) (h : a_H) : a_run d ML_law 2725 [a0, a1, a2, some .null, a4, a5, a6, a7] st h = a_run d ML_law 2726 [a0, a1, a2, some .null, a4, a5, a6, a7] (.null :: st) h := w_ldNn dL_law_2725 rfl
theorem w_L_law_2726 (d : Nat) (L : a_L) (st : List Value) (h : a_H) : a_run d ML_law 2726 L st h = a_run d ML_law 2727 L (.int (nI 0) :: st) h := w_iconst dL_law_2726 rfl
theorem w_L_law_2727 (d : Nat) (L : a_L) (x : Int32) (i : Nat) (st : List Value) (h : a_H) : a_run d ML_law 2727 L (.int x :: .ref i :: st) h = (a_rdl h i x).bind fun v => a_run d ML_law 2728 L (v :: st) h := w_lald dL_law_2727
theorem w_L_law_2728 (d : Nat) (a0 a1 a2 a3 a4 a5 a6 : Option Value) (x : Int32) (st : List Value) (h : a_H) : a_run d ML_law 2728 [a0, a1, a2, a3, a4, a5, a6, some (.int x)] st h = a_run d ML_law 2730 [a0, a1, a2, a3, a4, a5, a6, some (.int x)] (.int x :: st) h := w_ldI dL_law_2728 rfl
theorem w_L_law_2730 (d : Nat) (L : a_L) (x : Int32) (st : List Value) (h : a_H) : a_run d ML_law 2730 L (.int x :: st) h = a_run d ML_law 2731 L (.long x.toInt64 :: st) h := w_i2l dL_law_2730
theorem w_L_law_2731 (d : Nat) (L : a_L) (x y : Int64) (st : List Value) (h : a_H) : a_run d ML_law 2731 L (.long y :: .long x :: st) h = a_run d ML_law 2732 L (.int (lg_cmp x y) :: st) h := w_lcmp dL_law_2731
theorem w_L_law_2732 (d : Nat) (L : a_L) (x : Int32) (st : List Value) (h : a_H) : a_run d ML_law 2732 L (.int x :: st) h = if x = 0 then a_run d ML_law 2737 L st h else a_run d ML_law 2735 L st h := w_if_eq dL_law_2732 rfl
theorem w_L_law_2735 (d : Nat) (L : a_L) (st : List Value) (h : a_H) : a_run d ML_law 2735 L st h = a_run d ML_law 2736 L (.int (nI 0) :: st) h := w_iconst dL_law_2735 rfl
theorem w_L_law_2736 (d : Nat) (L : a_L) (x : Int32) (h : a_H) (hx : x = 0 ∨ x = 1) : a_run d ML_law 2736 L [.int x] h = some (.inl (some (.int x)), h) := w_iret dL_law_2736 (w_retZ rfl hx)
theorem w_L_law_2737 (d : Nat) (L : a_L) (st : List Value) (h : a_H) : a_run d ML_law 2737 L st h = a_run d ML_law 2985 L st h := w_goto dL_law_2737 rfl
theorem w_L_law_2740 (d : Nat) (a0 a2 a3 a4 a5 a6 a7 : Option Value) (x : Nat) (st : List Value) (h : a_H) : a_run d ML_law 2740 [a0, some (.ref x), a2, a3, a4, a5, a6, a7] st h = a_run d ML_law 2741 [a0, some (.ref x), a2, a3, a4, a5, a6, a7] (.ref x :: st) h := w_ldAn dL_law_2740 rfl
theorem w_L_law_2740N (d : Nat) (a0 a2 a3 a4 a5 a6 a7 : Option Value) (st : List Value) (h : a_H) : a_run d ML_law 2740 [a0, some .null, a2, a3, a4, a5, a6, a7] st h = a_run d ML_law 2741 [a0, some .null, a2, a3, a4, a5, a6, a7] (.null :: st) h := w_ldNn dL_law_2740 rfl
theorem w_L_law_2741 (d : Nat) (a1 a2 a3 a4 a5 a6 a7 : Option Value) (x : Nat) (st : List Value) (h : a_H) : a_run d ML_law 2741 [some (.ref x), a1, a2, a3, a4, a5, a6, a7] st h = a_run d ML_law 2742 [some (.ref x), a1, a2, a3, a4, a5, a6, a7] (.ref x :: st) h := w_ldAn dL_law_2741 rfl
theorem w_L_law_2742 (d : Nat) (a0 a1 a2 a3 a4 a6 a7 : Option Value) (x : Int32) (st : List Value) (h : a_H) : a_run d ML_law 2742 [a0, a1, a2, a3, a4, some (.int x), a6, a7] st h = a_run d ML_law 2744 [a0, a1, a2, a3, a4, some (.int x), a6, a7] (.int x :: st) h := w_ldI dL_law_2742 rfl
theorem w_L_law_2744 (d : Nat) (L : a_L) (st : List Value) (h : a_H) : a_run d ML_law 2744 L st h = a_run d ML_law 2745 L (.int (nI 1) :: st) h := w_iconst dL_law_2744 rfl
theorem w_L_law_2745 (d : Nat) (L : a_L) (x y : Int32) (st : List Value) (h : a_H) : a_run d ML_law 2745 L (.int y :: .int x :: st) h = a_run d ML_law 2746 L (.int (x + y) :: st) h := w_iadd dL_law_2745
theorem w_L_law_2746 (d : Nat) (L : a_L) (x : Int32) (i : Nat) (st : List Value) (h : a_H) : a_run d ML_law 2746 L (.int x :: .ref i :: st) h = (a_rdi h i a_int x).bind fun v => a_run d ML_law 2747 L (v :: st) h := w_iald dL_law_2746
theorem w_L_law_2747 (d : Nat) (a0 a1 a2 a4 a5 a6 a7 : Option Value) (x : Nat) (st : List Value) (h : a_H) : a_run d ML_law 2747 [a0, a1, a2, some (.ref x), a4, a5, a6, a7] st h = a_run d ML_law 2748 [a0, a1, a2, some (.ref x), a4, a5, a6, a7] (.ref x :: st) h := w_ldAn dL_law_2747 rfl
theorem w_L_law_2747N (d : Nat) (a0 a1 a2 a4 a5 a6 a7 : Option Value) (st : List Value) (h : a_H) : a_run d ML_law 2747 [a0, a1, a2, some .null, a4, a5, a6, a7] st h = a_run d ML_law 2748 [a0, a1, a2, some .null, a4, a5, a6, a7] (.null :: st) h := w_ldNn dL_law_2747 rfl
theorem w_L_law_2748 (d : Nat) (L : a_L) (v0 v1 v2 : Value) (st : List Value) (h : a_H) (hc : a_cat st ≤ 8) : a_run d ML_law 2748 L (v2 :: v1 :: v0 :: st) h = a_cont d ML_law (a_bk ML_law 2748 L st (a_call d MX0_type [v0, v1, v2] h)) := w_callS (as := [v0, v1, v2]) dL_law_2748 rfl rfl rfl hc
theorem w_L_law_2751 (d : Nat) (a0 a1 a2 a3 a4 a5 a6 a7 : Option Value) (x : Int32) (st : List Value) (h : a_H) : a_run d ML_law 2751 [a0, a1, a2, a3, a4, a5, a6, a7] (.int x :: st) h = a_run d ML_law 2753 [a0, a1, a2, a3, a4, a5, some (.int x), a7] st h := w_stI dL_law_2751 (Nat.le_of_ble_eq_true rfl) rfl
theorem w_L_law_2753 (d : Nat) (a0 a1 a3 a4 a5 a6 a7 : Option Value) (x : Nat) (st : List Value) (h : a_H) : a_run d ML_law 2753 [a0, a1, some (.ref x), a3, a4, a5, a6, a7] st h = a_run d ML_law 2754 [a0, a1, some (.ref x), a3, a4, a5, a6, a7] (.ref x :: st) h := w_ldAn dL_law_2753 rfl
theorem w_L_law_2753N (d : Nat) (a0 a1 a3 a4 a5 a6 a7 : Option Value) (st : List Value) (h : a_H) : a_run d ML_law 2753 [a0, a1, some .null, a3, a4, a5, a6, a7] st h = a_run d ML_law 2754 [a0, a1, some .null, a3, a4, a5, a6, a7] (.null :: st) h := w_ldNn dL_law_2753 rfl
theorem w_L_law_2754 (d : Nat) (a1 a2 a3 a4 a5 a6 a7 : Option Value) (x : Nat) (st : List Value) (h : a_H) : a_run d ML_law 2754 [some (.ref x), a1, a2, a3, a4, a5, a6, a7] st h = a_run d ML_law 2755 [some (.ref x), a1, a2, a3, a4, a5, a6, a7] (.ref x :: st) h := w_ldAn dL_law_2754 rfl
theorem w_L_law_2755 (d : Nat) (a0 a1 a2 a3 a4 a6 a7 : Option Value) (x : Int32) (st : List Value) (h : a_H) : a_run d ML_law 2755 [a0, a1, a2, a3, a4, some (.int x), a6, a7] st h = a_run d ML_law 2757 [a0, a1, a2, a3, a4, some (.int x), a6, a7] (.int x :: st) h := w_ldI dL_law_2755 rfl
theorem w_L_law_2757 (d : Nat) (L : a_L) (st : List Value) (h : a_H) : a_run d ML_law 2757 L st h = a_run d ML_law 2758 L (.int (nI 1) :: st) h := w_iconst dL_law_2757 rfl
theorem w_L_law_2758 (d : Nat) (L : a_L) (x y : Int32) (st : List Value) (h : a_H) : a_run d ML_law 2758 L (.int y :: .int x :: st) h = a_run d ML_law 2759 L (.int (x + y) :: st) h := w_iadd dL_law_2758
theorem w_L_law_2759 (d : Nat) (L : a_L) (x : Int32) (i : Nat) (st : List Value) (h : a_H) : a_run d ML_law 2759 L (.int x :: .ref i :: st) h = (a_rdi h i a_int x).bind fun v => a_run d ML_law 2760 L (v :: st) h := w_iald dL_law_2759
theorem w_L_law_2760 (d : Nat) (L : a_L) (i : Nat) (v1 : Value) (st : List Value) (h : a_H) (hk : a_kls h i = some 2) (hc : a_cat st ≤ 8) : a_run d ML_law 2760 L (v1 :: .ref i :: st) h = a_cont d ML_law (a_bk ML_law 2760 L st (a_call d MX3_type [.ref i, v1] h)) := w_callV (as := [.ref i, v1]) dL_law_2760 rfl rfl rfl hc (a_rcv_of hk rfl)
theorem w_L_law_2763 (d : Nat) (a0 a1 a2 a3 a4 a5 a6 a7 : Option Value) (x : Int32) (st : List Value) (h : a_H) : a_run d ML_law 2763 [a0, a1, a2, a3, a4, a5, a6, a7] (.int x :: st) h = a_run d ML_law 2765 [a0, a1, a2, a3, a4, a5, a6, some (.int x)] st h := w_stI dL_law_2763 (Nat.le_of_ble_eq_true rfl) rfl
theorem w_L_law_2765 (d : Nat) (a0 a1 a3 a4 a5 a6 a7 : Option Value) (x : Nat) (st : List Value) (h : a_H) : a_run d ML_law 2765 [a0, a1, some (.ref x), a3, a4, a5, a6, a7] st h = a_run d ML_law 2766 [a0, a1, some (.ref x), a3, a4, a5, a6, a7] (.ref x :: st) h := w_ldAn dL_law_2765 rfl
theorem w_L_law_2765N (d : Nat) (a0 a1 a3 a4 a5 a6 a7 : Option Value) (st : List Value) (h : a_H) : a_run d ML_law 2765 [a0, a1, some .null, a3, a4, a5, a6, a7] st h = a_run d ML_law 2766 [a0, a1, some .null, a3, a4, a5, a6, a7] (.null :: st) h := w_ldNn dL_law_2765 rfl
theorem w_L_law_2766 (d : Nat) (L : a_L) (i : Nat) (st : List Value) (h : a_H) (hk : a_kls h i = some 2) (hc : a_cat st ≤ 8) : a_run d ML_law 2766 L (.ref i :: st) h = a_cont d ML_law (a_bk ML_law 2766 L st (a_call d MX3_thrown [.ref i] h)) := w_callV (as := [.ref i]) dL_law_2766 rfl rfl rfl hc (a_rcv_of hk rfl)
theorem w_L_law_2769 (d : Nat) (a0 a1 a2 a3 a4 a5 a7 : Option Value) (x : Int32) (st : List Value) (h : a_H) : a_run d ML_law 2769 [a0, a1, a2, a3, a4, a5, some (.int x), a7] st h = a_run d ML_law 2771 [a0, a1, a2, a3, a4, a5, some (.int x), a7] (.int x :: st) h := w_ldI dL_law_2769 rfl
theorem w_L_law_2771 (d : Nat) (L : a_L) (x y : Int32) (st : List Value) (h : a_H) : a_run d ML_law 2771 L (.int y :: .int x :: st) h = if x = y then a_run d ML_law 2776 L st h else a_run d ML_law 2774 L st h := w_icmp_eq dL_law_2771 rfl
theorem w_L_law_2774 (d : Nat) (L : a_L) (st : List Value) (h : a_H) : a_run d ML_law 2774 L st h = a_run d ML_law 2775 L (.int (nI 0) :: st) h := w_iconst dL_law_2774 rfl
theorem w_L_law_2775 (d : Nat) (L : a_L) (x : Int32) (h : a_H) (hx : x = 0 ∨ x = 1) : a_run d ML_law 2775 L [.int x] h = some (.inl (some (.int x)), h) := w_iret dL_law_2775 (w_retZ rfl hx)
theorem w_L_law_2776 (d : Nat) (a0 a1 a2 a3 a4 a5 a7 : Option Value) (x : Int32) (st : List Value) (h : a_H) : a_run d ML_law 2776 [a0, a1, a2, a3, a4, a5, some (.int x), a7] st h = a_run d ML_law 2778 [a0, a1, a2, a3, a4, a5, some (.int x), a7] (.int x :: st) h := w_ldI dL_law_2776 rfl
theorem w_L_law_2778 (d : Nat) (L : a_L) (x : Int32) (st : List Value) (h : a_H) : a_run d ML_law 2778 L (.int x :: st) h = if x = 0 then a_run d ML_law 2781 L st h else a_run d ML_law 2793 L st h := w_if_ne dL_law_2778 rfl
theorem w_L_law_2781 (d : Nat) (a0 a1 a2 a4 a5 a6 a7 : Option Value) (x : Nat) (st : List Value) (h : a_H) : a_run d ML_law 2781 [a0, a1, a2, some (.ref x), a4, a5, a6, a7] st h = a_run d ML_law 2782 [a0, a1, a2, some (.ref x), a4, a5, a6, a7] (.ref x :: st) h := w_ldAn dL_law_2781 rfl
theorem w_L_law_2781N (d : Nat) (a0 a1 a2 a4 a5 a6 a7 : Option Value) (st : List Value) (h : a_H) : a_run d ML_law 2781 [a0, a1, a2, some .null, a4, a5, a6, a7] st h = a_run d ML_law 2782 [a0, a1, a2, some .null, a4, a5, a6, a7] (.null :: st) h := w_ldNn dL_law_2781 rfl
theorem w_L_law_2782 (d : Nat) (L : a_L) (st : List Value) (h : a_H) : a_run d ML_law 2782 L st h = a_run d ML_law 2783 L (.int (nI 0) :: st) h := w_iconst dL_law_2782 rfl
theorem w_L_law_2783 (d : Nat) (L : a_L) (x : Int32) (i : Nat) (st : List Value) (h : a_H) : a_run d ML_law 2783 L (.int x :: .ref i :: st) h = (a_rdl h i x).bind fun v => a_run d ML_law 2784 L (v :: st) h := w_lald dL_law_2783
theorem w_L_law_2784 (d : Nat) (a0 a1 a2 a3 a4 a5 a6 : Option Value) (x : Int32) (st : List Value) (h : a_H) : a_run d ML_law 2784 [a0, a1, a2, a3, a4, a5, a6, some (.int x)] st h = a_run d ML_law 2786 [a0, a1, a2, a3, a4, a5, a6, some (.int x)] (.int x :: st) h := w_ldI dL_law_2784 rfl
theorem w_L_law_2786 (d : Nat) (L : a_L) (x : Int32) (st : List Value) (h : a_H) : a_run d ML_law 2786 L (.int x :: st) h = a_run d ML_law 2787 L (.long x.toInt64 :: st) h := w_i2l dL_law_2786
theorem w_L_law_2787 (d : Nat) (L : a_L) (x y : Int64) (st : List Value) (h : a_H) : a_run d ML_law 2787 L (.long y :: .long x :: st) h = a_run d ML_law 2788 L (.int (lg_cmp x y) :: st) h := w_lcmp dL_law_2787
theorem w_L_law_2788 (d : Nat) (L : a_L) (x : Int32) (st : List Value) (h : a_H) : a_run d ML_law 2788 L (.int x :: st) h = if x = 0 then a_run d ML_law 2793 L st h else a_run d ML_law 2791 L st h := w_if_eq dL_law_2788 rfl
theorem w_L_law_2791 (d : Nat) (L : a_L) (st : List Value) (h : a_H) : a_run d ML_law 2791 L st h = a_run d ML_law 2792 L (.int (nI 0) :: st) h := w_iconst dL_law_2791 rfl
theorem w_L_law_2792 (d : Nat) (L : a_L) (x : Int32) (h : a_H) (hx : x = 0 ∨ x = 1) : a_run d ML_law 2792 L [.int x] h = some (.inl (some (.int x)), h) := w_iret dL_law_2792 (w_retZ rfl hx)
theorem w_L_law_2793 (d : Nat) (L : a_L) (st : List Value) (h : a_H) : a_run d ML_law 2793 L st h = a_run d ML_law 2985 L st h := w_goto dL_law_2793 rfl
theorem w_L_law_2796 (d : Nat) (a0 a2 a3 a4 a5 a6 a7 : Option Value) (x : Nat) (st : List Value) (h : a_H) : a_run d ML_law 2796 [a0, some (.ref x), a2, a3, a4, a5, a6, a7] st h = a_run d ML_law 2797 [a0, some (.ref x), a2, a3, a4, a5, a6, a7] (.ref x :: st) h := w_ldAn dL_law_2796 rfl
theorem w_L_law_2796N (d : Nat) (a0 a2 a3 a4 a5 a6 a7 : Option Value) (st : List Value) (h : a_H) : a_run d ML_law 2796 [a0, some .null, a2, a3, a4, a5, a6, a7] st h = a_run d ML_law 2797 [a0, some .null, a2, a3, a4, a5, a6, a7] (.null :: st) h := w_ldNn dL_law_2796 rfl
theorem w_L_law_2797 (d : Nat) (L : a_L) (i : Nat) (st : List Value) (h : a_H) (hk : a_kls h i = some 0) (hc : a_cat st ≤ 8) : a_run d ML_law 2797 L (.ref i :: st) h = a_cont d ML_law (a_bk ML_law 2797 L st (a_call d MX1_clearText [.ref i] h)) := w_callV (as := [.ref i]) dL_law_2797 rfl rfl rfl hc (a_rcv_of hk rfl)
theorem w_L_law_2800 (d : Nat) (a0 a1 a3 a4 a5 a6 a7 : Option Value) (x : Nat) (st : List Value) (h : a_H) : a_run d ML_law 2800 [a0, a1, some (.ref x), a3, a4, a5, a6, a7] st h = a_run d ML_law 2801 [a0, a1, some (.ref x), a3, a4, a5, a6, a7] (.ref x :: st) h := w_ldAn dL_law_2800 rfl
theorem w_L_law_2800N (d : Nat) (a0 a1 a3 a4 a5 a6 a7 : Option Value) (st : List Value) (h : a_H) : a_run d ML_law 2800 [a0, a1, some .null, a3, a4, a5, a6, a7] st h = a_run d ML_law 2801 [a0, a1, some .null, a3, a4, a5, a6, a7] (.null :: st) h := w_ldNn dL_law_2800 rfl
theorem w_L_law_2801 (d : Nat) (L : a_L) (i : Nat) (st : List Value) (h : a_H) (hk : a_kls h i = some 2) (hc : a_cat st ≤ 8) : a_run d ML_law 2801 L (.ref i :: st) h = a_cont d ML_law (a_bk ML_law 2801 L st (a_call d MX3_clearText [.ref i] h)) := w_callV (as := [.ref i]) dL_law_2801 rfl rfl rfl hc (a_rcv_of hk rfl)
theorem w_L_law_2804 (d : Nat) (L : a_L) (x y : Int32) (st : List Value) (h : a_H) : a_run d ML_law 2804 L (.int y :: .int x :: st) h = if x = y then a_run d ML_law 2985 L st h else a_run d ML_law 2807 L st h := w_icmp_eq dL_law_2804 rfl
theorem w_L_law_2807 (d : Nat) (L : a_L) (st : List Value) (h : a_H) : a_run d ML_law 2807 L st h = a_run d ML_law 2808 L (.int (nI 0) :: st) h := w_iconst dL_law_2807 rfl
theorem w_L_law_2808 (d : Nat) (L : a_L) (x : Int32) (h : a_H) (hx : x = 0 ∨ x = 1) : a_run d ML_law 2808 L [.int x] h = some (.inl (some (.int x)), h) := w_iret dL_law_2808 (w_retZ rfl hx)
theorem w_L_law_2809 (d : Nat) (a0 a2 a3 a4 a5 a6 a7 : Option Value) (x : Nat) (st : List Value) (h : a_H) : a_run d ML_law 2809 [a0, some (.ref x), a2, a3, a4, a5, a6, a7] st h = a_run d ML_law 2810 [a0, some (.ref x), a2, a3, a4, a5, a6, a7] (.ref x :: st) h := w_ldAn dL_law_2809 rfl
theorem w_L_law_2809N (d : Nat) (a0 a2 a3 a4 a5 a6 a7 : Option Value) (st : List Value) (h : a_H) : a_run d ML_law 2809 [a0, some .null, a2, a3, a4, a5, a6, a7] st h = a_run d ML_law 2810 [a0, some .null, a2, a3, a4, a5, a6, a7] (.null :: st) h := w_ldNn dL_law_2809 rfl
theorem w_L_law_2810 (d : Nat) (a0 a1 a2 a4 a5 a6 a7 : Option Value) (x : Nat) (st : List Value) (h : a_H) : a_run d ML_law 2810 [a0, a1, a2, some (.ref x), a4, a5, a6, a7] st h = a_run d ML_law 2811 [a0, a1, a2, some (.ref x), a4, a5, a6, a7] (.ref x :: st) h := w_ldAn dL_law_2810 rfl
theorem w_L_law_2810N (d : Nat) (a0 a1 a2 a4 a5 a6 a7 : Option Value) (st : List Value) (h : a_H) : a_run d ML_law 2810 [a0, a1, a2, some .null, a4, a5, a6, a7] st h = a_run d ML_law 2811 [a0, a1, a2, some .null, a4, a5, a6, a7] (.null :: st) h := w_ldNn dL_law_2810 rfl
theorem w_L_law_2811 (d : Nat) (L : a_L) (v0 v1 : Value) (st : List Value) (h : a_H) (hc : a_cat st ≤ 8) : a_run d ML_law 2811 L (v1 :: v0 :: st) h = a_cont d ML_law (a_bk ML_law 2811 L st (a_call d MX0_faultPosition [v0, v1] h)) := w_callS (as := [v0, v1]) dL_law_2811 rfl rfl rfl hc
theorem w_L_law_2814 (d : Nat) (a0 a1 a2 a3 a4 a5 a6 a7 : Option Value) (x : Int32) (st : List Value) (h : a_H) : a_run d ML_law 2814 [a0, a1, a2, a3, a4, a5, a6, a7] (.int x :: st) h = a_run d ML_law 2816 [a0, a1, a2, a3, a4, a5, some (.int x), a7] st h := w_stI dL_law_2814 (Nat.le_of_ble_eq_true rfl) rfl
theorem w_L_law_2816 (d : Nat) (a0 a1 a3 a4 a5 a6 a7 : Option Value) (x : Nat) (st : List Value) (h : a_H) : a_run d ML_law 2816 [a0, a1, some (.ref x), a3, a4, a5, a6, a7] st h = a_run d ML_law 2817 [a0, a1, some (.ref x), a3, a4, a5, a6, a7] (.ref x :: st) h := w_ldAn dL_law_2816 rfl
theorem w_L_law_2816N (d : Nat) (a0 a1 a3 a4 a5 a6 a7 : Option Value) (st : List Value) (h : a_H) : a_run d ML_law 2816 [a0, a1, some .null, a3, a4, a5, a6, a7] st h = a_run d ML_law 2817 [a0, a1, some .null, a3, a4, a5, a6, a7] (.null :: st) h := w_ldNn dL_law_2816 rfl
theorem w_L_law_2817 (d : Nat) (L : a_L) (i : Nat) (st : List Value) (h : a_H) (hk : a_kls h i = some 2) (hc : a_cat st ≤ 8) : a_run d ML_law 2817 L (.ref i :: st) h = a_cont d ML_law (a_bk ML_law 2817 L st (a_call d MX3_faultPosition [.ref i] h)) := w_callV (as := [.ref i]) dL_law_2817 rfl rfl rfl hc (a_rcv_of hk rfl)
theorem w_L_law_2820 (d : Nat) (a0 a1 a2 a3 a4 a5 a6 a7 : Option Value) (x : Int32) (st : List Value) (h : a_H) : a_run d ML_law 2820 [a0, a1, a2, a3, a4, a5, a6, a7] (.int x :: st) h = a_run d ML_law 2822 [a0, a1, a2, a3, a4, a5, a6, some (.int x)] st h := w_stI dL_law_2820 (Nat.le_of_ble_eq_true rfl) rfl
theorem w_L_law_2822 (d : Nat) (a0 a1 a3 a4 a5 a6 a7 : Option Value) (x : Nat) (st : List Value) (h : a_H) : a_run d ML_law 2822 [a0, a1, some (.ref x), a3, a4, a5, a6, a7] st h = a_run d ML_law 2823 [a0, a1, some (.ref x), a3, a4, a5, a6, a7] (.ref x :: st) h := w_ldAn dL_law_2822 rfl
theorem w_L_law_2822N (d : Nat) (a0 a1 a3 a4 a5 a6 a7 : Option Value) (st : List Value) (h : a_H) : a_run d ML_law 2822 [a0, a1, some .null, a3, a4, a5, a6, a7] st h = a_run d ML_law 2823 [a0, a1, some .null, a3, a4, a5, a6, a7] (.null :: st) h := w_ldNn dL_law_2822 rfl
theorem w_L_law_2823 (d : Nat) (L : a_L) (i : Nat) (st : List Value) (h : a_H) (hk : a_kls h i = some 2) (hc : a_cat st ≤ 8) : a_run d ML_law 2823 L (.ref i :: st) h = a_cont d ML_law (a_bk ML_law 2823 L st (a_call d MX3_thrown [.ref i] h)) := w_callV (as := [.ref i]) dL_law_2823 rfl rfl rfl hc (a_rcv_of hk rfl)
theorem w_L_law_2826 (d : Nat) (a0 a1 a2 a3 a4 a5 a7 : Option Value) (x : Int32) (st : List Value) (h : a_H) : a_run d ML_law 2826 [a0, a1, a2, a3, a4, a5, some (.int x), a7] st h = a_run d ML_law 2828 [a0, a1, a2, a3, a4, a5, some (.int x), a7] (.int x :: st) h := w_ldI dL_law_2826 rfl
theorem w_L_law_2828 (d : Nat) (L : a_L) (x y : Int32) (st : List Value) (h : a_H) : a_run d ML_law 2828 L (.int y :: .int x :: st) h = if x = y then a_run d ML_law 2833 L st h else a_run d ML_law 2831 L st h := w_icmp_eq dL_law_2828 rfl
theorem w_L_law_2831 (d : Nat) (L : a_L) (st : List Value) (h : a_H) : a_run d ML_law 2831 L st h = a_run d ML_law 2832 L (.int (nI 0) :: st) h := w_iconst dL_law_2831 rfl
theorem w_L_law_2832 (d : Nat) (L : a_L) (x : Int32) (h : a_H) (hx : x = 0 ∨ x = 1) : a_run d ML_law 2832 L [.int x] h = some (.inl (some (.int x)), h) := w_iret dL_law_2832 (w_retZ rfl hx)
theorem w_L_law_2833 (d : Nat) (a0 a1 a2 a3 a4 a5 a7 : Option Value) (x : Int32) (st : List Value) (h : a_H) : a_run d ML_law 2833 [a0, a1, a2, a3, a4, a5, some (.int x), a7] st h = a_run d ML_law 2835 [a0, a1, a2, a3, a4, a5, some (.int x), a7] (.int x :: st) h := w_ldI dL_law_2833 rfl
theorem w_L_law_2835 (d : Nat) (L : a_L) (x : Int32) (st : List Value) (h : a_H) : a_run d ML_law 2835 L (.int x :: st) h = if x = 0 then a_run d ML_law 2838 L st h else a_run d ML_law 2850 L st h := w_if_ne dL_law_2835 rfl
theorem w_L_law_2838 (d : Nat) (a0 a1 a2 a4 a5 a6 a7 : Option Value) (x : Nat) (st : List Value) (h : a_H) : a_run d ML_law 2838 [a0, a1, a2, some (.ref x), a4, a5, a6, a7] st h = a_run d ML_law 2839 [a0, a1, a2, some (.ref x), a4, a5, a6, a7] (.ref x :: st) h := w_ldAn dL_law_2838 rfl
theorem w_L_law_2838N (d : Nat) (a0 a1 a2 a4 a5 a6 a7 : Option Value) (st : List Value) (h : a_H) : a_run d ML_law 2838 [a0, a1, a2, some .null, a4, a5, a6, a7] st h = a_run d ML_law 2839 [a0, a1, a2, some .null, a4, a5, a6, a7] (.null :: st) h := w_ldNn dL_law_2838 rfl
theorem w_L_law_2839 (d : Nat) (L : a_L) (st : List Value) (h : a_H) : a_run d ML_law 2839 L st h = a_run d ML_law 2840 L (.int (nI 0) :: st) h := w_iconst dL_law_2839 rfl
theorem w_L_law_2840 (d : Nat) (L : a_L) (x : Int32) (i : Nat) (st : List Value) (h : a_H) : a_run d ML_law 2840 L (.int x :: .ref i :: st) h = (a_rdl h i x).bind fun v => a_run d ML_law 2841 L (v :: st) h := w_lald dL_law_2840
theorem w_L_law_2841 (d : Nat) (a0 a1 a2 a3 a4 a5 a6 : Option Value) (x : Int32) (st : List Value) (h : a_H) : a_run d ML_law 2841 [a0, a1, a2, a3, a4, a5, a6, some (.int x)] st h = a_run d ML_law 2843 [a0, a1, a2, a3, a4, a5, a6, some (.int x)] (.int x :: st) h := w_ldI dL_law_2841 rfl
theorem w_L_law_2843 (d : Nat) (L : a_L) (x : Int32) (st : List Value) (h : a_H) : a_run d ML_law 2843 L (.int x :: st) h = a_run d ML_law 2844 L (.long x.toInt64 :: st) h := w_i2l dL_law_2843
theorem w_L_law_2844 (d : Nat) (L : a_L) (x y : Int64) (st : List Value) (h : a_H) : a_run d ML_law 2844 L (.long y :: .long x :: st) h = a_run d ML_law 2845 L (.int (lg_cmp x y) :: st) h := w_lcmp dL_law_2844
theorem w_L_law_2845 (d : Nat) (L : a_L) (x : Int32) (st : List Value) (h : a_H) : a_run d ML_law 2845 L (.int x :: st) h = if x = 0 then a_run d ML_law 2850 L st h else a_run d ML_law 2848 L st h := w_if_eq dL_law_2845 rfl
theorem w_L_law_2848 (d : Nat) (L : a_L) (st : List Value) (h : a_H) : a_run d ML_law 2848 L st h = a_run d ML_law 2849 L (.int (nI 0) :: st) h := w_iconst dL_law_2848 rfl
theorem w_L_law_2849 (d : Nat) (L : a_L) (x : Int32) (h : a_H) (hx : x = 0 ∨ x = 1) : a_run d ML_law 2849 L [.int x] h = some (.inl (some (.int x)), h) := w_iret dL_law_2849 (w_retZ rfl hx)
theorem w_L_law_2850 (d : Nat) (L : a_L) (st : List Value) (h : a_H) : a_run d ML_law 2850 L st h = a_run d ML_law 2985 L st h := w_goto dL_law_2850 rfl
theorem w_L_law_2853 (d : Nat) (a0 a2 a3 a4 a5 a6 a7 : Option Value) (x : Nat) (st : List Value) (h : a_H) : a_run d ML_law 2853 [a0, some (.ref x), a2, a3, a4, a5, a6, a7] st h = a_run d ML_law 2854 [a0, some (.ref x), a2, a3, a4, a5, a6, a7] (.ref x :: st) h := w_ldAn dL_law_2853 rfl
theorem w_L_law_2853N (d : Nat) (a0 a2 a3 a4 a5 a6 a7 : Option Value) (st : List Value) (h : a_H) : a_run d ML_law 2853 [a0, some .null, a2, a3, a4, a5, a6, a7] st h = a_run d ML_law 2854 [a0, some .null, a2, a3, a4, a5, a6, a7] (.null :: st) h := w_ldNn dL_law_2853 rfl
theorem w_L_law_2854 (d : Nat) (a0 a1 a2 a4 a5 a6 a7 : Option Value) (x : Nat) (st : List Value) (h : a_H) : a_run d ML_law 2854 [a0, a1, a2, some (.ref x), a4, a5, a6, a7] st h = a_run d ML_law 2855 [a0, a1, a2, some (.ref x), a4, a5, a6, a7] (.ref x :: st) h := w_ldAn dL_law_2854 rfl
theorem w_L_law_2854N (d : Nat) (a0 a1 a2 a4 a5 a6 a7 : Option Value) (st : List Value) (h : a_H) : a_run d ML_law 2854 [a0, a1, a2, some .null, a4, a5, a6, a7] st h = a_run d ML_law 2855 [a0, a1, a2, some .null, a4, a5, a6, a7] (.null :: st) h := w_ldNn dL_law_2854 rfl
theorem w_L_law_2855 (d : Nat) (L : a_L) (v0 v1 : Value) (st : List Value) (h : a_H) (hc : a_cat st ≤ 8) : a_run d ML_law 2855 L (v1 :: v0 :: st) h = a_cont d ML_law (a_bk ML_law 2855 L st (a_call d MX0_faultReason [v0, v1] h)) := w_callS (as := [v0, v1]) dL_law_2855 rfl rfl rfl hc
theorem w_L_law_2858 (d : Nat) (a0 a1 a2 a3 a4 a5 a6 a7 : Option Value) (x : Int32) (st : List Value) (h : a_H) : a_run d ML_law 2858 [a0, a1, a2, a3, a4, a5, a6, a7] (.int x :: st) h = a_run d ML_law 2860 [a0, a1, a2, a3, a4, a5, some (.int x), a7] st h := w_stI dL_law_2858 (Nat.le_of_ble_eq_true rfl) rfl
theorem w_L_law_2860 (d : Nat) (a0 a1 a3 a4 a5 a6 a7 : Option Value) (x : Nat) (st : List Value) (h : a_H) : a_run d ML_law 2860 [a0, a1, some (.ref x), a3, a4, a5, a6, a7] st h = a_run d ML_law 2861 [a0, a1, some (.ref x), a3, a4, a5, a6, a7] (.ref x :: st) h := w_ldAn dL_law_2860 rfl
theorem w_L_law_2860N (d : Nat) (a0 a1 a3 a4 a5 a6 a7 : Option Value) (st : List Value) (h : a_H) : a_run d ML_law 2860 [a0, a1, some .null, a3, a4, a5, a6, a7] st h = a_run d ML_law 2861 [a0, a1, some .null, a3, a4, a5, a6, a7] (.null :: st) h := w_ldNn dL_law_2860 rfl
theorem w_L_law_2861 (d : Nat) (L : a_L) (i : Nat) (st : List Value) (h : a_H) (hk : a_kls h i = some 2) (hc : a_cat st ≤ 8) : a_run d ML_law 2861 L (.ref i :: st) h = a_cont d ML_law (a_bk ML_law 2861 L st (a_call d MX3_faultReason [.ref i] h)) := w_callV (as := [.ref i]) dL_law_2861 rfl rfl rfl hc (a_rcv_of hk rfl)
theorem w_L_law_2864 (d : Nat) (a0 a1 a2 a3 a4 a5 a6 a7 : Option Value) (x : Int32) (st : List Value) (h : a_H) : a_run d ML_law 2864 [a0, a1, a2, a3, a4, a5, a6, a7] (.int x :: st) h = a_run d ML_law 2866 [a0, a1, a2, a3, a4, a5, a6, some (.int x)] st h := w_stI dL_law_2864 (Nat.le_of_ble_eq_true rfl) rfl
theorem w_L_law_2866 (d : Nat) (a0 a1 a3 a4 a5 a6 a7 : Option Value) (x : Nat) (st : List Value) (h : a_H) : a_run d ML_law 2866 [a0, a1, some (.ref x), a3, a4, a5, a6, a7] st h = a_run d ML_law 2867 [a0, a1, some (.ref x), a3, a4, a5, a6, a7] (.ref x :: st) h := w_ldAn dL_law_2866 rfl
theorem w_L_law_2866N (d : Nat) (a0 a1 a3 a4 a5 a6 a7 : Option Value) (st : List Value) (h : a_H) : a_run d ML_law 2866 [a0, a1, some .null, a3, a4, a5, a6, a7] st h = a_run d ML_law 2867 [a0, a1, some .null, a3, a4, a5, a6, a7] (.null :: st) h := w_ldNn dL_law_2866 rfl
theorem w_L_law_2867 (d : Nat) (L : a_L) (i : Nat) (st : List Value) (h : a_H) (hk : a_kls h i = some 2) (hc : a_cat st ≤ 8) : a_run d ML_law 2867 L (.ref i :: st) h = a_cont d ML_law (a_bk ML_law 2867 L st (a_call d MX3_thrown [.ref i] h)) := w_callV (as := [.ref i]) dL_law_2867 rfl rfl rfl hc (a_rcv_of hk rfl)
theorem w_L_law_2870 (d : Nat) (a0 a1 a2 a3 a4 a5 a7 : Option Value) (x : Int32) (st : List Value) (h : a_H) : a_run d ML_law 2870 [a0, a1, a2, a3, a4, a5, some (.int x), a7] st h = a_run d ML_law 2872 [a0, a1, a2, a3, a4, a5, some (.int x), a7] (.int x :: st) h := w_ldI dL_law_2870 rfl
theorem w_L_law_2872 (d : Nat) (L : a_L) (x y : Int32) (st : List Value) (h : a_H) : a_run d ML_law 2872 L (.int y :: .int x :: st) h = if x = y then a_run d ML_law 2877 L st h else a_run d ML_law 2875 L st h := w_icmp_eq dL_law_2872 rfl
theorem w_L_law_2875 (d : Nat) (L : a_L) (st : List Value) (h : a_H) : a_run d ML_law 2875 L st h = a_run d ML_law 2876 L (.int (nI 0) :: st) h := w_iconst dL_law_2875 rfl
theorem w_L_law_2876 (d : Nat) (L : a_L) (x : Int32) (h : a_H) (hx : x = 0 ∨ x = 1) : a_run d ML_law 2876 L [.int x] h = some (.inl (some (.int x)), h) := w_iret dL_law_2876 (w_retZ rfl hx)
theorem w_L_law_2877 (d : Nat) (a0 a1 a2 a3 a4 a5 a7 : Option Value) (x : Int32) (st : List Value) (h : a_H) : a_run d ML_law 2877 [a0, a1, a2, a3, a4, a5, some (.int x), a7] st h = a_run d ML_law 2879 [a0, a1, a2, a3, a4, a5, some (.int x), a7] (.int x :: st) h := w_ldI dL_law_2877 rfl
theorem w_L_law_2879 (d : Nat) (L : a_L) (x : Int32) (st : List Value) (h : a_H) : a_run d ML_law 2879 L (.int x :: st) h = if x = 0 then a_run d ML_law 2882 L st h else a_run d ML_law 2894 L st h := w_if_ne dL_law_2879 rfl
theorem w_L_law_2882 (d : Nat) (a0 a1 a2 a4 a5 a6 a7 : Option Value) (x : Nat) (st : List Value) (h : a_H) : a_run d ML_law 2882 [a0, a1, a2, some (.ref x), a4, a5, a6, a7] st h = a_run d ML_law 2883 [a0, a1, a2, some (.ref x), a4, a5, a6, a7] (.ref x :: st) h := w_ldAn dL_law_2882 rfl
theorem w_L_law_2882N (d : Nat) (a0 a1 a2 a4 a5 a6 a7 : Option Value) (st : List Value) (h : a_H) : a_run d ML_law 2882 [a0, a1, a2, some .null, a4, a5, a6, a7] st h = a_run d ML_law 2883 [a0, a1, a2, some .null, a4, a5, a6, a7] (.null :: st) h := w_ldNn dL_law_2882 rfl
theorem w_L_law_2883 (d : Nat) (L : a_L) (st : List Value) (h : a_H) : a_run d ML_law 2883 L st h = a_run d ML_law 2884 L (.int (nI 0) :: st) h := w_iconst dL_law_2883 rfl
theorem w_L_law_2884 (d : Nat) (L : a_L) (x : Int32) (i : Nat) (st : List Value) (h : a_H) : a_run d ML_law 2884 L (.int x :: .ref i :: st) h = (a_rdl h i x).bind fun v => a_run d ML_law 2885 L (v :: st) h := w_lald dL_law_2884
theorem w_L_law_2885 (d : Nat) (a0 a1 a2 a3 a4 a5 a6 : Option Value) (x : Int32) (st : List Value) (h : a_H) : a_run d ML_law 2885 [a0, a1, a2, a3, a4, a5, a6, some (.int x)] st h = a_run d ML_law 2887 [a0, a1, a2, a3, a4, a5, a6, some (.int x)] (.int x :: st) h := w_ldI dL_law_2885 rfl
theorem w_L_law_2887 (d : Nat) (L : a_L) (x : Int32) (st : List Value) (h : a_H) : a_run d ML_law 2887 L (.int x :: st) h = a_run d ML_law 2888 L (.long x.toInt64 :: st) h := w_i2l dL_law_2887
theorem w_L_law_2888 (d : Nat) (L : a_L) (x y : Int64) (st : List Value) (h : a_H) : a_run d ML_law 2888 L (.long y :: .long x :: st) h = a_run d ML_law 2889 L (.int (lg_cmp x y) :: st) h := w_lcmp dL_law_2888
theorem w_L_law_2889 (d : Nat) (L : a_L) (x : Int32) (st : List Value) (h : a_H) : a_run d ML_law 2889 L (.int x :: st) h = if x = 0 then a_run d ML_law 2894 L st h else a_run d ML_law 2892 L st h := w_if_eq dL_law_2889 rfl
theorem w_L_law_2892 (d : Nat) (L : a_L) (st : List Value) (h : a_H) : a_run d ML_law 2892 L st h = a_run d ML_law 2893 L (.int (nI 0) :: st) h := w_iconst dL_law_2892 rfl
theorem w_L_law_2893 (d : Nat) (L : a_L) (x : Int32) (h : a_H) (hx : x = 0 ∨ x = 1) : a_run d ML_law 2893 L [.int x] h = some (.inl (some (.int x)), h) := w_iret dL_law_2893 (w_retZ rfl hx)
theorem w_L_law_2894 (d : Nat) (L : a_L) (st : List Value) (h : a_H) : a_run d ML_law 2894 L st h = a_run d ML_law 2985 L st h := w_goto dL_law_2894 rfl
theorem w_L_law_2897 (d : Nat) (a0 a2 a3 a4 a5 a6 a7 : Option Value) (x : Nat) (st : List Value) (h : a_H) : a_run d ML_law 2897 [a0, some (.ref x), a2, a3, a4, a5, a6, a7] st h = a_run d ML_law 2898 [a0, some (.ref x), a2, a3, a4, a5, a6, a7] (.ref x :: st) h := w_ldAn dL_law_2897 rfl
theorem w_L_law_2897N (d : Nat) (a0 a2 a3 a4 a5 a6 a7 : Option Value) (st : List Value) (h : a_H) : a_run d ML_law 2897 [a0, some .null, a2, a3, a4, a5, a6, a7] st h = a_run d ML_law 2898 [a0, some .null, a2, a3, a4, a5, a6, a7] (.null :: st) h := w_ldNn dL_law_2897 rfl
theorem w_L_law_2898 (d : Nat) (a0 a1 a2 a4 a5 a6 a7 : Option Value) (x : Nat) (st : List Value) (h : a_H) : a_run d ML_law 2898 [a0, a1, a2, some (.ref x), a4, a5, a6, a7] st h = a_run d ML_law 2899 [a0, a1, a2, some (.ref x), a4, a5, a6, a7] (.ref x :: st) h := w_ldAn dL_law_2898 rfl
theorem w_L_law_2898N (d : Nat) (a0 a1 a2 a4 a5 a6 a7 : Option Value) (st : List Value) (h : a_H) : a_run d ML_law 2898 [a0, a1, a2, some .null, a4, a5, a6, a7] st h = a_run d ML_law 2899 [a0, a1, a2, some .null, a4, a5, a6, a7] (.null :: st) h := w_ldNn dL_law_2898 rfl
theorem w_L_law_2899 (d : Nat) (L : a_L) (v0 v1 : Value) (st : List Value) (h : a_H) (hc : a_cat st ≤ 8) : a_run d ML_law 2899 L (v1 :: v0 :: st) h = a_cont d ML_law (a_bk ML_law 2899 L st (a_call d MX0_faultCause [v0, v1] h)) := w_callS (as := [v0, v1]) dL_law_2899 rfl rfl rfl hc
theorem w_L_law_2902 (d : Nat) (a0 a1 a2 a3 a4 a5 a6 a7 : Option Value) (x : Int32) (st : List Value) (h : a_H) : a_run d ML_law 2902 [a0, a1, a2, a3, a4, a5, a6, a7] (.int x :: st) h = a_run d ML_law 2904 [a0, a1, a2, a3, a4, a5, some (.int x), a7] st h := w_stI dL_law_2902 (Nat.le_of_ble_eq_true rfl) rfl
theorem w_L_law_2904 (d : Nat) (a0 a1 a3 a4 a5 a6 a7 : Option Value) (x : Nat) (st : List Value) (h : a_H) : a_run d ML_law 2904 [a0, a1, some (.ref x), a3, a4, a5, a6, a7] st h = a_run d ML_law 2905 [a0, a1, some (.ref x), a3, a4, a5, a6, a7] (.ref x :: st) h := w_ldAn dL_law_2904 rfl
theorem w_L_law_2904N (d : Nat) (a0 a1 a3 a4 a5 a6 a7 : Option Value) (st : List Value) (h : a_H) : a_run d ML_law 2904 [a0, a1, some .null, a3, a4, a5, a6, a7] st h = a_run d ML_law 2905 [a0, a1, some .null, a3, a4, a5, a6, a7] (.null :: st) h := w_ldNn dL_law_2904 rfl
theorem w_L_law_2905 (d : Nat) (L : a_L) (i : Nat) (st : List Value) (h : a_H) (hk : a_kls h i = some 2) (hc : a_cat st ≤ 8) : a_run d ML_law 2905 L (.ref i :: st) h = a_cont d ML_law (a_bk ML_law 2905 L st (a_call d MX3_faultCause [.ref i] h)) := w_callV (as := [.ref i]) dL_law_2905 rfl rfl rfl hc (a_rcv_of hk rfl)
theorem w_L_law_2908 (d : Nat) (a0 a1 a2 a3 a4 a5 a6 a7 : Option Value) (x : Int32) (st : List Value) (h : a_H) : a_run d ML_law 2908 [a0, a1, a2, a3, a4, a5, a6, a7] (.int x :: st) h = a_run d ML_law 2910 [a0, a1, a2, a3, a4, a5, a6, some (.int x)] st h := w_stI dL_law_2908 (Nat.le_of_ble_eq_true rfl) rfl
theorem w_L_law_2910 (d : Nat) (a0 a1 a3 a4 a5 a6 a7 : Option Value) (x : Nat) (st : List Value) (h : a_H) : a_run d ML_law 2910 [a0, a1, some (.ref x), a3, a4, a5, a6, a7] st h = a_run d ML_law 2911 [a0, a1, some (.ref x), a3, a4, a5, a6, a7] (.ref x :: st) h := w_ldAn dL_law_2910 rfl
theorem w_L_law_2910N (d : Nat) (a0 a1 a3 a4 a5 a6 a7 : Option Value) (st : List Value) (h : a_H) : a_run d ML_law 2910 [a0, a1, some .null, a3, a4, a5, a6, a7] st h = a_run d ML_law 2911 [a0, a1, some .null, a3, a4, a5, a6, a7] (.null :: st) h := w_ldNn dL_law_2910 rfl
theorem w_L_law_2911 (d : Nat) (L : a_L) (i : Nat) (st : List Value) (h : a_H) (hk : a_kls h i = some 2) (hc : a_cat st ≤ 8) : a_run d ML_law 2911 L (.ref i :: st) h = a_cont d ML_law (a_bk ML_law 2911 L st (a_call d MX3_thrown [.ref i] h)) := w_callV (as := [.ref i]) dL_law_2911 rfl rfl rfl hc (a_rcv_of hk rfl)
theorem w_L_law_2914 (d : Nat) (a0 a1 a2 a3 a4 a5 a7 : Option Value) (x : Int32) (st : List Value) (h : a_H) : a_run d ML_law 2914 [a0, a1, a2, a3, a4, a5, some (.int x), a7] st h = a_run d ML_law 2916 [a0, a1, a2, a3, a4, a5, some (.int x), a7] (.int x :: st) h := w_ldI dL_law_2914 rfl
theorem w_L_law_2916 (d : Nat) (L : a_L) (x y : Int32) (st : List Value) (h : a_H) : a_run d ML_law 2916 L (.int y :: .int x :: st) h = if x = y then a_run d ML_law 2921 L st h else a_run d ML_law 2919 L st h := w_icmp_eq dL_law_2916 rfl
theorem w_L_law_2919 (d : Nat) (L : a_L) (st : List Value) (h : a_H) : a_run d ML_law 2919 L st h = a_run d ML_law 2920 L (.int (nI 0) :: st) h := w_iconst dL_law_2919 rfl
theorem w_L_law_2920 (d : Nat) (L : a_L) (x : Int32) (h : a_H) (hx : x = 0 ∨ x = 1) : a_run d ML_law 2920 L [.int x] h = some (.inl (some (.int x)), h) := w_iret dL_law_2920 (w_retZ rfl hx)
theorem w_L_law_2921 (d : Nat) (a0 a1 a2 a3 a4 a5 a7 : Option Value) (x : Int32) (st : List Value) (h : a_H) : a_run d ML_law 2921 [a0, a1, a2, a3, a4, a5, some (.int x), a7] st h = a_run d ML_law 2923 [a0, a1, a2, a3, a4, a5, some (.int x), a7] (.int x :: st) h := w_ldI dL_law_2921 rfl
theorem w_L_law_2923 (d : Nat) (L : a_L) (x : Int32) (st : List Value) (h : a_H) : a_run d ML_law 2923 L (.int x :: st) h = if x = 0 then a_run d ML_law 2926 L st h else a_run d ML_law 2938 L st h := w_if_ne dL_law_2923 rfl
theorem w_L_law_2926 (d : Nat) (a0 a1 a2 a4 a5 a6 a7 : Option Value) (x : Nat) (st : List Value) (h : a_H) : a_run d ML_law 2926 [a0, a1, a2, some (.ref x), a4, a5, a6, a7] st h = a_run d ML_law 2927 [a0, a1, a2, some (.ref x), a4, a5, a6, a7] (.ref x :: st) h := w_ldAn dL_law_2926 rfl
theorem w_L_law_2926N (d : Nat) (a0 a1 a2 a4 a5 a6 a7 : Option Value) (st : List Value) (h : a_H) : a_run d ML_law 2926 [a0, a1, a2, some .null, a4, a5, a6, a7] st h = a_run d ML_law 2927 [a0, a1, a2, some .null, a4, a5, a6, a7] (.null :: st) h := w_ldNn dL_law_2926 rfl
theorem w_L_law_2927 (d : Nat) (L : a_L) (st : List Value) (h : a_H) : a_run d ML_law 2927 L st h = a_run d ML_law 2928 L (.int (nI 0) :: st) h := w_iconst dL_law_2927 rfl
theorem w_L_law_2928 (d : Nat) (L : a_L) (x : Int32) (i : Nat) (st : List Value) (h : a_H) : a_run d ML_law 2928 L (.int x :: .ref i :: st) h = (a_rdl h i x).bind fun v => a_run d ML_law 2929 L (v :: st) h := w_lald dL_law_2928
theorem w_L_law_2929 (d : Nat) (a0 a1 a2 a3 a4 a5 a6 : Option Value) (x : Int32) (st : List Value) (h : a_H) : a_run d ML_law 2929 [a0, a1, a2, a3, a4, a5, a6, some (.int x)] st h = a_run d ML_law 2931 [a0, a1, a2, a3, a4, a5, a6, some (.int x)] (.int x :: st) h := w_ldI dL_law_2929 rfl
theorem w_L_law_2931 (d : Nat) (L : a_L) (x : Int32) (st : List Value) (h : a_H) : a_run d ML_law 2931 L (.int x :: st) h = a_run d ML_law 2932 L (.long x.toInt64 :: st) h := w_i2l dL_law_2931
theorem w_L_law_2932 (d : Nat) (L : a_L) (x y : Int64) (st : List Value) (h : a_H) : a_run d ML_law 2932 L (.long y :: .long x :: st) h = a_run d ML_law 2933 L (.int (lg_cmp x y) :: st) h := w_lcmp dL_law_2932
theorem w_L_law_2933 (d : Nat) (L : a_L) (x : Int32) (st : List Value) (h : a_H) : a_run d ML_law 2933 L (.int x :: st) h = if x = 0 then a_run d ML_law 2938 L st h else a_run d ML_law 2936 L st h := w_if_eq dL_law_2933 rfl
theorem w_L_law_2936 (d : Nat) (L : a_L) (st : List Value) (h : a_H) : a_run d ML_law 2936 L st h = a_run d ML_law 2937 L (.int (nI 0) :: st) h := w_iconst dL_law_2936 rfl
theorem w_L_law_2937 (d : Nat) (L : a_L) (x : Int32) (h : a_H) (hx : x = 0 ∨ x = 1) : a_run d ML_law 2937 L [.int x] h = some (.inl (some (.int x)), h) := w_iret dL_law_2937 (w_retZ rfl hx)
theorem w_L_law_2938 (d : Nat) (L : a_L) (st : List Value) (h : a_H) : a_run d ML_law 2938 L st h = a_run d ML_law 2985 L st h := w_goto dL_law_2938 rfl
theorem w_L_law_2941 (d : Nat) (a0 a2 a3 a4 a5 a6 a7 : Option Value) (x : Nat) (st : List Value) (h : a_H) : a_run d ML_law 2941 [a0, some (.ref x), a2, a3, a4, a5, a6, a7] st h = a_run d ML_law 2942 [a0, some (.ref x), a2, a3, a4, a5, a6, a7] (.ref x :: st) h := w_ldAn dL_law_2941 rfl
theorem w_L_law_2941N (d : Nat) (a0 a2 a3 a4 a5 a6 a7 : Option Value) (st : List Value) (h : a_H) : a_run d ML_law 2941 [a0, some .null, a2, a3, a4, a5, a6, a7] st h = a_run d ML_law 2942 [a0, some .null, a2, a3, a4, a5, a6, a7] (.null :: st) h := w_ldNn dL_law_2941 rfl
theorem w_L_law_2942 (d : Nat) (a0 a1 a2 a4 a5 a6 a7 : Option Value) (x : Nat) (st : List Value) (h : a_H) : a_run d ML_law 2942 [a0, a1, a2, some (.ref x), a4, a5, a6, a7] st h = a_run d ML_law 2943 [a0, a1, a2, some (.ref x), a4, a5, a6, a7] (.ref x :: st) h := w_ldAn dL_law_2942 rfl
theorem w_L_law_2942N (d : Nat) (a0 a1 a2 a4 a5 a6 a7 : Option Value) (st : List Value) (h : a_H) : a_run d ML_law 2942 [a0, a1, a2, some .null, a4, a5, a6, a7] st h = a_run d ML_law 2943 [a0, a1, a2, some .null, a4, a5, a6, a7] (.null :: st) h := w_ldNn dL_law_2942 rfl
theorem w_L_law_2943 (d : Nat) (L : a_L) (v0 v1 : Value) (st : List Value) (h : a_H) (hc : a_cat st ≤ 8) : a_run d ML_law 2943 L (v1 :: v0 :: st) h = a_cont d ML_law (a_bk ML_law 2943 L st (a_call d MX0_play [v0, v1] h)) := w_callS (as := [v0, v1]) dL_law_2943 rfl rfl rfl hc
theorem w_L_law_2946 (d : Nat) (a0 a1 a2 a3 a4 a5 a6 a7 : Option Value) (x : Int32) (st : List Value) (h : a_H) : a_run d ML_law 2946 [a0, a1, a2, a3, a4, a5, a6, a7] (.int x :: st) h = a_run d ML_law 2948 [a0, a1, a2, a3, a4, a5, some (.int x), a7] st h := w_stI dL_law_2946 (Nat.le_of_ble_eq_true rfl) rfl
theorem w_L_law_2948 (d : Nat) (a0 a1 a3 a4 a5 a6 a7 : Option Value) (x : Nat) (st : List Value) (h : a_H) : a_run d ML_law 2948 [a0, a1, some (.ref x), a3, a4, a5, a6, a7] st h = a_run d ML_law 2949 [a0, a1, some (.ref x), a3, a4, a5, a6, a7] (.ref x :: st) h := w_ldAn dL_law_2948 rfl
theorem w_L_law_2948N (d : Nat) (a0 a1 a3 a4 a5 a6 a7 : Option Value) (st : List Value) (h : a_H) : a_run d ML_law 2948 [a0, a1, some .null, a3, a4, a5, a6, a7] st h = a_run d ML_law 2949 [a0, a1, some .null, a3, a4, a5, a6, a7] (.null :: st) h := w_ldNn dL_law_2948 rfl
theorem w_L_law_2949 (d : Nat) (L : a_L) (i : Nat) (st : List Value) (h : a_H) (hk : a_kls h i = some 2) (hc : a_cat st ≤ 8) : a_run d ML_law 2949 L (.ref i :: st) h = a_cont d ML_law (a_bk ML_law 2949 L st (a_call d MX3_play [.ref i] h)) := w_callV (as := [.ref i]) dL_law_2949 rfl rfl rfl hc (a_rcv_of hk rfl)
theorem w_L_law_2952 (d : Nat) (a0 a1 a2 a3 a4 a5 a6 a7 : Option Value) (x : Int32) (st : List Value) (h : a_H) : a_run d ML_law 2952 [a0, a1, a2, a3, a4, a5, a6, a7] (.int x :: st) h = a_run d ML_law 2954 [a0, a1, a2, a3, a4, a5, a6, some (.int x)] st h := w_stI dL_law_2952 (Nat.le_of_ble_eq_true rfl) rfl
theorem w_L_law_2954 (d : Nat) (a0 a1 a3 a4 a5 a6 a7 : Option Value) (x : Nat) (st : List Value) (h : a_H) : a_run d ML_law 2954 [a0, a1, some (.ref x), a3, a4, a5, a6, a7] st h = a_run d ML_law 2955 [a0, a1, some (.ref x), a3, a4, a5, a6, a7] (.ref x :: st) h := w_ldAn dL_law_2954 rfl
theorem w_L_law_2954N (d : Nat) (a0 a1 a3 a4 a5 a6 a7 : Option Value) (st : List Value) (h : a_H) : a_run d ML_law 2954 [a0, a1, some .null, a3, a4, a5, a6, a7] st h = a_run d ML_law 2955 [a0, a1, some .null, a3, a4, a5, a6, a7] (.null :: st) h := w_ldNn dL_law_2954 rfl
theorem w_L_law_2955 (d : Nat) (L : a_L) (i : Nat) (st : List Value) (h : a_H) (hk : a_kls h i = some 2) (hc : a_cat st ≤ 8) : a_run d ML_law 2955 L (.ref i :: st) h = a_cont d ML_law (a_bk ML_law 2955 L st (a_call d MX3_thrown [.ref i] h)) := w_callV (as := [.ref i]) dL_law_2955 rfl rfl rfl hc (a_rcv_of hk rfl)
theorem w_L_law_2958 (d : Nat) (a0 a1 a2 a3 a4 a5 a7 : Option Value) (x : Int32) (st : List Value) (h : a_H) : a_run d ML_law 2958 [a0, a1, a2, a3, a4, a5, some (.int x), a7] st h = a_run d ML_law 2960 [a0, a1, a2, a3, a4, a5, some (.int x), a7] (.int x :: st) h := w_ldI dL_law_2958 rfl
theorem w_L_law_2960 (d : Nat) (L : a_L) (x y : Int32) (st : List Value) (h : a_H) : a_run d ML_law 2960 L (.int y :: .int x :: st) h = if x = y then a_run d ML_law 2965 L st h else a_run d ML_law 2963 L st h := w_icmp_eq dL_law_2960 rfl
theorem w_L_law_2963 (d : Nat) (L : a_L) (st : List Value) (h : a_H) : a_run d ML_law 2963 L st h = a_run d ML_law 2964 L (.int (nI 0) :: st) h := w_iconst dL_law_2963 rfl
theorem w_L_law_2964 (d : Nat) (L : a_L) (x : Int32) (h : a_H) (hx : x = 0 ∨ x = 1) : a_run d ML_law 2964 L [.int x] h = some (.inl (some (.int x)), h) := w_iret dL_law_2964 (w_retZ rfl hx)
theorem w_L_law_2965 (d : Nat) (a0 a1 a2 a3 a4 a5 a7 : Option Value) (x : Int32) (st : List Value) (h : a_H) : a_run d ML_law 2965 [a0, a1, a2, a3, a4, a5, some (.int x), a7] st h = a_run d ML_law 2967 [a0, a1, a2, a3, a4, a5, some (.int x), a7] (.int x :: st) h := w_ldI dL_law_2965 rfl
theorem w_L_law_2967 (d : Nat) (L : a_L) (x : Int32) (st : List Value) (h : a_H) : a_run d ML_law 2967 L (.int x :: st) h = if x = 0 then a_run d ML_law 2970 L st h else a_run d ML_law 2982 L st h := w_if_ne dL_law_2967 rfl
theorem w_L_law_2970 (d : Nat) (a0 a1 a2 a4 a5 a6 a7 : Option Value) (x : Nat) (st : List Value) (h : a_H) : a_run d ML_law 2970 [a0, a1, a2, some (.ref x), a4, a5, a6, a7] st h = a_run d ML_law 2971 [a0, a1, a2, some (.ref x), a4, a5, a6, a7] (.ref x :: st) h := w_ldAn dL_law_2970 rfl
theorem w_L_law_2970N (d : Nat) (a0 a1 a2 a4 a5 a6 a7 : Option Value) (st : List Value) (h : a_H) : a_run d ML_law 2970 [a0, a1, a2, some .null, a4, a5, a6, a7] st h = a_run d ML_law 2971 [a0, a1, a2, some .null, a4, a5, a6, a7] (.null :: st) h := w_ldNn dL_law_2970 rfl
theorem w_L_law_2971 (d : Nat) (L : a_L) (st : List Value) (h : a_H) : a_run d ML_law 2971 L st h = a_run d ML_law 2972 L (.int (nI 0) :: st) h := w_iconst dL_law_2971 rfl
theorem w_L_law_2972 (d : Nat) (L : a_L) (x : Int32) (i : Nat) (st : List Value) (h : a_H) : a_run d ML_law 2972 L (.int x :: .ref i :: st) h = (a_rdl h i x).bind fun v => a_run d ML_law 2973 L (v :: st) h := w_lald dL_law_2972
theorem w_L_law_2973 (d : Nat) (a0 a1 a2 a3 a4 a5 a6 : Option Value) (x : Int32) (st : List Value) (h : a_H) : a_run d ML_law 2973 [a0, a1, a2, a3, a4, a5, a6, some (.int x)] st h = a_run d ML_law 2975 [a0, a1, a2, a3, a4, a5, a6, some (.int x)] (.int x :: st) h := w_ldI dL_law_2973 rfl
theorem w_L_law_2975 (d : Nat) (L : a_L) (x : Int32) (st : List Value) (h : a_H) : a_run d ML_law 2975 L (.int x :: st) h = a_run d ML_law 2976 L (.long x.toInt64 :: st) h := w_i2l dL_law_2975
theorem w_L_law_2976 (d : Nat) (L : a_L) (x y : Int64) (st : List Value) (h : a_H) : a_run d ML_law 2976 L (.long y :: .long x :: st) h = a_run d ML_law 2977 L (.int (lg_cmp x y) :: st) h := w_lcmp dL_law_2976
theorem w_L_law_2977 (d : Nat) (L : a_L) (x : Int32) (st : List Value) (h : a_H) : a_run d ML_law 2977 L (.int x :: st) h = if x = 0 then a_run d ML_law 2982 L st h else a_run d ML_law 2980 L st h := w_if_eq dL_law_2977 rfl
theorem w_L_law_2980 (d : Nat) (L : a_L) (st : List Value) (h : a_H) : a_run d ML_law 2980 L st h = a_run d ML_law 2981 L (.int (nI 0) :: st) h := w_iconst dL_law_2980 rfl
theorem w_L_law_2981 (d : Nat) (L : a_L) (x : Int32) (h : a_H) (hx : x = 0 ∨ x = 1) : a_run d ML_law 2981 L [.int x] h = some (.inl (some (.int x)), h) := w_iret dL_law_2981 (w_retZ rfl hx)
theorem w_L_law_2982 (d : Nat) (L : a_L) (st : List Value) (h : a_H) : a_run d ML_law 2982 L st h = a_run d ML_law 2985 L st h := w_goto dL_law_2982 rfl
theorem w_L_law_2985 (d : Nat) (a0 a1 a2 a3 a4 a6 a7 : Option Value) (x : Int32) (st : List Value) (h : a_H) : a_run d ML_law 2985 [a0, a1, a2, a3, a4, some (.int x), a6, a7] st h = a_run d ML_law 2988 [a0, a1, a2, a3, a4, some (.int (x + nI 4)), a6, a7] st h := w_incL dL_law_2985 rfl rfl rfl
theorem w_L_law_2988 (d : Nat) (L : a_L) (st : List Value) (h : a_H) : a_run d ML_law 2988 L st h = a_run d ML_law 28 L st h := w_goto dL_law_2988 rfl
theorem w_L_law_2991 (d : Nat) (L : a_L) (st : List Value) (h : a_H) : a_run d ML_law 2991 L st h = a_run d ML_law 2992 L (.int (nI 1) :: st) h := w_iconst dL_law_2991 rfl
theorem w_L_law_2992 (d : Nat) (L : a_L) (x : Int32) (h : a_H) (hx : x = 0 ∨ x = 1) : a_run d ML_law 2992 L [.int x] h = some (.inl (some (.int x)), h) := w_iret dL_law_2992 (w_retZ rfl hx)
