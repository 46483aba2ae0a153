/-! the law's own entry -/
set_option maxRecDepth 100000
abbrev cL_law : ByteArray := code
def dkwL_law_130 : List UInt8 := [167, 243, 138, 4, 172]
abbrev dktL_law_130 : List UInt8 := dkwL_law_130 ++ []
def dkwL_law_129 : List UInt8 := [172, 21, 6, 154, 0, 15, 45, 3, 47, 21, 7, 133, 148, 153, 0, 5, 3, 172, 167, 0, 3, 132, 5, 7]
abbrev dktL_law_129 : List UInt8 := dkwL_law_129 ++ dktL_law_130
def dkwL_law_128 : List UInt8 := [54, 6, 44, 42, 21, 5, 4, 96, 46, 182, 1, 73, 54, 7, 44, 182, 0, 170, 21, 6, 159, 0, 5, 3]
abbrev dktL_law_128 : List UInt8 := dkwL_law_128 ++ dktL_law_129
def dkwL_law_127 : List UInt8 := [21, 7, 133, 148, 153, 0, 5, 3, 172, 167, 0, 59, 43, 42, 21, 5, 4, 96, 46, 45, 184, 1, 71]
abbrev dktL_law_127 : List UInt8 := dkwL_law_127 ++ dktL_law_128
def dkwL_law_126 : List UInt8 := [182, 1, 70, 54, 7, 44, 182, 0, 170, 21, 6, 159, 0, 5, 3, 172, 21, 6, 154, 0, 15, 45, 3, 47]
abbrev dktL_law_126 : List UInt8 := dkwL_law_126 ++ dktL_law_127
def dkwL_law_125 : List UInt8 := [167, 0, 115, 43, 42, 21, 5, 4, 96, 46, 45, 184, 1, 68, 54, 6, 44, 42, 21, 5, 4, 96, 46]
abbrev dktL_law_125 : List UInt8 := dkwL_law_125 ++ dktL_law_126
def dkwL_law_124 : List UInt8 := [159, 0, 5, 3, 172, 21, 6, 154, 0, 15, 45, 3, 47, 21, 7, 133, 148, 153, 0, 5, 3, 172]
abbrev dktL_law_124 : List UInt8 := dkwL_law_124 ++ dktL_law_125
def dkwL_law_123 : List UInt8 := [167, 0, 159, 43, 45, 184, 1, 65, 54, 6, 44, 182, 1, 67, 54, 7, 44, 182, 0, 170, 21, 6]
abbrev dktL_law_123 : List UInt8 := dkwL_law_123 ++ dktL_law_124
def dkwL_law_122 : List UInt8 := [21, 6, 159, 0, 5, 3, 172, 21, 6, 154, 0, 15, 45, 3, 47, 21, 7, 133, 148, 153, 0, 5, 3, 172]
abbrev dktL_law_122 : List UInt8 := dkwL_law_122 ++ dktL_law_123
def dkwL_law_121 : List UInt8 := [46, 45, 184, 1, 62, 54, 6, 44, 42, 21, 5, 4, 96, 46, 182, 1, 64, 54, 7, 44, 182, 0, 170]
abbrev dktL_law_121 : List UInt8 := dkwL_law_121 ++ dktL_law_122
def dkwL_law_120 : List UInt8 := [154, 0, 15, 45, 3, 47, 21, 7, 133, 148, 153, 0, 5, 3, 172, 167, 0, 215, 43, 42, 21, 5, 4, 96]
abbrev dktL_law_120 : List UInt8 := dkwL_law_120 ++ dktL_law_121
def dkwL_law_119 : List UInt8 := [21, 5, 16, 6, 96, 46, 182, 1, 61, 54, 7, 44, 182, 0, 170, 21, 6, 159, 0, 5, 3, 172, 21, 6]
abbrev dktL_law_119 : List UInt8 := dkwL_law_119 ++ dktL_law_120
def dkwL_law_118 : List UInt8 := [21, 5, 5, 96, 46, 42, 21, 5, 6, 96, 46, 42, 21, 5, 7, 96, 46, 42, 21, 5, 8, 96, 46, 42]
abbrev dktL_law_118 : List UInt8 := dkwL_law_118 ++ dktL_law_119
def dkwL_law_117 : List UInt8 := [8, 96, 46, 42, 21, 5, 16, 6, 96, 46, 45, 184, 1, 58, 54, 6, 44, 42, 21, 5, 4, 96, 46, 42]
abbrev dktL_law_117 : List UInt8 := dkwL_law_117 ++ dktL_law_118
def dkwL_law_116 : List UInt8 := [4, 96, 46, 42, 21, 5, 5, 96, 46, 42, 21, 5, 6, 96, 46, 42, 21, 5, 7, 96, 46, 42, 21, 5]
abbrev dktL_law_116 : List UInt8 := dkwL_law_116 ++ dktL_law_117
def dkwL_law_115 : List UInt8 := [21, 6, 154, 0, 15, 45, 3, 47, 21, 7, 133, 148, 153, 0, 5, 3, 172, 167, 1, 77, 43, 42, 21, 5]
abbrev dktL_law_115 : List UInt8 := dkwL_law_115 ++ dktL_law_116
def dkwL_law_114 : List UInt8 := [96, 46, 42, 21, 5, 6, 96, 46, 182, 1, 57, 54, 7, 44, 182, 0, 170, 21, 6, 159, 0, 5, 3, 172]
abbrev dktL_law_114 : List UInt8 := dkwL_law_114 ++ dktL_law_115
def dkwL_law_113 : List UInt8 := [46, 42, 21, 5, 6, 96, 46, 45, 184, 1, 55, 54, 6, 44, 42, 21, 5, 4, 96, 46, 42, 21, 5, 5]
abbrev dktL_law_113 : List UInt8 := dkwL_law_113 ++ dktL_law_114
def dkwL_law_112 : List UInt8 := [21, 7, 133, 148, 153, 0, 5, 3, 172, 167, 1, 157, 43, 42, 21, 5, 4, 96, 46, 42, 21, 5, 5, 96]
abbrev dktL_law_112 : List UInt8 := dkwL_law_112 ++ dktL_law_113
def dkwL_law_111 : List UInt8 := [182, 1, 54, 54, 7, 44, 182, 0, 170, 21, 6, 159, 0, 5, 3, 172, 21, 6, 154, 0, 15, 45, 3, 47]
abbrev dktL_law_111 : List UInt8 := dkwL_law_111 ++ dktL_law_112
def dkwL_law_110 : List UInt8 := [167, 1, 213, 43, 42, 21, 5, 4, 96, 46, 45, 184, 1, 52, 54, 6, 44, 42, 21, 5, 4, 96, 46]
abbrev dktL_law_110 : List UInt8 := dkwL_law_110 ++ dktL_law_111
def dkwL_law_109 : List UInt8 := [159, 0, 5, 3, 172, 21, 6, 154, 0, 15, 45, 3, 47, 21, 7, 133, 148, 153, 0, 5, 3, 172]
abbrev dktL_law_109 : List UInt8 := dkwL_law_109 ++ dktL_law_110
def dkwL_law_108 : List UInt8 := [21, 5, 4, 96, 46, 42, 21, 5, 5, 96, 46, 182, 1, 51, 54, 7, 44, 182, 0, 170, 21, 6]
abbrev dktL_law_108 : List UInt8 := dkwL_law_108 ++ dktL_law_109
def dkwL_law_107 : List UInt8 := [167, 2, 25, 43, 42, 21, 5, 4, 96, 46, 42, 21, 5, 5, 96, 46, 45, 184, 1, 49, 54, 6, 44, 42]
abbrev dktL_law_107 : List UInt8 := dkwL_law_107 ++ dktL_law_108
def dkwL_law_106 : List UInt8 := [159, 0, 5, 3, 172, 21, 6, 154, 0, 15, 45, 3, 47, 21, 7, 133, 148, 153, 0, 5, 3, 172]
abbrev dktL_law_106 : List UInt8 := dkwL_law_106 ++ dktL_law_107
def dkwL_law_105 : List UInt8 := [21, 5, 4, 96, 46, 42, 21, 5, 5, 96, 46, 182, 1, 48, 54, 7, 44, 182, 0, 170, 21, 6]
abbrev dktL_law_105 : List UInt8 := dkwL_law_105 ++ dktL_law_106
def dkwL_law_104 : List UInt8 := [167, 2, 93, 43, 42, 21, 5, 4, 96, 46, 42, 21, 5, 5, 96, 46, 45, 184, 1, 46, 54, 6, 44, 42]
abbrev dktL_law_104 : List UInt8 := dkwL_law_104 ++ dktL_law_105
def dkwL_law_103 : List UInt8 := [159, 0, 5, 3, 172, 21, 6, 154, 0, 15, 45, 3, 47, 21, 7, 133, 148, 153, 0, 5, 3, 172]
abbrev dktL_law_103 : List UInt8 := dkwL_law_103 ++ dktL_law_104
def dkwL_law_102 : List UInt8 := [184, 1, 43, 54, 6, 44, 42, 21, 5, 4, 96, 46, 182, 1, 45, 54, 7, 44, 182, 0, 170, 21, 6]
abbrev dktL_law_102 : List UInt8 := dkwL_law_102 ++ dktL_law_103
def dkwL_law_101 : List UInt8 := [3, 47, 21, 7, 133, 148, 153, 0, 5, 3, 172, 167, 2, 149, 43, 42, 21, 5, 4, 96, 46, 45]
abbrev dktL_law_101 : List UInt8 := dkwL_law_101 ++ dktL_law_102
def dkwL_law_100 : List UInt8 := [96, 46, 182, 1, 42, 54, 7, 44, 182, 0, 170, 21, 6, 159, 0, 5, 3, 172, 21, 6, 154, 0, 15, 45]
abbrev dktL_law_100 : List UInt8 := dkwL_law_100 ++ dktL_law_101
def dkwL_law_99 : List UInt8 := [46, 42, 21, 5, 5, 96, 46, 45, 184, 1, 40, 54, 6, 44, 42, 21, 5, 4, 96, 46, 42, 21, 5, 5]
abbrev dktL_law_99 : List UInt8 := dkwL_law_99 ++ dktL_law_100
def dkwL_law_98 : List UInt8 := [154, 0, 15, 45, 3, 47, 21, 7, 133, 148, 153, 0, 5, 3, 172, 167, 2, 217, 43, 42, 21, 5, 4, 96]
abbrev dktL_law_98 : List UInt8 := dkwL_law_98 ++ dktL_law_99
def dkwL_law_97 : List UInt8 := [42, 21, 5, 6, 96, 46, 182, 1, 39, 54, 7, 44, 182, 0, 170, 21, 6, 159, 0, 5, 3, 172, 21, 6]
abbrev dktL_law_97 : List UInt8 := dkwL_law_97 ++ dktL_law_98
def dkwL_law_96 : List UInt8 := [21, 5, 6, 96, 46, 45, 184, 1, 37, 54, 6, 44, 42, 21, 5, 4, 96, 46, 42, 21, 5, 5, 96, 46]
abbrev dktL_law_96 : List UInt8 := dkwL_law_96 ++ dktL_law_97
def dkwL_law_95 : List UInt8 := [148, 153, 0, 5, 3, 172, 167, 3, 41, 43, 42, 21, 5, 4, 96, 46, 42, 21, 5, 5, 96, 46, 42]
abbrev dktL_law_95 : List UInt8 := dkwL_law_95 ++ dktL_law_96
def dkwL_law_94 : List UInt8 := [54, 7, 44, 182, 0, 170, 21, 6, 159, 0, 5, 3, 172, 21, 6, 154, 0, 15, 45, 3, 47, 21, 7, 133]
abbrev dktL_law_94 : List UInt8 := dkwL_law_94 ++ dktL_law_95
def dkwL_law_93 : List UInt8 := [96, 46, 42, 21, 5, 5, 96, 46, 42, 21, 5, 6, 96, 46, 42, 21, 5, 7, 96, 46, 182, 1, 36]
abbrev dktL_law_93 : List UInt8 := dkwL_law_93 ++ dktL_law_94
def dkwL_law_92 : List UInt8 := [46, 42, 21, 5, 6, 96, 46, 42, 21, 5, 7, 96, 46, 45, 184, 1, 34, 54, 6, 44, 42, 21, 5, 4]
abbrev dktL_law_92 : List UInt8 := dkwL_law_92 ++ dktL_law_93
def dkwL_law_91 : List UInt8 := [21, 7, 133, 148, 153, 0, 5, 3, 172, 167, 3, 133, 43, 42, 21, 5, 4, 96, 46, 42, 21, 5, 5, 96]
abbrev dktL_law_91 : List UInt8 := dkwL_law_91 ++ dktL_law_92
def dkwL_law_90 : List UInt8 := [182, 1, 33, 54, 7, 44, 182, 0, 170, 21, 6, 159, 0, 5, 3, 172, 21, 6, 154, 0, 15, 45, 3, 47]
abbrev dktL_law_90 : List UInt8 := dkwL_law_90 ++ dktL_law_91
def dkwL_law_89 : List UInt8 := [167, 3, 189, 43, 42, 21, 5, 4, 96, 46, 45, 184, 1, 31, 54, 6, 44, 42, 21, 5, 4, 96, 46]
abbrev dktL_law_89 : List UInt8 := dkwL_law_89 ++ dktL_law_90
def dkwL_law_88 : List UInt8 := [159, 0, 5, 3, 172, 21, 6, 154, 0, 15, 45, 3, 47, 21, 7, 133, 148, 153, 0, 5, 3, 172]
abbrev dktL_law_88 : List UInt8 := dkwL_law_88 ++ dktL_law_89
def dkwL_law_87 : List UInt8 := [21, 5, 4, 96, 46, 42, 21, 5, 5, 96, 46, 182, 1, 30, 54, 7, 44, 182, 0, 170, 21, 6]
abbrev dktL_law_87 : List UInt8 := dkwL_law_87 ++ dktL_law_88
def dkwL_law_86 : List UInt8 := [167, 4, 1, 43, 42, 21, 5, 4, 96, 46, 42, 21, 5, 5, 96, 46, 45, 184, 1, 28, 54, 6, 44, 42]
abbrev dktL_law_86 : List UInt8 := dkwL_law_86 ++ dktL_law_87
def dkwL_law_85 : List UInt8 := [21, 6, 159, 0, 5, 3, 172, 21, 6, 154, 0, 15, 45, 3, 47, 21, 7, 133, 148, 153, 0, 5, 3, 172]
abbrev dktL_law_85 : List UInt8 := dkwL_law_85 ++ dktL_law_86
def dkwL_law_84 : List UInt8 := [46, 45, 184, 1, 25, 54, 6, 44, 42, 21, 5, 4, 96, 46, 182, 1, 27, 54, 7, 44, 182, 0, 170]
abbrev dktL_law_84 : List UInt8 := dkwL_law_84 ++ dktL_law_85
def dkwL_law_83 : List UInt8 := [154, 0, 15, 45, 3, 47, 21, 7, 133, 148, 153, 0, 5, 3, 172, 167, 4, 57, 43, 42, 21, 5, 4, 96]
abbrev dktL_law_83 : List UInt8 := dkwL_law_83 ++ dktL_law_84
def dkwL_law_82 : List UInt8 := [21, 5, 4, 96, 46, 182, 1, 24, 54, 7, 44, 182, 0, 170, 21, 6, 159, 0, 5, 3, 172, 21, 6]
abbrev dktL_law_82 : List UInt8 := dkwL_law_82 ++ dktL_law_83
def dkwL_law_81 : List UInt8 := [153, 0, 5, 3, 172, 167, 4, 113, 43, 42, 21, 5, 4, 96, 46, 45, 184, 1, 22, 54, 6, 44, 42]
abbrev dktL_law_81 : List UInt8 := dkwL_law_81 ++ dktL_law_82
def dkwL_law_80 : List UInt8 := [182, 0, 170, 21, 6, 159, 0, 5, 3, 172, 21, 6, 154, 0, 15, 45, 3, 47, 21, 7, 133, 148]
abbrev dktL_law_80 : List UInt8 := dkwL_law_80 ++ dktL_law_81
def dkwL_law_79 : List UInt8 := [184, 1, 19, 54, 6, 44, 42, 21, 5, 4, 96, 46, 42, 21, 5, 5, 96, 46, 182, 1, 21, 54, 7, 44]
abbrev dktL_law_79 : List UInt8 := dkwL_law_79 ++ dktL_law_80
def dkwL_law_78 : List UInt8 := [153, 0, 5, 3, 172, 167, 4, 181, 43, 42, 21, 5, 4, 96, 46, 42, 21, 5, 5, 96, 46, 45]
abbrev dktL_law_78 : List UInt8 := dkwL_law_78 ++ dktL_law_79
def dkwL_law_77 : List UInt8 := [182, 0, 170, 21, 6, 159, 0, 5, 3, 172, 21, 6, 154, 0, 15, 45, 3, 47, 21, 7, 133, 148]
abbrev dktL_law_77 : List UInt8 := dkwL_law_77 ++ dktL_law_78
def dkwL_law_76 : List UInt8 := [184, 1, 16, 54, 6, 44, 42, 21, 5, 4, 96, 46, 42, 21, 5, 5, 96, 46, 182, 1, 18, 54, 7, 44]
abbrev dktL_law_76 : List UInt8 := dkwL_law_76 ++ dktL_law_77
def dkwL_law_75 : List UInt8 := [9, 148, 153, 0, 5, 3, 172, 167, 4, 249, 43, 42, 21, 5, 4, 96, 46, 42, 21, 5, 5, 96, 46, 45]
abbrev dktL_law_75 : List UInt8 := dkwL_law_75 ++ dktL_law_76
def dkwL_law_74 : List UInt8 := [21, 6, 159, 0, 5, 3, 172, 21, 6, 154, 0, 22, 45, 3, 47, 21, 7, 153, 0, 7, 10, 167, 0, 4]
abbrev dktL_law_74 : List UInt8 := dkwL_law_74 ++ dktL_law_75
def dkwL_law_73 : List UInt8 := [46, 45, 184, 1, 13, 54, 6, 44, 42, 21, 5, 4, 96, 46, 182, 1, 15, 54, 7, 44, 182, 0, 170]
abbrev dktL_law_73 : List UInt8 := dkwL_law_73 ++ dktL_law_74
def dkwL_law_72 : List UInt8 := [154, 0, 15, 45, 3, 47, 21, 7, 133, 148, 153, 0, 5, 3, 172, 167, 5, 56, 43, 42, 21, 5, 4, 96]
abbrev dktL_law_72 : List UInt8 := dkwL_law_72 ++ dktL_law_73
def dkwL_law_71 : List UInt8 := [21, 5, 6, 96, 46, 182, 1, 12, 54, 7, 44, 182, 0, 170, 21, 6, 159, 0, 5, 3, 172, 21, 6]
abbrev dktL_law_71 : List UInt8 := dkwL_law_71 ++ dktL_law_72
def dkwL_law_70 : List UInt8 := [6, 96, 46, 45, 184, 1, 9, 54, 6, 44, 42, 21, 5, 4, 96, 46, 42, 21, 5, 5, 96, 46, 42]
abbrev dktL_law_70 : List UInt8 := dkwL_law_70 ++ dktL_law_71
def dkwL_law_69 : List UInt8 := [153, 0, 5, 3, 172, 167, 5, 136, 43, 42, 21, 5, 4, 96, 46, 42, 21, 5, 5, 96, 46, 42, 21, 5]
abbrev dktL_law_69 : List UInt8 := dkwL_law_69 ++ dktL_law_70
def dkwL_law_68 : List UInt8 := [182, 0, 170, 21, 6, 159, 0, 5, 3, 172, 21, 6, 154, 0, 15, 45, 3, 47, 21, 7, 133, 148]
abbrev dktL_law_68 : List UInt8 := dkwL_law_68 ++ dktL_law_69
def dkwL_law_67 : List UInt8 := [184, 1, 6, 54, 6, 44, 42, 21, 5, 4, 96, 46, 42, 21, 5, 5, 96, 46, 182, 1, 8, 54, 7, 44]
abbrev dktL_law_67 : List UInt8 := dkwL_law_67 ++ dktL_law_68
def dkwL_law_66 : List UInt8 := [153, 0, 5, 3, 172, 167, 5, 204, 43, 42, 21, 5, 4, 96, 46, 42, 21, 5, 5, 96, 46, 45]
abbrev dktL_law_66 : List UInt8 := dkwL_law_66 ++ dktL_law_67
def dkwL_law_65 : List UInt8 := [182, 0, 170, 21, 6, 159, 0, 5, 3, 172, 21, 6, 154, 0, 15, 45, 3, 47, 21, 7, 133, 148]
abbrev dktL_law_65 : List UInt8 := dkwL_law_65 ++ dktL_law_66
def dkwL_law_64 : List UInt8 := [21, 5, 4, 96, 46, 45, 184, 1, 3, 54, 6, 44, 42, 21, 5, 4, 96, 46, 182, 1, 5, 54, 7, 44]
abbrev dktL_law_64 : List UInt8 := dkwL_law_64 ++ dktL_law_65
def dkwL_law_63 : List UInt8 := [153, 0, 5, 3, 172, 167, 6, 17, 43, 182, 0, 255, 44, 182, 1, 2, 159, 6, 6, 3, 172, 43, 42]
abbrev dktL_law_63 : List UInt8 := dkwL_law_63 ++ dktL_law_64
def dkwL_law_62 : List UInt8 := [44, 182, 0, 170, 21, 6, 159, 0, 5, 3, 172, 21, 6, 154, 0, 15, 45, 3, 47, 21, 7, 133, 148]
abbrev dktL_law_62 : List UInt8 := dkwL_law_62 ++ dktL_law_63
def dkwL_law_61 : List UInt8 := [42, 21, 5, 4, 96, 46, 45, 184, 0, 252, 54, 6, 44, 42, 21, 5, 4, 96, 46, 182, 0, 254, 54, 7]
abbrev dktL_law_61 : List UInt8 := dkwL_law_61 ++ dktL_law_62
def dkwL_law_60 : List UInt8 := [3, 49, 25, 4, 3, 49, 151, 153, 0, 11, 24, 7, 24, 7, 151, 154, 0, 5, 3, 172, 167, 6, 73, 43]
abbrev dktL_law_60 : List UInt8 := dkwL_law_60 ++ dktL_law_61
def dkwL_law_59 : List UInt8 := [21, 6, 159, 0, 5, 3, 172, 21, 6, 154, 0, 35, 25, 4, 3, 49, 24, 7, 151, 153, 0, 25, 25, 4]
abbrev dktL_law_59 : List UInt8 := dkwL_law_59 ++ dktL_law_60
def dkwL_law_58 : List UInt8 := [46, 25, 4, 184, 0, 248, 54, 6, 44, 42, 21, 5, 4, 96, 46, 182, 0, 251, 57, 7, 44, 182, 0, 170]
abbrev dktL_law_58 : List UInt8 := dkwL_law_58 ++ dktL_law_59
def dkwL_law_57 : List UInt8 := [154, 0, 15, 45, 3, 47, 21, 7, 133, 148, 153, 0, 5, 3, 172, 167, 6, 150, 43, 42, 21, 5, 4, 96]
abbrev dktL_law_57 : List UInt8 := dkwL_law_57 ++ dktL_law_58
def dkwL_law_56 : List UInt8 := [21, 5, 4, 96, 46, 182, 0, 247, 54, 7, 44, 182, 0, 170, 21, 6, 159, 0, 5, 3, 172, 21, 6]
abbrev dktL_law_56 : List UInt8 := dkwL_law_56 ++ dktL_law_57
def dkwL_law_55 : List UInt8 := [148, 153, 0, 5, 3, 172, 167, 6, 206, 43, 42, 21, 5, 4, 96, 46, 45, 184, 0, 245, 54, 6, 44, 42]
abbrev dktL_law_55 : List UInt8 := dkwL_law_55 ++ dktL_law_56
def dkwL_law_54 : List UInt8 := [54, 7, 44, 182, 0, 170, 21, 6, 159, 0, 5, 3, 172, 21, 6, 154, 0, 15, 45, 3, 47, 21, 7, 133]
abbrev dktL_law_54 : List UInt8 := dkwL_law_54 ++ dktL_law_55
def dkwL_law_53 : List UInt8 := [172, 43, 42, 21, 5, 4, 96, 46, 45, 184, 0, 242, 54, 6, 44, 42, 21, 5, 4, 96, 46, 182, 0, 244]
abbrev dktL_law_53 : List UInt8 := dkwL_law_53 ++ dktL_law_54
def dkwL_law_52 : List UInt8 := [182, 0, 234, 44, 182, 0, 237, 159, 7, 21, 3, 172, 43, 182, 0, 238, 44, 182, 0, 241, 159, 7, 8, 3]
abbrev dktL_law_52 : List UInt8 := dkwL_law_52 ++ dktL_law_53
def dkwL_law_51 : List UInt8 := [172, 21, 6, 154, 0, 15, 45, 3, 47, 21, 7, 133, 148, 153, 0, 5, 3, 172, 167, 7, 32, 43]
abbrev dktL_law_51 : List UInt8 := dkwL_law_51 ++ dktL_law_52
def dkwL_law_50 : List UInt8 := [54, 6, 44, 42, 21, 5, 4, 96, 46, 182, 0, 233, 54, 7, 44, 182, 0, 170, 21, 6, 159, 0, 5, 3]
abbrev dktL_law_50 : List UInt8 := dkwL_law_50 ++ dktL_law_51
def dkwL_law_49 : List UInt8 := [21, 7, 133, 148, 153, 0, 5, 3, 172, 167, 7, 88, 43, 42, 21, 5, 4, 96, 46, 45, 184, 0, 231]
abbrev dktL_law_49 : List UInt8 := dkwL_law_49 ++ dktL_law_50
def dkwL_law_48 : List UInt8 := [182, 0, 230, 54, 7, 44, 182, 0, 170, 21, 6, 159, 0, 5, 3, 172, 21, 6, 154, 0, 15, 45, 3, 47]
abbrev dktL_law_48 : List UInt8 := dkwL_law_48 ++ dktL_law_49
def dkwL_law_47 : List UInt8 := [5, 96, 46, 45, 184, 0, 228, 54, 6, 44, 42, 21, 5, 4, 96, 46, 42, 21, 5, 5, 96, 46]
abbrev dktL_law_47 : List UInt8 := dkwL_law_47 ++ dktL_law_48
def dkwL_law_46 : List UInt8 := [3, 47, 21, 7, 133, 148, 153, 0, 5, 3, 172, 167, 7, 156, 43, 42, 21, 5, 4, 96, 46, 42, 21, 5]
abbrev dktL_law_46 : List UInt8 := dkwL_law_46 ++ dktL_law_47
def dkwL_law_45 : List UInt8 := [96, 46, 182, 0, 227, 54, 7, 44, 182, 0, 170, 21, 6, 159, 0, 5, 3, 172, 21, 6, 154, 0, 15, 45]
abbrev dktL_law_45 : List UInt8 := dkwL_law_45 ++ dktL_law_46
def dkwL_law_44 : List UInt8 := [46, 42, 21, 5, 5, 96, 46, 45, 184, 0, 225, 54, 6, 44, 42, 21, 5, 4, 96, 46, 42, 21, 5, 5]
abbrev dktL_law_44 : List UInt8 := dkwL_law_44 ++ dktL_law_45
def dkwL_law_43 : List UInt8 := [154, 0, 15, 45, 3, 47, 21, 7, 133, 148, 153, 0, 5, 3, 172, 167, 7, 224, 43, 42, 21, 5, 4, 96]
abbrev dktL_law_43 : List UInt8 := dkwL_law_43 ++ dktL_law_44
def dkwL_law_42 : List UInt8 := [21, 5, 4, 96, 46, 182, 0, 224, 54, 7, 44, 182, 0, 170, 21, 6, 159, 0, 5, 3, 172, 21, 6]
abbrev dktL_law_42 : List UInt8 := dkwL_law_42 ++ dktL_law_43
def dkwL_law_41 : List UInt8 := [46, 182, 0, 221, 159, 8, 26, 3, 172, 43, 42, 21, 5, 4, 96, 46, 45, 184, 0, 222, 54, 6, 44, 42]
abbrev dktL_law_41 : List UInt8 := dkwL_law_41 ++ dktL_law_42
def dkwL_law_40 : List UInt8 := [153, 0, 5, 3, 172, 167, 8, 49, 43, 42, 21, 5, 4, 96, 46, 182, 0, 218, 44, 42, 21, 5, 4, 96]
abbrev dktL_law_40 : List UInt8 := dkwL_law_40 ++ dktL_law_41
def dkwL_law_39 : List UInt8 := [182, 0, 170, 21, 6, 159, 0, 5, 3, 172, 21, 6, 154, 0, 15, 45, 3, 47, 21, 7, 133, 148]
abbrev dktL_law_39 : List UInt8 := dkwL_law_39 ++ dktL_law_40
def dkwL_law_38 : List UInt8 := [184, 0, 215, 54, 6, 44, 42, 21, 5, 4, 96, 46, 42, 21, 5, 5, 96, 46, 182, 0, 217, 54, 7, 44]
abbrev dktL_law_38 : List UInt8 := dkwL_law_38 ++ dktL_law_39
def dkwL_law_37 : List UInt8 := [153, 0, 5, 3, 172, 167, 8, 117, 43, 42, 21, 5, 4, 96, 46, 42, 21, 5, 5, 96, 46, 45]
abbrev dktL_law_37 : List UInt8 := dkwL_law_37 ++ dktL_law_38
def dkwL_law_36 : List UInt8 := [182, 0, 170, 21, 6, 159, 0, 5, 3, 172, 21, 6, 154, 0, 15, 45, 3, 47, 21, 7, 133, 148]
abbrev dktL_law_36 : List UInt8 := dkwL_law_36 ++ dktL_law_37
def dkwL_law_35 : List UInt8 := [184, 0, 212, 54, 6, 44, 42, 21, 5, 4, 96, 46, 42, 21, 5, 5, 96, 46, 182, 0, 214, 54, 7, 44]
abbrev dktL_law_35 : List UInt8 := dkwL_law_35 ++ dktL_law_36
def dkwL_law_34 : List UInt8 := [153, 0, 5, 3, 172, 167, 8, 185, 43, 42, 21, 5, 4, 96, 46, 42, 21, 5, 5, 96, 46, 45]
abbrev dktL_law_34 : List UInt8 := dkwL_law_34 ++ dktL_law_35
def dkwL_law_33 : List UInt8 := [182, 0, 170, 21, 6, 159, 0, 5, 3, 172, 21, 6, 154, 0, 15, 45, 3, 47, 21, 7, 133, 148]
abbrev dktL_law_33 : List UInt8 := dkwL_law_33 ++ dktL_law_34
def dkwL_law_32 : List UInt8 := [184, 0, 209, 54, 6, 44, 42, 21, 5, 4, 96, 46, 42, 21, 5, 5, 96, 46, 182, 0, 211, 54, 7, 44]
abbrev dktL_law_32 : List UInt8 := dkwL_law_32 ++ dktL_law_33
def dkwL_law_31 : List UInt8 := [153, 0, 5, 3, 172, 167, 8, 253, 43, 42, 21, 5, 4, 96, 46, 42, 21, 5, 5, 96, 46, 45]
abbrev dktL_law_31 : List UInt8 := dkwL_law_31 ++ dktL_law_32
def dkwL_law_30 : List UInt8 := [182, 0, 170, 21, 6, 159, 0, 5, 3, 172, 21, 6, 154, 0, 15, 45, 3, 47, 21, 7, 133, 148]
abbrev dktL_law_30 : List UInt8 := dkwL_law_30 ++ dktL_law_31
def dkwL_law_29 : List UInt8 := [21, 5, 5, 96, 46, 42, 21, 5, 6, 96, 46, 42, 21, 5, 7, 96, 46, 182, 0, 208, 54, 7, 44]
abbrev dktL_law_29 : List UInt8 := dkwL_law_29 ++ dktL_law_30
def dkwL_law_28 : List UInt8 := [6, 96, 46, 42, 21, 5, 7, 96, 46, 45, 184, 0, 205, 54, 6, 44, 42, 21, 5, 4, 96, 46, 42]
abbrev dktL_law_28 : List UInt8 := dkwL_law_28 ++ dktL_law_29
def dkwL_law_27 : List UInt8 := [153, 0, 5, 3, 172, 167, 9, 89, 43, 42, 21, 5, 4, 96, 46, 42, 21, 5, 5, 96, 46, 42, 21, 5]
abbrev dktL_law_27 : List UInt8 := dkwL_law_27 ++ dktL_law_28
def dkwL_law_26 : List UInt8 := [182, 0, 170, 21, 6, 159, 0, 5, 3, 172, 21, 6, 154, 0, 15, 45, 3, 47, 21, 7, 133, 148]
abbrev dktL_law_26 : List UInt8 := dkwL_law_26 ++ dktL_law_27
def dkwL_law_25 : List UInt8 := [184, 0, 202, 54, 6, 44, 42, 21, 5, 4, 96, 46, 42, 21, 5, 5, 96, 46, 182, 0, 204, 54, 7, 44]
abbrev dktL_law_25 : List UInt8 := dkwL_law_25 ++ dktL_law_26
def dkwL_law_24 : List UInt8 := [148, 153, 0, 5, 3, 172, 167, 9, 157, 43, 42, 21, 5, 4, 96, 46, 42, 21, 5, 5, 96, 46, 45]
abbrev dktL_law_24 : List UInt8 := dkwL_law_24 ++ dktL_law_25
def dkwL_law_23 : List UInt8 := [54, 7, 44, 182, 0, 170, 21, 6, 159, 0, 5, 3, 172, 21, 6, 154, 0, 15, 45, 3, 47, 21, 7, 133]
abbrev dktL_law_23 : List UInt8 := dkwL_law_23 ++ dktL_law_24
def dkwL_law_22 : List UInt8 := [46, 45, 184, 0, 199, 54, 6, 44, 42, 21, 5, 4, 96, 46, 42, 21, 5, 5, 96, 46, 182, 0, 201]
abbrev dktL_law_22 : List UInt8 := dkwL_law_22 ++ dktL_law_23
def dkwL_law_21 : List UInt8 := [21, 7, 133, 148, 153, 0, 5, 3, 172, 167, 9, 225, 43, 42, 21, 5, 4, 96, 46, 42, 21, 5, 5, 96]
abbrev dktL_law_21 : List UInt8 := dkwL_law_21 ++ dktL_law_22
def dkwL_law_20 : List UInt8 := [182, 0, 198, 54, 7, 44, 182, 0, 170, 21, 6, 159, 0, 5, 3, 172, 21, 6, 154, 0, 15, 45, 3, 47]
abbrev dktL_law_20 : List UInt8 := dkwL_law_20 ++ dktL_law_21
def dkwL_law_19 : List UInt8 := [167, 10, 25, 43, 42, 21, 5, 4, 96, 46, 45, 184, 0, 196, 54, 6, 44, 42, 21, 5, 4, 96, 46]
abbrev dktL_law_19 : List UInt8 := dkwL_law_19 ++ dktL_law_20
def dkwL_law_18 : List UInt8 := [159, 0, 5, 3, 172, 21, 6, 154, 0, 15, 45, 3, 47, 21, 7, 133, 148, 153, 0, 5, 3, 172]
abbrev dktL_law_18 : List UInt8 := dkwL_law_18 ++ dktL_law_19
def dkwL_law_17 : List UInt8 := [184, 0, 193, 54, 6, 44, 42, 21, 5, 4, 96, 46, 182, 0, 195, 54, 7, 44, 182, 0, 170, 21, 6]
abbrev dktL_law_17 : List UInt8 := dkwL_law_17 ++ dktL_law_18
def dkwL_law_16 : List UInt8 := [3, 47, 21, 7, 133, 148, 153, 0, 5, 3, 172, 167, 10, 81, 43, 42, 21, 5, 4, 96, 46, 45]
abbrev dktL_law_16 : List UInt8 := dkwL_law_16 ++ dktL_law_17
def dkwL_law_15 : List UInt8 := [96, 46, 182, 0, 192, 54, 7, 44, 182, 0, 170, 21, 6, 159, 0, 5, 3, 172, 21, 6, 154, 0, 15, 45]
abbrev dktL_law_15 : List UInt8 := dkwL_law_15 ++ dktL_law_16
def dkwL_law_14 : List UInt8 := [46, 42, 21, 5, 5, 96, 46, 45, 184, 0, 189, 54, 6, 44, 42, 21, 5, 4, 96, 46, 42, 21, 5, 5]
abbrev dktL_law_14 : List UInt8 := dkwL_law_14 ++ dktL_law_15
def dkwL_law_13 : List UInt8 := [154, 0, 15, 45, 3, 47, 21, 7, 133, 148, 153, 0, 5, 3, 172, 167, 10, 149, 43, 42, 21, 5, 4, 96]
abbrev dktL_law_13 : List UInt8 := dkwL_law_13 ++ dktL_law_14
def dkwL_law_12 : List UInt8 := [21, 5, 4, 96, 46, 182, 0, 188, 54, 7, 44, 182, 0, 170, 21, 6, 159, 0, 5, 3, 172, 21, 6]
abbrev dktL_law_12 : List UInt8 := dkwL_law_12 ++ dktL_law_13
def dkwL_law_11 : List UInt8 := [182, 0, 184, 159, 10, 207, 3, 172, 43, 42, 21, 5, 4, 96, 46, 45, 184, 0, 185, 54, 6, 44, 42]
abbrev dktL_law_11 : List UInt8 := dkwL_law_11 ++ dktL_law_12
def dkwL_law_10 : List UInt8 := [154, 0, 15, 45, 3, 47, 21, 7, 133, 148, 153, 0, 5, 3, 172, 167, 10, 218, 43, 182, 0, 181, 44]
abbrev dktL_law_10 : List UInt8 := dkwL_law_10 ++ dktL_law_11
def dkwL_law_9 : List UInt8 := [184, 0, 177, 54, 6, 44, 182, 0, 180, 54, 7, 44, 182, 0, 170, 21, 6, 159, 0, 5, 3, 172, 21, 6]
abbrev dktL_law_9 : List UInt8 := dkwL_law_9 ++ dktL_law_10
def dkwL_law_8 : List UInt8 := [21, 5, 4, 96, 46, 182, 0, 176, 44, 182, 0, 170, 21, 6, 159, 0, 5, 3, 172, 167, 11, 6, 43, 45]
abbrev dktL_law_8 : List UInt8 := dkwL_law_8 ++ dktL_law_9
def dkwL_law_7 : List UInt8 := [148, 153, 0, 5, 3, 172, 167, 11, 42, 43, 42, 21, 5, 4, 96, 46, 184, 0, 173, 54, 6, 44, 42]
abbrev dktL_law_7 : List UInt8 := dkwL_law_7 ++ dktL_law_8
def dkwL_law_6 : List UInt8 := [54, 7, 44, 182, 0, 170, 21, 6, 159, 0, 5, 3, 172, 21, 6, 154, 0, 15, 45, 3, 47, 21, 7, 133]
abbrev dktL_law_6 : List UInt8 := dkwL_law_6 ++ dktL_law_7
def dkwL_law_5 : List UInt8 := [96, 46, 42, 21, 5, 6, 96, 46, 42, 21, 5, 7, 96, 46, 42, 21, 5, 8, 96, 46, 182, 0, 169]
abbrev dktL_law_5 : List UInt8 := dkwL_law_5 ++ dktL_law_6
def dkwL_law_4 : List UInt8 := [46, 42, 21, 5, 8, 96, 46, 45, 184, 0, 164, 54, 6, 44, 42, 21, 5, 4, 96, 46, 42, 21, 5, 5]
abbrev dktL_law_4 : List UInt8 := dkwL_law_4 ++ dktL_law_5
def dkwL_law_3 : List UInt8 := [43, 42, 21, 5, 4, 96, 46, 42, 21, 5, 5, 96, 46, 42, 21, 5, 6, 96, 46, 42, 21, 5, 7, 96]
abbrev dktL_law_3 : List UInt8 := dkwL_law_3 ++ dktL_law_4
def dkwL_law_2 : List UInt8 := [170, 0, 0, 0, 0, 12, 98, 0, 0, 0, 0, 0, 0, 0, 48, 0, 0, 0, 211, 0, 0, 1, 59, 0, 0, 1, 95, 0, 0, 1, 139, 0, 0, 1, 152, 0, 0, 1, 208, 0, 0, 2, 20, 0, 0, 2, 76, 0, 0, 2, 132, 0, 0, 2, 200, 0, 0, 3, 12, 0, 0, 3, 104, 0, 0, 3, 172, 0, 0, 3, 240, 0, 0, 4, 52, 0, 0, 4, 77, 0, 0, 4, 133, 0, 0, 4, 201, 0, 0, 5, 13, 0, 0, 5, 69, 0, 0, 5, 82, 0, 0, 5, 95, 0, 0, 5, 151, 0, 0, 5, 207, 0, 0, 6, 28, 0, 0, 6, 84, 0, 0, 6, 97, 0, 0, 6, 153, 0, 0, 6, 221, 0, 0, 7, 45, 0, 0, 7, 108, 0, 0, 7, 176, 0, 0, 7, 244, 0, 0, 8, 44, 0, 0, 8, 100, 0, 0, 8, 168, 0, 0, 8, 224, 0, 0, 9, 60, 0, 0, 9, 140, 0, 0, 9, 208, 0, 0, 10, 8, 0, 0, 10, 76, 0, 0, 10, 144, 0, 0, 10, 200, 0, 0, 11, 24, 0, 0, 11, 142, 0, 0, 11, 198, 0, 0, 11, 242, 0, 0, 12, 42]
abbrev dktL_law_2 : List UInt8 := dkwL_law_2 ++ dktL_law_3
def dkwL_law_1 : List UInt8 := [58, 4, 3, 54, 5, 21, 5, 42, 190, 16, 7, 100, 163, 12, 114, 42, 21, 5, 46, 16, 63, 126]
abbrev dktL_law_1 : List UInt8 := dkwL_law_1 ++ dktL_law_2
def dkwL_law_0 : List UInt8 := [187, 0, 8, 89, 183, 0, 160, 76, 187, 0, 161, 89, 183, 0, 163, 77, 4, 188, 11, 78, 4, 188, 7]
abbrev dktL_law_0 : List UInt8 := dkwL_law_0 ++ dktL_law_1
theorem dksL_law_0 : cL_law.data.toList.drop 0 = dktL_law_0 := by decide +kernel
theorem dksL_law_1 : cL_law.data.toList.drop 23 = dktL_law_1 := dk_seg dksL_law_0 23 rfl rfl
theorem dksL_law_2 : cL_law.data.toList.drop 45 = dktL_law_2 := dk_seg dksL_law_1 22 rfl rfl
theorem dksL_law_3 : cL_law.data.toList.drop 256 = dktL_law_3 := dk_seg dksL_law_2 211 rfl rfl
theorem dksL_law_4 : cL_law.data.toList.drop 280 = dktL_law_4 := dk_seg dksL_law_3 24 rfl rfl
theorem dksL_law_5 : cL_law.data.toList.drop 304 = dktL_law_5 := dk_seg dksL_law_4 24 rfl rfl
theorem dksL_law_6 : cL_law.data.toList.drop 327 = dktL_law_6 := dk_seg dksL_law_5 23 rfl rfl
theorem dksL_law_7 : cL_law.data.toList.drop 351 = dktL_law_7 := dk_seg dksL_law_6 24 rfl rfl
theorem dksL_law_8 : cL_law.data.toList.drop 374 = dktL_law_8 := dk_seg dksL_law_7 23 rfl rfl
theorem dksL_law_9 : cL_law.data.toList.drop 398 = dktL_law_9 := dk_seg dksL_law_8 24 rfl rfl
theorem dksL_law_10 : cL_law.data.toList.drop 422 = dktL_law_10 := dk_seg dksL_law_9 24 rfl rfl
theorem dksL_law_11 : cL_law.data.toList.drop 445 = dktL_law_11 := dk_seg dksL_law_10 23 rfl rfl
theorem dksL_law_12 : cL_law.data.toList.drop 468 = dktL_law_12 := dk_seg dksL_law_11 23 rfl rfl
theorem dksL_law_13 : cL_law.data.toList.drop 491 = dktL_law_13 := dk_seg dksL_law_12 23 rfl rfl
theorem dksL_law_14 : cL_law.data.toList.drop 515 = dktL_law_14 := dk_seg dksL_law_13 24 rfl rfl
theorem dksL_law_15 : cL_law.data.toList.drop 539 = dktL_law_15 := dk_seg dksL_law_14 24 rfl rfl
theorem dksL_law_16 : cL_law.data.toList.drop 563 = dktL_law_16 := dk_seg dksL_law_15 24 rfl rfl
theorem dksL_law_17 : cL_law.data.toList.drop 585 = dktL_law_17 := dk_seg dksL_law_16 22 rfl rfl
theorem dksL_law_18 : cL_law.data.toList.drop 608 = dktL_law_18 := dk_seg dksL_law_17 23 rfl rfl
theorem dksL_law_19 : cL_law.data.toList.drop 630 = dktL_law_19 := dk_seg dksL_law_18 22 rfl rfl
theorem dksL_law_20 : cL_law.data.toList.drop 653 = dktL_law_20 := dk_seg dksL_law_19 23 rfl rfl
theorem dksL_law_21 : cL_law.data.toList.drop 677 = dktL_law_21 := dk_seg dksL_law_20 24 rfl rfl
theorem dksL_law_22 : cL_law.data.toList.drop 701 = dktL_law_22 := dk_seg dksL_law_21 24 rfl rfl
theorem dksL_law_23 : cL_law.data.toList.drop 724 = dktL_law_23 := dk_seg dksL_law_22 23 rfl rfl
theorem dksL_law_24 : cL_law.data.toList.drop 748 = dktL_law_24 := dk_seg dksL_law_23 24 rfl rfl
theorem dksL_law_25 : cL_law.data.toList.drop 771 = dktL_law_25 := dk_seg dksL_law_24 23 rfl rfl
theorem dksL_law_26 : cL_law.data.toList.drop 795 = dktL_law_26 := dk_seg dksL_law_25 24 rfl rfl
theorem dksL_law_27 : cL_law.data.toList.drop 817 = dktL_law_27 := dk_seg dksL_law_26 22 rfl rfl
theorem dksL_law_28 : cL_law.data.toList.drop 841 = dktL_law_28 := dk_seg dksL_law_27 24 rfl rfl
theorem dksL_law_29 : cL_law.data.toList.drop 864 = dktL_law_29 := dk_seg dksL_law_28 23 rfl rfl
theorem dksL_law_30 : cL_law.data.toList.drop 887 = dktL_law_30 := dk_seg dksL_law_29 23 rfl rfl
theorem dksL_law_31 : cL_law.data.toList.drop 909 = dktL_law_31 := dk_seg dksL_law_30 22 rfl rfl
theorem dksL_law_32 : cL_law.data.toList.drop 931 = dktL_law_32 := dk_seg dksL_law_31 22 rfl rfl
theorem dksL_law_33 : cL_law.data.toList.drop 955 = dktL_law_33 := dk_seg dksL_law_32 24 rfl rfl
theorem dksL_law_34 : cL_law.data.toList.drop 977 = dktL_law_34 := dk_seg dksL_law_33 22 rfl rfl
theorem dksL_law_35 : cL_law.data.toList.drop 999 = dktL_law_35 := dk_seg dksL_law_34 22 rfl rfl
theorem dksL_law_36 : cL_law.data.toList.drop 1023 = dktL_law_36 := dk_seg dksL_law_35 24 rfl rfl
theorem dksL_law_37 : cL_law.data.toList.drop 1045 = dktL_law_37 := dk_seg dksL_law_36 22 rfl rfl
theorem dksL_law_38 : cL_law.data.toList.drop 1067 = dktL_law_38 := dk_seg dksL_law_37 22 rfl rfl
theorem dksL_law_39 : cL_law.data.toList.drop 1091 = dktL_law_39 := dk_seg dksL_law_38 24 rfl rfl
theorem dksL_law_40 : cL_law.data.toList.drop 1113 = dktL_law_40 := dk_seg dksL_law_39 22 rfl rfl
theorem dksL_law_41 : cL_law.data.toList.drop 1137 = dktL_law_41 := dk_seg dksL_law_40 24 rfl rfl
theorem dksL_law_42 : cL_law.data.toList.drop 1161 = dktL_law_42 := dk_seg dksL_law_41 24 rfl rfl
theorem dksL_law_43 : cL_law.data.toList.drop 1184 = dktL_law_43 := dk_seg dksL_law_42 23 rfl rfl
theorem dksL_law_44 : cL_law.data.toList.drop 1208 = dktL_law_44 := dk_seg dksL_law_43 24 rfl rfl
theorem dksL_law_45 : cL_law.data.toList.drop 1232 = dktL_law_45 := dk_seg dksL_law_44 24 rfl rfl
theorem dksL_law_46 : cL_law.data.toList.drop 1256 = dktL_law_46 := dk_seg dksL_law_45 24 rfl rfl
theorem dksL_law_47 : cL_law.data.toList.drop 1280 = dktL_law_47 := dk_seg dksL_law_46 24 rfl rfl
theorem dksL_law_48 : cL_law.data.toList.drop 1302 = dktL_law_48 := dk_seg dksL_law_47 22 rfl rfl
theorem dksL_law_49 : cL_law.data.toList.drop 1326 = dktL_law_49 := dk_seg dksL_law_48 24 rfl rfl
theorem dksL_law_50 : cL_law.data.toList.drop 1349 = dktL_law_50 := dk_seg dksL_law_49 23 rfl rfl
theorem dksL_law_51 : cL_law.data.toList.drop 1373 = dktL_law_51 := dk_seg dksL_law_50 24 rfl rfl
theorem dksL_law_52 : cL_law.data.toList.drop 1395 = dktL_law_52 := dk_seg dksL_law_51 22 rfl rfl
theorem dksL_law_53 : cL_law.data.toList.drop 1419 = dktL_law_53 := dk_seg dksL_law_52 24 rfl rfl
theorem dksL_law_54 : cL_law.data.toList.drop 1443 = dktL_law_54 := dk_seg dksL_law_53 24 rfl rfl
theorem dksL_law_55 : cL_law.data.toList.drop 1467 = dktL_law_55 := dk_seg dksL_law_54 24 rfl rfl
theorem dksL_law_56 : cL_law.data.toList.drop 1491 = dktL_law_56 := dk_seg dksL_law_55 24 rfl rfl
theorem dksL_law_57 : cL_law.data.toList.drop 1514 = dktL_law_57 := dk_seg dksL_law_56 23 rfl rfl
theorem dksL_law_58 : cL_law.data.toList.drop 1538 = dktL_law_58 := dk_seg dksL_law_57 24 rfl rfl
theorem dksL_law_59 : cL_law.data.toList.drop 1562 = dktL_law_59 := dk_seg dksL_law_58 24 rfl rfl
theorem dksL_law_60 : cL_law.data.toList.drop 1586 = dktL_law_60 := dk_seg dksL_law_59 24 rfl rfl
theorem dksL_law_61 : cL_law.data.toList.drop 1610 = dktL_law_61 := dk_seg dksL_law_60 24 rfl rfl
theorem dksL_law_62 : cL_law.data.toList.drop 1634 = dktL_law_62 := dk_seg dksL_law_61 24 rfl rfl
theorem dksL_law_63 : cL_law.data.toList.drop 1657 = dktL_law_63 := dk_seg dksL_law_62 23 rfl rfl
theorem dksL_law_64 : cL_law.data.toList.drop 1680 = dktL_law_64 := dk_seg dksL_law_63 23 rfl rfl
theorem dksL_law_65 : cL_law.data.toList.drop 1704 = dktL_law_65 := dk_seg dksL_law_64 24 rfl rfl
theorem dksL_law_66 : cL_law.data.toList.drop 1726 = dktL_law_66 := dk_seg dksL_law_65 22 rfl rfl
theorem dksL_law_67 : cL_law.data.toList.drop 1748 = dktL_law_67 := dk_seg dksL_law_66 22 rfl rfl
theorem dksL_law_68 : cL_law.data.toList.drop 1772 = dktL_law_68 := dk_seg dksL_law_67 24 rfl rfl
theorem dksL_law_69 : cL_law.data.toList.drop 1794 = dktL_law_69 := dk_seg dksL_law_68 22 rfl rfl
theorem dksL_law_70 : cL_law.data.toList.drop 1818 = dktL_law_70 := dk_seg dksL_law_69 24 rfl rfl
theorem dksL_law_71 : cL_law.data.toList.drop 1841 = dktL_law_71 := dk_seg dksL_law_70 23 rfl rfl
theorem dksL_law_72 : cL_law.data.toList.drop 1864 = dktL_law_72 := dk_seg dksL_law_71 23 rfl rfl
theorem dksL_law_73 : cL_law.data.toList.drop 1888 = dktL_law_73 := dk_seg dksL_law_72 24 rfl rfl
theorem dksL_law_74 : cL_law.data.toList.drop 1911 = dktL_law_74 := dk_seg dksL_law_73 23 rfl rfl
theorem dksL_law_75 : cL_law.data.toList.drop 1935 = dktL_law_75 := dk_seg dksL_law_74 24 rfl rfl
theorem dksL_law_76 : cL_law.data.toList.drop 1959 = dktL_law_76 := dk_seg dksL_law_75 24 rfl rfl
theorem dksL_law_77 : cL_law.data.toList.drop 1983 = dktL_law_77 := dk_seg dksL_law_76 24 rfl rfl
theorem dksL_law_78 : cL_law.data.toList.drop 2005 = dktL_law_78 := dk_seg dksL_law_77 22 rfl rfl
theorem dksL_law_79 : cL_law.data.toList.drop 2027 = dktL_law_79 := dk_seg dksL_law_78 22 rfl rfl
theorem dksL_law_80 : cL_law.data.toList.drop 2051 = dktL_law_80 := dk_seg dksL_law_79 24 rfl rfl
theorem dksL_law_81 : cL_law.data.toList.drop 2073 = dktL_law_81 := dk_seg dksL_law_80 22 rfl rfl
theorem dksL_law_82 : cL_law.data.toList.drop 2096 = dktL_law_82 := dk_seg dksL_law_81 23 rfl rfl
theorem dksL_law_83 : cL_law.data.toList.drop 2119 = dktL_law_83 := dk_seg dksL_law_82 23 rfl rfl
theorem dksL_law_84 : cL_law.data.toList.drop 2143 = dktL_law_84 := dk_seg dksL_law_83 24 rfl rfl
theorem dksL_law_85 : cL_law.data.toList.drop 2166 = dktL_law_85 := dk_seg dksL_law_84 23 rfl rfl
theorem dksL_law_86 : cL_law.data.toList.drop 2190 = dktL_law_86 := dk_seg dksL_law_85 24 rfl rfl
theorem dksL_law_87 : cL_law.data.toList.drop 2214 = dktL_law_87 := dk_seg dksL_law_86 24 rfl rfl
theorem dksL_law_88 : cL_law.data.toList.drop 2236 = dktL_law_88 := dk_seg dksL_law_87 22 rfl rfl
theorem dksL_law_89 : cL_law.data.toList.drop 2258 = dktL_law_89 := dk_seg dksL_law_88 22 rfl rfl
theorem dksL_law_90 : cL_law.data.toList.drop 2281 = dktL_law_90 := dk_seg dksL_law_89 23 rfl rfl
theorem dksL_law_91 : cL_law.data.toList.drop 2305 = dktL_law_91 := dk_seg dksL_law_90 24 rfl rfl
theorem dksL_law_92 : cL_law.data.toList.drop 2329 = dktL_law_92 := dk_seg dksL_law_91 24 rfl rfl
theorem dksL_law_93 : cL_law.data.toList.drop 2353 = dktL_law_93 := dk_seg dksL_law_92 24 rfl rfl
theorem dksL_law_94 : cL_law.data.toList.drop 2376 = dktL_law_94 := dk_seg dksL_law_93 23 rfl rfl
theorem dksL_law_95 : cL_law.data.toList.drop 2400 = dktL_law_95 := dk_seg dksL_law_94 24 rfl rfl
theorem dksL_law_96 : cL_law.data.toList.drop 2423 = dktL_law_96 := dk_seg dksL_law_95 23 rfl rfl
theorem dksL_law_97 : cL_law.data.toList.drop 2447 = dktL_law_97 := dk_seg dksL_law_96 24 rfl rfl
theorem dksL_law_98 : cL_law.data.toList.drop 2471 = dktL_law_98 := dk_seg dksL_law_97 24 rfl rfl
theorem dksL_law_99 : cL_law.data.toList.drop 2495 = dktL_law_99 := dk_seg dksL_law_98 24 rfl rfl
theorem dksL_law_100 : cL_law.data.toList.drop 2519 = dktL_law_100 := dk_seg dksL_law_99 24 rfl rfl
theorem dksL_law_101 : cL_law.data.toList.drop 2543 = dktL_law_101 := dk_seg dksL_law_100 24 rfl rfl
theorem dksL_law_102 : cL_law.data.toList.drop 2565 = dktL_law_102 := dk_seg dksL_law_101 22 rfl rfl
theorem dksL_law_103 : cL_law.data.toList.drop 2588 = dktL_law_103 := dk_seg dksL_law_102 23 rfl rfl
theorem dksL_law_104 : cL_law.data.toList.drop 2610 = dktL_law_104 := dk_seg dksL_law_103 22 rfl rfl
theorem dksL_law_105 : cL_law.data.toList.drop 2634 = dktL_law_105 := dk_seg dksL_law_104 24 rfl rfl
theorem dksL_law_106 : cL_law.data.toList.drop 2656 = dktL_law_106 := dk_seg dksL_law_105 22 rfl rfl
theorem dksL_law_107 : cL_law.data.toList.drop 2678 = dktL_law_107 := dk_seg dksL_law_106 22 rfl rfl
theorem dksL_law_108 : cL_law.data.toList.drop 2702 = dktL_law_108 := dk_seg dksL_law_107 24 rfl rfl
theorem dksL_law_109 : cL_law.data.toList.drop 2724 = dktL_law_109 := dk_seg dksL_law_108 22 rfl rfl
theorem dksL_law_110 : cL_law.data.toList.drop 2746 = dktL_law_110 := dk_seg dksL_law_109 22 rfl rfl
theorem dksL_law_111 : cL_law.data.toList.drop 2769 = dktL_law_111 := dk_seg dksL_law_110 23 rfl rfl
theorem dksL_law_112 : cL_law.data.toList.drop 2793 = dktL_law_112 := dk_seg dksL_law_111 24 rfl rfl
theorem dksL_law_113 : cL_law.data.toList.drop 2817 = dktL_law_113 := dk_seg dksL_law_112 24 rfl rfl
theorem dksL_law_114 : cL_law.data.toList.drop 2841 = dktL_law_114 := dk_seg dksL_law_113 24 rfl rfl
theorem dksL_law_115 : cL_law.data.toList.drop 2865 = dktL_law_115 := dk_seg dksL_law_114 24 rfl rfl
theorem dksL_law_116 : cL_law.data.toList.drop 2889 = dktL_law_116 := dk_seg dksL_law_115 24 rfl rfl
theorem dksL_law_117 : cL_law.data.toList.drop 2913 = dktL_law_117 := dk_seg dksL_law_116 24 rfl rfl
theorem dksL_law_118 : cL_law.data.toList.drop 2937 = dktL_law_118 := dk_seg dksL_law_117 24 rfl rfl
theorem dksL_law_119 : cL_law.data.toList.drop 2961 = dktL_law_119 := dk_seg dksL_law_118 24 rfl rfl
theorem dksL_law_120 : cL_law.data.toList.drop 2985 = dktL_law_120 := dk_seg dksL_law_119 24 rfl rfl
theorem dksL_law_121 : cL_law.data.toList.drop 3009 = dktL_law_121 := dk_seg dksL_law_120 24 rfl rfl
theorem dksL_law_122 : cL_law.data.toList.drop 3032 = dktL_law_122 := dk_seg dksL_law_121 23 rfl rfl
theorem dksL_law_123 : cL_law.data.toList.drop 3056 = dktL_law_123 := dk_seg dksL_law_122 24 rfl rfl
theorem dksL_law_124 : cL_law.data.toList.drop 3078 = dktL_law_124 := dk_seg dksL_law_123 22 rfl rfl
theorem dksL_law_125 : cL_law.data.toList.drop 3100 = dktL_law_125 := dk_seg dksL_law_124 22 rfl rfl
theorem dksL_law_126 : cL_law.data.toList.drop 3123 = dktL_law_126 := dk_seg dksL_law_125 23 rfl rfl
theorem dksL_law_127 : cL_law.data.toList.drop 3147 = dktL_law_127 := dk_seg dksL_law_126 24 rfl rfl
theorem dksL_law_128 : cL_law.data.toList.drop 3170 = dktL_law_128 := dk_seg dksL_law_127 23 rfl rfl
theorem dksL_law_129 : cL_law.data.toList.drop 3194 = dktL_law_129 := dk_seg dksL_law_128 24 rfl rfl
theorem dksL_law_130 : cL_law.data.toList.drop 3218 = dktL_law_130 := dk_seg dksL_law_129 24 rfl rfl
theorem dL_law_0 : decode cL_law 0 = .ok (.new 8, 3) := dk_187 0 8 (dk_at dksL_law_0 0 rfl rfl)
theorem dL_law_3 : decode cL_law 3 = .ok (.dup, 1) := dk_89 (dk_at dksL_law_0 3 rfl rfl)
theorem dL_law_4 : decode cL_law 4 = .ok (.invokespecial 160, 3) := dk_183 0 160 (dk_at dksL_law_0 4 rfl rfl)
theorem dL_law_7 : decode cL_law 7 = .ok (.astore_n 1, 1) := dk_76 (dk_at dksL_law_0 7 rfl rfl)
theorem dL_law_8 : decode cL_law 8 = .ok (.new 161, 3) := dk_187 0 161 (dk_at dksL_law_0 8 rfl rfl)
theorem dL_law_11 : decode cL_law 11 = .ok (.dup, 1) := dk_89 (dk_at dksL_law_0 11 rfl rfl)
theorem dL_law_12 : decode cL_law 12 = .ok (.invokespecial 163, 3) := dk_183 0 163 (dk_at dksL_law_0 12 rfl rfl)
theorem dL_law_15 : decode cL_law 15 = .ok (.astore_n 2, 1) := dk_77 (dk_at dksL_law_0 15 rfl rfl)
theorem dL_law_16 : decode cL_law 16 = .ok (.iconst 1, 1) := dk_4 (dk_at dksL_law_0 16 rfl rfl)
theorem dL_law_17 : decode cL_law 17 = .ok (.newarray .long, 2) := dk_188_11 (dk_at dksL_law_0 17 rfl rfl)
theorem dL_law_19 : decode cL_law 19 = .ok (.astore_n 3, 1) := dk_78 (dk_at dksL_law_0 19 rfl rfl)
theorem dL_law_20 : decode cL_law 20 = .ok (.iconst 1, 1) := dk_4 (dk_at dksL_law_0 20 rfl rfl)
theorem dL_law_21 : decode cL_law 21 = .ok (.newarray .double, 2) := dk_188_7 (dk_at dksL_law_0 21 rfl rfl)
theorem dL_law_23 : decode cL_law 23 = .ok (.astore 4, 2) := dk_58 4 (dk_at dksL_law_1 0 rfl rfl)
theorem dL_law_25 : decode cL_law 25 = .ok (.iconst 0, 1) := dk_3 (dk_at dksL_law_1 2 rfl rfl)
theorem dL_law_26 : decode cL_law 26 = .ok (.istore 5, 2) := dk_54 5 (dk_at dksL_law_1 3 rfl rfl)
theorem dL_law_28 : decode cL_law 28 = .ok (.iload 5, 2) := dk_21 5 (dk_at dksL_law_1 5 rfl rfl)
theorem dL_law_30 : decode cL_law 30 = .ok (.aload_n 0, 1) := dk_42 (dk_at dksL_law_1 7 rfl rfl)
theorem dL_law_31 : decode cL_law 31 = .ok (.arraylength, 1) := dk_190 (dk_at dksL_law_1 8 rfl rfl)
theorem dL_law_32 : decode cL_law 32 = .ok (.bipush 7, 2) := dk_16 7 (dk_at dksL_law_1 9 rfl rfl)
theorem dL_law_34 : decode cL_law 34 = .ok (.isub, 1) := dk_100 (dk_at dksL_law_1 11 rfl rfl)
theorem dL_law_35 : decode cL_law 35 = .ok (.if_icmp .gt 3186, 3) := dk_163 12 114 (dk_at dksL_law_1 12 rfl rfl)
theorem dL_law_38 : decode cL_law 38 = .ok (.aload_n 0, 1) := dk_42 (dk_at dksL_law_1 15 rfl rfl)
theorem dL_law_39 : decode cL_law 39 = .ok (.iload 5, 2) := dk_21 5 (dk_at dksL_law_1 16 rfl rfl)
theorem dL_law_41 : decode cL_law 41 = .ok (.iaload, 1) := dk_46 (dk_at dksL_law_1 18 rfl rfl)
theorem dL_law_42 : decode cL_law 42 = .ok (.bipush 63, 2) := dk_16 63 (dk_at dksL_law_1 19 rfl rfl)
theorem dL_law_44 : decode cL_law 44 = .ok (.iand, 1) := dk_126 (dk_at dksL_law_1 21 rfl rfl)
theorem dL_law_45 : decode cL_law 45 = .ok (.tableswitch 3170 0 48 #[211, 315, 351, 395, 408, 464, 532, 588, 644, 712, 780, 872, 940, 1008, 1076, 1101, 1157, 1225, 1293, 1349, 1362, 1375, 1431, 1487, 1564, 1620, 1633, 1689, 1757, 1837, 1900, 1968, 2036, 2092, 2148, 2216, 2272, 2364, 2444, 2512, 2568, 2636, 2704, 2760, 2840, 2958, 3014, 3058, 3114], 211) := by decide +kernel
theorem dL_law_256 : decode cL_law 256 = .ok (.aload_n 1, 1) := dk_43 (dk_at dksL_law_3 0 rfl rfl)
theorem dL_law_257 : decode cL_law 257 = .ok (.aload_n 0, 1) := dk_42 (dk_at dksL_law_3 1 rfl rfl)
theorem dL_law_258 : decode cL_law 258 = .ok (.iload 5, 2) := dk_21 5 (dk_at dksL_law_3 2 rfl rfl)
theorem dL_law_260 : decode cL_law 260 = .ok (.iconst 1, 1) := dk_4 (dk_at dksL_law_3 4 rfl rfl)
theorem dL_law_261 : decode cL_law 261 = .ok (.iadd, 1) := dk_96 (dk_at dksL_law_3 5 rfl rfl)
theorem dL_law_262 : decode cL_law 262 = .ok (.iaload, 1) := dk_46 (dk_at dksL_law_3 6 rfl rfl)
theorem dL_law_263 : decode cL_law 263 = .ok (.aload_n 0, 1) := dk_42 (dk_at dksL_law_3 7 rfl rfl)
theorem dL_law_264 : decode cL_law 264 = .ok (.iload 5, 2) := dk_21 5 (dk_at dksL_law_3 8 rfl rfl)
theorem dL_law_266 : decode cL_law 266 = .ok (.iconst 2, 1) := dk_5 (dk_at dksL_law_3 10 rfl rfl)
theorem dL_law_267 : decode cL_law 267 = .ok (.iadd, 1) := dk_96 (dk_at dksL_law_3 11 rfl rfl)
theorem dL_law_268 : decode cL_law 268 = .ok (.iaload, 1) := dk_46 (dk_at dksL_law_3 12 rfl rfl)
theorem dL_law_269 : decode cL_law 269 = .ok (.aload_n 0, 1) := dk_42 (dk_at dksL_law_3 13 rfl rfl)
theorem dL_law_270 : decode cL_law 270 = .ok (.iload 5, 2) := dk_21 5 (dk_at dksL_law_3 14 rfl rfl)
theorem dL_law_272 : decode cL_law 272 = .ok (.iconst 3, 1) := dk_6 (dk_at dksL_law_3 16 rfl rfl)
theorem dL_law_273 : decode cL_law 273 = .ok (.iadd, 1) := dk_96 (dk_at dksL_law_3 17 rfl rfl)
theorem dL_law_274 : decode cL_law 274 = .ok (.iaload, 1) := dk_46 (dk_at dksL_law_3 18 rfl rfl)
theorem dL_law_275 : decode cL_law 275 = .ok (.aload_n 0, 1) := dk_42 (dk_at dksL_law_3 19 rfl rfl)
theorem dL_law_276 : decode cL_law 276 = .ok (.iload 5, 2) := dk_21 5 (dk_at dksL_law_3 20 rfl rfl)
theorem dL_law_278 : decode cL_law 278 = .ok (.iconst 4, 1) := dk_7 (dk_at dksL_law_3 22 rfl rfl)
theorem dL_law_279 : decode cL_law 279 = .ok (.iadd, 1) := dk_96 (dk_at dksL_law_3 23 rfl rfl)
theorem dL_law_280 : decode cL_law 280 = .ok (.iaload, 1) := dk_46 (dk_at dksL_law_4 0 rfl rfl)
theorem dL_law_281 : decode cL_law 281 = .ok (.aload_n 0, 1) := dk_42 (dk_at dksL_law_4 1 rfl rfl)
theorem dL_law_282 : decode cL_law 282 = .ok (.iload 5, 2) := dk_21 5 (dk_at dksL_law_4 2 rfl rfl)
theorem dL_law_284 : decode cL_law 284 = .ok (.iconst 5, 1) := dk_8 (dk_at dksL_law_4 4 rfl rfl)
theorem dL_law_285 : decode cL_law 285 = .ok (.iadd, 1) := dk_96 (dk_at dksL_law_4 5 rfl rfl)
theorem dL_law_286 : decode cL_law 286 = .ok (.iaload, 1) := dk_46 (dk_at dksL_law_4 6 rfl rfl)
theorem dL_law_287 : decode cL_law 287 = .ok (.aload_n 3, 1) := dk_45 (dk_at dksL_law_4 7 rfl rfl)
theorem dL_law_288 : decode cL_law 288 = .ok (.invokestatic 164, 3) := dk_184 0 164 (dk_at dksL_law_4 8 rfl rfl)
theorem dL_law_291 : decode cL_law 291 = .ok (.istore 6, 2) := dk_54 6 (dk_at dksL_law_4 11 rfl rfl)
theorem dL_law_293 : decode cL_law 293 = .ok (.aload_n 2, 1) := dk_44 (dk_at dksL_law_4 13 rfl rfl)
theorem dL_law_294 : decode cL_law 294 = .ok (.aload_n 0, 1) := dk_42 (dk_at dksL_law_4 14 rfl rfl)
theorem dL_law_295 : decode cL_law 295 = .ok (.iload 5, 2) := dk_21 5 (dk_at dksL_law_4 15 rfl rfl)
theorem dL_law_297 : decode cL_law 297 = .ok (.iconst 1, 1) := dk_4 (dk_at dksL_law_4 17 rfl rfl)
theorem dL_law_298 : decode cL_law 298 = .ok (.iadd, 1) := dk_96 (dk_at dksL_law_4 18 rfl rfl)
theorem dL_law_299 : decode cL_law 299 = .ok (.iaload, 1) := dk_46 (dk_at dksL_law_4 19 rfl rfl)
theorem dL_law_300 : decode cL_law 300 = .ok (.aload_n 0, 1) := dk_42 (dk_at dksL_law_4 20 rfl rfl)
theorem dL_law_301 : decode cL_law 301 = .ok (.iload 5, 2) := dk_21 5 (dk_at dksL_law_4 21 rfl rfl)
theorem dL_law_303 : decode cL_law 303 = .ok (.iconst 2, 1) := dk_5 (dk_at dksL_law_4 23 rfl rfl)
theorem dL_law_304 : decode cL_law 304 = .ok (.iadd, 1) := dk_96 (dk_at dksL_law_5 0 rfl rfl)
theorem dL_law_305 : decode cL_law 305 = .ok (.iaload, 1) := dk_46 (dk_at dksL_law_5 1 rfl rfl)
theorem dL_law_306 : decode cL_law 306 = .ok (.aload_n 0, 1) := dk_42 (dk_at dksL_law_5 2 rfl rfl)
theorem dL_law_307 : decode cL_law 307 = .ok (.iload 5, 2) := dk_21 5 (dk_at dksL_law_5 3 rfl rfl)
theorem dL_law_309 : decode cL_law 309 = .ok (.iconst 3, 1) := dk_6 (dk_at dksL_law_5 5 rfl rfl)
theorem dL_law_310 : decode cL_law 310 = .ok (.iadd, 1) := dk_96 (dk_at dksL_law_5 6 rfl rfl)
theorem dL_law_311 : decode cL_law 311 = .ok (.iaload, 1) := dk_46 (dk_at dksL_law_5 7 rfl rfl)
theorem dL_law_312 : decode cL_law 312 = .ok (.aload_n 0, 1) := dk_42 (dk_at dksL_law_5 8 rfl rfl)
theorem dL_law_313 : decode cL_law 313 = .ok (.iload 5, 2) := dk_21 5 (dk_at dksL_law_5 9 rfl rfl)
theorem dL_law_315 : decode cL_law 315 = .ok (.iconst 4, 1) := dk_7 (dk_at dksL_law_5 11 rfl rfl)
theorem dL_law_316 : decode cL_law 316 = .ok (.iadd, 1) := dk_96 (dk_at dksL_law_5 12 rfl rfl)
theorem dL_law_317 : decode cL_law 317 = .ok (.iaload, 1) := dk_46 (dk_at dksL_law_5 13 rfl rfl)
theorem dL_law_318 : decode cL_law 318 = .ok (.aload_n 0, 1) := dk_42 (dk_at dksL_law_5 14 rfl rfl)
theorem dL_law_319 : decode cL_law 319 = .ok (.iload 5, 2) := dk_21 5 (dk_at dksL_law_5 15 rfl rfl)
theorem dL_law_321 : decode cL_law 321 = .ok (.iconst 5, 1) := dk_8 (dk_at dksL_law_5 17 rfl rfl)
theorem dL_law_322 : decode cL_law 322 = .ok (.iadd, 1) := dk_96 (dk_at dksL_law_5 18 rfl rfl)
theorem dL_law_323 : decode cL_law 323 = .ok (.iaload, 1) := dk_46 (dk_at dksL_law_5 19 rfl rfl)
theorem dL_law_324 : decode cL_law 324 = .ok (.invokevirtual 169, 3) := dk_182 0 169 (dk_at dksL_law_5 20 rfl rfl)
theorem dL_law_327 : decode cL_law 327 = .ok (.istore 7, 2) := dk_54 7 (dk_at dksL_law_6 0 rfl rfl)
theorem dL_law_329 : decode cL_law 329 = .ok (.aload_n 2, 1) := dk_44 (dk_at dksL_law_6 2 rfl rfl)
theorem dL_law_330 : decode cL_law 330 = .ok (.invokevirtual 170, 3) := dk_182 0 170 (dk_at dksL_law_6 3 rfl rfl)
theorem dL_law_333 : decode cL_law 333 = .ok (.iload 6, 2) := dk_21 6 (dk_at dksL_law_6 6 rfl rfl)
theorem dL_law_335 : decode cL_law 335 = .ok (.if_icmp .eq 5, 3) := dk_159 0 5 (dk_at dksL_law_6 8 rfl rfl)
theorem dL_law_338 : decode cL_law 338 = .ok (.iconst 0, 1) := dk_3 (dk_at dksL_law_6 11 rfl rfl)
theorem dL_law_339 : decode cL_law 339 = .ok (.ireturn, 1) := dk_172 (dk_at dksL_law_6 12 rfl rfl)
theorem dL_law_340 : decode cL_law 340 = .ok (.iload 6, 2) := dk_21 6 (dk_at dksL_law_6 13 rfl rfl)
theorem dL_law_342 : decode cL_law 342 = .ok (.ifCond .ne 15, 3) := dk_154 0 15 (dk_at dksL_law_6 15 rfl rfl)
theorem dL_law_345 : decode cL_law 345 = .ok (.aload_n 3, 1) := dk_45 (dk_at dksL_law_6 18 rfl rfl)
theorem dL_law_346 : decode cL_law 346 = .ok (.iconst 0, 1) := dk_3 (dk_at dksL_law_6 19 rfl rfl)
theorem dL_law_347 : decode cL_law 347 = .ok (.laload, 1) := dk_47 (dk_at dksL_law_6 20 rfl rfl)
theorem dL_law_348 : decode cL_law 348 = .ok (.iload 7, 2) := dk_21 7 (dk_at dksL_law_6 21 rfl rfl)
theorem dL_law_350 : decode cL_law 350 = .ok (.i2l, 1) := dk_133 (dk_at dksL_law_6 23 rfl rfl)
theorem dL_law_351 : decode cL_law 351 = .ok (.lcmp, 1) := dk_148 (dk_at dksL_law_7 0 rfl rfl)
theorem dL_law_352 : decode cL_law 352 = .ok (.ifCond .eq 5, 3) := dk_153 0 5 (dk_at dksL_law_7 1 rfl rfl)
theorem dL_law_355 : decode cL_law 355 = .ok (.iconst 0, 1) := dk_3 (dk_at dksL_law_7 4 rfl rfl)
theorem dL_law_356 : decode cL_law 356 = .ok (.ireturn, 1) := dk_172 (dk_at dksL_law_7 5 rfl rfl)
theorem dL_law_357 : decode cL_law 357 = .ok (.goto 2858, 3) := dk_167 11 42 (dk_at dksL_law_7 6 rfl rfl)
theorem dL_law_360 : decode cL_law 360 = .ok (.aload_n 1, 1) := dk_43 (dk_at dksL_law_7 9 rfl rfl)
theorem dL_law_361 : decode cL_law 361 = .ok (.aload_n 0, 1) := dk_42 (dk_at dksL_law_7 10 rfl rfl)
theorem dL_law_362 : decode cL_law 362 = .ok (.iload 5, 2) := dk_21 5 (dk_at dksL_law_7 11 rfl rfl)
theorem dL_law_364 : decode cL_law 364 = .ok (.iconst 1, 1) := dk_4 (dk_at dksL_law_7 13 rfl rfl)
theorem dL_law_365 : decode cL_law 365 = .ok (.iadd, 1) := dk_96 (dk_at dksL_law_7 14 rfl rfl)
theorem dL_law_366 : decode cL_law 366 = .ok (.iaload, 1) := dk_46 (dk_at dksL_law_7 15 rfl rfl)
theorem dL_law_367 : decode cL_law 367 = .ok (.invokestatic 173, 3) := dk_184 0 173 (dk_at dksL_law_7 16 rfl rfl)
theorem dL_law_370 : decode cL_law 370 = .ok (.istore 6, 2) := dk_54 6 (dk_at dksL_law_7 19 rfl rfl)
theorem dL_law_372 : decode cL_law 372 = .ok (.aload_n 2, 1) := dk_44 (dk_at dksL_law_7 21 rfl rfl)
theorem dL_law_373 : decode cL_law 373 = .ok (.aload_n 0, 1) := dk_42 (dk_at dksL_law_7 22 rfl rfl)
theorem dL_law_374 : decode cL_law 374 = .ok (.iload 5, 2) := dk_21 5 (dk_at dksL_law_8 0 rfl rfl)
theorem dL_law_376 : decode cL_law 376 = .ok (.iconst 1, 1) := dk_4 (dk_at dksL_law_8 2 rfl rfl)
theorem dL_law_377 : decode cL_law 377 = .ok (.iadd, 1) := dk_96 (dk_at dksL_law_8 3 rfl rfl)
theorem dL_law_378 : decode cL_law 378 = .ok (.iaload, 1) := dk_46 (dk_at dksL_law_8 4 rfl rfl)
theorem dL_law_379 : decode cL_law 379 = .ok (.invokevirtual 176, 3) := dk_182 0 176 (dk_at dksL_law_8 5 rfl rfl)
theorem dL_law_382 : decode cL_law 382 = .ok (.aload_n 2, 1) := dk_44 (dk_at dksL_law_8 8 rfl rfl)
theorem dL_law_383 : decode cL_law 383 = .ok (.invokevirtual 170, 3) := dk_182 0 170 (dk_at dksL_law_8 9 rfl rfl)
theorem dL_law_386 : decode cL_law 386 = .ok (.iload 6, 2) := dk_21 6 (dk_at dksL_law_8 12 rfl rfl)
theorem dL_law_388 : decode cL_law 388 = .ok (.if_icmp .eq 5, 3) := dk_159 0 5 (dk_at dksL_law_8 14 rfl rfl)
theorem dL_law_391 : decode cL_law 391 = .ok (.iconst 0, 1) := dk_3 (dk_at dksL_law_8 17 rfl rfl)
theorem dL_law_392 : decode cL_law 392 = .ok (.ireturn, 1) := dk_172 (dk_at dksL_law_8 18 rfl rfl)
theorem dL_law_393 : decode cL_law 393 = .ok (.goto 2822, 3) := dk_167 11 6 (dk_at dksL_law_8 19 rfl rfl)
theorem dL_law_396 : decode cL_law 396 = .ok (.aload_n 1, 1) := dk_43 (dk_at dksL_law_8 22 rfl rfl)
theorem dL_law_397 : decode cL_law 397 = .ok (.aload_n 3, 1) := dk_45 (dk_at dksL_law_8 23 rfl rfl)
theorem dL_law_398 : decode cL_law 398 = .ok (.invokestatic 177, 3) := dk_184 0 177 (dk_at dksL_law_9 0 rfl rfl)
theorem dL_law_401 : decode cL_law 401 = .ok (.istore 6, 2) := dk_54 6 (dk_at dksL_law_9 3 rfl rfl)
theorem dL_law_403 : decode cL_law 403 = .ok (.aload_n 2, 1) := dk_44 (dk_at dksL_law_9 5 rfl rfl)
theorem dL_law_404 : decode cL_law 404 = .ok (.invokevirtual 180, 3) := dk_182 0 180 (dk_at dksL_law_9 6 rfl rfl)
theorem dL_law_407 : decode cL_law 407 = .ok (.istore 7, 2) := dk_54 7 (dk_at dksL_law_9 9 rfl rfl)
theorem dL_law_409 : decode cL_law 409 = .ok (.aload_n 2, 1) := dk_44 (dk_at dksL_law_9 11 rfl rfl)
theorem dL_law_410 : decode cL_law 410 = .ok (.invokevirtual 170, 3) := dk_182 0 170 (dk_at dksL_law_9 12 rfl rfl)
theorem dL_law_413 : decode cL_law 413 = .ok (.iload 6, 2) := dk_21 6 (dk_at dksL_law_9 15 rfl rfl)
theorem dL_law_415 : decode cL_law 415 = .ok (.if_icmp .eq 5, 3) := dk_159 0 5 (dk_at dksL_law_9 17 rfl rfl)
theorem dL_law_418 : decode cL_law 418 = .ok (.iconst 0, 1) := dk_3 (dk_at dksL_law_9 20 rfl rfl)
theorem dL_law_419 : decode cL_law 419 = .ok (.ireturn, 1) := dk_172 (dk_at dksL_law_9 21 rfl rfl)
theorem dL_law_420 : decode cL_law 420 = .ok (.iload 6, 2) := dk_21 6 (dk_at dksL_law_9 22 rfl rfl)
theorem dL_law_422 : decode cL_law 422 = .ok (.ifCond .ne 15, 3) := dk_154 0 15 (dk_at dksL_law_10 0 rfl rfl)
theorem dL_law_425 : decode cL_law 425 = .ok (.aload_n 3, 1) := dk_45 (dk_at dksL_law_10 3 rfl rfl)
theorem dL_law_426 : decode cL_law 426 = .ok (.iconst 0, 1) := dk_3 (dk_at dksL_law_10 4 rfl rfl)
theorem dL_law_427 : decode cL_law 427 = .ok (.laload, 1) := dk_47 (dk_at dksL_law_10 5 rfl rfl)
theorem dL_law_428 : decode cL_law 428 = .ok (.iload 7, 2) := dk_21 7 (dk_at dksL_law_10 6 rfl rfl)
theorem dL_law_430 : decode cL_law 430 = .ok (.i2l, 1) := dk_133 (dk_at dksL_law_10 8 rfl rfl)
theorem dL_law_431 : decode cL_law 431 = .ok (.lcmp, 1) := dk_148 (dk_at dksL_law_10 9 rfl rfl)
theorem dL_law_432 : decode cL_law 432 = .ok (.ifCond .eq 5, 3) := dk_153 0 5 (dk_at dksL_law_10 10 rfl rfl)
theorem dL_law_435 : decode cL_law 435 = .ok (.iconst 0, 1) := dk_3 (dk_at dksL_law_10 13 rfl rfl)
theorem dL_law_436 : decode cL_law 436 = .ok (.ireturn, 1) := dk_172 (dk_at dksL_law_10 14 rfl rfl)
theorem dL_law_437 : decode cL_law 437 = .ok (.goto 2778, 3) := dk_167 10 218 (dk_at dksL_law_10 15 rfl rfl)
theorem dL_law_440 : decode cL_law 440 = .ok (.aload_n 1, 1) := dk_43 (dk_at dksL_law_10 18 rfl rfl)
theorem dL_law_441 : decode cL_law 441 = .ok (.invokevirtual 181, 3) := dk_182 0 181 (dk_at dksL_law_10 19 rfl rfl)
theorem dL_law_444 : decode cL_law 444 = .ok (.aload_n 2, 1) := dk_44 (dk_at dksL_law_10 22 rfl rfl)
theorem dL_law_445 : decode cL_law 445 = .ok (.invokevirtual 184, 3) := dk_182 0 184 (dk_at dksL_law_11 0 rfl rfl)
theorem dL_law_448 : decode cL_law 448 = .ok (.if_icmp .eq 2767, 3) := dk_159 10 207 (dk_at dksL_law_11 3 rfl rfl)
theorem dL_law_451 : decode cL_law 451 = .ok (.iconst 0, 1) := dk_3 (dk_at dksL_law_11 6 rfl rfl)
theorem dL_law_452 : decode cL_law 452 = .ok (.ireturn, 1) := dk_172 (dk_at dksL_law_11 7 rfl rfl)
theorem dL_law_453 : decode cL_law 453 = .ok (.aload_n 1, 1) := dk_43 (dk_at dksL_law_11 8 rfl rfl)
theorem dL_law_454 : decode cL_law 454 = .ok (.aload_n 0, 1) := dk_42 (dk_at dksL_law_11 9 rfl rfl)
theorem dL_law_455 : decode cL_law 455 = .ok (.iload 5, 2) := dk_21 5 (dk_at dksL_law_11 10 rfl rfl)
theorem dL_law_457 : decode cL_law 457 = .ok (.iconst 1, 1) := dk_4 (dk_at dksL_law_11 12 rfl rfl)
theorem dL_law_458 : decode cL_law 458 = .ok (.iadd, 1) := dk_96 (dk_at dksL_law_11 13 rfl rfl)
theorem dL_law_459 : decode cL_law 459 = .ok (.iaload, 1) := dk_46 (dk_at dksL_law_11 14 rfl rfl)
theorem dL_law_460 : decode cL_law 460 = .ok (.aload_n 3, 1) := dk_45 (dk_at dksL_law_11 15 rfl rfl)
theorem dL_law_461 : decode cL_law 461 = .ok (.invokestatic 185, 3) := dk_184 0 185 (dk_at dksL_law_11 16 rfl rfl)
theorem dL_law_464 : decode cL_law 464 = .ok (.istore 6, 2) := dk_54 6 (dk_at dksL_law_11 19 rfl rfl)
theorem dL_law_466 : decode cL_law 466 = .ok (.aload_n 2, 1) := dk_44 (dk_at dksL_law_11 21 rfl rfl)
theorem dL_law_467 : decode cL_law 467 = .ok (.aload_n 0, 1) := dk_42 (dk_at dksL_law_11 22 rfl rfl)
theorem dL_law_468 : decode cL_law 468 = .ok (.iload 5, 2) := dk_21 5 (dk_at dksL_law_12 0 rfl rfl)
theorem dL_law_470 : decode cL_law 470 = .ok (.iconst 1, 1) := dk_4 (dk_at dksL_law_12 2 rfl rfl)
theorem dL_law_471 : decode cL_law 471 = .ok (.iadd, 1) := dk_96 (dk_at dksL_law_12 3 rfl rfl)
theorem dL_law_472 : decode cL_law 472 = .ok (.iaload, 1) := dk_46 (dk_at dksL_law_12 4 rfl rfl)
theorem dL_law_473 : decode cL_law 473 = .ok (.invokevirtual 188, 3) := dk_182 0 188 (dk_at dksL_law_12 5 rfl rfl)
theorem dL_law_476 : decode cL_law 476 = .ok (.istore 7, 2) := dk_54 7 (dk_at dksL_law_12 8 rfl rfl)
theorem dL_law_478 : decode cL_law 478 = .ok (.aload_n 2, 1) := dk_44 (dk_at dksL_law_12 10 rfl rfl)
theorem dL_law_479 : decode cL_law 479 = .ok (.invokevirtual 170, 3) := dk_182 0 170 (dk_at dksL_law_12 11 rfl rfl)
theorem dL_law_482 : decode cL_law 482 = .ok (.iload 6, 2) := dk_21 6 (dk_at dksL_law_12 14 rfl rfl)
theorem dL_law_484 : decode cL_law 484 = .ok (.if_icmp .eq 5, 3) := dk_159 0 5 (dk_at dksL_law_12 16 rfl rfl)
theorem dL_law_487 : decode cL_law 487 = .ok (.iconst 0, 1) := dk_3 (dk_at dksL_law_12 19 rfl rfl)
theorem dL_law_488 : decode cL_law 488 = .ok (.ireturn, 1) := dk_172 (dk_at dksL_law_12 20 rfl rfl)
theorem dL_law_489 : decode cL_law 489 = .ok (.iload 6, 2) := dk_21 6 (dk_at dksL_law_12 21 rfl rfl)
theorem dL_law_491 : decode cL_law 491 = .ok (.ifCond .ne 15, 3) := dk_154 0 15 (dk_at dksL_law_13 0 rfl rfl)
theorem dL_law_494 : decode cL_law 494 = .ok (.aload_n 3, 1) := dk_45 (dk_at dksL_law_13 3 rfl rfl)
theorem dL_law_495 : decode cL_law 495 = .ok (.iconst 0, 1) := dk_3 (dk_at dksL_law_13 4 rfl rfl)
theorem dL_law_496 : decode cL_law 496 = .ok (.laload, 1) := dk_47 (dk_at dksL_law_13 5 rfl rfl)
theorem dL_law_497 : decode cL_law 497 = .ok (.iload 7, 2) := dk_21 7 (dk_at dksL_law_13 6 rfl rfl)
theorem dL_law_499 : decode cL_law 499 = .ok (.i2l, 1) := dk_133 (dk_at dksL_law_13 8 rfl rfl)
theorem dL_law_500 : decode cL_law 500 = .ok (.lcmp, 1) := dk_148 (dk_at dksL_law_13 9 rfl rfl)
theorem dL_law_501 : decode cL_law 501 = .ok (.ifCond .eq 5, 3) := dk_153 0 5 (dk_at dksL_law_13 10 rfl rfl)
theorem dL_law_504 : decode cL_law 504 = .ok (.iconst 0, 1) := dk_3 (dk_at dksL_law_13 13 rfl rfl)
theorem dL_law_505 : decode cL_law 505 = .ok (.ireturn, 1) := dk_172 (dk_at dksL_law_13 14 rfl rfl)
theorem dL_law_506 : decode cL_law 506 = .ok (.goto 2709, 3) := dk_167 10 149 (dk_at dksL_law_13 15 rfl rfl)
theorem dL_law_509 : decode cL_law 509 = .ok (.aload_n 1, 1) := dk_43 (dk_at dksL_law_13 18 rfl rfl)
theorem dL_law_510 : decode cL_law 510 = .ok (.aload_n 0, 1) := dk_42 (dk_at dksL_law_13 19 rfl rfl)
theorem dL_law_511 : decode cL_law 511 = .ok (.iload 5, 2) := dk_21 5 (dk_at dksL_law_13 20 rfl rfl)
theorem dL_law_513 : decode cL_law 513 = .ok (.iconst 1, 1) := dk_4 (dk_at dksL_law_13 22 rfl rfl)
theorem dL_law_514 : decode cL_law 514 = .ok (.iadd, 1) := dk_96 (dk_at dksL_law_13 23 rfl rfl)
theorem dL_law_515 : decode cL_law 515 = .ok (.iaload, 1) := dk_46 (dk_at dksL_law_14 0 rfl rfl)
theorem dL_law_516 : decode cL_law 516 = .ok (.aload_n 0, 1) := dk_42 (dk_at dksL_law_14 1 rfl rfl)
theorem dL_law_517 : decode cL_law 517 = .ok (.iload 5, 2) := dk_21 5 (dk_at dksL_law_14 2 rfl rfl)
theorem dL_law_519 : decode cL_law 519 = .ok (.iconst 2, 1) := dk_5 (dk_at dksL_law_14 4 rfl rfl)
theorem dL_law_520 : decode cL_law 520 = .ok (.iadd, 1) := dk_96 (dk_at dksL_law_14 5 rfl rfl)
theorem dL_law_521 : decode cL_law 521 = .ok (.iaload, 1) := dk_46 (dk_at dksL_law_14 6 rfl rfl)
theorem dL_law_522 : decode cL_law 522 = .ok (.aload_n 3, 1) := dk_45 (dk_at dksL_law_14 7 rfl rfl)
theorem dL_law_523 : decode cL_law 523 = .ok (.invokestatic 189, 3) := dk_184 0 189 (dk_at dksL_law_14 8 rfl rfl)
theorem dL_law_526 : decode cL_law 526 = .ok (.istore 6, 2) := dk_54 6 (dk_at dksL_law_14 11 rfl rfl)
theorem dL_law_528 : decode cL_law 528 = .ok (.aload_n 2, 1) := dk_44 (dk_at dksL_law_14 13 rfl rfl)
theorem dL_law_529 : decode cL_law 529 = .ok (.aload_n 0, 1) := dk_42 (dk_at dksL_law_14 14 rfl rfl)
theorem dL_law_530 : decode cL_law 530 = .ok (.iload 5, 2) := dk_21 5 (dk_at dksL_law_14 15 rfl rfl)
theorem dL_law_532 : decode cL_law 532 = .ok (.iconst 1, 1) := dk_4 (dk_at dksL_law_14 17 rfl rfl)
theorem dL_law_533 : decode cL_law 533 = .ok (.iadd, 1) := dk_96 (dk_at dksL_law_14 18 rfl rfl)
theorem dL_law_534 : decode cL_law 534 = .ok (.iaload, 1) := dk_46 (dk_at dksL_law_14 19 rfl rfl)
theorem dL_law_535 : decode cL_law 535 = .ok (.aload_n 0, 1) := dk_42 (dk_at dksL_law_14 20 rfl rfl)
theorem dL_law_536 : decode cL_law 536 = .ok (.iload 5, 2) := dk_21 5 (dk_at dksL_law_14 21 rfl rfl)
theorem dL_law_538 : decode cL_law 538 = .ok (.iconst 2, 1) := dk_5 (dk_at dksL_law_14 23 rfl rfl)
theorem dL_law_539 : decode cL_law 539 = .ok (.iadd, 1) := dk_96 (dk_at dksL_law_15 0 rfl rfl)
theorem dL_law_540 : decode cL_law 540 = .ok (.iaload, 1) := dk_46 (dk_at dksL_law_15 1 rfl rfl)
theorem dL_law_541 : decode cL_law 541 = .ok (.invokevirtual 192, 3) := dk_182 0 192 (dk_at dksL_law_15 2 rfl rfl)
theorem dL_law_544 : decode cL_law 544 = .ok (.istore 7, 2) := dk_54 7 (dk_at dksL_law_15 5 rfl rfl)
theorem dL_law_546 : decode cL_law 546 = .ok (.aload_n 2, 1) := dk_44 (dk_at dksL_law_15 7 rfl rfl)
theorem dL_law_547 : decode cL_law 547 = .ok (.invokevirtual 170, 3) := dk_182 0 170 (dk_at dksL_law_15 8 rfl rfl)
theorem dL_law_550 : decode cL_law 550 = .ok (.iload 6, 2) := dk_21 6 (dk_at dksL_law_15 11 rfl rfl)
theorem dL_law_552 : decode cL_law 552 = .ok (.if_icmp .eq 5, 3) := dk_159 0 5 (dk_at dksL_law_15 13 rfl rfl)
theorem dL_law_555 : decode cL_law 555 = .ok (.iconst 0, 1) := dk_3 (dk_at dksL_law_15 16 rfl rfl)
theorem dL_law_556 : decode cL_law 556 = .ok (.ireturn, 1) := dk_172 (dk_at dksL_law_15 17 rfl rfl)
theorem dL_law_557 : decode cL_law 557 = .ok (.iload 6, 2) := dk_21 6 (dk_at dksL_law_15 18 rfl rfl)
theorem dL_law_559 : decode cL_law 559 = .ok (.ifCond .ne 15, 3) := dk_154 0 15 (dk_at dksL_law_15 20 rfl rfl)
theorem dL_law_562 : decode cL_law 562 = .ok (.aload_n 3, 1) := dk_45 (dk_at dksL_law_15 23 rfl rfl)
theorem dL_law_563 : decode cL_law 563 = .ok (.iconst 0, 1) := dk_3 (dk_at dksL_law_16 0 rfl rfl)
theorem dL_law_564 : decode cL_law 564 = .ok (.laload, 1) := dk_47 (dk_at dksL_law_16 1 rfl rfl)
theorem dL_law_565 : decode cL_law 565 = .ok (.iload 7, 2) := dk_21 7 (dk_at dksL_law_16 2 rfl rfl)
theorem dL_law_567 : decode cL_law 567 = .ok (.i2l, 1) := dk_133 (dk_at dksL_law_16 4 rfl rfl)
theorem dL_law_568 : decode cL_law 568 = .ok (.lcmp, 1) := dk_148 (dk_at dksL_law_16 5 rfl rfl)
theorem dL_law_569 : decode cL_law 569 = .ok (.ifCond .eq 5, 3) := dk_153 0 5 (dk_at dksL_law_16 6 rfl rfl)
theorem dL_law_572 : decode cL_law 572 = .ok (.iconst 0, 1) := dk_3 (dk_at dksL_law_16 9 rfl rfl)
theorem dL_law_573 : decode cL_law 573 = .ok (.ireturn, 1) := dk_172 (dk_at dksL_law_16 10 rfl rfl)
theorem dL_law_574 : decode cL_law 574 = .ok (.goto 2641, 3) := dk_167 10 81 (dk_at dksL_law_16 11 rfl rfl)
theorem dL_law_577 : decode cL_law 577 = .ok (.aload_n 1, 1) := dk_43 (dk_at dksL_law_16 14 rfl rfl)
theorem dL_law_578 : decode cL_law 578 = .ok (.aload_n 0, 1) := dk_42 (dk_at dksL_law_16 15 rfl rfl)
theorem dL_law_579 : decode cL_law 579 = .ok (.iload 5, 2) := dk_21 5 (dk_at dksL_law_16 16 rfl rfl)
theorem dL_law_581 : decode cL_law 581 = .ok (.iconst 1, 1) := dk_4 (dk_at dksL_law_16 18 rfl rfl)
theorem dL_law_582 : decode cL_law 582 = .ok (.iadd, 1) := dk_96 (dk_at dksL_law_16 19 rfl rfl)
theorem dL_law_583 : decode cL_law 583 = .ok (.iaload, 1) := dk_46 (dk_at dksL_law_16 20 rfl rfl)
theorem dL_law_584 : decode cL_law 584 = .ok (.aload_n 3, 1) := dk_45 (dk_at dksL_law_16 21 rfl rfl)
theorem dL_law_585 : decode cL_law 585 = .ok (.invokestatic 193, 3) := dk_184 0 193 (dk_at dksL_law_17 0 rfl rfl)
theorem dL_law_588 : decode cL_law 588 = .ok (.istore 6, 2) := dk_54 6 (dk_at dksL_law_17 3 rfl rfl)
theorem dL_law_590 : decode cL_law 590 = .ok (.aload_n 2, 1) := dk_44 (dk_at dksL_law_17 5 rfl rfl)
theorem dL_law_591 : decode cL_law 591 = .ok (.aload_n 0, 1) := dk_42 (dk_at dksL_law_17 6 rfl rfl)
theorem dL_law_592 : decode cL_law 592 = .ok (.iload 5, 2) := dk_21 5 (dk_at dksL_law_17 7 rfl rfl)
theorem dL_law_594 : decode cL_law 594 = .ok (.iconst 1, 1) := dk_4 (dk_at dksL_law_17 9 rfl rfl)
theorem dL_law_595 : decode cL_law 595 = .ok (.iadd, 1) := dk_96 (dk_at dksL_law_17 10 rfl rfl)
theorem dL_law_596 : decode cL_law 596 = .ok (.iaload, 1) := dk_46 (dk_at dksL_law_17 11 rfl rfl)
theorem dL_law_597 : decode cL_law 597 = .ok (.invokevirtual 195, 3) := dk_182 0 195 (dk_at dksL_law_17 12 rfl rfl)
theorem dL_law_600 : decode cL_law 600 = .ok (.istore 7, 2) := dk_54 7 (dk_at dksL_law_17 15 rfl rfl)
theorem dL_law_602 : decode cL_law 602 = .ok (.aload_n 2, 1) := dk_44 (dk_at dksL_law_17 17 rfl rfl)
theorem dL_law_603 : decode cL_law 603 = .ok (.invokevirtual 170, 3) := dk_182 0 170 (dk_at dksL_law_17 18 rfl rfl)
theorem dL_law_606 : decode cL_law 606 = .ok (.iload 6, 2) := dk_21 6 (dk_at dksL_law_17 21 rfl rfl)
theorem dL_law_608 : decode cL_law 608 = .ok (.if_icmp .eq 5, 3) := dk_159 0 5 (dk_at dksL_law_18 0 rfl rfl)
theorem dL_law_611 : decode cL_law 611 = .ok (.iconst 0, 1) := dk_3 (dk_at dksL_law_18 3 rfl rfl)
theorem dL_law_612 : decode cL_law 612 = .ok (.ireturn, 1) := dk_172 (dk_at dksL_law_18 4 rfl rfl)
theorem dL_law_613 : decode cL_law 613 = .ok (.iload 6, 2) := dk_21 6 (dk_at dksL_law_18 5 rfl rfl)
theorem dL_law_615 : decode cL_law 615 = .ok (.ifCond .ne 15, 3) := dk_154 0 15 (dk_at dksL_law_18 7 rfl rfl)
theorem dL_law_618 : decode cL_law 618 = .ok (.aload_n 3, 1) := dk_45 (dk_at dksL_law_18 10 rfl rfl)
theorem dL_law_619 : decode cL_law 619 = .ok (.iconst 0, 1) := dk_3 (dk_at dksL_law_18 11 rfl rfl)
theorem dL_law_620 : decode cL_law 620 = .ok (.laload, 1) := dk_47 (dk_at dksL_law_18 12 rfl rfl)
theorem dL_law_621 : decode cL_law 621 = .ok (.iload 7, 2) := dk_21 7 (dk_at dksL_law_18 13 rfl rfl)
theorem dL_law_623 : decode cL_law 623 = .ok (.i2l, 1) := dk_133 (dk_at dksL_law_18 15 rfl rfl)
theorem dL_law_624 : decode cL_law 624 = .ok (.lcmp, 1) := dk_148 (dk_at dksL_law_18 16 rfl rfl)
theorem dL_law_625 : decode cL_law 625 = .ok (.ifCond .eq 5, 3) := dk_153 0 5 (dk_at dksL_law_18 17 rfl rfl)
theorem dL_law_628 : decode cL_law 628 = .ok (.iconst 0, 1) := dk_3 (dk_at dksL_law_18 20 rfl rfl)
theorem dL_law_629 : decode cL_law 629 = .ok (.ireturn, 1) := dk_172 (dk_at dksL_law_18 21 rfl rfl)
theorem dL_law_630 : decode cL_law 630 = .ok (.goto 2585, 3) := dk_167 10 25 (dk_at dksL_law_19 0 rfl rfl)
theorem dL_law_633 : decode cL_law 633 = .ok (.aload_n 1, 1) := dk_43 (dk_at dksL_law_19 3 rfl rfl)
theorem dL_law_634 : decode cL_law 634 = .ok (.aload_n 0, 1) := dk_42 (dk_at dksL_law_19 4 rfl rfl)
theorem dL_law_635 : decode cL_law 635 = .ok (.iload 5, 2) := dk_21 5 (dk_at dksL_law_19 5 rfl rfl)
theorem dL_law_637 : decode cL_law 637 = .ok (.iconst 1, 1) := dk_4 (dk_at dksL_law_19 7 rfl rfl)
theorem dL_law_638 : decode cL_law 638 = .ok (.iadd, 1) := dk_96 (dk_at dksL_law_19 8 rfl rfl)
theorem dL_law_639 : decode cL_law 639 = .ok (.iaload, 1) := dk_46 (dk_at dksL_law_19 9 rfl rfl)
theorem dL_law_640 : decode cL_law 640 = .ok (.aload_n 3, 1) := dk_45 (dk_at dksL_law_19 10 rfl rfl)
theorem dL_law_641 : decode cL_law 641 = .ok (.invokestatic 196, 3) := dk_184 0 196 (dk_at dksL_law_19 11 rfl rfl)
theorem dL_law_644 : decode cL_law 644 = .ok (.istore 6, 2) := dk_54 6 (dk_at dksL_law_19 14 rfl rfl)
theorem dL_law_646 : decode cL_law 646 = .ok (.aload_n 2, 1) := dk_44 (dk_at dksL_law_19 16 rfl rfl)
theorem dL_law_647 : decode cL_law 647 = .ok (.aload_n 0, 1) := dk_42 (dk_at dksL_law_19 17 rfl rfl)
theorem dL_law_648 : decode cL_law 648 = .ok (.iload 5, 2) := dk_21 5 (dk_at dksL_law_19 18 rfl rfl)
theorem dL_law_650 : decode cL_law 650 = .ok (.iconst 1, 1) := dk_4 (dk_at dksL_law_19 20 rfl rfl)
theorem dL_law_651 : decode cL_law 651 = .ok (.iadd, 1) := dk_96 (dk_at dksL_law_19 21 rfl rfl)
theorem dL_law_652 : decode cL_law 652 = .ok (.iaload, 1) := dk_46 (dk_at dksL_law_19 22 rfl rfl)
theorem dL_law_653 : decode cL_law 653 = .ok (.invokevirtual 198, 3) := dk_182 0 198 (dk_at dksL_law_20 0 rfl rfl)
theorem dL_law_656 : decode cL_law 656 = .ok (.istore 7, 2) := dk_54 7 (dk_at dksL_law_20 3 rfl rfl)
theorem dL_law_658 : decode cL_law 658 = .ok (.aload_n 2, 1) := dk_44 (dk_at dksL_law_20 5 rfl rfl)
theorem dL_law_659 : decode cL_law 659 = .ok (.invokevirtual 170, 3) := dk_182 0 170 (dk_at dksL_law_20 6 rfl rfl)
theorem dL_law_662 : decode cL_law 662 = .ok (.iload 6, 2) := dk_21 6 (dk_at dksL_law_20 9 rfl rfl)
theorem dL_law_664 : decode cL_law 664 = .ok (.if_icmp .eq 5, 3) := dk_159 0 5 (dk_at dksL_law_20 11 rfl rfl)
theorem dL_law_667 : decode cL_law 667 = .ok (.iconst 0, 1) := dk_3 (dk_at dksL_law_20 14 rfl rfl)
theorem dL_law_668 : decode cL_law 668 = .ok (.ireturn, 1) := dk_172 (dk_at dksL_law_20 15 rfl rfl)
theorem dL_law_669 : decode cL_law 669 = .ok (.iload 6, 2) := dk_21 6 (dk_at dksL_law_20 16 rfl rfl)
theorem dL_law_671 : decode cL_law 671 = .ok (.ifCond .ne 15, 3) := dk_154 0 15 (dk_at dksL_law_20 18 rfl rfl)
theorem dL_law_674 : decode cL_law 674 = .ok (.aload_n 3, 1) := dk_45 (dk_at dksL_law_20 21 rfl rfl)
theorem dL_law_675 : decode cL_law 675 = .ok (.iconst 0, 1) := dk_3 (dk_at dksL_law_20 22 rfl rfl)
theorem dL_law_676 : decode cL_law 676 = .ok (.laload, 1) := dk_47 (dk_at dksL_law_20 23 rfl rfl)
theorem dL_law_677 : decode cL_law 677 = .ok (.iload 7, 2) := dk_21 7 (dk_at dksL_law_21 0 rfl rfl)
theorem dL_law_679 : decode cL_law 679 = .ok (.i2l, 1) := dk_133 (dk_at dksL_law_21 2 rfl rfl)
theorem dL_law_680 : decode cL_law 680 = .ok (.lcmp, 1) := dk_148 (dk_at dksL_law_21 3 rfl rfl)
theorem dL_law_681 : decode cL_law 681 = .ok (.ifCond .eq 5, 3) := dk_153 0 5 (dk_at dksL_law_21 4 rfl rfl)
theorem dL_law_684 : decode cL_law 684 = .ok (.iconst 0, 1) := dk_3 (dk_at dksL_law_21 7 rfl rfl)
theorem dL_law_685 : decode cL_law 685 = .ok (.ireturn, 1) := dk_172 (dk_at dksL_law_21 8 rfl rfl)
theorem dL_law_686 : decode cL_law 686 = .ok (.goto 2529, 3) := dk_167 9 225 (dk_at dksL_law_21 9 rfl rfl)
theorem dL_law_689 : decode cL_law 689 = .ok (.aload_n 1, 1) := dk_43 (dk_at dksL_law_21 12 rfl rfl)
theorem dL_law_690 : decode cL_law 690 = .ok (.aload_n 0, 1) := dk_42 (dk_at dksL_law_21 13 rfl rfl)
theorem dL_law_691 : decode cL_law 691 = .ok (.iload 5, 2) := dk_21 5 (dk_at dksL_law_21 14 rfl rfl)
theorem dL_law_693 : decode cL_law 693 = .ok (.iconst 1, 1) := dk_4 (dk_at dksL_law_21 16 rfl rfl)
theorem dL_law_694 : decode cL_law 694 = .ok (.iadd, 1) := dk_96 (dk_at dksL_law_21 17 rfl rfl)
theorem dL_law_695 : decode cL_law 695 = .ok (.iaload, 1) := dk_46 (dk_at dksL_law_21 18 rfl rfl)
theorem dL_law_696 : decode cL_law 696 = .ok (.aload_n 0, 1) := dk_42 (dk_at dksL_law_21 19 rfl rfl)
theorem dL_law_697 : decode cL_law 697 = .ok (.iload 5, 2) := dk_21 5 (dk_at dksL_law_21 20 rfl rfl)
theorem dL_law_699 : decode cL_law 699 = .ok (.iconst 2, 1) := dk_5 (dk_at dksL_law_21 22 rfl rfl)
theorem dL_law_700 : decode cL_law 700 = .ok (.iadd, 1) := dk_96 (dk_at dksL_law_21 23 rfl rfl)
theorem dL_law_701 : decode cL_law 701 = .ok (.iaload, 1) := dk_46 (dk_at dksL_law_22 0 rfl rfl)
theorem dL_law_702 : decode cL_law 702 = .ok (.aload_n 3, 1) := dk_45 (dk_at dksL_law_22 1 rfl rfl)
theorem dL_law_703 : decode cL_law 703 = .ok (.invokestatic 199, 3) := dk_184 0 199 (dk_at dksL_law_22 2 rfl rfl)
theorem dL_law_706 : decode cL_law 706 = .ok (.istore 6, 2) := dk_54 6 (dk_at dksL_law_22 5 rfl rfl)
theorem dL_law_708 : decode cL_law 708 = .ok (.aload_n 2, 1) := dk_44 (dk_at dksL_law_22 7 rfl rfl)
theorem dL_law_709 : decode cL_law 709 = .ok (.aload_n 0, 1) := dk_42 (dk_at dksL_law_22 8 rfl rfl)
theorem dL_law_710 : decode cL_law 710 = .ok (.iload 5, 2) := dk_21 5 (dk_at dksL_law_22 9 rfl rfl)
theorem dL_law_712 : decode cL_law 712 = .ok (.iconst 1, 1) := dk_4 (dk_at dksL_law_22 11 rfl rfl)
theorem dL_law_713 : decode cL_law 713 = .ok (.iadd, 1) := dk_96 (dk_at dksL_law_22 12 rfl rfl)
theorem dL_law_714 : decode cL_law 714 = .ok (.iaload, 1) := dk_46 (dk_at dksL_law_22 13 rfl rfl)
theorem dL_law_715 : decode cL_law 715 = .ok (.aload_n 0, 1) := dk_42 (dk_at dksL_law_22 14 rfl rfl)
theorem dL_law_716 : decode cL_law 716 = .ok (.iload 5, 2) := dk_21 5 (dk_at dksL_law_22 15 rfl rfl)
theorem dL_law_718 : decode cL_law 718 = .ok (.iconst 2, 1) := dk_5 (dk_at dksL_law_22 17 rfl rfl)
theorem dL_law_719 : decode cL_law 719 = .ok (.iadd, 1) := dk_96 (dk_at dksL_law_22 18 rfl rfl)
theorem dL_law_720 : decode cL_law 720 = .ok (.iaload, 1) := dk_46 (dk_at dksL_law_22 19 rfl rfl)
theorem dL_law_721 : decode cL_law 721 = .ok (.invokevirtual 201, 3) := dk_182 0 201 (dk_at dksL_law_22 20 rfl rfl)
theorem dL_law_724 : decode cL_law 724 = .ok (.istore 7, 2) := dk_54 7 (dk_at dksL_law_23 0 rfl rfl)
theorem dL_law_726 : decode cL_law 726 = .ok (.aload_n 2, 1) := dk_44 (dk_at dksL_law_23 2 rfl rfl)
theorem dL_law_727 : decode cL_law 727 = .ok (.invokevirtual 170, 3) := dk_182 0 170 (dk_at dksL_law_23 3 rfl rfl)
theorem dL_law_730 : decode cL_law 730 = .ok (.iload 6, 2) := dk_21 6 (dk_at dksL_law_23 6 rfl rfl)
theorem dL_law_732 : decode cL_law 732 = .ok (.if_icmp .eq 5, 3) := dk_159 0 5 (dk_at dksL_law_23 8 rfl rfl)
theorem dL_law_735 : decode cL_law 735 = .ok (.iconst 0, 1) := dk_3 (dk_at dksL_law_23 11 rfl rfl)
theorem dL_law_736 : decode cL_law 736 = .ok (.ireturn, 1) := dk_172 (dk_at dksL_law_23 12 rfl rfl)
theorem dL_law_737 : decode cL_law 737 = .ok (.iload 6, 2) := dk_21 6 (dk_at dksL_law_23 13 rfl rfl)
theorem dL_law_739 : decode cL_law 739 = .ok (.ifCond .ne 15, 3) := dk_154 0 15 (dk_at dksL_law_23 15 rfl rfl)
theorem dL_law_742 : decode cL_law 742 = .ok (.aload_n 3, 1) := dk_45 (dk_at dksL_law_23 18 rfl rfl)
theorem dL_law_743 : decode cL_law 743 = .ok (.iconst 0, 1) := dk_3 (dk_at dksL_law_23 19 rfl rfl)
theorem dL_law_744 : decode cL_law 744 = .ok (.laload, 1) := dk_47 (dk_at dksL_law_23 20 rfl rfl)
theorem dL_law_745 : decode cL_law 745 = .ok (.iload 7, 2) := dk_21 7 (dk_at dksL_law_23 21 rfl rfl)
theorem dL_law_747 : decode cL_law 747 = .ok (.i2l, 1) := dk_133 (dk_at dksL_law_23 23 rfl rfl)
theorem dL_law_748 : decode cL_law 748 = .ok (.lcmp, 1) := dk_148 (dk_at dksL_law_24 0 rfl rfl)
theorem dL_law_749 : decode cL_law 749 = .ok (.ifCond .eq 5, 3) := dk_153 0 5 (dk_at dksL_law_24 1 rfl rfl)
theorem dL_law_752 : decode cL_law 752 = .ok (.iconst 0, 1) := dk_3 (dk_at dksL_law_24 4 rfl rfl)
theorem dL_law_753 : decode cL_law 753 = .ok (.ireturn, 1) := dk_172 (dk_at dksL_law_24 5 rfl rfl)
theorem dL_law_754 : decode cL_law 754 = .ok (.goto 2461, 3) := dk_167 9 157 (dk_at dksL_law_24 6 rfl rfl)
theorem dL_law_757 : decode cL_law 757 = .ok (.aload_n 1, 1) := dk_43 (dk_at dksL_law_24 9 rfl rfl)
theorem dL_law_758 : decode cL_law 758 = .ok (.aload_n 0, 1) := dk_42 (dk_at dksL_law_24 10 rfl rfl)
theorem dL_law_759 : decode cL_law 759 = .ok (.iload 5, 2) := dk_21 5 (dk_at dksL_law_24 11 rfl rfl)
theorem dL_law_761 : decode cL_law 761 = .ok (.iconst 1, 1) := dk_4 (dk_at dksL_law_24 13 rfl rfl)
theorem dL_law_762 : decode cL_law 762 = .ok (.iadd, 1) := dk_96 (dk_at dksL_law_24 14 rfl rfl)
theorem dL_law_763 : decode cL_law 763 = .ok (.iaload, 1) := dk_46 (dk_at dksL_law_24 15 rfl rfl)
theorem dL_law_764 : decode cL_law 764 = .ok (.aload_n 0, 1) := dk_42 (dk_at dksL_law_24 16 rfl rfl)
theorem dL_law_765 : decode cL_law 765 = .ok (.iload 5, 2) := dk_21 5 (dk_at dksL_law_24 17 rfl rfl)
theorem dL_law_767 : decode cL_law 767 = .ok (.iconst 2, 1) := dk_5 (dk_at dksL_law_24 19 rfl rfl)
theorem dL_law_768 : decode cL_law 768 = .ok (.iadd, 1) := dk_96 (dk_at dksL_law_24 20 rfl rfl)
theorem dL_law_769 : decode cL_law 769 = .ok (.iaload, 1) := dk_46 (dk_at dksL_law_24 21 rfl rfl)
theorem dL_law_770 : decode cL_law 770 = .ok (.aload_n 3, 1) := dk_45 (dk_at dksL_law_24 22 rfl rfl)
theorem dL_law_771 : decode cL_law 771 = .ok (.invokestatic 202, 3) := dk_184 0 202 (dk_at dksL_law_25 0 rfl rfl)
theorem dL_law_774 : decode cL_law 774 = .ok (.istore 6, 2) := dk_54 6 (dk_at dksL_law_25 3 rfl rfl)
theorem dL_law_776 : decode cL_law 776 = .ok (.aload_n 2, 1) := dk_44 (dk_at dksL_law_25 5 rfl rfl)
theorem dL_law_777 : decode cL_law 777 = .ok (.aload_n 0, 1) := dk_42 (dk_at dksL_law_25 6 rfl rfl)
theorem dL_law_778 : decode cL_law 778 = .ok (.iload 5, 2) := dk_21 5 (dk_at dksL_law_25 7 rfl rfl)
theorem dL_law_780 : decode cL_law 780 = .ok (.iconst 1, 1) := dk_4 (dk_at dksL_law_25 9 rfl rfl)
theorem dL_law_781 : decode cL_law 781 = .ok (.iadd, 1) := dk_96 (dk_at dksL_law_25 10 rfl rfl)
theorem dL_law_782 : decode cL_law 782 = .ok (.iaload, 1) := dk_46 (dk_at dksL_law_25 11 rfl rfl)
theorem dL_law_783 : decode cL_law 783 = .ok (.aload_n 0, 1) := dk_42 (dk_at dksL_law_25 12 rfl rfl)
theorem dL_law_784 : decode cL_law 784 = .ok (.iload 5, 2) := dk_21 5 (dk_at dksL_law_25 13 rfl rfl)
theorem dL_law_786 : decode cL_law 786 = .ok (.iconst 2, 1) := dk_5 (dk_at dksL_law_25 15 rfl rfl)
theorem dL_law_787 : decode cL_law 787 = .ok (.iadd, 1) := dk_96 (dk_at dksL_law_25 16 rfl rfl)
theorem dL_law_788 : decode cL_law 788 = .ok (.iaload, 1) := dk_46 (dk_at dksL_law_25 17 rfl rfl)
theorem dL_law_789 : decode cL_law 789 = .ok (.invokevirtual 204, 3) := dk_182 0 204 (dk_at dksL_law_25 18 rfl rfl)
theorem dL_law_792 : decode cL_law 792 = .ok (.istore 7, 2) := dk_54 7 (dk_at dksL_law_25 21 rfl rfl)
theorem dL_law_794 : decode cL_law 794 = .ok (.aload_n 2, 1) := dk_44 (dk_at dksL_law_25 23 rfl rfl)
theorem dL_law_795 : decode cL_law 795 = .ok (.invokevirtual 170, 3) := dk_182 0 170 (dk_at dksL_law_26 0 rfl rfl)
theorem dL_law_798 : decode cL_law 798 = .ok (.iload 6, 2) := dk_21 6 (dk_at dksL_law_26 3 rfl rfl)
theorem dL_law_800 : decode cL_law 800 = .ok (.if_icmp .eq 5, 3) := dk_159 0 5 (dk_at dksL_law_26 5 rfl rfl)
theorem dL_law_803 : decode cL_law 803 = .ok (.iconst 0, 1) := dk_3 (dk_at dksL_law_26 8 rfl rfl)
theorem dL_law_804 : decode cL_law 804 = .ok (.ireturn, 1) := dk_172 (dk_at dksL_law_26 9 rfl rfl)
theorem dL_law_805 : decode cL_law 805 = .ok (.iload 6, 2) := dk_21 6 (dk_at dksL_law_26 10 rfl rfl)
theorem dL_law_807 : decode cL_law 807 = .ok (.ifCond .ne 15, 3) := dk_154 0 15 (dk_at dksL_law_26 12 rfl rfl)
theorem dL_law_810 : decode cL_law 810 = .ok (.aload_n 3, 1) := dk_45 (dk_at dksL_law_26 15 rfl rfl)
theorem dL_law_811 : decode cL_law 811 = .ok (.iconst 0, 1) := dk_3 (dk_at dksL_law_26 16 rfl rfl)
theorem dL_law_812 : decode cL_law 812 = .ok (.laload, 1) := dk_47 (dk_at dksL_law_26 17 rfl rfl)
theorem dL_law_813 : decode cL_law 813 = .ok (.iload 7, 2) := dk_21 7 (dk_at dksL_law_26 18 rfl rfl)
theorem dL_law_815 : decode cL_law 815 = .ok (.i2l, 1) := dk_133 (dk_at dksL_law_26 20 rfl rfl)
theorem dL_law_816 : decode cL_law 816 = .ok (.lcmp, 1) := dk_148 (dk_at dksL_law_26 21 rfl rfl)
theorem dL_law_817 : decode cL_law 817 = .ok (.ifCond .eq 5, 3) := dk_153 0 5 (dk_at dksL_law_27 0 rfl rfl)
theorem dL_law_820 : decode cL_law 820 = .ok (.iconst 0, 1) := dk_3 (dk_at dksL_law_27 3 rfl rfl)
theorem dL_law_821 : decode cL_law 821 = .ok (.ireturn, 1) := dk_172 (dk_at dksL_law_27 4 rfl rfl)
theorem dL_law_822 : decode cL_law 822 = .ok (.goto 2393, 3) := dk_167 9 89 (dk_at dksL_law_27 5 rfl rfl)
theorem dL_law_825 : decode cL_law 825 = .ok (.aload_n 1, 1) := dk_43 (dk_at dksL_law_27 8 rfl rfl)
theorem dL_law_826 : decode cL_law 826 = .ok (.aload_n 0, 1) := dk_42 (dk_at dksL_law_27 9 rfl rfl)
theorem dL_law_827 : decode cL_law 827 = .ok (.iload 5, 2) := dk_21 5 (dk_at dksL_law_27 10 rfl rfl)
theorem dL_law_829 : decode cL_law 829 = .ok (.iconst 1, 1) := dk_4 (dk_at dksL_law_27 12 rfl rfl)
theorem dL_law_830 : decode cL_law 830 = .ok (.iadd, 1) := dk_96 (dk_at dksL_law_27 13 rfl rfl)
theorem dL_law_831 : decode cL_law 831 = .ok (.iaload, 1) := dk_46 (dk_at dksL_law_27 14 rfl rfl)
theorem dL_law_832 : decode cL_law 832 = .ok (.aload_n 0, 1) := dk_42 (dk_at dksL_law_27 15 rfl rfl)
theorem dL_law_833 : decode cL_law 833 = .ok (.iload 5, 2) := dk_21 5 (dk_at dksL_law_27 16 rfl rfl)
theorem dL_law_835 : decode cL_law 835 = .ok (.iconst 2, 1) := dk_5 (dk_at dksL_law_27 18 rfl rfl)
theorem dL_law_836 : decode cL_law 836 = .ok (.iadd, 1) := dk_96 (dk_at dksL_law_27 19 rfl rfl)
theorem dL_law_837 : decode cL_law 837 = .ok (.iaload, 1) := dk_46 (dk_at dksL_law_27 20 rfl rfl)
theorem dL_law_838 : decode cL_law 838 = .ok (.aload_n 0, 1) := dk_42 (dk_at dksL_law_27 21 rfl rfl)
theorem dL_law_839 : decode cL_law 839 = .ok (.iload 5, 2) := dk_21 5 (dk_at dksL_law_27 22 rfl rfl)
theorem dL_law_841 : decode cL_law 841 = .ok (.iconst 3, 1) := dk_6 (dk_at dksL_law_28 0 rfl rfl)
theorem dL_law_842 : decode cL_law 842 = .ok (.iadd, 1) := dk_96 (dk_at dksL_law_28 1 rfl rfl)
theorem dL_law_843 : decode cL_law 843 = .ok (.iaload, 1) := dk_46 (dk_at dksL_law_28 2 rfl rfl)
theorem dL_law_844 : decode cL_law 844 = .ok (.aload_n 0, 1) := dk_42 (dk_at dksL_law_28 3 rfl rfl)
theorem dL_law_845 : decode cL_law 845 = .ok (.iload 5, 2) := dk_21 5 (dk_at dksL_law_28 4 rfl rfl)
theorem dL_law_847 : decode cL_law 847 = .ok (.iconst 4, 1) := dk_7 (dk_at dksL_law_28 6 rfl rfl)
theorem dL_law_848 : decode cL_law 848 = .ok (.iadd, 1) := dk_96 (dk_at dksL_law_28 7 rfl rfl)
theorem dL_law_849 : decode cL_law 849 = .ok (.iaload, 1) := dk_46 (dk_at dksL_law_28 8 rfl rfl)
theorem dL_law_850 : decode cL_law 850 = .ok (.aload_n 3, 1) := dk_45 (dk_at dksL_law_28 9 rfl rfl)
theorem dL_law_851 : decode cL_law 851 = .ok (.invokestatic 205, 3) := dk_184 0 205 (dk_at dksL_law_28 10 rfl rfl)
theorem dL_law_854 : decode cL_law 854 = .ok (.istore 6, 2) := dk_54 6 (dk_at dksL_law_28 13 rfl rfl)
theorem dL_law_856 : decode cL_law 856 = .ok (.aload_n 2, 1) := dk_44 (dk_at dksL_law_28 15 rfl rfl)
theorem dL_law_857 : decode cL_law 857 = .ok (.aload_n 0, 1) := dk_42 (dk_at dksL_law_28 16 rfl rfl)
theorem dL_law_858 : decode cL_law 858 = .ok (.iload 5, 2) := dk_21 5 (dk_at dksL_law_28 17 rfl rfl)
theorem dL_law_860 : decode cL_law 860 = .ok (.iconst 1, 1) := dk_4 (dk_at dksL_law_28 19 rfl rfl)
theorem dL_law_861 : decode cL_law 861 = .ok (.iadd, 1) := dk_96 (dk_at dksL_law_28 20 rfl rfl)
theorem dL_law_862 : decode cL_law 862 = .ok (.iaload, 1) := dk_46 (dk_at dksL_law_28 21 rfl rfl)
theorem dL_law_863 : decode cL_law 863 = .ok (.aload_n 0, 1) := dk_42 (dk_at dksL_law_28 22 rfl rfl)
theorem dL_law_864 : decode cL_law 864 = .ok (.iload 5, 2) := dk_21 5 (dk_at dksL_law_29 0 rfl rfl)
theorem dL_law_866 : decode cL_law 866 = .ok (.iconst 2, 1) := dk_5 (dk_at dksL_law_29 2 rfl rfl)
theorem dL_law_867 : decode cL_law 867 = .ok (.iadd, 1) := dk_96 (dk_at dksL_law_29 3 rfl rfl)
theorem dL_law_868 : decode cL_law 868 = .ok (.iaload, 1) := dk_46 (dk_at dksL_law_29 4 rfl rfl)
theorem dL_law_869 : decode cL_law 869 = .ok (.aload_n 0, 1) := dk_42 (dk_at dksL_law_29 5 rfl rfl)
theorem dL_law_870 : decode cL_law 870 = .ok (.iload 5, 2) := dk_21 5 (dk_at dksL_law_29 6 rfl rfl)
theorem dL_law_872 : decode cL_law 872 = .ok (.iconst 3, 1) := dk_6 (dk_at dksL_law_29 8 rfl rfl)
theorem dL_law_873 : decode cL_law 873 = .ok (.iadd, 1) := dk_96 (dk_at dksL_law_29 9 rfl rfl)
theorem dL_law_874 : decode cL_law 874 = .ok (.iaload, 1) := dk_46 (dk_at dksL_law_29 10 rfl rfl)
theorem dL_law_875 : decode cL_law 875 = .ok (.aload_n 0, 1) := dk_42 (dk_at dksL_law_29 11 rfl rfl)
theorem dL_law_876 : decode cL_law 876 = .ok (.iload 5, 2) := dk_21 5 (dk_at dksL_law_29 12 rfl rfl)
theorem dL_law_878 : decode cL_law 878 = .ok (.iconst 4, 1) := dk_7 (dk_at dksL_law_29 14 rfl rfl)
theorem dL_law_879 : decode cL_law 879 = .ok (.iadd, 1) := dk_96 (dk_at dksL_law_29 15 rfl rfl)
theorem dL_law_880 : decode cL_law 880 = .ok (.iaload, 1) := dk_46 (dk_at dksL_law_29 16 rfl rfl)
theorem dL_law_881 : decode cL_law 881 = .ok (.invokevirtual 208, 3) := dk_182 0 208 (dk_at dksL_law_29 17 rfl rfl)
theorem dL_law_884 : decode cL_law 884 = .ok (.istore 7, 2) := dk_54 7 (dk_at dksL_law_29 20 rfl rfl)
theorem dL_law_886 : decode cL_law 886 = .ok (.aload_n 2, 1) := dk_44 (dk_at dksL_law_29 22 rfl rfl)
theorem dL_law_887 : decode cL_law 887 = .ok (.invokevirtual 170, 3) := dk_182 0 170 (dk_at dksL_law_30 0 rfl rfl)
theorem dL_law_890 : decode cL_law 890 = .ok (.iload 6, 2) := dk_21 6 (dk_at dksL_law_30 3 rfl rfl)
theorem dL_law_892 : decode cL_law 892 = .ok (.if_icmp .eq 5, 3) := dk_159 0 5 (dk_at dksL_law_30 5 rfl rfl)
theorem dL_law_895 : decode cL_law 895 = .ok (.iconst 0, 1) := dk_3 (dk_at dksL_law_30 8 rfl rfl)
theorem dL_law_896 : decode cL_law 896 = .ok (.ireturn, 1) := dk_172 (dk_at dksL_law_30 9 rfl rfl)
theorem dL_law_897 : decode cL_law 897 = .ok (.iload 6, 2) := dk_21 6 (dk_at dksL_law_30 10 rfl rfl)
theorem dL_law_899 : decode cL_law 899 = .ok (.ifCond .ne 15, 3) := dk_154 0 15 (dk_at dksL_law_30 12 rfl rfl)
theorem dL_law_902 : decode cL_law 902 = .ok (.aload_n 3, 1) := dk_45 (dk_at dksL_law_30 15 rfl rfl)
theorem dL_law_903 : decode cL_law 903 = .ok (.iconst 0, 1) := dk_3 (dk_at dksL_law_30 16 rfl rfl)
theorem dL_law_904 : decode cL_law 904 = .ok (.laload, 1) := dk_47 (dk_at dksL_law_30 17 rfl rfl)
theorem dL_law_905 : decode cL_law 905 = .ok (.iload 7, 2) := dk_21 7 (dk_at dksL_law_30 18 rfl rfl)
theorem dL_law_907 : decode cL_law 907 = .ok (.i2l, 1) := dk_133 (dk_at dksL_law_30 20 rfl rfl)
theorem dL_law_908 : decode cL_law 908 = .ok (.lcmp, 1) := dk_148 (dk_at dksL_law_30 21 rfl rfl)
theorem dL_law_909 : decode cL_law 909 = .ok (.ifCond .eq 5, 3) := dk_153 0 5 (dk_at dksL_law_31 0 rfl rfl)
theorem dL_law_912 : decode cL_law 912 = .ok (.iconst 0, 1) := dk_3 (dk_at dksL_law_31 3 rfl rfl)
theorem dL_law_913 : decode cL_law 913 = .ok (.ireturn, 1) := dk_172 (dk_at dksL_law_31 4 rfl rfl)
theorem dL_law_914 : decode cL_law 914 = .ok (.goto 2301, 3) := dk_167 8 253 (dk_at dksL_law_31 5 rfl rfl)
theorem dL_law_917 : decode cL_law 917 = .ok (.aload_n 1, 1) := dk_43 (dk_at dksL_law_31 8 rfl rfl)
theorem dL_law_918 : decode cL_law 918 = .ok (.aload_n 0, 1) := dk_42 (dk_at dksL_law_31 9 rfl rfl)
theorem dL_law_919 : decode cL_law 919 = .ok (.iload 5, 2) := dk_21 5 (dk_at dksL_law_31 10 rfl rfl)
theorem dL_law_921 : decode cL_law 921 = .ok (.iconst 1, 1) := dk_4 (dk_at dksL_law_31 12 rfl rfl)
theorem dL_law_922 : decode cL_law 922 = .ok (.iadd, 1) := dk_96 (dk_at dksL_law_31 13 rfl rfl)
theorem dL_law_923 : decode cL_law 923 = .ok (.iaload, 1) := dk_46 (dk_at dksL_law_31 14 rfl rfl)
theorem dL_law_924 : decode cL_law 924 = .ok (.aload_n 0, 1) := dk_42 (dk_at dksL_law_31 15 rfl rfl)
theorem dL_law_925 : decode cL_law 925 = .ok (.iload 5, 2) := dk_21 5 (dk_at dksL_law_31 16 rfl rfl)
theorem dL_law_927 : decode cL_law 927 = .ok (.iconst 2, 1) := dk_5 (dk_at dksL_law_31 18 rfl rfl)
theorem dL_law_928 : decode cL_law 928 = .ok (.iadd, 1) := dk_96 (dk_at dksL_law_31 19 rfl rfl)
theorem dL_law_929 : decode cL_law 929 = .ok (.iaload, 1) := dk_46 (dk_at dksL_law_31 20 rfl rfl)
theorem dL_law_930 : decode cL_law 930 = .ok (.aload_n 3, 1) := dk_45 (dk_at dksL_law_31 21 rfl rfl)
theorem dL_law_931 : decode cL_law 931 = .ok (.invokestatic 209, 3) := dk_184 0 209 (dk_at dksL_law_32 0 rfl rfl)
theorem dL_law_934 : decode cL_law 934 = .ok (.istore 6, 2) := dk_54 6 (dk_at dksL_law_32 3 rfl rfl)
theorem dL_law_936 : decode cL_law 936 = .ok (.aload_n 2, 1) := dk_44 (dk_at dksL_law_32 5 rfl rfl)
theorem dL_law_937 : decode cL_law 937 = .ok (.aload_n 0, 1) := dk_42 (dk_at dksL_law_32 6 rfl rfl)
theorem dL_law_938 : decode cL_law 938 = .ok (.iload 5, 2) := dk_21 5 (dk_at dksL_law_32 7 rfl rfl)
theorem dL_law_940 : decode cL_law 940 = .ok (.iconst 1, 1) := dk_4 (dk_at dksL_law_32 9 rfl rfl)
theorem dL_law_941 : decode cL_law 941 = .ok (.iadd, 1) := dk_96 (dk_at dksL_law_32 10 rfl rfl)
theorem dL_law_942 : decode cL_law 942 = .ok (.iaload, 1) := dk_46 (dk_at dksL_law_32 11 rfl rfl)
theorem dL_law_943 : decode cL_law 943 = .ok (.aload_n 0, 1) := dk_42 (dk_at dksL_law_32 12 rfl rfl)
theorem dL_law_944 : decode cL_law 944 = .ok (.iload 5, 2) := dk_21 5 (dk_at dksL_law_32 13 rfl rfl)
theorem dL_law_946 : decode cL_law 946 = .ok (.iconst 2, 1) := dk_5 (dk_at dksL_law_32 15 rfl rfl)
theorem dL_law_947 : decode cL_law 947 = .ok (.iadd, 1) := dk_96 (dk_at dksL_law_32 16 rfl rfl)
theorem dL_law_948 : decode cL_law 948 = .ok (.iaload, 1) := dk_46 (dk_at dksL_law_32 17 rfl rfl)
theorem dL_law_949 : decode cL_law 949 = .ok (.invokevirtual 211, 3) := dk_182 0 211 (dk_at dksL_law_32 18 rfl rfl)
theorem dL_law_952 : decode cL_law 952 = .ok (.istore 7, 2) := dk_54 7 (dk_at dksL_law_32 21 rfl rfl)
theorem dL_law_954 : decode cL_law 954 = .ok (.aload_n 2, 1) := dk_44 (dk_at dksL_law_32 23 rfl rfl)
theorem dL_law_955 : decode cL_law 955 = .ok (.invokevirtual 170, 3) := dk_182 0 170 (dk_at dksL_law_33 0 rfl rfl)
theorem dL_law_958 : decode cL_law 958 = .ok (.iload 6, 2) := dk_21 6 (dk_at dksL_law_33 3 rfl rfl)
theorem dL_law_960 : decode cL_law 960 = .ok (.if_icmp .eq 5, 3) := dk_159 0 5 (dk_at dksL_law_33 5 rfl rfl)
theorem dL_law_963 : decode cL_law 963 = .ok (.iconst 0, 1) := dk_3 (dk_at dksL_law_33 8 rfl rfl)
theorem dL_law_964 : decode cL_law 964 = .ok (.ireturn, 1) := dk_172 (dk_at dksL_law_33 9 rfl rfl)
theorem dL_law_965 : decode cL_law 965 = .ok (.iload 6, 2) := dk_21 6 (dk_at dksL_law_33 10 rfl rfl)
theorem dL_law_967 : decode cL_law 967 = .ok (.ifCond .ne 15, 3) := dk_154 0 15 (dk_at dksL_law_33 12 rfl rfl)
theorem dL_law_970 : decode cL_law 970 = .ok (.aload_n 3, 1) := dk_45 (dk_at dksL_law_33 15 rfl rfl)
theorem dL_law_971 : decode cL_law 971 = .ok (.iconst 0, 1) := dk_3 (dk_at dksL_law_33 16 rfl rfl)
theorem dL_law_972 : decode cL_law 972 = .ok (.laload, 1) := dk_47 (dk_at dksL_law_33 17 rfl rfl)
theorem dL_law_973 : decode cL_law 973 = .ok (.iload 7, 2) := dk_21 7 (dk_at dksL_law_33 18 rfl rfl)
theorem dL_law_975 : decode cL_law 975 = .ok (.i2l, 1) := dk_133 (dk_at dksL_law_33 20 rfl rfl)
theorem dL_law_976 : decode cL_law 976 = .ok (.lcmp, 1) := dk_148 (dk_at dksL_law_33 21 rfl rfl)
theorem dL_law_977 : decode cL_law 977 = .ok (.ifCond .eq 5, 3) := dk_153 0 5 (dk_at dksL_law_34 0 rfl rfl)
theorem dL_law_980 : decode cL_law 980 = .ok (.iconst 0, 1) := dk_3 (dk_at dksL_law_34 3 rfl rfl)
theorem dL_law_981 : decode cL_law 981 = .ok (.ireturn, 1) := dk_172 (dk_at dksL_law_34 4 rfl rfl)
theorem dL_law_982 : decode cL_law 982 = .ok (.goto 2233, 3) := dk_167 8 185 (dk_at dksL_law_34 5 rfl rfl)
theorem dL_law_985 : decode cL_law 985 = .ok (.aload_n 1, 1) := dk_43 (dk_at dksL_law_34 8 rfl rfl)
theorem dL_law_986 : decode cL_law 986 = .ok (.aload_n 0, 1) := dk_42 (dk_at dksL_law_34 9 rfl rfl)
theorem dL_law_987 : decode cL_law 987 = .ok (.iload 5, 2) := dk_21 5 (dk_at dksL_law_34 10 rfl rfl)
theorem dL_law_989 : decode cL_law 989 = .ok (.iconst 1, 1) := dk_4 (dk_at dksL_law_34 12 rfl rfl)
theorem dL_law_990 : decode cL_law 990 = .ok (.iadd, 1) := dk_96 (dk_at dksL_law_34 13 rfl rfl)
theorem dL_law_991 : decode cL_law 991 = .ok (.iaload, 1) := dk_46 (dk_at dksL_law_34 14 rfl rfl)
theorem dL_law_992 : decode cL_law 992 = .ok (.aload_n 0, 1) := dk_42 (dk_at dksL_law_34 15 rfl rfl)
theorem dL_law_993 : decode cL_law 993 = .ok (.iload 5, 2) := dk_21 5 (dk_at dksL_law_34 16 rfl rfl)
theorem dL_law_995 : decode cL_law 995 = .ok (.iconst 2, 1) := dk_5 (dk_at dksL_law_34 18 rfl rfl)
theorem dL_law_996 : decode cL_law 996 = .ok (.iadd, 1) := dk_96 (dk_at dksL_law_34 19 rfl rfl)
theorem dL_law_997 : decode cL_law 997 = .ok (.iaload, 1) := dk_46 (dk_at dksL_law_34 20 rfl rfl)
theorem dL_law_998 : decode cL_law 998 = .ok (.aload_n 3, 1) := dk_45 (dk_at dksL_law_34 21 rfl rfl)
theorem dL_law_999 : decode cL_law 999 = .ok (.invokestatic 212, 3) := dk_184 0 212 (dk_at dksL_law_35 0 rfl rfl)
theorem dL_law_1002 : decode cL_law 1002 = .ok (.istore 6, 2) := dk_54 6 (dk_at dksL_law_35 3 rfl rfl)
theorem dL_law_1004 : decode cL_law 1004 = .ok (.aload_n 2, 1) := dk_44 (dk_at dksL_law_35 5 rfl rfl)
theorem dL_law_1005 : decode cL_law 1005 = .ok (.aload_n 0, 1) := dk_42 (dk_at dksL_law_35 6 rfl rfl)
theorem dL_law_1006 : decode cL_law 1006 = .ok (.iload 5, 2) := dk_21 5 (dk_at dksL_law_35 7 rfl rfl)
theorem dL_law_1008 : decode cL_law 1008 = .ok (.iconst 1, 1) := dk_4 (dk_at dksL_law_35 9 rfl rfl)
theorem dL_law_1009 : decode cL_law 1009 = .ok (.iadd, 1) := dk_96 (dk_at dksL_law_35 10 rfl rfl)
theorem dL_law_1010 : decode cL_law 1010 = .ok (.iaload, 1) := dk_46 (dk_at dksL_law_35 11 rfl rfl)
theorem dL_law_1011 : decode cL_law 1011 = .ok (.aload_n 0, 1) := dk_42 (dk_at dksL_law_35 12 rfl rfl)
theorem dL_law_1012 : decode cL_law 1012 = .ok (.iload 5, 2) := dk_21 5 (dk_at dksL_law_35 13 rfl rfl)
theorem dL_law_1014 : decode cL_law 1014 = .ok (.iconst 2, 1) := dk_5 (dk_at dksL_law_35 15 rfl rfl)
theorem dL_law_1015 : decode cL_law 1015 = .ok (.iadd, 1) := dk_96 (dk_at dksL_law_35 16 rfl rfl)
theorem dL_law_1016 : decode cL_law 1016 = .ok (.iaload, 1) := dk_46 (dk_at dksL_law_35 17 rfl rfl)
theorem dL_law_1017 : decode cL_law 1017 = .ok (.invokevirtual 214, 3) := dk_182 0 214 (dk_at dksL_law_35 18 rfl rfl)
theorem dL_law_1020 : decode cL_law 1020 = .ok (.istore 7, 2) := dk_54 7 (dk_at dksL_law_35 21 rfl rfl)
theorem dL_law_1022 : decode cL_law 1022 = .ok (.aload_n 2, 1) := dk_44 (dk_at dksL_law_35 23 rfl rfl)
theorem dL_law_1023 : decode cL_law 1023 = .ok (.invokevirtual 170, 3) := dk_182 0 170 (dk_at dksL_law_36 0 rfl rfl)
theorem dL_law_1026 : decode cL_law 1026 = .ok (.iload 6, 2) := dk_21 6 (dk_at dksL_law_36 3 rfl rfl)
theorem dL_law_1028 : decode cL_law 1028 = .ok (.if_icmp .eq 5, 3) := dk_159 0 5 (dk_at dksL_law_36 5 rfl rfl)
theorem dL_law_1031 : decode cL_law 1031 = .ok (.iconst 0, 1) := dk_3 (dk_at dksL_law_36 8 rfl rfl)
theorem dL_law_1032 : decode cL_law 1032 = .ok (.ireturn, 1) := dk_172 (dk_at dksL_law_36 9 rfl rfl)
theorem dL_law_1033 : decode cL_law 1033 = .ok (.iload 6, 2) := dk_21 6 (dk_at dksL_law_36 10 rfl rfl)
theorem dL_law_1035 : decode cL_law 1035 = .ok (.ifCond .ne 15, 3) := dk_154 0 15 (dk_at dksL_law_36 12 rfl rfl)
theorem dL_law_1038 : decode cL_law 1038 = .ok (.aload_n 3, 1) := dk_45 (dk_at dksL_law_36 15 rfl rfl)
theorem dL_law_1039 : decode cL_law 1039 = .ok (.iconst 0, 1) := dk_3 (dk_at dksL_law_36 16 rfl rfl)
theorem dL_law_1040 : decode cL_law 1040 = .ok (.laload, 1) := dk_47 (dk_at dksL_law_36 17 rfl rfl)
theorem dL_law_1041 : decode cL_law 1041 = .ok (.iload 7, 2) := dk_21 7 (dk_at dksL_law_36 18 rfl rfl)
theorem dL_law_1043 : decode cL_law 1043 = .ok (.i2l, 1) := dk_133 (dk_at dksL_law_36 20 rfl rfl)
theorem dL_law_1044 : decode cL_law 1044 = .ok (.lcmp, 1) := dk_148 (dk_at dksL_law_36 21 rfl rfl)
theorem dL_law_1045 : decode cL_law 1045 = .ok (.ifCond .eq 5, 3) := dk_153 0 5 (dk_at dksL_law_37 0 rfl rfl)
theorem dL_law_1048 : decode cL_law 1048 = .ok (.iconst 0, 1) := dk_3 (dk_at dksL_law_37 3 rfl rfl)
theorem dL_law_1049 : decode cL_law 1049 = .ok (.ireturn, 1) := dk_172 (dk_at dksL_law_37 4 rfl rfl)
theorem dL_law_1050 : decode cL_law 1050 = .ok (.goto 2165, 3) := dk_167 8 117 (dk_at dksL_law_37 5 rfl rfl)
theorem dL_law_1053 : decode cL_law 1053 = .ok (.aload_n 1, 1) := dk_43 (dk_at dksL_law_37 8 rfl rfl)
theorem dL_law_1054 : decode cL_law 1054 = .ok (.aload_n 0, 1) := dk_42 (dk_at dksL_law_37 9 rfl rfl)
theorem dL_law_1055 : decode cL_law 1055 = .ok (.iload 5, 2) := dk_21 5 (dk_at dksL_law_37 10 rfl rfl)
theorem dL_law_1057 : decode cL_law 1057 = .ok (.iconst 1, 1) := dk_4 (dk_at dksL_law_37 12 rfl rfl)
theorem dL_law_1058 : decode cL_law 1058 = .ok (.iadd, 1) := dk_96 (dk_at dksL_law_37 13 rfl rfl)
theorem dL_law_1059 : decode cL_law 1059 = .ok (.iaload, 1) := dk_46 (dk_at dksL_law_37 14 rfl rfl)
theorem dL_law_1060 : decode cL_law 1060 = .ok (.aload_n 0, 1) := dk_42 (dk_at dksL_law_37 15 rfl rfl)
theorem dL_law_1061 : decode cL_law 1061 = .ok (.iload 5, 2) := dk_21 5 (dk_at dksL_law_37 16 rfl rfl)
theorem dL_law_1063 : decode cL_law 1063 = .ok (.iconst 2, 1) := dk_5 (dk_at dksL_law_37 18 rfl rfl)
theorem dL_law_1064 : decode cL_law 1064 = .ok (.iadd, 1) := dk_96 (dk_at dksL_law_37 19 rfl rfl)
theorem dL_law_1065 : decode cL_law 1065 = .ok (.iaload, 1) := dk_46 (dk_at dksL_law_37 20 rfl rfl)
theorem dL_law_1066 : decode cL_law 1066 = .ok (.aload_n 3, 1) := dk_45 (dk_at dksL_law_37 21 rfl rfl)
theorem dL_law_1067 : decode cL_law 1067 = .ok (.invokestatic 215, 3) := dk_184 0 215 (dk_at dksL_law_38 0 rfl rfl)
theorem dL_law_1070 : decode cL_law 1070 = .ok (.istore 6, 2) := dk_54 6 (dk_at dksL_law_38 3 rfl rfl)
theorem dL_law_1072 : decode cL_law 1072 = .ok (.aload_n 2, 1) := dk_44 (dk_at dksL_law_38 5 rfl rfl)
theorem dL_law_1073 : decode cL_law 1073 = .ok (.aload_n 0, 1) := dk_42 (dk_at dksL_law_38 6 rfl rfl)
theorem dL_law_1074 : decode cL_law 1074 = .ok (.iload 5, 2) := dk_21 5 (dk_at dksL_law_38 7 rfl rfl)
theorem dL_law_1076 : decode cL_law 1076 = .ok (.iconst 1, 1) := dk_4 (dk_at dksL_law_38 9 rfl rfl)
theorem dL_law_1077 : decode cL_law 1077 = .ok (.iadd, 1) := dk_96 (dk_at dksL_law_38 10 rfl rfl)
theorem dL_law_1078 : decode cL_law 1078 = .ok (.iaload, 1) := dk_46 (dk_at dksL_law_38 11 rfl rfl)
theorem dL_law_1079 : decode cL_law 1079 = .ok (.aload_n 0, 1) := dk_42 (dk_at dksL_law_38 12 rfl rfl)
theorem dL_law_1080 : decode cL_law 1080 = .ok (.iload 5, 2) := dk_21 5 (dk_at dksL_law_38 13 rfl rfl)
theorem dL_law_1082 : decode cL_law 1082 = .ok (.iconst 2, 1) := dk_5 (dk_at dksL_law_38 15 rfl rfl)
theorem dL_law_1083 : decode cL_law 1083 = .ok (.iadd, 1) := dk_96 (dk_at dksL_law_38 16 rfl rfl)
theorem dL_law_1084 : decode cL_law 1084 = .ok (.iaload, 1) := dk_46 (dk_at dksL_law_38 17 rfl rfl)
theorem dL_law_1085 : decode cL_law 1085 = .ok (.invokevirtual 217, 3) := dk_182 0 217 (dk_at dksL_law_38 18 rfl rfl)
theorem dL_law_1088 : decode cL_law 1088 = .ok (.istore 7, 2) := dk_54 7 (dk_at dksL_law_38 21 rfl rfl)
theorem dL_law_1090 : decode cL_law 1090 = .ok (.aload_n 2, 1) := dk_44 (dk_at dksL_law_38 23 rfl rfl)
theorem dL_law_1091 : decode cL_law 1091 = .ok (.invokevirtual 170, 3) := dk_182 0 170 (dk_at dksL_law_39 0 rfl rfl)
theorem dL_law_1094 : decode cL_law 1094 = .ok (.iload 6, 2) := dk_21 6 (dk_at dksL_law_39 3 rfl rfl)
theorem dL_law_1096 : decode cL_law 1096 = .ok (.if_icmp .eq 5, 3) := dk_159 0 5 (dk_at dksL_law_39 5 rfl rfl)
theorem dL_law_1099 : decode cL_law 1099 = .ok (.iconst 0, 1) := dk_3 (dk_at dksL_law_39 8 rfl rfl)
theorem dL_law_1100 : decode cL_law 1100 = .ok (.ireturn, 1) := dk_172 (dk_at dksL_law_39 9 rfl rfl)
theorem dL_law_1101 : decode cL_law 1101 = .ok (.iload 6, 2) := dk_21 6 (dk_at dksL_law_39 10 rfl rfl)
theorem dL_law_1103 : decode cL_law 1103 = .ok (.ifCond .ne 15, 3) := dk_154 0 15 (dk_at dksL_law_39 12 rfl rfl)
theorem dL_law_1106 : decode cL_law 1106 = .ok (.aload_n 3, 1) := dk_45 (dk_at dksL_law_39 15 rfl rfl)
theorem dL_law_1107 : decode cL_law 1107 = .ok (.iconst 0, 1) := dk_3 (dk_at dksL_law_39 16 rfl rfl)
theorem dL_law_1108 : decode cL_law 1108 = .ok (.laload, 1) := dk_47 (dk_at dksL_law_39 17 rfl rfl)
theorem dL_law_1109 : decode cL_law 1109 = .ok (.iload 7, 2) := dk_21 7 (dk_at dksL_law_39 18 rfl rfl)
theorem dL_law_1111 : decode cL_law 1111 = .ok (.i2l, 1) := dk_133 (dk_at dksL_law_39 20 rfl rfl)
theorem dL_law_1112 : decode cL_law 1112 = .ok (.lcmp, 1) := dk_148 (dk_at dksL_law_39 21 rfl rfl)
theorem dL_law_1113 : decode cL_law 1113 = .ok (.ifCond .eq 5, 3) := dk_153 0 5 (dk_at dksL_law_40 0 rfl rfl)
theorem dL_law_1116 : decode cL_law 1116 = .ok (.iconst 0, 1) := dk_3 (dk_at dksL_law_40 3 rfl rfl)
theorem dL_law_1117 : decode cL_law 1117 = .ok (.ireturn, 1) := dk_172 (dk_at dksL_law_40 4 rfl rfl)
theorem dL_law_1118 : decode cL_law 1118 = .ok (.goto 2097, 3) := dk_167 8 49 (dk_at dksL_law_40 5 rfl rfl)
theorem dL_law_1121 : decode cL_law 1121 = .ok (.aload_n 1, 1) := dk_43 (dk_at dksL_law_40 8 rfl rfl)
theorem dL_law_1122 : decode cL_law 1122 = .ok (.aload_n 0, 1) := dk_42 (dk_at dksL_law_40 9 rfl rfl)
theorem dL_law_1123 : decode cL_law 1123 = .ok (.iload 5, 2) := dk_21 5 (dk_at dksL_law_40 10 rfl rfl)
theorem dL_law_1125 : decode cL_law 1125 = .ok (.iconst 1, 1) := dk_4 (dk_at dksL_law_40 12 rfl rfl)
theorem dL_law_1126 : decode cL_law 1126 = .ok (.iadd, 1) := dk_96 (dk_at dksL_law_40 13 rfl rfl)
theorem dL_law_1127 : decode cL_law 1127 = .ok (.iaload, 1) := dk_46 (dk_at dksL_law_40 14 rfl rfl)
theorem dL_law_1128 : decode cL_law 1128 = .ok (.invokevirtual 218, 3) := dk_182 0 218 (dk_at dksL_law_40 15 rfl rfl)
theorem dL_law_1131 : decode cL_law 1131 = .ok (.aload_n 2, 1) := dk_44 (dk_at dksL_law_40 18 rfl rfl)
theorem dL_law_1132 : decode cL_law 1132 = .ok (.aload_n 0, 1) := dk_42 (dk_at dksL_law_40 19 rfl rfl)
theorem dL_law_1133 : decode cL_law 1133 = .ok (.iload 5, 2) := dk_21 5 (dk_at dksL_law_40 20 rfl rfl)
theorem dL_law_1135 : decode cL_law 1135 = .ok (.iconst 1, 1) := dk_4 (dk_at dksL_law_40 22 rfl rfl)
theorem dL_law_1136 : decode cL_law 1136 = .ok (.iadd, 1) := dk_96 (dk_at dksL_law_40 23 rfl rfl)
theorem dL_law_1137 : decode cL_law 1137 = .ok (.iaload, 1) := dk_46 (dk_at dksL_law_41 0 rfl rfl)
theorem dL_law_1138 : decode cL_law 1138 = .ok (.invokevirtual 221, 3) := dk_182 0 221 (dk_at dksL_law_41 1 rfl rfl)
theorem dL_law_1141 : decode cL_law 1141 = .ok (.if_icmp .eq 2074, 3) := dk_159 8 26 (dk_at dksL_law_41 4 rfl rfl)
theorem dL_law_1144 : decode cL_law 1144 = .ok (.iconst 0, 1) := dk_3 (dk_at dksL_law_41 7 rfl rfl)
theorem dL_law_1145 : decode cL_law 1145 = .ok (.ireturn, 1) := dk_172 (dk_at dksL_law_41 8 rfl rfl)
theorem dL_law_1146 : decode cL_law 1146 = .ok (.aload_n 1, 1) := dk_43 (dk_at dksL_law_41 9 rfl rfl)
theorem dL_law_1147 : decode cL_law 1147 = .ok (.aload_n 0, 1) := dk_42 (dk_at dksL_law_41 10 rfl rfl)
theorem dL_law_1148 : decode cL_law 1148 = .ok (.iload 5, 2) := dk_21 5 (dk_at dksL_law_41 11 rfl rfl)
theorem dL_law_1150 : decode cL_law 1150 = .ok (.iconst 1, 1) := dk_4 (dk_at dksL_law_41 13 rfl rfl)
theorem dL_law_1151 : decode cL_law 1151 = .ok (.iadd, 1) := dk_96 (dk_at dksL_law_41 14 rfl rfl)
theorem dL_law_1152 : decode cL_law 1152 = .ok (.iaload, 1) := dk_46 (dk_at dksL_law_41 15 rfl rfl)
theorem dL_law_1153 : decode cL_law 1153 = .ok (.aload_n 3, 1) := dk_45 (dk_at dksL_law_41 16 rfl rfl)
theorem dL_law_1154 : decode cL_law 1154 = .ok (.invokestatic 222, 3) := dk_184 0 222 (dk_at dksL_law_41 17 rfl rfl)
theorem dL_law_1157 : decode cL_law 1157 = .ok (.istore 6, 2) := dk_54 6 (dk_at dksL_law_41 20 rfl rfl)
theorem dL_law_1159 : decode cL_law 1159 = .ok (.aload_n 2, 1) := dk_44 (dk_at dksL_law_41 22 rfl rfl)
theorem dL_law_1160 : decode cL_law 1160 = .ok (.aload_n 0, 1) := dk_42 (dk_at dksL_law_41 23 rfl rfl)
theorem dL_law_1161 : decode cL_law 1161 = .ok (.iload 5, 2) := dk_21 5 (dk_at dksL_law_42 0 rfl rfl)
theorem dL_law_1163 : decode cL_law 1163 = .ok (.iconst 1, 1) := dk_4 (dk_at dksL_law_42 2 rfl rfl)
theorem dL_law_1164 : decode cL_law 1164 = .ok (.iadd, 1) := dk_96 (dk_at dksL_law_42 3 rfl rfl)
theorem dL_law_1165 : decode cL_law 1165 = .ok (.iaload, 1) := dk_46 (dk_at dksL_law_42 4 rfl rfl)
theorem dL_law_1166 : decode cL_law 1166 = .ok (.invokevirtual 224, 3) := dk_182 0 224 (dk_at dksL_law_42 5 rfl rfl)
theorem dL_law_1169 : decode cL_law 1169 = .ok (.istore 7, 2) := dk_54 7 (dk_at dksL_law_42 8 rfl rfl)
theorem dL_law_1171 : decode cL_law 1171 = .ok (.aload_n 2, 1) := dk_44 (dk_at dksL_law_42 10 rfl rfl)
theorem dL_law_1172 : decode cL_law 1172 = .ok (.invokevirtual 170, 3) := dk_182 0 170 (dk_at dksL_law_42 11 rfl rfl)
theorem dL_law_1175 : decode cL_law 1175 = .ok (.iload 6, 2) := dk_21 6 (dk_at dksL_law_42 14 rfl rfl)
theorem dL_law_1177 : decode cL_law 1177 = .ok (.if_icmp .eq 5, 3) := dk_159 0 5 (dk_at dksL_law_42 16 rfl rfl)
theorem dL_law_1180 : decode cL_law 1180 = .ok (.iconst 0, 1) := dk_3 (dk_at dksL_law_42 19 rfl rfl)
theorem dL_law_1181 : decode cL_law 1181 = .ok (.ireturn, 1) := dk_172 (dk_at dksL_law_42 20 rfl rfl)
theorem dL_law_1182 : decode cL_law 1182 = .ok (.iload 6, 2) := dk_21 6 (dk_at dksL_law_42 21 rfl rfl)
theorem dL_law_1184 : decode cL_law 1184 = .ok (.ifCond .ne 15, 3) := dk_154 0 15 (dk_at dksL_law_43 0 rfl rfl)
theorem dL_law_1187 : decode cL_law 1187 = .ok (.aload_n 3, 1) := dk_45 (dk_at dksL_law_43 3 rfl rfl)
theorem dL_law_1188 : decode cL_law 1188 = .ok (.iconst 0, 1) := dk_3 (dk_at dksL_law_43 4 rfl rfl)
theorem dL_law_1189 : decode cL_law 1189 = .ok (.laload, 1) := dk_47 (dk_at dksL_law_43 5 rfl rfl)
theorem dL_law_1190 : decode cL_law 1190 = .ok (.iload 7, 2) := dk_21 7 (dk_at dksL_law_43 6 rfl rfl)
theorem dL_law_1192 : decode cL_law 1192 = .ok (.i2l, 1) := dk_133 (dk_at dksL_law_43 8 rfl rfl)
theorem dL_law_1193 : decode cL_law 1193 = .ok (.lcmp, 1) := dk_148 (dk_at dksL_law_43 9 rfl rfl)
theorem dL_law_1194 : decode cL_law 1194 = .ok (.ifCond .eq 5, 3) := dk_153 0 5 (dk_at dksL_law_43 10 rfl rfl)
theorem dL_law_1197 : decode cL_law 1197 = .ok (.iconst 0, 1) := dk_3 (dk_at dksL_law_43 13 rfl rfl)
theorem dL_law_1198 : decode cL_law 1198 = .ok (.ireturn, 1) := dk_172 (dk_at dksL_law_43 14 rfl rfl)
theorem dL_law_1199 : decode cL_law 1199 = .ok (.goto 2016, 3) := dk_167 7 224 (dk_at dksL_law_43 15 rfl rfl)
theorem dL_law_1202 : decode cL_law 1202 = .ok (.aload_n 1, 1) := dk_43 (dk_at dksL_law_43 18 rfl rfl)
theorem dL_law_1203 : decode cL_law 1203 = .ok (.aload_n 0, 1) := dk_42 (dk_at dksL_law_43 19 rfl rfl)
theorem dL_law_1204 : decode cL_law 1204 = .ok (.iload 5, 2) := dk_21 5 (dk_at dksL_law_43 20 rfl rfl)
theorem dL_law_1206 : decode cL_law 1206 = .ok (.iconst 1, 1) := dk_4 (dk_at dksL_law_43 22 rfl rfl)
theorem dL_law_1207 : decode cL_law 1207 = .ok (.iadd, 1) := dk_96 (dk_at dksL_law_43 23 rfl rfl)
theorem dL_law_1208 : decode cL_law 1208 = .ok (.iaload, 1) := dk_46 (dk_at dksL_law_44 0 rfl rfl)
theorem dL_law_1209 : decode cL_law 1209 = .ok (.aload_n 0, 1) := dk_42 (dk_at dksL_law_44 1 rfl rfl)
theorem dL_law_1210 : decode cL_law 1210 = .ok (.iload 5, 2) := dk_21 5 (dk_at dksL_law_44 2 rfl rfl)
theorem dL_law_1212 : decode cL_law 1212 = .ok (.iconst 2, 1) := dk_5 (dk_at dksL_law_44 4 rfl rfl)
theorem dL_law_1213 : decode cL_law 1213 = .ok (.iadd, 1) := dk_96 (dk_at dksL_law_44 5 rfl rfl)
theorem dL_law_1214 : decode cL_law 1214 = .ok (.iaload, 1) := dk_46 (dk_at dksL_law_44 6 rfl rfl)
theorem dL_law_1215 : decode cL_law 1215 = .ok (.aload_n 3, 1) := dk_45 (dk_at dksL_law_44 7 rfl rfl)
theorem dL_law_1216 : decode cL_law 1216 = .ok (.invokestatic 225, 3) := dk_184 0 225 (dk_at dksL_law_44 8 rfl rfl)
theorem dL_law_1219 : decode cL_law 1219 = .ok (.istore 6, 2) := dk_54 6 (dk_at dksL_law_44 11 rfl rfl)
theorem dL_law_1221 : decode cL_law 1221 = .ok (.aload_n 2, 1) := dk_44 (dk_at dksL_law_44 13 rfl rfl)
theorem dL_law_1222 : decode cL_law 1222 = .ok (.aload_n 0, 1) := dk_42 (dk_at dksL_law_44 14 rfl rfl)
theorem dL_law_1223 : decode cL_law 1223 = .ok (.iload 5, 2) := dk_21 5 (dk_at dksL_law_44 15 rfl rfl)
theorem dL_law_1225 : decode cL_law 1225 = .ok (.iconst 1, 1) := dk_4 (dk_at dksL_law_44 17 rfl rfl)
theorem dL_law_1226 : decode cL_law 1226 = .ok (.iadd, 1) := dk_96 (dk_at dksL_law_44 18 rfl rfl)
theorem dL_law_1227 : decode cL_law 1227 = .ok (.iaload, 1) := dk_46 (dk_at dksL_law_44 19 rfl rfl)
theorem dL_law_1228 : decode cL_law 1228 = .ok (.aload_n 0, 1) := dk_42 (dk_at dksL_law_44 20 rfl rfl)
theorem dL_law_1229 : decode cL_law 1229 = .ok (.iload 5, 2) := dk_21 5 (dk_at dksL_law_44 21 rfl rfl)
theorem dL_law_1231 : decode cL_law 1231 = .ok (.iconst 2, 1) := dk_5 (dk_at dksL_law_44 23 rfl rfl)
theorem dL_law_1232 : decode cL_law 1232 = .ok (.iadd, 1) := dk_96 (dk_at dksL_law_45 0 rfl rfl)
theorem dL_law_1233 : decode cL_law 1233 = .ok (.iaload, 1) := dk_46 (dk_at dksL_law_45 1 rfl rfl)
theorem dL_law_1234 : decode cL_law 1234 = .ok (.invokevirtual 227, 3) := dk_182 0 227 (dk_at dksL_law_45 2 rfl rfl)
theorem dL_law_1237 : decode cL_law 1237 = .ok (.istore 7, 2) := dk_54 7 (dk_at dksL_law_45 5 rfl rfl)
theorem dL_law_1239 : decode cL_law 1239 = .ok (.aload_n 2, 1) := dk_44 (dk_at dksL_law_45 7 rfl rfl)
theorem dL_law_1240 : decode cL_law 1240 = .ok (.invokevirtual 170, 3) := dk_182 0 170 (dk_at dksL_law_45 8 rfl rfl)
theorem dL_law_1243 : decode cL_law 1243 = .ok (.iload 6, 2) := dk_21 6 (dk_at dksL_law_45 11 rfl rfl)
theorem dL_law_1245 : decode cL_law 1245 = .ok (.if_icmp .eq 5, 3) := dk_159 0 5 (dk_at dksL_law_45 13 rfl rfl)
theorem dL_law_1248 : decode cL_law 1248 = .ok (.iconst 0, 1) := dk_3 (dk_at dksL_law_45 16 rfl rfl)
theorem dL_law_1249 : decode cL_law 1249 = .ok (.ireturn, 1) := dk_172 (dk_at dksL_law_45 17 rfl rfl)
theorem dL_law_1250 : decode cL_law 1250 = .ok (.iload 6, 2) := dk_21 6 (dk_at dksL_law_45 18 rfl rfl)
theorem dL_law_1252 : decode cL_law 1252 = .ok (.ifCond .ne 15, 3) := dk_154 0 15 (dk_at dksL_law_45 20 rfl rfl)
theorem dL_law_1255 : decode cL_law 1255 = .ok (.aload_n 3, 1) := dk_45 (dk_at dksL_law_45 23 rfl rfl)
theorem dL_law_1256 : decode cL_law 1256 = .ok (.iconst 0, 1) := dk_3 (dk_at dksL_law_46 0 rfl rfl)
theorem dL_law_1257 : decode cL_law 1257 = .ok (.laload, 1) := dk_47 (dk_at dksL_law_46 1 rfl rfl)
theorem dL_law_1258 : decode cL_law 1258 = .ok (.iload 7, 2) := dk_21 7 (dk_at dksL_law_46 2 rfl rfl)
theorem dL_law_1260 : decode cL_law 1260 = .ok (.i2l, 1) := dk_133 (dk_at dksL_law_46 4 rfl rfl)
theorem dL_law_1261 : decode cL_law 1261 = .ok (.lcmp, 1) := dk_148 (dk_at dksL_law_46 5 rfl rfl)
theorem dL_law_1262 : decode cL_law 1262 = .ok (.ifCond .eq 5, 3) := dk_153 0 5 (dk_at dksL_law_46 6 rfl rfl)
theorem dL_law_1265 : decode cL_law 1265 = .ok (.iconst 0, 1) := dk_3 (dk_at dksL_law_46 9 rfl rfl)
theorem dL_law_1266 : decode cL_law 1266 = .ok (.ireturn, 1) := dk_172 (dk_at dksL_law_46 10 rfl rfl)
theorem dL_law_1267 : decode cL_law 1267 = .ok (.goto 1948, 3) := dk_167 7 156 (dk_at dksL_law_46 11 rfl rfl)
theorem dL_law_1270 : decode cL_law 1270 = .ok (.aload_n 1, 1) := dk_43 (dk_at dksL_law_46 14 rfl rfl)
theorem dL_law_1271 : decode cL_law 1271 = .ok (.aload_n 0, 1) := dk_42 (dk_at dksL_law_46 15 rfl rfl)
theorem dL_law_1272 : decode cL_law 1272 = .ok (.iload 5, 2) := dk_21 5 (dk_at dksL_law_46 16 rfl rfl)
theorem dL_law_1274 : decode cL_law 1274 = .ok (.iconst 1, 1) := dk_4 (dk_at dksL_law_46 18 rfl rfl)
theorem dL_law_1275 : decode cL_law 1275 = .ok (.iadd, 1) := dk_96 (dk_at dksL_law_46 19 rfl rfl)
theorem dL_law_1276 : decode cL_law 1276 = .ok (.iaload, 1) := dk_46 (dk_at dksL_law_46 20 rfl rfl)
theorem dL_law_1277 : decode cL_law 1277 = .ok (.aload_n 0, 1) := dk_42 (dk_at dksL_law_46 21 rfl rfl)
theorem dL_law_1278 : decode cL_law 1278 = .ok (.iload 5, 2) := dk_21 5 (dk_at dksL_law_46 22 rfl rfl)
theorem dL_law_1280 : decode cL_law 1280 = .ok (.iconst 2, 1) := dk_5 (dk_at dksL_law_47 0 rfl rfl)
theorem dL_law_1281 : decode cL_law 1281 = .ok (.iadd, 1) := dk_96 (dk_at dksL_law_47 1 rfl rfl)
theorem dL_law_1282 : decode cL_law 1282 = .ok (.iaload, 1) := dk_46 (dk_at dksL_law_47 2 rfl rfl)
theorem dL_law_1283 : decode cL_law 1283 = .ok (.aload_n 3, 1) := dk_45 (dk_at dksL_law_47 3 rfl rfl)
theorem dL_law_1284 : decode cL_law 1284 = .ok (.invokestatic 228, 3) := dk_184 0 228 (dk_at dksL_law_47 4 rfl rfl)
theorem dL_law_1287 : decode cL_law 1287 = .ok (.istore 6, 2) := dk_54 6 (dk_at dksL_law_47 7 rfl rfl)
theorem dL_law_1289 : decode cL_law 1289 = .ok (.aload_n 2, 1) := dk_44 (dk_at dksL_law_47 9 rfl rfl)
theorem dL_law_1290 : decode cL_law 1290 = .ok (.aload_n 0, 1) := dk_42 (dk_at dksL_law_47 10 rfl rfl)
theorem dL_law_1291 : decode cL_law 1291 = .ok (.iload 5, 2) := dk_21 5 (dk_at dksL_law_47 11 rfl rfl)
theorem dL_law_1293 : decode cL_law 1293 = .ok (.iconst 1, 1) := dk_4 (dk_at dksL_law_47 13 rfl rfl)
theorem dL_law_1294 : decode cL_law 1294 = .ok (.iadd, 1) := dk_96 (dk_at dksL_law_47 14 rfl rfl)
theorem dL_law_1295 : decode cL_law 1295 = .ok (.iaload, 1) := dk_46 (dk_at dksL_law_47 15 rfl rfl)
theorem dL_law_1296 : decode cL_law 1296 = .ok (.aload_n 0, 1) := dk_42 (dk_at dksL_law_47 16 rfl rfl)
theorem dL_law_1297 : decode cL_law 1297 = .ok (.iload 5, 2) := dk_21 5 (dk_at dksL_law_47 17 rfl rfl)
theorem dL_law_1299 : decode cL_law 1299 = .ok (.iconst 2, 1) := dk_5 (dk_at dksL_law_47 19 rfl rfl)
theorem dL_law_1300 : decode cL_law 1300 = .ok (.iadd, 1) := dk_96 (dk_at dksL_law_47 20 rfl rfl)
theorem dL_law_1301 : decode cL_law 1301 = .ok (.iaload, 1) := dk_46 (dk_at dksL_law_47 21 rfl rfl)
theorem dL_law_1302 : decode cL_law 1302 = .ok (.invokevirtual 230, 3) := dk_182 0 230 (dk_at dksL_law_48 0 rfl rfl)
theorem dL_law_1305 : decode cL_law 1305 = .ok (.istore 7, 2) := dk_54 7 (dk_at dksL_law_48 3 rfl rfl)
theorem dL_law_1307 : decode cL_law 1307 = .ok (.aload_n 2, 1) := dk_44 (dk_at dksL_law_48 5 rfl rfl)
theorem dL_law_1308 : decode cL_law 1308 = .ok (.invokevirtual 170, 3) := dk_182 0 170 (dk_at dksL_law_48 6 rfl rfl)
theorem dL_law_1311 : decode cL_law 1311 = .ok (.iload 6, 2) := dk_21 6 (dk_at dksL_law_48 9 rfl rfl)
theorem dL_law_1313 : decode cL_law 1313 = .ok (.if_icmp .eq 5, 3) := dk_159 0 5 (dk_at dksL_law_48 11 rfl rfl)
theorem dL_law_1316 : decode cL_law 1316 = .ok (.iconst 0, 1) := dk_3 (dk_at dksL_law_48 14 rfl rfl)
theorem dL_law_1317 : decode cL_law 1317 = .ok (.ireturn, 1) := dk_172 (dk_at dksL_law_48 15 rfl rfl)
theorem dL_law_1318 : decode cL_law 1318 = .ok (.iload 6, 2) := dk_21 6 (dk_at dksL_law_48 16 rfl rfl)
theorem dL_law_1320 : decode cL_law 1320 = .ok (.ifCond .ne 15, 3) := dk_154 0 15 (dk_at dksL_law_48 18 rfl rfl)
theorem dL_law_1323 : decode cL_law 1323 = .ok (.aload_n 3, 1) := dk_45 (dk_at dksL_law_48 21 rfl rfl)
theorem dL_law_1324 : decode cL_law 1324 = .ok (.iconst 0, 1) := dk_3 (dk_at dksL_law_48 22 rfl rfl)
theorem dL_law_1325 : decode cL_law 1325 = .ok (.laload, 1) := dk_47 (dk_at dksL_law_48 23 rfl rfl)
theorem dL_law_1326 : decode cL_law 1326 = .ok (.iload 7, 2) := dk_21 7 (dk_at dksL_law_49 0 rfl rfl)
theorem dL_law_1328 : decode cL_law 1328 = .ok (.i2l, 1) := dk_133 (dk_at dksL_law_49 2 rfl rfl)
theorem dL_law_1329 : decode cL_law 1329 = .ok (.lcmp, 1) := dk_148 (dk_at dksL_law_49 3 rfl rfl)
theorem dL_law_1330 : decode cL_law 1330 = .ok (.ifCond .eq 5, 3) := dk_153 0 5 (dk_at dksL_law_49 4 rfl rfl)
theorem dL_law_1333 : decode cL_law 1333 = .ok (.iconst 0, 1) := dk_3 (dk_at dksL_law_49 7 rfl rfl)
theorem dL_law_1334 : decode cL_law 1334 = .ok (.ireturn, 1) := dk_172 (dk_at dksL_law_49 8 rfl rfl)
theorem dL_law_1335 : decode cL_law 1335 = .ok (.goto 1880, 3) := dk_167 7 88 (dk_at dksL_law_49 9 rfl rfl)
theorem dL_law_1338 : decode cL_law 1338 = .ok (.aload_n 1, 1) := dk_43 (dk_at dksL_law_49 12 rfl rfl)
theorem dL_law_1339 : decode cL_law 1339 = .ok (.aload_n 0, 1) := dk_42 (dk_at dksL_law_49 13 rfl rfl)
theorem dL_law_1340 : decode cL_law 1340 = .ok (.iload 5, 2) := dk_21 5 (dk_at dksL_law_49 14 rfl rfl)
theorem dL_law_1342 : decode cL_law 1342 = .ok (.iconst 1, 1) := dk_4 (dk_at dksL_law_49 16 rfl rfl)
theorem dL_law_1343 : decode cL_law 1343 = .ok (.iadd, 1) := dk_96 (dk_at dksL_law_49 17 rfl rfl)
theorem dL_law_1344 : decode cL_law 1344 = .ok (.iaload, 1) := dk_46 (dk_at dksL_law_49 18 rfl rfl)
theorem dL_law_1345 : decode cL_law 1345 = .ok (.aload_n 3, 1) := dk_45 (dk_at dksL_law_49 19 rfl rfl)
theorem dL_law_1346 : decode cL_law 1346 = .ok (.invokestatic 231, 3) := dk_184 0 231 (dk_at dksL_law_49 20 rfl rfl)
theorem dL_law_1349 : decode cL_law 1349 = .ok (.istore 6, 2) := dk_54 6 (dk_at dksL_law_50 0 rfl rfl)
theorem dL_law_1351 : decode cL_law 1351 = .ok (.aload_n 2, 1) := dk_44 (dk_at dksL_law_50 2 rfl rfl)
theorem dL_law_1352 : decode cL_law 1352 = .ok (.aload_n 0, 1) := dk_42 (dk_at dksL_law_50 3 rfl rfl)
theorem dL_law_1353 : decode cL_law 1353 = .ok (.iload 5, 2) := dk_21 5 (dk_at dksL_law_50 4 rfl rfl)
theorem dL_law_1355 : decode cL_law 1355 = .ok (.iconst 1, 1) := dk_4 (dk_at dksL_law_50 6 rfl rfl)
theorem dL_law_1356 : decode cL_law 1356 = .ok (.iadd, 1) := dk_96 (dk_at dksL_law_50 7 rfl rfl)
theorem dL_law_1357 : decode cL_law 1357 = .ok (.iaload, 1) := dk_46 (dk_at dksL_law_50 8 rfl rfl)
theorem dL_law_1358 : decode cL_law 1358 = .ok (.invokevirtual 233, 3) := dk_182 0 233 (dk_at dksL_law_50 9 rfl rfl)
theorem dL_law_1361 : decode cL_law 1361 = .ok (.istore 7, 2) := dk_54 7 (dk_at dksL_law_50 12 rfl rfl)
theorem dL_law_1363 : decode cL_law 1363 = .ok (.aload_n 2, 1) := dk_44 (dk_at dksL_law_50 14 rfl rfl)
theorem dL_law_1364 : decode cL_law 1364 = .ok (.invokevirtual 170, 3) := dk_182 0 170 (dk_at dksL_law_50 15 rfl rfl)
theorem dL_law_1367 : decode cL_law 1367 = .ok (.iload 6, 2) := dk_21 6 (dk_at dksL_law_50 18 rfl rfl)
theorem dL_law_1369 : decode cL_law 1369 = .ok (.if_icmp .eq 5, 3) := dk_159 0 5 (dk_at dksL_law_50 20 rfl rfl)
theorem dL_law_1372 : decode cL_law 1372 = .ok (.iconst 0, 1) := dk_3 (dk_at dksL_law_50 23 rfl rfl)
theorem dL_law_1373 : decode cL_law 1373 = .ok (.ireturn, 1) := dk_172 (dk_at dksL_law_51 0 rfl rfl)
theorem dL_law_1374 : decode cL_law 1374 = .ok (.iload 6, 2) := dk_21 6 (dk_at dksL_law_51 1 rfl rfl)
theorem dL_law_1376 : decode cL_law 1376 = .ok (.ifCond .ne 15, 3) := dk_154 0 15 (dk_at dksL_law_51 3 rfl rfl)
theorem dL_law_1379 : decode cL_law 1379 = .ok (.aload_n 3, 1) := dk_45 (dk_at dksL_law_51 6 rfl rfl)
theorem dL_law_1380 : decode cL_law 1380 = .ok (.iconst 0, 1) := dk_3 (dk_at dksL_law_51 7 rfl rfl)
theorem dL_law_1381 : decode cL_law 1381 = .ok (.laload, 1) := dk_47 (dk_at dksL_law_51 8 rfl rfl)
theorem dL_law_1382 : decode cL_law 1382 = .ok (.iload 7, 2) := dk_21 7 (dk_at dksL_law_51 9 rfl rfl)
theorem dL_law_1384 : decode cL_law 1384 = .ok (.i2l, 1) := dk_133 (dk_at dksL_law_51 11 rfl rfl)
theorem dL_law_1385 : decode cL_law 1385 = .ok (.lcmp, 1) := dk_148 (dk_at dksL_law_51 12 rfl rfl)
theorem dL_law_1386 : decode cL_law 1386 = .ok (.ifCond .eq 5, 3) := dk_153 0 5 (dk_at dksL_law_51 13 rfl rfl)
theorem dL_law_1389 : decode cL_law 1389 = .ok (.iconst 0, 1) := dk_3 (dk_at dksL_law_51 16 rfl rfl)
theorem dL_law_1390 : decode cL_law 1390 = .ok (.ireturn, 1) := dk_172 (dk_at dksL_law_51 17 rfl rfl)
theorem dL_law_1391 : decode cL_law 1391 = .ok (.goto 1824, 3) := dk_167 7 32 (dk_at dksL_law_51 18 rfl rfl)
theorem dL_law_1394 : decode cL_law 1394 = .ok (.aload_n 1, 1) := dk_43 (dk_at dksL_law_51 21 rfl rfl)
theorem dL_law_1395 : decode cL_law 1395 = .ok (.invokevirtual 234, 3) := dk_182 0 234 (dk_at dksL_law_52 0 rfl rfl)
theorem dL_law_1398 : decode cL_law 1398 = .ok (.aload_n 2, 1) := dk_44 (dk_at dksL_law_52 3 rfl rfl)
theorem dL_law_1399 : decode cL_law 1399 = .ok (.invokevirtual 237, 3) := dk_182 0 237 (dk_at dksL_law_52 4 rfl rfl)
theorem dL_law_1402 : decode cL_law 1402 = .ok (.if_icmp .eq 1813, 3) := dk_159 7 21 (dk_at dksL_law_52 7 rfl rfl)
theorem dL_law_1405 : decode cL_law 1405 = .ok (.iconst 0, 1) := dk_3 (dk_at dksL_law_52 10 rfl rfl)
theorem dL_law_1406 : decode cL_law 1406 = .ok (.ireturn, 1) := dk_172 (dk_at dksL_law_52 11 rfl rfl)
theorem dL_law_1407 : decode cL_law 1407 = .ok (.aload_n 1, 1) := dk_43 (dk_at dksL_law_52 12 rfl rfl)
theorem dL_law_1408 : decode cL_law 1408 = .ok (.invokevirtual 238, 3) := dk_182 0 238 (dk_at dksL_law_52 13 rfl rfl)
theorem dL_law_1411 : decode cL_law 1411 = .ok (.aload_n 2, 1) := dk_44 (dk_at dksL_law_52 16 rfl rfl)
theorem dL_law_1412 : decode cL_law 1412 = .ok (.invokevirtual 241, 3) := dk_182 0 241 (dk_at dksL_law_52 17 rfl rfl)
theorem dL_law_1415 : decode cL_law 1415 = .ok (.if_icmp .eq 1800, 3) := dk_159 7 8 (dk_at dksL_law_52 20 rfl rfl)
theorem dL_law_1418 : decode cL_law 1418 = .ok (.iconst 0, 1) := dk_3 (dk_at dksL_law_52 23 rfl rfl)
theorem dL_law_1419 : decode cL_law 1419 = .ok (.ireturn, 1) := dk_172 (dk_at dksL_law_53 0 rfl rfl)
theorem dL_law_1420 : decode cL_law 1420 = .ok (.aload_n 1, 1) := dk_43 (dk_at dksL_law_53 1 rfl rfl)
theorem dL_law_1421 : decode cL_law 1421 = .ok (.aload_n 0, 1) := dk_42 (dk_at dksL_law_53 2 rfl rfl)
theorem dL_law_1422 : decode cL_law 1422 = .ok (.iload 5, 2) := dk_21 5 (dk_at dksL_law_53 3 rfl rfl)
theorem dL_law_1424 : decode cL_law 1424 = .ok (.iconst 1, 1) := dk_4 (dk_at dksL_law_53 5 rfl rfl)
theorem dL_law_1425 : decode cL_law 1425 = .ok (.iadd, 1) := dk_96 (dk_at dksL_law_53 6 rfl rfl)
theorem dL_law_1426 : decode cL_law 1426 = .ok (.iaload, 1) := dk_46 (dk_at dksL_law_53 7 rfl rfl)
theorem dL_law_1427 : decode cL_law 1427 = .ok (.aload_n 3, 1) := dk_45 (dk_at dksL_law_53 8 rfl rfl)
theorem dL_law_1428 : decode cL_law 1428 = .ok (.invokestatic 242, 3) := dk_184 0 242 (dk_at dksL_law_53 9 rfl rfl)
theorem dL_law_1431 : decode cL_law 1431 = .ok (.istore 6, 2) := dk_54 6 (dk_at dksL_law_53 12 rfl rfl)
theorem dL_law_1433 : decode cL_law 1433 = .ok (.aload_n 2, 1) := dk_44 (dk_at dksL_law_53 14 rfl rfl)
theorem dL_law_1434 : decode cL_law 1434 = .ok (.aload_n 0, 1) := dk_42 (dk_at dksL_law_53 15 rfl rfl)
theorem dL_law_1435 : decode cL_law 1435 = .ok (.iload 5, 2) := dk_21 5 (dk_at dksL_law_53 16 rfl rfl)
theorem dL_law_1437 : decode cL_law 1437 = .ok (.iconst 1, 1) := dk_4 (dk_at dksL_law_53 18 rfl rfl)
theorem dL_law_1438 : decode cL_law 1438 = .ok (.iadd, 1) := dk_96 (dk_at dksL_law_53 19 rfl rfl)
theorem dL_law_1439 : decode cL_law 1439 = .ok (.iaload, 1) := dk_46 (dk_at dksL_law_53 20 rfl rfl)
theorem dL_law_1440 : decode cL_law 1440 = .ok (.invokevirtual 244, 3) := dk_182 0 244 (dk_at dksL_law_53 21 rfl rfl)
theorem dL_law_1443 : decode cL_law 1443 = .ok (.istore 7, 2) := dk_54 7 (dk_at dksL_law_54 0 rfl rfl)
theorem dL_law_1445 : decode cL_law 1445 = .ok (.aload_n 2, 1) := dk_44 (dk_at dksL_law_54 2 rfl rfl)
theorem dL_law_1446 : decode cL_law 1446 = .ok (.invokevirtual 170, 3) := dk_182 0 170 (dk_at dksL_law_54 3 rfl rfl)
theorem dL_law_1449 : decode cL_law 1449 = .ok (.iload 6, 2) := dk_21 6 (dk_at dksL_law_54 6 rfl rfl)
theorem dL_law_1451 : decode cL_law 1451 = .ok (.if_icmp .eq 5, 3) := dk_159 0 5 (dk_at dksL_law_54 8 rfl rfl)
theorem dL_law_1454 : decode cL_law 1454 = .ok (.iconst 0, 1) := dk_3 (dk_at dksL_law_54 11 rfl rfl)
theorem dL_law_1455 : decode cL_law 1455 = .ok (.ireturn, 1) := dk_172 (dk_at dksL_law_54 12 rfl rfl)
theorem dL_law_1456 : decode cL_law 1456 = .ok (.iload 6, 2) := dk_21 6 (dk_at dksL_law_54 13 rfl rfl)
theorem dL_law_1458 : decode cL_law 1458 = .ok (.ifCond .ne 15, 3) := dk_154 0 15 (dk_at dksL_law_54 15 rfl rfl)
theorem dL_law_1461 : decode cL_law 1461 = .ok (.aload_n 3, 1) := dk_45 (dk_at dksL_law_54 18 rfl rfl)
theorem dL_law_1462 : decode cL_law 1462 = .ok (.iconst 0, 1) := dk_3 (dk_at dksL_law_54 19 rfl rfl)
theorem dL_law_1463 : decode cL_law 1463 = .ok (.laload, 1) := dk_47 (dk_at dksL_law_54 20 rfl rfl)
theorem dL_law_1464 : decode cL_law 1464 = .ok (.iload 7, 2) := dk_21 7 (dk_at dksL_law_54 21 rfl rfl)
theorem dL_law_1466 : decode cL_law 1466 = .ok (.i2l, 1) := dk_133 (dk_at dksL_law_54 23 rfl rfl)
theorem dL_law_1467 : decode cL_law 1467 = .ok (.lcmp, 1) := dk_148 (dk_at dksL_law_55 0 rfl rfl)
theorem dL_law_1468 : decode cL_law 1468 = .ok (.ifCond .eq 5, 3) := dk_153 0 5 (dk_at dksL_law_55 1 rfl rfl)
theorem dL_law_1471 : decode cL_law 1471 = .ok (.iconst 0, 1) := dk_3 (dk_at dksL_law_55 4 rfl rfl)
theorem dL_law_1472 : decode cL_law 1472 = .ok (.ireturn, 1) := dk_172 (dk_at dksL_law_55 5 rfl rfl)
theorem dL_law_1473 : decode cL_law 1473 = .ok (.goto 1742, 3) := dk_167 6 206 (dk_at dksL_law_55 6 rfl rfl)
theorem dL_law_1476 : decode cL_law 1476 = .ok (.aload_n 1, 1) := dk_43 (dk_at dksL_law_55 9 rfl rfl)
theorem dL_law_1477 : decode cL_law 1477 = .ok (.aload_n 0, 1) := dk_42 (dk_at dksL_law_55 10 rfl rfl)
theorem dL_law_1478 : decode cL_law 1478 = .ok (.iload 5, 2) := dk_21 5 (dk_at dksL_law_55 11 rfl rfl)
theorem dL_law_1480 : decode cL_law 1480 = .ok (.iconst 1, 1) := dk_4 (dk_at dksL_law_55 13 rfl rfl)
theorem dL_law_1481 : decode cL_law 1481 = .ok (.iadd, 1) := dk_96 (dk_at dksL_law_55 14 rfl rfl)
theorem dL_law_1482 : decode cL_law 1482 = .ok (.iaload, 1) := dk_46 (dk_at dksL_law_55 15 rfl rfl)
theorem dL_law_1483 : decode cL_law 1483 = .ok (.aload_n 3, 1) := dk_45 (dk_at dksL_law_55 16 rfl rfl)
theorem dL_law_1484 : decode cL_law 1484 = .ok (.invokestatic 245, 3) := dk_184 0 245 (dk_at dksL_law_55 17 rfl rfl)
theorem dL_law_1487 : decode cL_law 1487 = .ok (.istore 6, 2) := dk_54 6 (dk_at dksL_law_55 20 rfl rfl)
theorem dL_law_1489 : decode cL_law 1489 = .ok (.aload_n 2, 1) := dk_44 (dk_at dksL_law_55 22 rfl rfl)
theorem dL_law_1490 : decode cL_law 1490 = .ok (.aload_n 0, 1) := dk_42 (dk_at dksL_law_55 23 rfl rfl)
theorem dL_law_1491 : decode cL_law 1491 = .ok (.iload 5, 2) := dk_21 5 (dk_at dksL_law_56 0 rfl rfl)
theorem dL_law_1493 : decode cL_law 1493 = .ok (.iconst 1, 1) := dk_4 (dk_at dksL_law_56 2 rfl rfl)
theorem dL_law_1494 : decode cL_law 1494 = .ok (.iadd, 1) := dk_96 (dk_at dksL_law_56 3 rfl rfl)
theorem dL_law_1495 : decode cL_law 1495 = .ok (.iaload, 1) := dk_46 (dk_at dksL_law_56 4 rfl rfl)
theorem dL_law_1496 : decode cL_law 1496 = .ok (.invokevirtual 247, 3) := dk_182 0 247 (dk_at dksL_law_56 5 rfl rfl)
theorem dL_law_1499 : decode cL_law 1499 = .ok (.istore 7, 2) := dk_54 7 (dk_at dksL_law_56 8 rfl rfl)
theorem dL_law_1501 : decode cL_law 1501 = .ok (.aload_n 2, 1) := dk_44 (dk_at dksL_law_56 10 rfl rfl)
theorem dL_law_1502 : decode cL_law 1502 = .ok (.invokevirtual 170, 3) := dk_182 0 170 (dk_at dksL_law_56 11 rfl rfl)
theorem dL_law_1505 : decode cL_law 1505 = .ok (.iload 6, 2) := dk_21 6 (dk_at dksL_law_56 14 rfl rfl)
theorem dL_law_1507 : decode cL_law 1507 = .ok (.if_icmp .eq 5, 3) := dk_159 0 5 (dk_at dksL_law_56 16 rfl rfl)
theorem dL_law_1510 : decode cL_law 1510 = .ok (.iconst 0, 1) := dk_3 (dk_at dksL_law_56 19 rfl rfl)
theorem dL_law_1511 : decode cL_law 1511 = .ok (.ireturn, 1) := dk_172 (dk_at dksL_law_56 20 rfl rfl)
theorem dL_law_1512 : decode cL_law 1512 = .ok (.iload 6, 2) := dk_21 6 (dk_at dksL_law_56 21 rfl rfl)
theorem dL_law_1514 : decode cL_law 1514 = .ok (.ifCond .ne 15, 3) := dk_154 0 15 (dk_at dksL_law_57 0 rfl rfl)
theorem dL_law_1517 : decode cL_law 1517 = .ok (.aload_n 3, 1) := dk_45 (dk_at dksL_law_57 3 rfl rfl)
theorem dL_law_1518 : decode cL_law 1518 = .ok (.iconst 0, 1) := dk_3 (dk_at dksL_law_57 4 rfl rfl)
theorem dL_law_1519 : decode cL_law 1519 = .ok (.laload, 1) := dk_47 (dk_at dksL_law_57 5 rfl rfl)
theorem dL_law_1520 : decode cL_law 1520 = .ok (.iload 7, 2) := dk_21 7 (dk_at dksL_law_57 6 rfl rfl)
theorem dL_law_1522 : decode cL_law 1522 = .ok (.i2l, 1) := dk_133 (dk_at dksL_law_57 8 rfl rfl)
theorem dL_law_1523 : decode cL_law 1523 = .ok (.lcmp, 1) := dk_148 (dk_at dksL_law_57 9 rfl rfl)
theorem dL_law_1524 : decode cL_law 1524 = .ok (.ifCond .eq 5, 3) := dk_153 0 5 (dk_at dksL_law_57 10 rfl rfl)
theorem dL_law_1527 : decode cL_law 1527 = .ok (.iconst 0, 1) := dk_3 (dk_at dksL_law_57 13 rfl rfl)
theorem dL_law_1528 : decode cL_law 1528 = .ok (.ireturn, 1) := dk_172 (dk_at dksL_law_57 14 rfl rfl)
theorem dL_law_1529 : decode cL_law 1529 = .ok (.goto 1686, 3) := dk_167 6 150 (dk_at dksL_law_57 15 rfl rfl)
theorem dL_law_1532 : decode cL_law 1532 = .ok (.aload_n 1, 1) := dk_43 (dk_at dksL_law_57 18 rfl rfl)
theorem dL_law_1533 : decode cL_law 1533 = .ok (.aload_n 0, 1) := dk_42 (dk_at dksL_law_57 19 rfl rfl)
theorem dL_law_1534 : decode cL_law 1534 = .ok (.iload 5, 2) := dk_21 5 (dk_at dksL_law_57 20 rfl rfl)
theorem dL_law_1536 : decode cL_law 1536 = .ok (.iconst 1, 1) := dk_4 (dk_at dksL_law_57 22 rfl rfl)
theorem dL_law_1537 : decode cL_law 1537 = .ok (.iadd, 1) := dk_96 (dk_at dksL_law_57 23 rfl rfl)
theorem dL_law_1538 : decode cL_law 1538 = .ok (.iaload, 1) := dk_46 (dk_at dksL_law_58 0 rfl rfl)
theorem dL_law_1539 : decode cL_law 1539 = .ok (.aload 4, 2) := dk_25 4 (dk_at dksL_law_58 1 rfl rfl)
theorem dL_law_1541 : decode cL_law 1541 = .ok (.invokestatic 248, 3) := dk_184 0 248 (dk_at dksL_law_58 3 rfl rfl)
theorem dL_law_1544 : decode cL_law 1544 = .ok (.istore 6, 2) := dk_54 6 (dk_at dksL_law_58 6 rfl rfl)
theorem dL_law_1546 : decode cL_law 1546 = .ok (.aload_n 2, 1) := dk_44 (dk_at dksL_law_58 8 rfl rfl)
theorem dL_law_1547 : decode cL_law 1547 = .ok (.aload_n 0, 1) := dk_42 (dk_at dksL_law_58 9 rfl rfl)
theorem dL_law_1548 : decode cL_law 1548 = .ok (.iload 5, 2) := dk_21 5 (dk_at dksL_law_58 10 rfl rfl)
theorem dL_law_1550 : decode cL_law 1550 = .ok (.iconst 1, 1) := dk_4 (dk_at dksL_law_58 12 rfl rfl)
theorem dL_law_1551 : decode cL_law 1551 = .ok (.iadd, 1) := dk_96 (dk_at dksL_law_58 13 rfl rfl)
theorem dL_law_1552 : decode cL_law 1552 = .ok (.iaload, 1) := dk_46 (dk_at dksL_law_58 14 rfl rfl)
theorem dL_law_1553 : decode cL_law 1553 = .ok (.invokevirtual 251, 3) := dk_182 0 251 (dk_at dksL_law_58 15 rfl rfl)
theorem dL_law_1556 : decode cL_law 1556 = .ok (.dstore 7, 2) := dk_57 7 (dk_at dksL_law_58 18 rfl rfl)
theorem dL_law_1558 : decode cL_law 1558 = .ok (.aload_n 2, 1) := dk_44 (dk_at dksL_law_58 20 rfl rfl)
theorem dL_law_1559 : decode cL_law 1559 = .ok (.invokevirtual 170, 3) := dk_182 0 170 (dk_at dksL_law_58 21 rfl rfl)
theorem dL_law_1562 : decode cL_law 1562 = .ok (.iload 6, 2) := dk_21 6 (dk_at dksL_law_59 0 rfl rfl)
theorem dL_law_1564 : decode cL_law 1564 = .ok (.if_icmp .eq 5, 3) := dk_159 0 5 (dk_at dksL_law_59 2 rfl rfl)
theorem dL_law_1567 : decode cL_law 1567 = .ok (.iconst 0, 1) := dk_3 (dk_at dksL_law_59 5 rfl rfl)
theorem dL_law_1568 : decode cL_law 1568 = .ok (.ireturn, 1) := dk_172 (dk_at dksL_law_59 6 rfl rfl)
theorem dL_law_1569 : decode cL_law 1569 = .ok (.iload 6, 2) := dk_21 6 (dk_at dksL_law_59 7 rfl rfl)
theorem dL_law_1571 : decode cL_law 1571 = .ok (.ifCond .ne 35, 3) := dk_154 0 35 (dk_at dksL_law_59 9 rfl rfl)
theorem dL_law_1574 : decode cL_law 1574 = .ok (.aload 4, 2) := dk_25 4 (dk_at dksL_law_59 12 rfl rfl)
theorem dL_law_1576 : decode cL_law 1576 = .ok (.iconst 0, 1) := dk_3 (dk_at dksL_law_59 14 rfl rfl)
theorem dL_law_1577 : decode cL_law 1577 = .ok (.daload, 1) := dk_49 (dk_at dksL_law_59 15 rfl rfl)
theorem dL_law_1578 : decode cL_law 1578 = .ok (.dload 7, 2) := dk_24 7 (dk_at dksL_law_59 16 rfl rfl)
theorem dL_law_1580 : decode cL_law 1580 = .ok (.dcmp .l, 1) := dk_151 (dk_at dksL_law_59 18 rfl rfl)
theorem dL_law_1581 : decode cL_law 1581 = .ok (.ifCond .eq 25, 3) := dk_153 0 25 (dk_at dksL_law_59 19 rfl rfl)
theorem dL_law_1584 : decode cL_law 1584 = .ok (.aload 4, 2) := dk_25 4 (dk_at dksL_law_59 22 rfl rfl)
theorem dL_law_1586 : decode cL_law 1586 = .ok (.iconst 0, 1) := dk_3 (dk_at dksL_law_60 0 rfl rfl)
theorem dL_law_1587 : decode cL_law 1587 = .ok (.daload, 1) := dk_49 (dk_at dksL_law_60 1 rfl rfl)
theorem dL_law_1588 : decode cL_law 1588 = .ok (.aload 4, 2) := dk_25 4 (dk_at dksL_law_60 2 rfl rfl)
theorem dL_law_1590 : decode cL_law 1590 = .ok (.iconst 0, 1) := dk_3 (dk_at dksL_law_60 4 rfl rfl)
theorem dL_law_1591 : decode cL_law 1591 = .ok (.daload, 1) := dk_49 (dk_at dksL_law_60 5 rfl rfl)
theorem dL_law_1592 : decode cL_law 1592 = .ok (.dcmp .l, 1) := dk_151 (dk_at dksL_law_60 6 rfl rfl)
theorem dL_law_1593 : decode cL_law 1593 = .ok (.ifCond .eq 11, 3) := dk_153 0 11 (dk_at dksL_law_60 7 rfl rfl)
theorem dL_law_1596 : decode cL_law 1596 = .ok (.dload 7, 2) := dk_24 7 (dk_at dksL_law_60 10 rfl rfl)
theorem dL_law_1598 : decode cL_law 1598 = .ok (.dload 7, 2) := dk_24 7 (dk_at dksL_law_60 12 rfl rfl)
theorem dL_law_1600 : decode cL_law 1600 = .ok (.dcmp .l, 1) := dk_151 (dk_at dksL_law_60 14 rfl rfl)
theorem dL_law_1601 : decode cL_law 1601 = .ok (.ifCond .ne 5, 3) := dk_154 0 5 (dk_at dksL_law_60 15 rfl rfl)
theorem dL_law_1604 : decode cL_law 1604 = .ok (.iconst 0, 1) := dk_3 (dk_at dksL_law_60 18 rfl rfl)
theorem dL_law_1605 : decode cL_law 1605 = .ok (.ireturn, 1) := dk_172 (dk_at dksL_law_60 19 rfl rfl)
theorem dL_law_1606 : decode cL_law 1606 = .ok (.goto 1609, 3) := dk_167 6 73 (dk_at dksL_law_60 20 rfl rfl)
theorem dL_law_1609 : decode cL_law 1609 = .ok (.aload_n 1, 1) := dk_43 (dk_at dksL_law_60 23 rfl rfl)
theorem dL_law_1610 : decode cL_law 1610 = .ok (.aload_n 0, 1) := dk_42 (dk_at dksL_law_61 0 rfl rfl)
theorem dL_law_1611 : decode cL_law 1611 = .ok (.iload 5, 2) := dk_21 5 (dk_at dksL_law_61 1 rfl rfl)
theorem dL_law_1613 : decode cL_law 1613 = .ok (.iconst 1, 1) := dk_4 (dk_at dksL_law_61 3 rfl rfl)
theorem dL_law_1614 : decode cL_law 1614 = .ok (.iadd, 1) := dk_96 (dk_at dksL_law_61 4 rfl rfl)
theorem dL_law_1615 : decode cL_law 1615 = .ok (.iaload, 1) := dk_46 (dk_at dksL_law_61 5 rfl rfl)
theorem dL_law_1616 : decode cL_law 1616 = .ok (.aload_n 3, 1) := dk_45 (dk_at dksL_law_61 6 rfl rfl)
theorem dL_law_1617 : decode cL_law 1617 = .ok (.invokestatic 252, 3) := dk_184 0 252 (dk_at dksL_law_61 7 rfl rfl)
theorem dL_law_1620 : decode cL_law 1620 = .ok (.istore 6, 2) := dk_54 6 (dk_at dksL_law_61 10 rfl rfl)
theorem dL_law_1622 : decode cL_law 1622 = .ok (.aload_n 2, 1) := dk_44 (dk_at dksL_law_61 12 rfl rfl)
theorem dL_law_1623 : decode cL_law 1623 = .ok (.aload_n 0, 1) := dk_42 (dk_at dksL_law_61 13 rfl rfl)
theorem dL_law_1624 : decode cL_law 1624 = .ok (.iload 5, 2) := dk_21 5 (dk_at dksL_law_61 14 rfl rfl)
theorem dL_law_1626 : decode cL_law 1626 = .ok (.iconst 1, 1) := dk_4 (dk_at dksL_law_61 16 rfl rfl)
theorem dL_law_1627 : decode cL_law 1627 = .ok (.iadd, 1) := dk_96 (dk_at dksL_law_61 17 rfl rfl)
theorem dL_law_1628 : decode cL_law 1628 = .ok (.iaload, 1) := dk_46 (dk_at dksL_law_61 18 rfl rfl)
theorem dL_law_1629 : decode cL_law 1629 = .ok (.invokevirtual 254, 3) := dk_182 0 254 (dk_at dksL_law_61 19 rfl rfl)
theorem dL_law_1632 : decode cL_law 1632 = .ok (.istore 7, 2) := dk_54 7 (dk_at dksL_law_61 22 rfl rfl)
theorem dL_law_1634 : decode cL_law 1634 = .ok (.aload_n 2, 1) := dk_44 (dk_at dksL_law_62 0 rfl rfl)
theorem dL_law_1635 : decode cL_law 1635 = .ok (.invokevirtual 170, 3) := dk_182 0 170 (dk_at dksL_law_62 1 rfl rfl)
theorem dL_law_1638 : decode cL_law 1638 = .ok (.iload 6, 2) := dk_21 6 (dk_at dksL_law_62 4 rfl rfl)
theorem dL_law_1640 : decode cL_law 1640 = .ok (.if_icmp .eq 5, 3) := dk_159 0 5 (dk_at dksL_law_62 6 rfl rfl)
theorem dL_law_1643 : decode cL_law 1643 = .ok (.iconst 0, 1) := dk_3 (dk_at dksL_law_62 9 rfl rfl)
theorem dL_law_1644 : decode cL_law 1644 = .ok (.ireturn, 1) := dk_172 (dk_at dksL_law_62 10 rfl rfl)
theorem dL_law_1645 : decode cL_law 1645 = .ok (.iload 6, 2) := dk_21 6 (dk_at dksL_law_62 11 rfl rfl)
theorem dL_law_1647 : decode cL_law 1647 = .ok (.ifCond .ne 15, 3) := dk_154 0 15 (dk_at dksL_law_62 13 rfl rfl)
theorem dL_law_1650 : decode cL_law 1650 = .ok (.aload_n 3, 1) := dk_45 (dk_at dksL_law_62 16 rfl rfl)
theorem dL_law_1651 : decode cL_law 1651 = .ok (.iconst 0, 1) := dk_3 (dk_at dksL_law_62 17 rfl rfl)
theorem dL_law_1652 : decode cL_law 1652 = .ok (.laload, 1) := dk_47 (dk_at dksL_law_62 18 rfl rfl)
theorem dL_law_1653 : decode cL_law 1653 = .ok (.iload 7, 2) := dk_21 7 (dk_at dksL_law_62 19 rfl rfl)
theorem dL_law_1655 : decode cL_law 1655 = .ok (.i2l, 1) := dk_133 (dk_at dksL_law_62 21 rfl rfl)
theorem dL_law_1656 : decode cL_law 1656 = .ok (.lcmp, 1) := dk_148 (dk_at dksL_law_62 22 rfl rfl)
theorem dL_law_1657 : decode cL_law 1657 = .ok (.ifCond .eq 5, 3) := dk_153 0 5 (dk_at dksL_law_63 0 rfl rfl)
theorem dL_law_1660 : decode cL_law 1660 = .ok (.iconst 0, 1) := dk_3 (dk_at dksL_law_63 3 rfl rfl)
theorem dL_law_1661 : decode cL_law 1661 = .ok (.ireturn, 1) := dk_172 (dk_at dksL_law_63 4 rfl rfl)
theorem dL_law_1662 : decode cL_law 1662 = .ok (.goto 1553, 3) := dk_167 6 17 (dk_at dksL_law_63 5 rfl rfl)
theorem dL_law_1665 : decode cL_law 1665 = .ok (.aload_n 1, 1) := dk_43 (dk_at dksL_law_63 8 rfl rfl)
theorem dL_law_1666 : decode cL_law 1666 = .ok (.invokevirtual 255, 3) := dk_182 0 255 (dk_at dksL_law_63 9 rfl rfl)
theorem dL_law_1669 : decode cL_law 1669 = .ok (.aload_n 2, 1) := dk_44 (dk_at dksL_law_63 12 rfl rfl)
theorem dL_law_1670 : decode cL_law 1670 = .ok (.invokevirtual 258, 3) := dk_182 1 2 (dk_at dksL_law_63 13 rfl rfl)
theorem dL_law_1673 : decode cL_law 1673 = .ok (.if_icmp .eq 1542, 3) := dk_159 6 6 (dk_at dksL_law_63 16 rfl rfl)
theorem dL_law_1676 : decode cL_law 1676 = .ok (.iconst 0, 1) := dk_3 (dk_at dksL_law_63 19 rfl rfl)
theorem dL_law_1677 : decode cL_law 1677 = .ok (.ireturn, 1) := dk_172 (dk_at dksL_law_63 20 rfl rfl)
theorem dL_law_1678 : decode cL_law 1678 = .ok (.aload_n 1, 1) := dk_43 (dk_at dksL_law_63 21 rfl rfl)
theorem dL_law_1679 : decode cL_law 1679 = .ok (.aload_n 0, 1) := dk_42 (dk_at dksL_law_63 22 rfl rfl)
theorem dL_law_1680 : decode cL_law 1680 = .ok (.iload 5, 2) := dk_21 5 (dk_at dksL_law_64 0 rfl rfl)
theorem dL_law_1682 : decode cL_law 1682 = .ok (.iconst 1, 1) := dk_4 (dk_at dksL_law_64 2 rfl rfl)
theorem dL_law_1683 : decode cL_law 1683 = .ok (.iadd, 1) := dk_96 (dk_at dksL_law_64 3 rfl rfl)
theorem dL_law_1684 : decode cL_law 1684 = .ok (.iaload, 1) := dk_46 (dk_at dksL_law_64 4 rfl rfl)
theorem dL_law_1685 : decode cL_law 1685 = .ok (.aload_n 3, 1) := dk_45 (dk_at dksL_law_64 5 rfl rfl)
theorem dL_law_1686 : decode cL_law 1686 = .ok (.invokestatic 259, 3) := dk_184 1 3 (dk_at dksL_law_64 6 rfl rfl)
theorem dL_law_1689 : decode cL_law 1689 = .ok (.istore 6, 2) := dk_54 6 (dk_at dksL_law_64 9 rfl rfl)
theorem dL_law_1691 : decode cL_law 1691 = .ok (.aload_n 2, 1) := dk_44 (dk_at dksL_law_64 11 rfl rfl)
theorem dL_law_1692 : decode cL_law 1692 = .ok (.aload_n 0, 1) := dk_42 (dk_at dksL_law_64 12 rfl rfl)
theorem dL_law_1693 : decode cL_law 1693 = .ok (.iload 5, 2) := dk_21 5 (dk_at dksL_law_64 13 rfl rfl)
theorem dL_law_1695 : decode cL_law 1695 = .ok (.iconst 1, 1) := dk_4 (dk_at dksL_law_64 15 rfl rfl)
theorem dL_law_1696 : decode cL_law 1696 = .ok (.iadd, 1) := dk_96 (dk_at dksL_law_64 16 rfl rfl)
theorem dL_law_1697 : decode cL_law 1697 = .ok (.iaload, 1) := dk_46 (dk_at dksL_law_64 17 rfl rfl)
theorem dL_law_1698 : decode cL_law 1698 = .ok (.invokevirtual 261, 3) := dk_182 1 5 (dk_at dksL_law_64 18 rfl rfl)
theorem dL_law_1701 : decode cL_law 1701 = .ok (.istore 7, 2) := dk_54 7 (dk_at dksL_law_64 21 rfl rfl)
theorem dL_law_1703 : decode cL_law 1703 = .ok (.aload_n 2, 1) := dk_44 (dk_at dksL_law_64 23 rfl rfl)
theorem dL_law_1704 : decode cL_law 1704 = .ok (.invokevirtual 170, 3) := dk_182 0 170 (dk_at dksL_law_65 0 rfl rfl)
theorem dL_law_1707 : decode cL_law 1707 = .ok (.iload 6, 2) := dk_21 6 (dk_at dksL_law_65 3 rfl rfl)
theorem dL_law_1709 : decode cL_law 1709 = .ok (.if_icmp .eq 5, 3) := dk_159 0 5 (dk_at dksL_law_65 5 rfl rfl)
theorem dL_law_1712 : decode cL_law 1712 = .ok (.iconst 0, 1) := dk_3 (dk_at dksL_law_65 8 rfl rfl)
theorem dL_law_1713 : decode cL_law 1713 = .ok (.ireturn, 1) := dk_172 (dk_at dksL_law_65 9 rfl rfl)
theorem dL_law_1714 : decode cL_law 1714 = .ok (.iload 6, 2) := dk_21 6 (dk_at dksL_law_65 10 rfl rfl)
theorem dL_law_1716 : decode cL_law 1716 = .ok (.ifCond .ne 15, 3) := dk_154 0 15 (dk_at dksL_law_65 12 rfl rfl)
theorem dL_law_1719 : decode cL_law 1719 = .ok (.aload_n 3, 1) := dk_45 (dk_at dksL_law_65 15 rfl rfl)
theorem dL_law_1720 : decode cL_law 1720 = .ok (.iconst 0, 1) := dk_3 (dk_at dksL_law_65 16 rfl rfl)
theorem dL_law_1721 : decode cL_law 1721 = .ok (.laload, 1) := dk_47 (dk_at dksL_law_65 17 rfl rfl)
theorem dL_law_1722 : decode cL_law 1722 = .ok (.iload 7, 2) := dk_21 7 (dk_at dksL_law_65 18 rfl rfl)
theorem dL_law_1724 : decode cL_law 1724 = .ok (.i2l, 1) := dk_133 (dk_at dksL_law_65 20 rfl rfl)
theorem dL_law_1725 : decode cL_law 1725 = .ok (.lcmp, 1) := dk_148 (dk_at dksL_law_65 21 rfl rfl)
theorem dL_law_1726 : decode cL_law 1726 = .ok (.ifCond .eq 5, 3) := dk_153 0 5 (dk_at dksL_law_66 0 rfl rfl)
theorem dL_law_1729 : decode cL_law 1729 = .ok (.iconst 0, 1) := dk_3 (dk_at dksL_law_66 3 rfl rfl)
theorem dL_law_1730 : decode cL_law 1730 = .ok (.ireturn, 1) := dk_172 (dk_at dksL_law_66 4 rfl rfl)
theorem dL_law_1731 : decode cL_law 1731 = .ok (.goto 1484, 3) := dk_167 5 204 (dk_at dksL_law_66 5 rfl rfl)
theorem dL_law_1734 : decode cL_law 1734 = .ok (.aload_n 1, 1) := dk_43 (dk_at dksL_law_66 8 rfl rfl)
theorem dL_law_1735 : decode cL_law 1735 = .ok (.aload_n 0, 1) := dk_42 (dk_at dksL_law_66 9 rfl rfl)
theorem dL_law_1736 : decode cL_law 1736 = .ok (.iload 5, 2) := dk_21 5 (dk_at dksL_law_66 10 rfl rfl)
theorem dL_law_1738 : decode cL_law 1738 = .ok (.iconst 1, 1) := dk_4 (dk_at dksL_law_66 12 rfl rfl)
theorem dL_law_1739 : decode cL_law 1739 = .ok (.iadd, 1) := dk_96 (dk_at dksL_law_66 13 rfl rfl)
theorem dL_law_1740 : decode cL_law 1740 = .ok (.iaload, 1) := dk_46 (dk_at dksL_law_66 14 rfl rfl)
theorem dL_law_1741 : decode cL_law 1741 = .ok (.aload_n 0, 1) := dk_42 (dk_at dksL_law_66 15 rfl rfl)
theorem dL_law_1742 : decode cL_law 1742 = .ok (.iload 5, 2) := dk_21 5 (dk_at dksL_law_66 16 rfl rfl)
theorem dL_law_1744 : decode cL_law 1744 = .ok (.iconst 2, 1) := dk_5 (dk_at dksL_law_66 18 rfl rfl)
theorem dL_law_1745 : decode cL_law 1745 = .ok (.iadd, 1) := dk_96 (dk_at dksL_law_66 19 rfl rfl)
theorem dL_law_1746 : decode cL_law 1746 = .ok (.iaload, 1) := dk_46 (dk_at dksL_law_66 20 rfl rfl)
theorem dL_law_1747 : decode cL_law 1747 = .ok (.aload_n 3, 1) := dk_45 (dk_at dksL_law_66 21 rfl rfl)
theorem dL_law_1748 : decode cL_law 1748 = .ok (.invokestatic 262, 3) := dk_184 1 6 (dk_at dksL_law_67 0 rfl rfl)
theorem dL_law_1751 : decode cL_law 1751 = .ok (.istore 6, 2) := dk_54 6 (dk_at dksL_law_67 3 rfl rfl)
theorem dL_law_1753 : decode cL_law 1753 = .ok (.aload_n 2, 1) := dk_44 (dk_at dksL_law_67 5 rfl rfl)
theorem dL_law_1754 : decode cL_law 1754 = .ok (.aload_n 0, 1) := dk_42 (dk_at dksL_law_67 6 rfl rfl)
theorem dL_law_1755 : decode cL_law 1755 = .ok (.iload 5, 2) := dk_21 5 (dk_at dksL_law_67 7 rfl rfl)
theorem dL_law_1757 : decode cL_law 1757 = .ok (.iconst 1, 1) := dk_4 (dk_at dksL_law_67 9 rfl rfl)
theorem dL_law_1758 : decode cL_law 1758 = .ok (.iadd, 1) := dk_96 (dk_at dksL_law_67 10 rfl rfl)
theorem dL_law_1759 : decode cL_law 1759 = .ok (.iaload, 1) := dk_46 (dk_at dksL_law_67 11 rfl rfl)
theorem dL_law_1760 : decode cL_law 1760 = .ok (.aload_n 0, 1) := dk_42 (dk_at dksL_law_67 12 rfl rfl)
theorem dL_law_1761 : decode cL_law 1761 = .ok (.iload 5, 2) := dk_21 5 (dk_at dksL_law_67 13 rfl rfl)
theorem dL_law_1763 : decode cL_law 1763 = .ok (.iconst 2, 1) := dk_5 (dk_at dksL_law_67 15 rfl rfl)
theorem dL_law_1764 : decode cL_law 1764 = .ok (.iadd, 1) := dk_96 (dk_at dksL_law_67 16 rfl rfl)
theorem dL_law_1765 : decode cL_law 1765 = .ok (.iaload, 1) := dk_46 (dk_at dksL_law_67 17 rfl rfl)
theorem dL_law_1766 : decode cL_law 1766 = .ok (.invokevirtual 264, 3) := dk_182 1 8 (dk_at dksL_law_67 18 rfl rfl)
theorem dL_law_1769 : decode cL_law 1769 = .ok (.istore 7, 2) := dk_54 7 (dk_at dksL_law_67 21 rfl rfl)
theorem dL_law_1771 : decode cL_law 1771 = .ok (.aload_n 2, 1) := dk_44 (dk_at dksL_law_67 23 rfl rfl)
theorem dL_law_1772 : decode cL_law 1772 = .ok (.invokevirtual 170, 3) := dk_182 0 170 (dk_at dksL_law_68 0 rfl rfl)
theorem dL_law_1775 : decode cL_law 1775 = .ok (.iload 6, 2) := dk_21 6 (dk_at dksL_law_68 3 rfl rfl)
theorem dL_law_1777 : decode cL_law 1777 = .ok (.if_icmp .eq 5, 3) := dk_159 0 5 (dk_at dksL_law_68 5 rfl rfl)
theorem dL_law_1780 : decode cL_law 1780 = .ok (.iconst 0, 1) := dk_3 (dk_at dksL_law_68 8 rfl rfl)
theorem dL_law_1781 : decode cL_law 1781 = .ok (.ireturn, 1) := dk_172 (dk_at dksL_law_68 9 rfl rfl)
theorem dL_law_1782 : decode cL_law 1782 = .ok (.iload 6, 2) := dk_21 6 (dk_at dksL_law_68 10 rfl rfl)
theorem dL_law_1784 : decode cL_law 1784 = .ok (.ifCond .ne 15, 3) := dk_154 0 15 (dk_at dksL_law_68 12 rfl rfl)
theorem dL_law_1787 : decode cL_law 1787 = .ok (.aload_n 3, 1) := dk_45 (dk_at dksL_law_68 15 rfl rfl)
theorem dL_law_1788 : decode cL_law 1788 = .ok (.iconst 0, 1) := dk_3 (dk_at dksL_law_68 16 rfl rfl)
theorem dL_law_1789 : decode cL_law 1789 = .ok (.laload, 1) := dk_47 (dk_at dksL_law_68 17 rfl rfl)
theorem dL_law_1790 : decode cL_law 1790 = .ok (.iload 7, 2) := dk_21 7 (dk_at dksL_law_68 18 rfl rfl)
theorem dL_law_1792 : decode cL_law 1792 = .ok (.i2l, 1) := dk_133 (dk_at dksL_law_68 20 rfl rfl)
theorem dL_law_1793 : decode cL_law 1793 = .ok (.lcmp, 1) := dk_148 (dk_at dksL_law_68 21 rfl rfl)
theorem dL_law_1794 : decode cL_law 1794 = .ok (.ifCond .eq 5, 3) := dk_153 0 5 (dk_at dksL_law_69 0 rfl rfl)
theorem dL_law_1797 : decode cL_law 1797 = .ok (.iconst 0, 1) := dk_3 (dk_at dksL_law_69 3 rfl rfl)
theorem dL_law_1798 : decode cL_law 1798 = .ok (.ireturn, 1) := dk_172 (dk_at dksL_law_69 4 rfl rfl)
theorem dL_law_1799 : decode cL_law 1799 = .ok (.goto 1416, 3) := dk_167 5 136 (dk_at dksL_law_69 5 rfl rfl)
theorem dL_law_1802 : decode cL_law 1802 = .ok (.aload_n 1, 1) := dk_43 (dk_at dksL_law_69 8 rfl rfl)
theorem dL_law_1803 : decode cL_law 1803 = .ok (.aload_n 0, 1) := dk_42 (dk_at dksL_law_69 9 rfl rfl)
theorem dL_law_1804 : decode cL_law 1804 = .ok (.iload 5, 2) := dk_21 5 (dk_at dksL_law_69 10 rfl rfl)
theorem dL_law_1806 : decode cL_law 1806 = .ok (.iconst 1, 1) := dk_4 (dk_at dksL_law_69 12 rfl rfl)
theorem dL_law_1807 : decode cL_law 1807 = .ok (.iadd, 1) := dk_96 (dk_at dksL_law_69 13 rfl rfl)
theorem dL_law_1808 : decode cL_law 1808 = .ok (.iaload, 1) := dk_46 (dk_at dksL_law_69 14 rfl rfl)
theorem dL_law_1809 : decode cL_law 1809 = .ok (.aload_n 0, 1) := dk_42 (dk_at dksL_law_69 15 rfl rfl)
theorem dL_law_1810 : decode cL_law 1810 = .ok (.iload 5, 2) := dk_21 5 (dk_at dksL_law_69 16 rfl rfl)
theorem dL_law_1812 : decode cL_law 1812 = .ok (.iconst 2, 1) := dk_5 (dk_at dksL_law_69 18 rfl rfl)
theorem dL_law_1813 : decode cL_law 1813 = .ok (.iadd, 1) := dk_96 (dk_at dksL_law_69 19 rfl rfl)
theorem dL_law_1814 : decode cL_law 1814 = .ok (.iaload, 1) := dk_46 (dk_at dksL_law_69 20 rfl rfl)
theorem dL_law_1815 : decode cL_law 1815 = .ok (.aload_n 0, 1) := dk_42 (dk_at dksL_law_69 21 rfl rfl)
theorem dL_law_1816 : decode cL_law 1816 = .ok (.iload 5, 2) := dk_21 5 (dk_at dksL_law_69 22 rfl rfl)
theorem dL_law_1818 : decode cL_law 1818 = .ok (.iconst 3, 1) := dk_6 (dk_at dksL_law_70 0 rfl rfl)
theorem dL_law_1819 : decode cL_law 1819 = .ok (.iadd, 1) := dk_96 (dk_at dksL_law_70 1 rfl rfl)
theorem dL_law_1820 : decode cL_law 1820 = .ok (.iaload, 1) := dk_46 (dk_at dksL_law_70 2 rfl rfl)
theorem dL_law_1821 : decode cL_law 1821 = .ok (.aload_n 3, 1) := dk_45 (dk_at dksL_law_70 3 rfl rfl)
theorem dL_law_1822 : decode cL_law 1822 = .ok (.invokestatic 265, 3) := dk_184 1 9 (dk_at dksL_law_70 4 rfl rfl)
theorem dL_law_1825 : decode cL_law 1825 = .ok (.istore 6, 2) := dk_54 6 (dk_at dksL_law_70 7 rfl rfl)
theorem dL_law_1827 : decode cL_law 1827 = .ok (.aload_n 2, 1) := dk_44 (dk_at dksL_law_70 9 rfl rfl)
theorem dL_law_1828 : decode cL_law 1828 = .ok (.aload_n 0, 1) := dk_42 (dk_at dksL_law_70 10 rfl rfl)
theorem dL_law_1829 : decode cL_law 1829 = .ok (.iload 5, 2) := dk_21 5 (dk_at dksL_law_70 11 rfl rfl)
theorem dL_law_1831 : decode cL_law 1831 = .ok (.iconst 1, 1) := dk_4 (dk_at dksL_law_70 13 rfl rfl)
theorem dL_law_1832 : decode cL_law 1832 = .ok (.iadd, 1) := dk_96 (dk_at dksL_law_70 14 rfl rfl)
theorem dL_law_1833 : decode cL_law 1833 = .ok (.iaload, 1) := dk_46 (dk_at dksL_law_70 15 rfl rfl)
theorem dL_law_1834 : decode cL_law 1834 = .ok (.aload_n 0, 1) := dk_42 (dk_at dksL_law_70 16 rfl rfl)
theorem dL_law_1835 : decode cL_law 1835 = .ok (.iload 5, 2) := dk_21 5 (dk_at dksL_law_70 17 rfl rfl)
theorem dL_law_1837 : decode cL_law 1837 = .ok (.iconst 2, 1) := dk_5 (dk_at dksL_law_70 19 rfl rfl)
theorem dL_law_1838 : decode cL_law 1838 = .ok (.iadd, 1) := dk_96 (dk_at dksL_law_70 20 rfl rfl)
theorem dL_law_1839 : decode cL_law 1839 = .ok (.iaload, 1) := dk_46 (dk_at dksL_law_70 21 rfl rfl)
theorem dL_law_1840 : decode cL_law 1840 = .ok (.aload_n 0, 1) := dk_42 (dk_at dksL_law_70 22 rfl rfl)
theorem dL_law_1841 : decode cL_law 1841 = .ok (.iload 5, 2) := dk_21 5 (dk_at dksL_law_71 0 rfl rfl)
theorem dL_law_1843 : decode cL_law 1843 = .ok (.iconst 3, 1) := dk_6 (dk_at dksL_law_71 2 rfl rfl)
theorem dL_law_1844 : decode cL_law 1844 = .ok (.iadd, 1) := dk_96 (dk_at dksL_law_71 3 rfl rfl)
theorem dL_law_1845 : decode cL_law 1845 = .ok (.iaload, 1) := dk_46 (dk_at dksL_law_71 4 rfl rfl)
theorem dL_law_1846 : decode cL_law 1846 = .ok (.invokevirtual 268, 3) := dk_182 1 12 (dk_at dksL_law_71 5 rfl rfl)
theorem dL_law_1849 : decode cL_law 1849 = .ok (.istore 7, 2) := dk_54 7 (dk_at dksL_law_71 8 rfl rfl)
theorem dL_law_1851 : decode cL_law 1851 = .ok (.aload_n 2, 1) := dk_44 (dk_at dksL_law_71 10 rfl rfl)
theorem dL_law_1852 : decode cL_law 1852 = .ok (.invokevirtual 170, 3) := dk_182 0 170 (dk_at dksL_law_71 11 rfl rfl)
theorem dL_law_1855 : decode cL_law 1855 = .ok (.iload 6, 2) := dk_21 6 (dk_at dksL_law_71 14 rfl rfl)
theorem dL_law_1857 : decode cL_law 1857 = .ok (.if_icmp .eq 5, 3) := dk_159 0 5 (dk_at dksL_law_71 16 rfl rfl)
theorem dL_law_1860 : decode cL_law 1860 = .ok (.iconst 0, 1) := dk_3 (dk_at dksL_law_71 19 rfl rfl)
theorem dL_law_1861 : decode cL_law 1861 = .ok (.ireturn, 1) := dk_172 (dk_at dksL_law_71 20 rfl rfl)
theorem dL_law_1862 : decode cL_law 1862 = .ok (.iload 6, 2) := dk_21 6 (dk_at dksL_law_71 21 rfl rfl)
theorem dL_law_1864 : decode cL_law 1864 = .ok (.ifCond .ne 15, 3) := dk_154 0 15 (dk_at dksL_law_72 0 rfl rfl)
theorem dL_law_1867 : decode cL_law 1867 = .ok (.aload_n 3, 1) := dk_45 (dk_at dksL_law_72 3 rfl rfl)
theorem dL_law_1868 : decode cL_law 1868 = .ok (.iconst 0, 1) := dk_3 (dk_at dksL_law_72 4 rfl rfl)
theorem dL_law_1869 : decode cL_law 1869 = .ok (.laload, 1) := dk_47 (dk_at dksL_law_72 5 rfl rfl)
theorem dL_law_1870 : decode cL_law 1870 = .ok (.iload 7, 2) := dk_21 7 (dk_at dksL_law_72 6 rfl rfl)
theorem dL_law_1872 : decode cL_law 1872 = .ok (.i2l, 1) := dk_133 (dk_at dksL_law_72 8 rfl rfl)
theorem dL_law_1873 : decode cL_law 1873 = .ok (.lcmp, 1) := dk_148 (dk_at dksL_law_72 9 rfl rfl)
theorem dL_law_1874 : decode cL_law 1874 = .ok (.ifCond .eq 5, 3) := dk_153 0 5 (dk_at dksL_law_72 10 rfl rfl)
theorem dL_law_1877 : decode cL_law 1877 = .ok (.iconst 0, 1) := dk_3 (dk_at dksL_law_72 13 rfl rfl)
theorem dL_law_1878 : decode cL_law 1878 = .ok (.ireturn, 1) := dk_172 (dk_at dksL_law_72 14 rfl rfl)
theorem dL_law_1879 : decode cL_law 1879 = .ok (.goto 1336, 3) := dk_167 5 56 (dk_at dksL_law_72 15 rfl rfl)
theorem dL_law_1882 : decode cL_law 1882 = .ok (.aload_n 1, 1) := dk_43 (dk_at dksL_law_72 18 rfl rfl)
theorem dL_law_1883 : decode cL_law 1883 = .ok (.aload_n 0, 1) := dk_42 (dk_at dksL_law_72 19 rfl rfl)
theorem dL_law_1884 : decode cL_law 1884 = .ok (.iload 5, 2) := dk_21 5 (dk_at dksL_law_72 20 rfl rfl)
theorem dL_law_1886 : decode cL_law 1886 = .ok (.iconst 1, 1) := dk_4 (dk_at dksL_law_72 22 rfl rfl)
theorem dL_law_1887 : decode cL_law 1887 = .ok (.iadd, 1) := dk_96 (dk_at dksL_law_72 23 rfl rfl)
theorem dL_law_1888 : decode cL_law 1888 = .ok (.iaload, 1) := dk_46 (dk_at dksL_law_73 0 rfl rfl)
theorem dL_law_1889 : decode cL_law 1889 = .ok (.aload_n 3, 1) := dk_45 (dk_at dksL_law_73 1 rfl rfl)
theorem dL_law_1890 : decode cL_law 1890 = .ok (.invokestatic 269, 3) := dk_184 1 13 (dk_at dksL_law_73 2 rfl rfl)
theorem dL_law_1893 : decode cL_law 1893 = .ok (.istore 6, 2) := dk_54 6 (dk_at dksL_law_73 5 rfl rfl)
theorem dL_law_1895 : decode cL_law 1895 = .ok (.aload_n 2, 1) := dk_44 (dk_at dksL_law_73 7 rfl rfl)
theorem dL_law_1896 : decode cL_law 1896 = .ok (.aload_n 0, 1) := dk_42 (dk_at dksL_law_73 8 rfl rfl)
theorem dL_law_1897 : decode cL_law 1897 = .ok (.iload 5, 2) := dk_21 5 (dk_at dksL_law_73 9 rfl rfl)
theorem dL_law_1899 : decode cL_law 1899 = .ok (.iconst 1, 1) := dk_4 (dk_at dksL_law_73 11 rfl rfl)
theorem dL_law_1900 : decode cL_law 1900 = .ok (.iadd, 1) := dk_96 (dk_at dksL_law_73 12 rfl rfl)
theorem dL_law_1901 : decode cL_law 1901 = .ok (.iaload, 1) := dk_46 (dk_at dksL_law_73 13 rfl rfl)
theorem dL_law_1902 : decode cL_law 1902 = .ok (.invokevirtual 271, 3) := dk_182 1 15 (dk_at dksL_law_73 14 rfl rfl)
theorem dL_law_1905 : decode cL_law 1905 = .ok (.istore 7, 2) := dk_54 7 (dk_at dksL_law_73 17 rfl rfl)
theorem dL_law_1907 : decode cL_law 1907 = .ok (.aload_n 2, 1) := dk_44 (dk_at dksL_law_73 19 rfl rfl)
theorem dL_law_1908 : decode cL_law 1908 = .ok (.invokevirtual 170, 3) := dk_182 0 170 (dk_at dksL_law_73 20 rfl rfl)
theorem dL_law_1911 : decode cL_law 1911 = .ok (.iload 6, 2) := dk_21 6 (dk_at dksL_law_74 0 rfl rfl)
theorem dL_law_1913 : decode cL_law 1913 = .ok (.if_icmp .eq 5, 3) := dk_159 0 5 (dk_at dksL_law_74 2 rfl rfl)
theorem dL_law_1916 : decode cL_law 1916 = .ok (.iconst 0, 1) := dk_3 (dk_at dksL_law_74 5 rfl rfl)
theorem dL_law_1917 : decode cL_law 1917 = .ok (.ireturn, 1) := dk_172 (dk_at dksL_law_74 6 rfl rfl)
theorem dL_law_1918 : decode cL_law 1918 = .ok (.iload 6, 2) := dk_21 6 (dk_at dksL_law_74 7 rfl rfl)
theorem dL_law_1920 : decode cL_law 1920 = .ok (.ifCond .ne 22, 3) := dk_154 0 22 (dk_at dksL_law_74 9 rfl rfl)
theorem dL_law_1923 : decode cL_law 1923 = .ok (.aload_n 3, 1) := dk_45 (dk_at dksL_law_74 12 rfl rfl)
theorem dL_law_1924 : decode cL_law 1924 = .ok (.iconst 0, 1) := dk_3 (dk_at dksL_law_74 13 rfl rfl)
theorem dL_law_1925 : decode cL_law 1925 = .ok (.laload, 1) := dk_47 (dk_at dksL_law_74 14 rfl rfl)
theorem dL_law_1926 : decode cL_law 1926 = .ok (.iload 7, 2) := dk_21 7 (dk_at dksL_law_74 15 rfl rfl)
theorem dL_law_1928 : decode cL_law 1928 = .ok (.ifCond .eq 7, 3) := dk_153 0 7 (dk_at dksL_law_74 17 rfl rfl)
theorem dL_law_1931 : decode cL_law 1931 = .ok (.lconst 1, 1) := dk_10 (dk_at dksL_law_74 20 rfl rfl)
theorem dL_law_1932 : decode cL_law 1932 = .ok (.goto 4, 3) := dk_167 0 4 (dk_at dksL_law_74 21 rfl rfl)
theorem dL_law_1935 : decode cL_law 1935 = .ok (.lconst 0, 1) := dk_9 (dk_at dksL_law_75 0 rfl rfl)
theorem dL_law_1936 : decode cL_law 1936 = .ok (.lcmp, 1) := dk_148 (dk_at dksL_law_75 1 rfl rfl)
theorem dL_law_1937 : decode cL_law 1937 = .ok (.ifCond .eq 5, 3) := dk_153 0 5 (dk_at dksL_law_75 2 rfl rfl)
theorem dL_law_1940 : decode cL_law 1940 = .ok (.iconst 0, 1) := dk_3 (dk_at dksL_law_75 5 rfl rfl)
theorem dL_law_1941 : decode cL_law 1941 = .ok (.ireturn, 1) := dk_172 (dk_at dksL_law_75 6 rfl rfl)
theorem dL_law_1942 : decode cL_law 1942 = .ok (.goto 1273, 3) := dk_167 4 249 (dk_at dksL_law_75 7 rfl rfl)
theorem dL_law_1945 : decode cL_law 1945 = .ok (.aload_n 1, 1) := dk_43 (dk_at dksL_law_75 10 rfl rfl)
theorem dL_law_1946 : decode cL_law 1946 = .ok (.aload_n 0, 1) := dk_42 (dk_at dksL_law_75 11 rfl rfl)
theorem dL_law_1947 : decode cL_law 1947 = .ok (.iload 5, 2) := dk_21 5 (dk_at dksL_law_75 12 rfl rfl)
theorem dL_law_1949 : decode cL_law 1949 = .ok (.iconst 1, 1) := dk_4 (dk_at dksL_law_75 14 rfl rfl)
theorem dL_law_1950 : decode cL_law 1950 = .ok (.iadd, 1) := dk_96 (dk_at dksL_law_75 15 rfl rfl)
theorem dL_law_1951 : decode cL_law 1951 = .ok (.iaload, 1) := dk_46 (dk_at dksL_law_75 16 rfl rfl)
theorem dL_law_1952 : decode cL_law 1952 = .ok (.aload_n 0, 1) := dk_42 (dk_at dksL_law_75 17 rfl rfl)
theorem dL_law_1953 : decode cL_law 1953 = .ok (.iload 5, 2) := dk_21 5 (dk_at dksL_law_75 18 rfl rfl)
theorem dL_law_1955 : decode cL_law 1955 = .ok (.iconst 2, 1) := dk_5 (dk_at dksL_law_75 20 rfl rfl)
theorem dL_law_1956 : decode cL_law 1956 = .ok (.iadd, 1) := dk_96 (dk_at dksL_law_75 21 rfl rfl)
theorem dL_law_1957 : decode cL_law 1957 = .ok (.iaload, 1) := dk_46 (dk_at dksL_law_75 22 rfl rfl)
theorem dL_law_1958 : decode cL_law 1958 = .ok (.aload_n 3, 1) := dk_45 (dk_at dksL_law_75 23 rfl rfl)
theorem dL_law_1959 : decode cL_law 1959 = .ok (.invokestatic 272, 3) := dk_184 1 16 (dk_at dksL_law_76 0 rfl rfl)
theorem dL_law_1962 : decode cL_law 1962 = .ok (.istore 6, 2) := dk_54 6 (dk_at dksL_law_76 3 rfl rfl)
theorem dL_law_1964 : decode cL_law 1964 = .ok (.aload_n 2, 1) := dk_44 (dk_at dksL_law_76 5 rfl rfl)
theorem dL_law_1965 : decode cL_law 1965 = .ok (.aload_n 0, 1) := dk_42 (dk_at dksL_law_76 6 rfl rfl)
theorem dL_law_1966 : decode cL_law 1966 = .ok (.iload 5, 2) := dk_21 5 (dk_at dksL_law_76 7 rfl rfl)
theorem dL_law_1968 : decode cL_law 1968 = .ok (.iconst 1, 1) := dk_4 (dk_at dksL_law_76 9 rfl rfl)
theorem dL_law_1969 : decode cL_law 1969 = .ok (.iadd, 1) := dk_96 (dk_at dksL_law_76 10 rfl rfl)
theorem dL_law_1970 : decode cL_law 1970 = .ok (.iaload, 1) := dk_46 (dk_at dksL_law_76 11 rfl rfl)
theorem dL_law_1971 : decode cL_law 1971 = .ok (.aload_n 0, 1) := dk_42 (dk_at dksL_law_76 12 rfl rfl)
theorem dL_law_1972 : decode cL_law 1972 = .ok (.iload 5, 2) := dk_21 5 (dk_at dksL_law_76 13 rfl rfl)
theorem dL_law_1974 : decode cL_law 1974 = .ok (.iconst 2, 1) := dk_5 (dk_at dksL_law_76 15 rfl rfl)
theorem dL_law_1975 : decode cL_law 1975 = .ok (.iadd, 1) := dk_96 (dk_at dksL_law_76 16 rfl rfl)
theorem dL_law_1976 : decode cL_law 1976 = .ok (.iaload, 1) := dk_46 (dk_at dksL_law_76 17 rfl rfl)
theorem dL_law_1977 : decode cL_law 1977 = .ok (.invokevirtual 274, 3) := dk_182 1 18 (dk_at dksL_law_76 18 rfl rfl)
theorem dL_law_1980 : decode cL_law 1980 = .ok (.istore 7, 2) := dk_54 7 (dk_at dksL_law_76 21 rfl rfl)
theorem dL_law_1982 : decode cL_law 1982 = .ok (.aload_n 2, 1) := dk_44 (dk_at dksL_law_76 23 rfl rfl)
theorem dL_law_1983 : decode cL_law 1983 = .ok (.invokevirtual 170, 3) := dk_182 0 170 (dk_at dksL_law_77 0 rfl rfl)
theorem dL_law_1986 : decode cL_law 1986 = .ok (.iload 6, 2) := dk_21 6 (dk_at dksL_law_77 3 rfl rfl)
theorem dL_law_1988 : decode cL_law 1988 = .ok (.if_icmp .eq 5, 3) := dk_159 0 5 (dk_at dksL_law_77 5 rfl rfl)
theorem dL_law_1991 : decode cL_law 1991 = .ok (.iconst 0, 1) := dk_3 (dk_at dksL_law_77 8 rfl rfl)
theorem dL_law_1992 : decode cL_law 1992 = .ok (.ireturn, 1) := dk_172 (dk_at dksL_law_77 9 rfl rfl)
theorem dL_law_1993 : decode cL_law 1993 = .ok (.iload 6, 2) := dk_21 6 (dk_at dksL_law_77 10 rfl rfl)
theorem dL_law_1995 : decode cL_law 1995 = .ok (.ifCond .ne 15, 3) := dk_154 0 15 (dk_at dksL_law_77 12 rfl rfl)
theorem dL_law_1998 : decode cL_law 1998 = .ok (.aload_n 3, 1) := dk_45 (dk_at dksL_law_77 15 rfl rfl)
theorem dL_law_1999 : decode cL_law 1999 = .ok (.iconst 0, 1) := dk_3 (dk_at dksL_law_77 16 rfl rfl)
theorem dL_law_2000 : decode cL_law 2000 = .ok (.laload, 1) := dk_47 (dk_at dksL_law_77 17 rfl rfl)
theorem dL_law_2001 : decode cL_law 2001 = .ok (.iload 7, 2) := dk_21 7 (dk_at dksL_law_77 18 rfl rfl)
theorem dL_law_2003 : decode cL_law 2003 = .ok (.i2l, 1) := dk_133 (dk_at dksL_law_77 20 rfl rfl)
theorem dL_law_2004 : decode cL_law 2004 = .ok (.lcmp, 1) := dk_148 (dk_at dksL_law_77 21 rfl rfl)
theorem dL_law_2005 : decode cL_law 2005 = .ok (.ifCond .eq 5, 3) := dk_153 0 5 (dk_at dksL_law_78 0 rfl rfl)
theorem dL_law_2008 : decode cL_law 2008 = .ok (.iconst 0, 1) := dk_3 (dk_at dksL_law_78 3 rfl rfl)
theorem dL_law_2009 : decode cL_law 2009 = .ok (.ireturn, 1) := dk_172 (dk_at dksL_law_78 4 rfl rfl)
theorem dL_law_2010 : decode cL_law 2010 = .ok (.goto 1205, 3) := dk_167 4 181 (dk_at dksL_law_78 5 rfl rfl)
theorem dL_law_2013 : decode cL_law 2013 = .ok (.aload_n 1, 1) := dk_43 (dk_at dksL_law_78 8 rfl rfl)
theorem dL_law_2014 : decode cL_law 2014 = .ok (.aload_n 0, 1) := dk_42 (dk_at dksL_law_78 9 rfl rfl)
theorem dL_law_2015 : decode cL_law 2015 = .ok (.iload 5, 2) := dk_21 5 (dk_at dksL_law_78 10 rfl rfl)
theorem dL_law_2017 : decode cL_law 2017 = .ok (.iconst 1, 1) := dk_4 (dk_at dksL_law_78 12 rfl rfl)
theorem dL_law_2018 : decode cL_law 2018 = .ok (.iadd, 1) := dk_96 (dk_at dksL_law_78 13 rfl rfl)
theorem dL_law_2019 : decode cL_law 2019 = .ok (.iaload, 1) := dk_46 (dk_at dksL_law_78 14 rfl rfl)
theorem dL_law_2020 : decode cL_law 2020 = .ok (.aload_n 0, 1) := dk_42 (dk_at dksL_law_78 15 rfl rfl)
theorem dL_law_2021 : decode cL_law 2021 = .ok (.iload 5, 2) := dk_21 5 (dk_at dksL_law_78 16 rfl rfl)
theorem dL_law_2023 : decode cL_law 2023 = .ok (.iconst 2, 1) := dk_5 (dk_at dksL_law_78 18 rfl rfl)
theorem dL_law_2024 : decode cL_law 2024 = .ok (.iadd, 1) := dk_96 (dk_at dksL_law_78 19 rfl rfl)
theorem dL_law_2025 : decode cL_law 2025 = .ok (.iaload, 1) := dk_46 (dk_at dksL_law_78 20 rfl rfl)
theorem dL_law_2026 : decode cL_law 2026 = .ok (.aload_n 3, 1) := dk_45 (dk_at dksL_law_78 21 rfl rfl)
theorem dL_law_2027 : decode cL_law 2027 = .ok (.invokestatic 275, 3) := dk_184 1 19 (dk_at dksL_law_79 0 rfl rfl)
theorem dL_law_2030 : decode cL_law 2030 = .ok (.istore 6, 2) := dk_54 6 (dk_at dksL_law_79 3 rfl rfl)
theorem dL_law_2032 : decode cL_law 2032 = .ok (.aload_n 2, 1) := dk_44 (dk_at dksL_law_79 5 rfl rfl)
theorem dL_law_2033 : decode cL_law 2033 = .ok (.aload_n 0, 1) := dk_42 (dk_at dksL_law_79 6 rfl rfl)
theorem dL_law_2034 : decode cL_law 2034 = .ok (.iload 5, 2) := dk_21 5 (dk_at dksL_law_79 7 rfl rfl)
theorem dL_law_2036 : decode cL_law 2036 = .ok (.iconst 1, 1) := dk_4 (dk_at dksL_law_79 9 rfl rfl)
theorem dL_law_2037 : decode cL_law 2037 = .ok (.iadd, 1) := dk_96 (dk_at dksL_law_79 10 rfl rfl)
theorem dL_law_2038 : decode cL_law 2038 = .ok (.iaload, 1) := dk_46 (dk_at dksL_law_79 11 rfl rfl)
theorem dL_law_2039 : decode cL_law 2039 = .ok (.aload_n 0, 1) := dk_42 (dk_at dksL_law_79 12 rfl rfl)
theorem dL_law_2040 : decode cL_law 2040 = .ok (.iload 5, 2) := dk_21 5 (dk_at dksL_law_79 13 rfl rfl)
theorem dL_law_2042 : decode cL_law 2042 = .ok (.iconst 2, 1) := dk_5 (dk_at dksL_law_79 15 rfl rfl)
theorem dL_law_2043 : decode cL_law 2043 = .ok (.iadd, 1) := dk_96 (dk_at dksL_law_79 16 rfl rfl)
theorem dL_law_2044 : decode cL_law 2044 = .ok (.iaload, 1) := dk_46 (dk_at dksL_law_79 17 rfl rfl)
theorem dL_law_2045 : decode cL_law 2045 = .ok (.invokevirtual 277, 3) := dk_182 1 21 (dk_at dksL_law_79 18 rfl rfl)
theorem dL_law_2048 : decode cL_law 2048 = .ok (.istore 7, 2) := dk_54 7 (dk_at dksL_law_79 21 rfl rfl)
theorem dL_law_2050 : decode cL_law 2050 = .ok (.aload_n 2, 1) := dk_44 (dk_at dksL_law_79 23 rfl rfl)
theorem dL_law_2051 : decode cL_law 2051 = .ok (.invokevirtual 170, 3) := dk_182 0 170 (dk_at dksL_law_80 0 rfl rfl)
theorem dL_law_2054 : decode cL_law 2054 = .ok (.iload 6, 2) := dk_21 6 (dk_at dksL_law_80 3 rfl rfl)
theorem dL_law_2056 : decode cL_law 2056 = .ok (.if_icmp .eq 5, 3) := dk_159 0 5 (dk_at dksL_law_80 5 rfl rfl)
theorem dL_law_2059 : decode cL_law 2059 = .ok (.iconst 0, 1) := dk_3 (dk_at dksL_law_80 8 rfl rfl)
theorem dL_law_2060 : decode cL_law 2060 = .ok (.ireturn, 1) := dk_172 (dk_at dksL_law_80 9 rfl rfl)
theorem dL_law_2061 : decode cL_law 2061 = .ok (.iload 6, 2) := dk_21 6 (dk_at dksL_law_80 10 rfl rfl)
theorem dL_law_2063 : decode cL_law 2063 = .ok (.ifCond .ne 15, 3) := dk_154 0 15 (dk_at dksL_law_80 12 rfl rfl)
theorem dL_law_2066 : decode cL_law 2066 = .ok (.aload_n 3, 1) := dk_45 (dk_at dksL_law_80 15 rfl rfl)
theorem dL_law_2067 : decode cL_law 2067 = .ok (.iconst 0, 1) := dk_3 (dk_at dksL_law_80 16 rfl rfl)
theorem dL_law_2068 : decode cL_law 2068 = .ok (.laload, 1) := dk_47 (dk_at dksL_law_80 17 rfl rfl)
theorem dL_law_2069 : decode cL_law 2069 = .ok (.iload 7, 2) := dk_21 7 (dk_at dksL_law_80 18 rfl rfl)
theorem dL_law_2071 : decode cL_law 2071 = .ok (.i2l, 1) := dk_133 (dk_at dksL_law_80 20 rfl rfl)
theorem dL_law_2072 : decode cL_law 2072 = .ok (.lcmp, 1) := dk_148 (dk_at dksL_law_80 21 rfl rfl)
theorem dL_law_2073 : decode cL_law 2073 = .ok (.ifCond .eq 5, 3) := dk_153 0 5 (dk_at dksL_law_81 0 rfl rfl)
theorem dL_law_2076 : decode cL_law 2076 = .ok (.iconst 0, 1) := dk_3 (dk_at dksL_law_81 3 rfl rfl)
theorem dL_law_2077 : decode cL_law 2077 = .ok (.ireturn, 1) := dk_172 (dk_at dksL_law_81 4 rfl rfl)
theorem dL_law_2078 : decode cL_law 2078 = .ok (.goto 1137, 3) := dk_167 4 113 (dk_at dksL_law_81 5 rfl rfl)
theorem dL_law_2081 : decode cL_law 2081 = .ok (.aload_n 1, 1) := dk_43 (dk_at dksL_law_81 8 rfl rfl)
theorem dL_law_2082 : decode cL_law 2082 = .ok (.aload_n 0, 1) := dk_42 (dk_at dksL_law_81 9 rfl rfl)
theorem dL_law_2083 : decode cL_law 2083 = .ok (.iload 5, 2) := dk_21 5 (dk_at dksL_law_81 10 rfl rfl)
theorem dL_law_2085 : decode cL_law 2085 = .ok (.iconst 1, 1) := dk_4 (dk_at dksL_law_81 12 rfl rfl)
theorem dL_law_2086 : decode cL_law 2086 = .ok (.iadd, 1) := dk_96 (dk_at dksL_law_81 13 rfl rfl)
theorem dL_law_2087 : decode cL_law 2087 = .ok (.iaload, 1) := dk_46 (dk_at dksL_law_81 14 rfl rfl)
theorem dL_law_2088 : decode cL_law 2088 = .ok (.aload_n 3, 1) := dk_45 (dk_at dksL_law_81 15 rfl rfl)
theorem dL_law_2089 : decode cL_law 2089 = .ok (.invokestatic 278, 3) := dk_184 1 22 (dk_at dksL_law_81 16 rfl rfl)
theorem dL_law_2092 : decode cL_law 2092 = .ok (.istore 6, 2) := dk_54 6 (dk_at dksL_law_81 19 rfl rfl)
theorem dL_law_2094 : decode cL_law 2094 = .ok (.aload_n 2, 1) := dk_44 (dk_at dksL_law_81 21 rfl rfl)
theorem dL_law_2095 : decode cL_law 2095 = .ok (.aload_n 0, 1) := dk_42 (dk_at dksL_law_81 22 rfl rfl)
theorem dL_law_2096 : decode cL_law 2096 = .ok (.iload 5, 2) := dk_21 5 (dk_at dksL_law_82 0 rfl rfl)
theorem dL_law_2098 : decode cL_law 2098 = .ok (.iconst 1, 1) := dk_4 (dk_at dksL_law_82 2 rfl rfl)
theorem dL_law_2099 : decode cL_law 2099 = .ok (.iadd, 1) := dk_96 (dk_at dksL_law_82 3 rfl rfl)
theorem dL_law_2100 : decode cL_law 2100 = .ok (.iaload, 1) := dk_46 (dk_at dksL_law_82 4 rfl rfl)
theorem dL_law_2101 : decode cL_law 2101 = .ok (.invokevirtual 280, 3) := dk_182 1 24 (dk_at dksL_law_82 5 rfl rfl)
theorem dL_law_2104 : decode cL_law 2104 = .ok (.istore 7, 2) := dk_54 7 (dk_at dksL_law_82 8 rfl rfl)
theorem dL_law_2106 : decode cL_law 2106 = .ok (.aload_n 2, 1) := dk_44 (dk_at dksL_law_82 10 rfl rfl)
theorem dL_law_2107 : decode cL_law 2107 = .ok (.invokevirtual 170, 3) := dk_182 0 170 (dk_at dksL_law_82 11 rfl rfl)
theorem dL_law_2110 : decode cL_law 2110 = .ok (.iload 6, 2) := dk_21 6 (dk_at dksL_law_82 14 rfl rfl)
theorem dL_law_2112 : decode cL_law 2112 = .ok (.if_icmp .eq 5, 3) := dk_159 0 5 (dk_at dksL_law_82 16 rfl rfl)
theorem dL_law_2115 : decode cL_law 2115 = .ok (.iconst 0, 1) := dk_3 (dk_at dksL_law_82 19 rfl rfl)
theorem dL_law_2116 : decode cL_law 2116 = .ok (.ireturn, 1) := dk_172 (dk_at dksL_law_82 20 rfl rfl)
theorem dL_law_2117 : decode cL_law 2117 = .ok (.iload 6, 2) := dk_21 6 (dk_at dksL_law_82 21 rfl rfl)
theorem dL_law_2119 : decode cL_law 2119 = .ok (.ifCond .ne 15, 3) := dk_154 0 15 (dk_at dksL_law_83 0 rfl rfl)
theorem dL_law_2122 : decode cL_law 2122 = .ok (.aload_n 3, 1) := dk_45 (dk_at dksL_law_83 3 rfl rfl)
theorem dL_law_2123 : decode cL_law 2123 = .ok (.iconst 0, 1) := dk_3 (dk_at dksL_law_83 4 rfl rfl)
theorem dL_law_2124 : decode cL_law 2124 = .ok (.laload, 1) := dk_47 (dk_at dksL_law_83 5 rfl rfl)
theorem dL_law_2125 : decode cL_law 2125 = .ok (.iload 7, 2) := dk_21 7 (dk_at dksL_law_83 6 rfl rfl)
theorem dL_law_2127 : decode cL_law 2127 = .ok (.i2l, 1) := dk_133 (dk_at dksL_law_83 8 rfl rfl)
theorem dL_law_2128 : decode cL_law 2128 = .ok (.lcmp, 1) := dk_148 (dk_at dksL_law_83 9 rfl rfl)
theorem dL_law_2129 : decode cL_law 2129 = .ok (.ifCond .eq 5, 3) := dk_153 0 5 (dk_at dksL_law_83 10 rfl rfl)
theorem dL_law_2132 : decode cL_law 2132 = .ok (.iconst 0, 1) := dk_3 (dk_at dksL_law_83 13 rfl rfl)
theorem dL_law_2133 : decode cL_law 2133 = .ok (.ireturn, 1) := dk_172 (dk_at dksL_law_83 14 rfl rfl)
theorem dL_law_2134 : decode cL_law 2134 = .ok (.goto 1081, 3) := dk_167 4 57 (dk_at dksL_law_83 15 rfl rfl)
theorem dL_law_2137 : decode cL_law 2137 = .ok (.aload_n 1, 1) := dk_43 (dk_at dksL_law_83 18 rfl rfl)
theorem dL_law_2138 : decode cL_law 2138 = .ok (.aload_n 0, 1) := dk_42 (dk_at dksL_law_83 19 rfl rfl)
theorem dL_law_2139 : decode cL_law 2139 = .ok (.iload 5, 2) := dk_21 5 (dk_at dksL_law_83 20 rfl rfl)
theorem dL_law_2141 : decode cL_law 2141 = .ok (.iconst 1, 1) := dk_4 (dk_at dksL_law_83 22 rfl rfl)
theorem dL_law_2142 : decode cL_law 2142 = .ok (.iadd, 1) := dk_96 (dk_at dksL_law_83 23 rfl rfl)
theorem dL_law_2143 : decode cL_law 2143 = .ok (.iaload, 1) := dk_46 (dk_at dksL_law_84 0 rfl rfl)
theorem dL_law_2144 : decode cL_law 2144 = .ok (.aload_n 3, 1) := dk_45 (dk_at dksL_law_84 1 rfl rfl)
theorem dL_law_2145 : decode cL_law 2145 = .ok (.invokestatic 281, 3) := dk_184 1 25 (dk_at dksL_law_84 2 rfl rfl)
theorem dL_law_2148 : decode cL_law 2148 = .ok (.istore 6, 2) := dk_54 6 (dk_at dksL_law_84 5 rfl rfl)
theorem dL_law_2150 : decode cL_law 2150 = .ok (.aload_n 2, 1) := dk_44 (dk_at dksL_law_84 7 rfl rfl)
theorem dL_law_2151 : decode cL_law 2151 = .ok (.aload_n 0, 1) := dk_42 (dk_at dksL_law_84 8 rfl rfl)
theorem dL_law_2152 : decode cL_law 2152 = .ok (.iload 5, 2) := dk_21 5 (dk_at dksL_law_84 9 rfl rfl)
theorem dL_law_2154 : decode cL_law 2154 = .ok (.iconst 1, 1) := dk_4 (dk_at dksL_law_84 11 rfl rfl)
theorem dL_law_2155 : decode cL_law 2155 = .ok (.iadd, 1) := dk_96 (dk_at dksL_law_84 12 rfl rfl)
theorem dL_law_2156 : decode cL_law 2156 = .ok (.iaload, 1) := dk_46 (dk_at dksL_law_84 13 rfl rfl)
theorem dL_law_2157 : decode cL_law 2157 = .ok (.invokevirtual 283, 3) := dk_182 1 27 (dk_at dksL_law_84 14 rfl rfl)
theorem dL_law_2160 : decode cL_law 2160 = .ok (.istore 7, 2) := dk_54 7 (dk_at dksL_law_84 17 rfl rfl)
theorem dL_law_2162 : decode cL_law 2162 = .ok (.aload_n 2, 1) := dk_44 (dk_at dksL_law_84 19 rfl rfl)
theorem dL_law_2163 : decode cL_law 2163 = .ok (.invokevirtual 170, 3) := dk_182 0 170 (dk_at dksL_law_84 20 rfl rfl)
theorem dL_law_2166 : decode cL_law 2166 = .ok (.iload 6, 2) := dk_21 6 (dk_at dksL_law_85 0 rfl rfl)
theorem dL_law_2168 : decode cL_law 2168 = .ok (.if_icmp .eq 5, 3) := dk_159 0 5 (dk_at dksL_law_85 2 rfl rfl)
theorem dL_law_2171 : decode cL_law 2171 = .ok (.iconst 0, 1) := dk_3 (dk_at dksL_law_85 5 rfl rfl)
theorem dL_law_2172 : decode cL_law 2172 = .ok (.ireturn, 1) := dk_172 (dk_at dksL_law_85 6 rfl rfl)
theorem dL_law_2173 : decode cL_law 2173 = .ok (.iload 6, 2) := dk_21 6 (dk_at dksL_law_85 7 rfl rfl)
theorem dL_law_2175 : decode cL_law 2175 = .ok (.ifCond .ne 15, 3) := dk_154 0 15 (dk_at dksL_law_85 9 rfl rfl)
theorem dL_law_2178 : decode cL_law 2178 = .ok (.aload_n 3, 1) := dk_45 (dk_at dksL_law_85 12 rfl rfl)
theorem dL_law_2179 : decode cL_law 2179 = .ok (.iconst 0, 1) := dk_3 (dk_at dksL_law_85 13 rfl rfl)
theorem dL_law_2180 : decode cL_law 2180 = .ok (.laload, 1) := dk_47 (dk_at dksL_law_85 14 rfl rfl)
theorem dL_law_2181 : decode cL_law 2181 = .ok (.iload 7, 2) := dk_21 7 (dk_at dksL_law_85 15 rfl rfl)
theorem dL_law_2183 : decode cL_law 2183 = .ok (.i2l, 1) := dk_133 (dk_at dksL_law_85 17 rfl rfl)
theorem dL_law_2184 : decode cL_law 2184 = .ok (.lcmp, 1) := dk_148 (dk_at dksL_law_85 18 rfl rfl)
theorem dL_law_2185 : decode cL_law 2185 = .ok (.ifCond .eq 5, 3) := dk_153 0 5 (dk_at dksL_law_85 19 rfl rfl)
theorem dL_law_2188 : decode cL_law 2188 = .ok (.iconst 0, 1) := dk_3 (dk_at dksL_law_85 22 rfl rfl)
theorem dL_law_2189 : decode cL_law 2189 = .ok (.ireturn, 1) := dk_172 (dk_at dksL_law_85 23 rfl rfl)
theorem dL_law_2190 : decode cL_law 2190 = .ok (.goto 1025, 3) := dk_167 4 1 (dk_at dksL_law_86 0 rfl rfl)
theorem dL_law_2193 : decode cL_law 2193 = .ok (.aload_n 1, 1) := dk_43 (dk_at dksL_law_86 3 rfl rfl)
theorem dL_law_2194 : decode cL_law 2194 = .ok (.aload_n 0, 1) := dk_42 (dk_at dksL_law_86 4 rfl rfl)
theorem dL_law_2195 : decode cL_law 2195 = .ok (.iload 5, 2) := dk_21 5 (dk_at dksL_law_86 5 rfl rfl)
theorem dL_law_2197 : decode cL_law 2197 = .ok (.iconst 1, 1) := dk_4 (dk_at dksL_law_86 7 rfl rfl)
theorem dL_law_2198 : decode cL_law 2198 = .ok (.iadd, 1) := dk_96 (dk_at dksL_law_86 8 rfl rfl)
theorem dL_law_2199 : decode cL_law 2199 = .ok (.iaload, 1) := dk_46 (dk_at dksL_law_86 9 rfl rfl)
theorem dL_law_2200 : decode cL_law 2200 = .ok (.aload_n 0, 1) := dk_42 (dk_at dksL_law_86 10 rfl rfl)
theorem dL_law_2201 : decode cL_law 2201 = .ok (.iload 5, 2) := dk_21 5 (dk_at dksL_law_86 11 rfl rfl)
theorem dL_law_2203 : decode cL_law 2203 = .ok (.iconst 2, 1) := dk_5 (dk_at dksL_law_86 13 rfl rfl)
theorem dL_law_2204 : decode cL_law 2204 = .ok (.iadd, 1) := dk_96 (dk_at dksL_law_86 14 rfl rfl)
theorem dL_law_2205 : decode cL_law 2205 = .ok (.iaload, 1) := dk_46 (dk_at dksL_law_86 15 rfl rfl)
theorem dL_law_2206 : decode cL_law 2206 = .ok (.aload_n 3, 1) := dk_45 (dk_at dksL_law_86 16 rfl rfl)
theorem dL_law_2207 : decode cL_law 2207 = .ok (.invokestatic 284, 3) := dk_184 1 28 (dk_at dksL_law_86 17 rfl rfl)
theorem dL_law_2210 : decode cL_law 2210 = .ok (.istore 6, 2) := dk_54 6 (dk_at dksL_law_86 20 rfl rfl)
theorem dL_law_2212 : decode cL_law 2212 = .ok (.aload_n 2, 1) := dk_44 (dk_at dksL_law_86 22 rfl rfl)
theorem dL_law_2213 : decode cL_law 2213 = .ok (.aload_n 0, 1) := dk_42 (dk_at dksL_law_86 23 rfl rfl)
theorem dL_law_2214 : decode cL_law 2214 = .ok (.iload 5, 2) := dk_21 5 (dk_at dksL_law_87 0 rfl rfl)
theorem dL_law_2216 : decode cL_law 2216 = .ok (.iconst 1, 1) := dk_4 (dk_at dksL_law_87 2 rfl rfl)
theorem dL_law_2217 : decode cL_law 2217 = .ok (.iadd, 1) := dk_96 (dk_at dksL_law_87 3 rfl rfl)
theorem dL_law_2218 : decode cL_law 2218 = .ok (.iaload, 1) := dk_46 (dk_at dksL_law_87 4 rfl rfl)
theorem dL_law_2219 : decode cL_law 2219 = .ok (.aload_n 0, 1) := dk_42 (dk_at dksL_law_87 5 rfl rfl)
theorem dL_law_2220 : decode cL_law 2220 = .ok (.iload 5, 2) := dk_21 5 (dk_at dksL_law_87 6 rfl rfl)
theorem dL_law_2222 : decode cL_law 2222 = .ok (.iconst 2, 1) := dk_5 (dk_at dksL_law_87 8 rfl rfl)
theorem dL_law_2223 : decode cL_law 2223 = .ok (.iadd, 1) := dk_96 (dk_at dksL_law_87 9 rfl rfl)
theorem dL_law_2224 : decode cL_law 2224 = .ok (.iaload, 1) := dk_46 (dk_at dksL_law_87 10 rfl rfl)
theorem dL_law_2225 : decode cL_law 2225 = .ok (.invokevirtual 286, 3) := dk_182 1 30 (dk_at dksL_law_87 11 rfl rfl)
theorem dL_law_2228 : decode cL_law 2228 = .ok (.istore 7, 2) := dk_54 7 (dk_at dksL_law_87 14 rfl rfl)
theorem dL_law_2230 : decode cL_law 2230 = .ok (.aload_n 2, 1) := dk_44 (dk_at dksL_law_87 16 rfl rfl)
theorem dL_law_2231 : decode cL_law 2231 = .ok (.invokevirtual 170, 3) := dk_182 0 170 (dk_at dksL_law_87 17 rfl rfl)
theorem dL_law_2234 : decode cL_law 2234 = .ok (.iload 6, 2) := dk_21 6 (dk_at dksL_law_87 20 rfl rfl)
theorem dL_law_2236 : decode cL_law 2236 = .ok (.if_icmp .eq 5, 3) := dk_159 0 5 (dk_at dksL_law_88 0 rfl rfl)
theorem dL_law_2239 : decode cL_law 2239 = .ok (.iconst 0, 1) := dk_3 (dk_at dksL_law_88 3 rfl rfl)
theorem dL_law_2240 : decode cL_law 2240 = .ok (.ireturn, 1) := dk_172 (dk_at dksL_law_88 4 rfl rfl)
theorem dL_law_2241 : decode cL_law 2241 = .ok (.iload 6, 2) := dk_21 6 (dk_at dksL_law_88 5 rfl rfl)
theorem dL_law_2243 : decode cL_law 2243 = .ok (.ifCond .ne 15, 3) := dk_154 0 15 (dk_at dksL_law_88 7 rfl rfl)
theorem dL_law_2246 : decode cL_law 2246 = .ok (.aload_n 3, 1) := dk_45 (dk_at dksL_law_88 10 rfl rfl)
theorem dL_law_2247 : decode cL_law 2247 = .ok (.iconst 0, 1) := dk_3 (dk_at dksL_law_88 11 rfl rfl)
theorem dL_law_2248 : decode cL_law 2248 = .ok (.laload, 1) := dk_47 (dk_at dksL_law_88 12 rfl rfl)
theorem dL_law_2249 : decode cL_law 2249 = .ok (.iload 7, 2) := dk_21 7 (dk_at dksL_law_88 13 rfl rfl)
theorem dL_law_2251 : decode cL_law 2251 = .ok (.i2l, 1) := dk_133 (dk_at dksL_law_88 15 rfl rfl)
theorem dL_law_2252 : decode cL_law 2252 = .ok (.lcmp, 1) := dk_148 (dk_at dksL_law_88 16 rfl rfl)
theorem dL_law_2253 : decode cL_law 2253 = .ok (.ifCond .eq 5, 3) := dk_153 0 5 (dk_at dksL_law_88 17 rfl rfl)
theorem dL_law_2256 : decode cL_law 2256 = .ok (.iconst 0, 1) := dk_3 (dk_at dksL_law_88 20 rfl rfl)
theorem dL_law_2257 : decode cL_law 2257 = .ok (.ireturn, 1) := dk_172 (dk_at dksL_law_88 21 rfl rfl)
theorem dL_law_2258 : decode cL_law 2258 = .ok (.goto 957, 3) := dk_167 3 189 (dk_at dksL_law_89 0 rfl rfl)
theorem dL_law_2261 : decode cL_law 2261 = .ok (.aload_n 1, 1) := dk_43 (dk_at dksL_law_89 3 rfl rfl)
theorem dL_law_2262 : decode cL_law 2262 = .ok (.aload_n 0, 1) := dk_42 (dk_at dksL_law_89 4 rfl rfl)
theorem dL_law_2263 : decode cL_law 2263 = .ok (.iload 5, 2) := dk_21 5 (dk_at dksL_law_89 5 rfl rfl)
theorem dL_law_2265 : decode cL_law 2265 = .ok (.iconst 1, 1) := dk_4 (dk_at dksL_law_89 7 rfl rfl)
theorem dL_law_2266 : decode cL_law 2266 = .ok (.iadd, 1) := dk_96 (dk_at dksL_law_89 8 rfl rfl)
theorem dL_law_2267 : decode cL_law 2267 = .ok (.iaload, 1) := dk_46 (dk_at dksL_law_89 9 rfl rfl)
theorem dL_law_2268 : decode cL_law 2268 = .ok (.aload_n 3, 1) := dk_45 (dk_at dksL_law_89 10 rfl rfl)
theorem dL_law_2269 : decode cL_law 2269 = .ok (.invokestatic 287, 3) := dk_184 1 31 (dk_at dksL_law_89 11 rfl rfl)
theorem dL_law_2272 : decode cL_law 2272 = .ok (.istore 6, 2) := dk_54 6 (dk_at dksL_law_89 14 rfl rfl)
theorem dL_law_2274 : decode cL_law 2274 = .ok (.aload_n 2, 1) := dk_44 (dk_at dksL_law_89 16 rfl rfl)
theorem dL_law_2275 : decode cL_law 2275 = .ok (.aload_n 0, 1) := dk_42 (dk_at dksL_law_89 17 rfl rfl)
theorem dL_law_2276 : decode cL_law 2276 = .ok (.iload 5, 2) := dk_21 5 (dk_at dksL_law_89 18 rfl rfl)
theorem dL_law_2278 : decode cL_law 2278 = .ok (.iconst 1, 1) := dk_4 (dk_at dksL_law_89 20 rfl rfl)
theorem dL_law_2279 : decode cL_law 2279 = .ok (.iadd, 1) := dk_96 (dk_at dksL_law_89 21 rfl rfl)
theorem dL_law_2280 : decode cL_law 2280 = .ok (.iaload, 1) := dk_46 (dk_at dksL_law_89 22 rfl rfl)
theorem dL_law_2281 : decode cL_law 2281 = .ok (.invokevirtual 289, 3) := dk_182 1 33 (dk_at dksL_law_90 0 rfl rfl)
theorem dL_law_2284 : decode cL_law 2284 = .ok (.istore 7, 2) := dk_54 7 (dk_at dksL_law_90 3 rfl rfl)
theorem dL_law_2286 : decode cL_law 2286 = .ok (.aload_n 2, 1) := dk_44 (dk_at dksL_law_90 5 rfl rfl)
theorem dL_law_2287 : decode cL_law 2287 = .ok (.invokevirtual 170, 3) := dk_182 0 170 (dk_at dksL_law_90 6 rfl rfl)
theorem dL_law_2290 : decode cL_law 2290 = .ok (.iload 6, 2) := dk_21 6 (dk_at dksL_law_90 9 rfl rfl)
theorem dL_law_2292 : decode cL_law 2292 = .ok (.if_icmp .eq 5, 3) := dk_159 0 5 (dk_at dksL_law_90 11 rfl rfl)
theorem dL_law_2295 : decode cL_law 2295 = .ok (.iconst 0, 1) := dk_3 (dk_at dksL_law_90 14 rfl rfl)
theorem dL_law_2296 : decode cL_law 2296 = .ok (.ireturn, 1) := dk_172 (dk_at dksL_law_90 15 rfl rfl)
theorem dL_law_2297 : decode cL_law 2297 = .ok (.iload 6, 2) := dk_21 6 (dk_at dksL_law_90 16 rfl rfl)
theorem dL_law_2299 : decode cL_law 2299 = .ok (.ifCond .ne 15, 3) := dk_154 0 15 (dk_at dksL_law_90 18 rfl rfl)
theorem dL_law_2302 : decode cL_law 2302 = .ok (.aload_n 3, 1) := dk_45 (dk_at dksL_law_90 21 rfl rfl)
theorem dL_law_2303 : decode cL_law 2303 = .ok (.iconst 0, 1) := dk_3 (dk_at dksL_law_90 22 rfl rfl)
theorem dL_law_2304 : decode cL_law 2304 = .ok (.laload, 1) := dk_47 (dk_at dksL_law_90 23 rfl rfl)
theorem dL_law_2305 : decode cL_law 2305 = .ok (.iload 7, 2) := dk_21 7 (dk_at dksL_law_91 0 rfl rfl)
theorem dL_law_2307 : decode cL_law 2307 = .ok (.i2l, 1) := dk_133 (dk_at dksL_law_91 2 rfl rfl)
theorem dL_law_2308 : decode cL_law 2308 = .ok (.lcmp, 1) := dk_148 (dk_at dksL_law_91 3 rfl rfl)
theorem dL_law_2309 : decode cL_law 2309 = .ok (.ifCond .eq 5, 3) := dk_153 0 5 (dk_at dksL_law_91 4 rfl rfl)
theorem dL_law_2312 : decode cL_law 2312 = .ok (.iconst 0, 1) := dk_3 (dk_at dksL_law_91 7 rfl rfl)
theorem dL_law_2313 : decode cL_law 2313 = .ok (.ireturn, 1) := dk_172 (dk_at dksL_law_91 8 rfl rfl)
theorem dL_law_2314 : decode cL_law 2314 = .ok (.goto 901, 3) := dk_167 3 133 (dk_at dksL_law_91 9 rfl rfl)
theorem dL_law_2317 : decode cL_law 2317 = .ok (.aload_n 1, 1) := dk_43 (dk_at dksL_law_91 12 rfl rfl)
theorem dL_law_2318 : decode cL_law 2318 = .ok (.aload_n 0, 1) := dk_42 (dk_at dksL_law_91 13 rfl rfl)
theorem dL_law_2319 : decode cL_law 2319 = .ok (.iload 5, 2) := dk_21 5 (dk_at dksL_law_91 14 rfl rfl)
theorem dL_law_2321 : decode cL_law 2321 = .ok (.iconst 1, 1) := dk_4 (dk_at dksL_law_91 16 rfl rfl)
theorem dL_law_2322 : decode cL_law 2322 = .ok (.iadd, 1) := dk_96 (dk_at dksL_law_91 17 rfl rfl)
theorem dL_law_2323 : decode cL_law 2323 = .ok (.iaload, 1) := dk_46 (dk_at dksL_law_91 18 rfl rfl)
theorem dL_law_2324 : decode cL_law 2324 = .ok (.aload_n 0, 1) := dk_42 (dk_at dksL_law_91 19 rfl rfl)
theorem dL_law_2325 : decode cL_law 2325 = .ok (.iload 5, 2) := dk_21 5 (dk_at dksL_law_91 20 rfl rfl)
theorem dL_law_2327 : decode cL_law 2327 = .ok (.iconst 2, 1) := dk_5 (dk_at dksL_law_91 22 rfl rfl)
theorem dL_law_2328 : decode cL_law 2328 = .ok (.iadd, 1) := dk_96 (dk_at dksL_law_91 23 rfl rfl)
theorem dL_law_2329 : decode cL_law 2329 = .ok (.iaload, 1) := dk_46 (dk_at dksL_law_92 0 rfl rfl)
theorem dL_law_2330 : decode cL_law 2330 = .ok (.aload_n 0, 1) := dk_42 (dk_at dksL_law_92 1 rfl rfl)
theorem dL_law_2331 : decode cL_law 2331 = .ok (.iload 5, 2) := dk_21 5 (dk_at dksL_law_92 2 rfl rfl)
theorem dL_law_2333 : decode cL_law 2333 = .ok (.iconst 3, 1) := dk_6 (dk_at dksL_law_92 4 rfl rfl)
theorem dL_law_2334 : decode cL_law 2334 = .ok (.iadd, 1) := dk_96 (dk_at dksL_law_92 5 rfl rfl)
theorem dL_law_2335 : decode cL_law 2335 = .ok (.iaload, 1) := dk_46 (dk_at dksL_law_92 6 rfl rfl)
theorem dL_law_2336 : decode cL_law 2336 = .ok (.aload_n 0, 1) := dk_42 (dk_at dksL_law_92 7 rfl rfl)
theorem dL_law_2337 : decode cL_law 2337 = .ok (.iload 5, 2) := dk_21 5 (dk_at dksL_law_92 8 rfl rfl)
theorem dL_law_2339 : decode cL_law 2339 = .ok (.iconst 4, 1) := dk_7 (dk_at dksL_law_92 10 rfl rfl)
theorem dL_law_2340 : decode cL_law 2340 = .ok (.iadd, 1) := dk_96 (dk_at dksL_law_92 11 rfl rfl)
theorem dL_law_2341 : decode cL_law 2341 = .ok (.iaload, 1) := dk_46 (dk_at dksL_law_92 12 rfl rfl)
theorem dL_law_2342 : decode cL_law 2342 = .ok (.aload_n 3, 1) := dk_45 (dk_at dksL_law_92 13 rfl rfl)
theorem dL_law_2343 : decode cL_law 2343 = .ok (.invokestatic 290, 3) := dk_184 1 34 (dk_at dksL_law_92 14 rfl rfl)
theorem dL_law_2346 : decode cL_law 2346 = .ok (.istore 6, 2) := dk_54 6 (dk_at dksL_law_92 17 rfl rfl)
theorem dL_law_2348 : decode cL_law 2348 = .ok (.aload_n 2, 1) := dk_44 (dk_at dksL_law_92 19 rfl rfl)
theorem dL_law_2349 : decode cL_law 2349 = .ok (.aload_n 0, 1) := dk_42 (dk_at dksL_law_92 20 rfl rfl)
theorem dL_law_2350 : decode cL_law 2350 = .ok (.iload 5, 2) := dk_21 5 (dk_at dksL_law_92 21 rfl rfl)
theorem dL_law_2352 : decode cL_law 2352 = .ok (.iconst 1, 1) := dk_4 (dk_at dksL_law_92 23 rfl rfl)
theorem dL_law_2353 : decode cL_law 2353 = .ok (.iadd, 1) := dk_96 (dk_at dksL_law_93 0 rfl rfl)
theorem dL_law_2354 : decode cL_law 2354 = .ok (.iaload, 1) := dk_46 (dk_at dksL_law_93 1 rfl rfl)
theorem dL_law_2355 : decode cL_law 2355 = .ok (.aload_n 0, 1) := dk_42 (dk_at dksL_law_93 2 rfl rfl)
theorem dL_law_2356 : decode cL_law 2356 = .ok (.iload 5, 2) := dk_21 5 (dk_at dksL_law_93 3 rfl rfl)
theorem dL_law_2358 : decode cL_law 2358 = .ok (.iconst 2, 1) := dk_5 (dk_at dksL_law_93 5 rfl rfl)
theorem dL_law_2359 : decode cL_law 2359 = .ok (.iadd, 1) := dk_96 (dk_at dksL_law_93 6 rfl rfl)
theorem dL_law_2360 : decode cL_law 2360 = .ok (.iaload, 1) := dk_46 (dk_at dksL_law_93 7 rfl rfl)
theorem dL_law_2361 : decode cL_law 2361 = .ok (.aload_n 0, 1) := dk_42 (dk_at dksL_law_93 8 rfl rfl)
theorem dL_law_2362 : decode cL_law 2362 = .ok (.iload 5, 2) := dk_21 5 (dk_at dksL_law_93 9 rfl rfl)
theorem dL_law_2364 : decode cL_law 2364 = .ok (.iconst 3, 1) := dk_6 (dk_at dksL_law_93 11 rfl rfl)
theorem dL_law_2365 : decode cL_law 2365 = .ok (.iadd, 1) := dk_96 (dk_at dksL_law_93 12 rfl rfl)
theorem dL_law_2366 : decode cL_law 2366 = .ok (.iaload, 1) := dk_46 (dk_at dksL_law_93 13 rfl rfl)
theorem dL_law_2367 : decode cL_law 2367 = .ok (.aload_n 0, 1) := dk_42 (dk_at dksL_law_93 14 rfl rfl)
theorem dL_law_2368 : decode cL_law 2368 = .ok (.iload 5, 2) := dk_21 5 (dk_at dksL_law_93 15 rfl rfl)
theorem dL_law_2370 : decode cL_law 2370 = .ok (.iconst 4, 1) := dk_7 (dk_at dksL_law_93 17 rfl rfl)
theorem dL_law_2371 : decode cL_law 2371 = .ok (.iadd, 1) := dk_96 (dk_at dksL_law_93 18 rfl rfl)
theorem dL_law_2372 : decode cL_law 2372 = .ok (.iaload, 1) := dk_46 (dk_at dksL_law_93 19 rfl rfl)
theorem dL_law_2373 : decode cL_law 2373 = .ok (.invokevirtual 292, 3) := dk_182 1 36 (dk_at dksL_law_93 20 rfl rfl)
theorem dL_law_2376 : decode cL_law 2376 = .ok (.istore 7, 2) := dk_54 7 (dk_at dksL_law_94 0 rfl rfl)
theorem dL_law_2378 : decode cL_law 2378 = .ok (.aload_n 2, 1) := dk_44 (dk_at dksL_law_94 2 rfl rfl)
theorem dL_law_2379 : decode cL_law 2379 = .ok (.invokevirtual 170, 3) := dk_182 0 170 (dk_at dksL_law_94 3 rfl rfl)
theorem dL_law_2382 : decode cL_law 2382 = .ok (.iload 6, 2) := dk_21 6 (dk_at dksL_law_94 6 rfl rfl)
theorem dL_law_2384 : decode cL_law 2384 = .ok (.if_icmp .eq 5, 3) := dk_159 0 5 (dk_at dksL_law_94 8 rfl rfl)
theorem dL_law_2387 : decode cL_law 2387 = .ok (.iconst 0, 1) := dk_3 (dk_at dksL_law_94 11 rfl rfl)
theorem dL_law_2388 : decode cL_law 2388 = .ok (.ireturn, 1) := dk_172 (dk_at dksL_law_94 12 rfl rfl)
theorem dL_law_2389 : decode cL_law 2389 = .ok (.iload 6, 2) := dk_21 6 (dk_at dksL_law_94 13 rfl rfl)
theorem dL_law_2391 : decode cL_law 2391 = .ok (.ifCond .ne 15, 3) := dk_154 0 15 (dk_at dksL_law_94 15 rfl rfl)
theorem dL_law_2394 : decode cL_law 2394 = .ok (.aload_n 3, 1) := dk_45 (dk_at dksL_law_94 18 rfl rfl)
theorem dL_law_2395 : decode cL_law 2395 = .ok (.iconst 0, 1) := dk_3 (dk_at dksL_law_94 19 rfl rfl)
theorem dL_law_2396 : decode cL_law 2396 = .ok (.laload, 1) := dk_47 (dk_at dksL_law_94 20 rfl rfl)
theorem dL_law_2397 : decode cL_law 2397 = .ok (.iload 7, 2) := dk_21 7 (dk_at dksL_law_94 21 rfl rfl)
theorem dL_law_2399 : decode cL_law 2399 = .ok (.i2l, 1) := dk_133 (dk_at dksL_law_94 23 rfl rfl)
theorem dL_law_2400 : decode cL_law 2400 = .ok (.lcmp, 1) := dk_148 (dk_at dksL_law_95 0 rfl rfl)
theorem dL_law_2401 : decode cL_law 2401 = .ok (.ifCond .eq 5, 3) := dk_153 0 5 (dk_at dksL_law_95 1 rfl rfl)
theorem dL_law_2404 : decode cL_law 2404 = .ok (.iconst 0, 1) := dk_3 (dk_at dksL_law_95 4 rfl rfl)
theorem dL_law_2405 : decode cL_law 2405 = .ok (.ireturn, 1) := dk_172 (dk_at dksL_law_95 5 rfl rfl)
theorem dL_law_2406 : decode cL_law 2406 = .ok (.goto 809, 3) := dk_167 3 41 (dk_at dksL_law_95 6 rfl rfl)
theorem dL_law_2409 : decode cL_law 2409 = .ok (.aload_n 1, 1) := dk_43 (dk_at dksL_law_95 9 rfl rfl)
theorem dL_law_2410 : decode cL_law 2410 = .ok (.aload_n 0, 1) := dk_42 (dk_at dksL_law_95 10 rfl rfl)
theorem dL_law_2411 : decode cL_law 2411 = .ok (.iload 5, 2) := dk_21 5 (dk_at dksL_law_95 11 rfl rfl)
theorem dL_law_2413 : decode cL_law 2413 = .ok (.iconst 1, 1) := dk_4 (dk_at dksL_law_95 13 rfl rfl)
theorem dL_law_2414 : decode cL_law 2414 = .ok (.iadd, 1) := dk_96 (dk_at dksL_law_95 14 rfl rfl)
theorem dL_law_2415 : decode cL_law 2415 = .ok (.iaload, 1) := dk_46 (dk_at dksL_law_95 15 rfl rfl)
theorem dL_law_2416 : decode cL_law 2416 = .ok (.aload_n 0, 1) := dk_42 (dk_at dksL_law_95 16 rfl rfl)
theorem dL_law_2417 : decode cL_law 2417 = .ok (.iload 5, 2) := dk_21 5 (dk_at dksL_law_95 17 rfl rfl)
theorem dL_law_2419 : decode cL_law 2419 = .ok (.iconst 2, 1) := dk_5 (dk_at dksL_law_95 19 rfl rfl)
theorem dL_law_2420 : decode cL_law 2420 = .ok (.iadd, 1) := dk_96 (dk_at dksL_law_95 20 rfl rfl)
theorem dL_law_2421 : decode cL_law 2421 = .ok (.iaload, 1) := dk_46 (dk_at dksL_law_95 21 rfl rfl)
theorem dL_law_2422 : decode cL_law 2422 = .ok (.aload_n 0, 1) := dk_42 (dk_at dksL_law_95 22 rfl rfl)
theorem dL_law_2423 : decode cL_law 2423 = .ok (.iload 5, 2) := dk_21 5 (dk_at dksL_law_96 0 rfl rfl)
theorem dL_law_2425 : decode cL_law 2425 = .ok (.iconst 3, 1) := dk_6 (dk_at dksL_law_96 2 rfl rfl)
theorem dL_law_2426 : decode cL_law 2426 = .ok (.iadd, 1) := dk_96 (dk_at dksL_law_96 3 rfl rfl)
theorem dL_law_2427 : decode cL_law 2427 = .ok (.iaload, 1) := dk_46 (dk_at dksL_law_96 4 rfl rfl)
theorem dL_law_2428 : decode cL_law 2428 = .ok (.aload_n 3, 1) := dk_45 (dk_at dksL_law_96 5 rfl rfl)
theorem dL_law_2429 : decode cL_law 2429 = .ok (.invokestatic 293, 3) := dk_184 1 37 (dk_at dksL_law_96 6 rfl rfl)
theorem dL_law_2432 : decode cL_law 2432 = .ok (.istore 6, 2) := dk_54 6 (dk_at dksL_law_96 9 rfl rfl)
theorem dL_law_2434 : decode cL_law 2434 = .ok (.aload_n 2, 1) := dk_44 (dk_at dksL_law_96 11 rfl rfl)
theorem dL_law_2435 : decode cL_law 2435 = .ok (.aload_n 0, 1) := dk_42 (dk_at dksL_law_96 12 rfl rfl)
theorem dL_law_2436 : decode cL_law 2436 = .ok (.iload 5, 2) := dk_21 5 (dk_at dksL_law_96 13 rfl rfl)
theorem dL_law_2438 : decode cL_law 2438 = .ok (.iconst 1, 1) := dk_4 (dk_at dksL_law_96 15 rfl rfl)
theorem dL_law_2439 : decode cL_law 2439 = .ok (.iadd, 1) := dk_96 (dk_at dksL_law_96 16 rfl rfl)
theorem dL_law_2440 : decode cL_law 2440 = .ok (.iaload, 1) := dk_46 (dk_at dksL_law_96 17 rfl rfl)
theorem dL_law_2441 : decode cL_law 2441 = .ok (.aload_n 0, 1) := dk_42 (dk_at dksL_law_96 18 rfl rfl)
theorem dL_law_2442 : decode cL_law 2442 = .ok (.iload 5, 2) := dk_21 5 (dk_at dksL_law_96 19 rfl rfl)
theorem dL_law_2444 : decode cL_law 2444 = .ok (.iconst 2, 1) := dk_5 (dk_at dksL_law_96 21 rfl rfl)
theorem dL_law_2445 : decode cL_law 2445 = .ok (.iadd, 1) := dk_96 (dk_at dksL_law_96 22 rfl rfl)
theorem dL_law_2446 : decode cL_law 2446 = .ok (.iaload, 1) := dk_46 (dk_at dksL_law_96 23 rfl rfl)
theorem dL_law_2447 : decode cL_law 2447 = .ok (.aload_n 0, 1) := dk_42 (dk_at dksL_law_97 0 rfl rfl)
theorem dL_law_2448 : decode cL_law 2448 = .ok (.iload 5, 2) := dk_21 5 (dk_at dksL_law_97 1 rfl rfl)
theorem dL_law_2450 : decode cL_law 2450 = .ok (.iconst 3, 1) := dk_6 (dk_at dksL_law_97 3 rfl rfl)
theorem dL_law_2451 : decode cL_law 2451 = .ok (.iadd, 1) := dk_96 (dk_at dksL_law_97 4 rfl rfl)
theorem dL_law_2452 : decode cL_law 2452 = .ok (.iaload, 1) := dk_46 (dk_at dksL_law_97 5 rfl rfl)
theorem dL_law_2453 : decode cL_law 2453 = .ok (.invokevirtual 295, 3) := dk_182 1 39 (dk_at dksL_law_97 6 rfl rfl)
theorem dL_law_2456 : decode cL_law 2456 = .ok (.istore 7, 2) := dk_54 7 (dk_at dksL_law_97 9 rfl rfl)
theorem dL_law_2458 : decode cL_law 2458 = .ok (.aload_n 2, 1) := dk_44 (dk_at dksL_law_97 11 rfl rfl)
theorem dL_law_2459 : decode cL_law 2459 = .ok (.invokevirtual 170, 3) := dk_182 0 170 (dk_at dksL_law_97 12 rfl rfl)
theorem dL_law_2462 : decode cL_law 2462 = .ok (.iload 6, 2) := dk_21 6 (dk_at dksL_law_97 15 rfl rfl)
theorem dL_law_2464 : decode cL_law 2464 = .ok (.if_icmp .eq 5, 3) := dk_159 0 5 (dk_at dksL_law_97 17 rfl rfl)
theorem dL_law_2467 : decode cL_law 2467 = .ok (.iconst 0, 1) := dk_3 (dk_at dksL_law_97 20 rfl rfl)
theorem dL_law_2468 : decode cL_law 2468 = .ok (.ireturn, 1) := dk_172 (dk_at dksL_law_97 21 rfl rfl)
theorem dL_law_2469 : decode cL_law 2469 = .ok (.iload 6, 2) := dk_21 6 (dk_at dksL_law_97 22 rfl rfl)
theorem dL_law_2471 : decode cL_law 2471 = .ok (.ifCond .ne 15, 3) := dk_154 0 15 (dk_at dksL_law_98 0 rfl rfl)
theorem dL_law_2474 : decode cL_law 2474 = .ok (.aload_n 3, 1) := dk_45 (dk_at dksL_law_98 3 rfl rfl)
theorem dL_law_2475 : decode cL_law 2475 = .ok (.iconst 0, 1) := dk_3 (dk_at dksL_law_98 4 rfl rfl)
theorem dL_law_2476 : decode cL_law 2476 = .ok (.laload, 1) := dk_47 (dk_at dksL_law_98 5 rfl rfl)
theorem dL_law_2477 : decode cL_law 2477 = .ok (.iload 7, 2) := dk_21 7 (dk_at dksL_law_98 6 rfl rfl)
theorem dL_law_2479 : decode cL_law 2479 = .ok (.i2l, 1) := dk_133 (dk_at dksL_law_98 8 rfl rfl)
theorem dL_law_2480 : decode cL_law 2480 = .ok (.lcmp, 1) := dk_148 (dk_at dksL_law_98 9 rfl rfl)
theorem dL_law_2481 : decode cL_law 2481 = .ok (.ifCond .eq 5, 3) := dk_153 0 5 (dk_at dksL_law_98 10 rfl rfl)
theorem dL_law_2484 : decode cL_law 2484 = .ok (.iconst 0, 1) := dk_3 (dk_at dksL_law_98 13 rfl rfl)
theorem dL_law_2485 : decode cL_law 2485 = .ok (.ireturn, 1) := dk_172 (dk_at dksL_law_98 14 rfl rfl)
theorem dL_law_2486 : decode cL_law 2486 = .ok (.goto 729, 3) := dk_167 2 217 (dk_at dksL_law_98 15 rfl rfl)
theorem dL_law_2489 : decode cL_law 2489 = .ok (.aload_n 1, 1) := dk_43 (dk_at dksL_law_98 18 rfl rfl)
theorem dL_law_2490 : decode cL_law 2490 = .ok (.aload_n 0, 1) := dk_42 (dk_at dksL_law_98 19 rfl rfl)
theorem dL_law_2491 : decode cL_law 2491 = .ok (.iload 5, 2) := dk_21 5 (dk_at dksL_law_98 20 rfl rfl)
theorem dL_law_2493 : decode cL_law 2493 = .ok (.iconst 1, 1) := dk_4 (dk_at dksL_law_98 22 rfl rfl)
theorem dL_law_2494 : decode cL_law 2494 = .ok (.iadd, 1) := dk_96 (dk_at dksL_law_98 23 rfl rfl)
theorem dL_law_2495 : decode cL_law 2495 = .ok (.iaload, 1) := dk_46 (dk_at dksL_law_99 0 rfl rfl)
theorem dL_law_2496 : decode cL_law 2496 = .ok (.aload_n 0, 1) := dk_42 (dk_at dksL_law_99 1 rfl rfl)
theorem dL_law_2497 : decode cL_law 2497 = .ok (.iload 5, 2) := dk_21 5 (dk_at dksL_law_99 2 rfl rfl)
theorem dL_law_2499 : decode cL_law 2499 = .ok (.iconst 2, 1) := dk_5 (dk_at dksL_law_99 4 rfl rfl)
theorem dL_law_2500 : decode cL_law 2500 = .ok (.iadd, 1) := dk_96 (dk_at dksL_law_99 5 rfl rfl)
theorem dL_law_2501 : decode cL_law 2501 = .ok (.iaload, 1) := dk_46 (dk_at dksL_law_99 6 rfl rfl)
theorem dL_law_2502 : decode cL_law 2502 = .ok (.aload_n 3, 1) := dk_45 (dk_at dksL_law_99 7 rfl rfl)
theorem dL_law_2503 : decode cL_law 2503 = .ok (.invokestatic 296, 3) := dk_184 1 40 (dk_at dksL_law_99 8 rfl rfl)
theorem dL_law_2506 : decode cL_law 2506 = .ok (.istore 6, 2) := dk_54 6 (dk_at dksL_law_99 11 rfl rfl)
theorem dL_law_2508 : decode cL_law 2508 = .ok (.aload_n 2, 1) := dk_44 (dk_at dksL_law_99 13 rfl rfl)
theorem dL_law_2509 : decode cL_law 2509 = .ok (.aload_n 0, 1) := dk_42 (dk_at dksL_law_99 14 rfl rfl)
theorem dL_law_2510 : decode cL_law 2510 = .ok (.iload 5, 2) := dk_21 5 (dk_at dksL_law_99 15 rfl rfl)
theorem dL_law_2512 : decode cL_law 2512 = .ok (.iconst 1, 1) := dk_4 (dk_at dksL_law_99 17 rfl rfl)
theorem dL_law_2513 : decode cL_law 2513 = .ok (.iadd, 1) := dk_96 (dk_at dksL_law_99 18 rfl rfl)
theorem dL_law_2514 : decode cL_law 2514 = .ok (.iaload, 1) := dk_46 (dk_at dksL_law_99 19 rfl rfl)
theorem dL_law_2515 : decode cL_law 2515 = .ok (.aload_n 0, 1) := dk_42 (dk_at dksL_law_99 20 rfl rfl)
theorem dL_law_2516 : decode cL_law 2516 = .ok (.iload 5, 2) := dk_21 5 (dk_at dksL_law_99 21 rfl rfl)
theorem dL_law_2518 : decode cL_law 2518 = .ok (.iconst 2, 1) := dk_5 (dk_at dksL_law_99 23 rfl rfl)
theorem dL_law_2519 : decode cL_law 2519 = .ok (.iadd, 1) := dk_96 (dk_at dksL_law_100 0 rfl rfl)
theorem dL_law_2520 : decode cL_law 2520 = .ok (.iaload, 1) := dk_46 (dk_at dksL_law_100 1 rfl rfl)
theorem dL_law_2521 : decode cL_law 2521 = .ok (.invokevirtual 298, 3) := dk_182 1 42 (dk_at dksL_law_100 2 rfl rfl)
theorem dL_law_2524 : decode cL_law 2524 = .ok (.istore 7, 2) := dk_54 7 (dk_at dksL_law_100 5 rfl rfl)
theorem dL_law_2526 : decode cL_law 2526 = .ok (.aload_n 2, 1) := dk_44 (dk_at dksL_law_100 7 rfl rfl)
theorem dL_law_2527 : decode cL_law 2527 = .ok (.invokevirtual 170, 3) := dk_182 0 170 (dk_at dksL_law_100 8 rfl rfl)
theorem dL_law_2530 : decode cL_law 2530 = .ok (.iload 6, 2) := dk_21 6 (dk_at dksL_law_100 11 rfl rfl)
theorem dL_law_2532 : decode cL_law 2532 = .ok (.if_icmp .eq 5, 3) := dk_159 0 5 (dk_at dksL_law_100 13 rfl rfl)
theorem dL_law_2535 : decode cL_law 2535 = .ok (.iconst 0, 1) := dk_3 (dk_at dksL_law_100 16 rfl rfl)
theorem dL_law_2536 : decode cL_law 2536 = .ok (.ireturn, 1) := dk_172 (dk_at dksL_law_100 17 rfl rfl)
theorem dL_law_2537 : decode cL_law 2537 = .ok (.iload 6, 2) := dk_21 6 (dk_at dksL_law_100 18 rfl rfl)
theorem dL_law_2539 : decode cL_law 2539 = .ok (.ifCond .ne 15, 3) := dk_154 0 15 (dk_at dksL_law_100 20 rfl rfl)
theorem dL_law_2542 : decode cL_law 2542 = .ok (.aload_n 3, 1) := dk_45 (dk_at dksL_law_100 23 rfl rfl)
theorem dL_law_2543 : decode cL_law 2543 = .ok (.iconst 0, 1) := dk_3 (dk_at dksL_law_101 0 rfl rfl)
theorem dL_law_2544 : decode cL_law 2544 = .ok (.laload, 1) := dk_47 (dk_at dksL_law_101 1 rfl rfl)
theorem dL_law_2545 : decode cL_law 2545 = .ok (.iload 7, 2) := dk_21 7 (dk_at dksL_law_101 2 rfl rfl)
theorem dL_law_2547 : decode cL_law 2547 = .ok (.i2l, 1) := dk_133 (dk_at dksL_law_101 4 rfl rfl)
theorem dL_law_2548 : decode cL_law 2548 = .ok (.lcmp, 1) := dk_148 (dk_at dksL_law_101 5 rfl rfl)
theorem dL_law_2549 : decode cL_law 2549 = .ok (.ifCond .eq 5, 3) := dk_153 0 5 (dk_at dksL_law_101 6 rfl rfl)
theorem dL_law_2552 : decode cL_law 2552 = .ok (.iconst 0, 1) := dk_3 (dk_at dksL_law_101 9 rfl rfl)
theorem dL_law_2553 : decode cL_law 2553 = .ok (.ireturn, 1) := dk_172 (dk_at dksL_law_101 10 rfl rfl)
theorem dL_law_2554 : decode cL_law 2554 = .ok (.goto 661, 3) := dk_167 2 149 (dk_at dksL_law_101 11 rfl rfl)
theorem dL_law_2557 : decode cL_law 2557 = .ok (.aload_n 1, 1) := dk_43 (dk_at dksL_law_101 14 rfl rfl)
theorem dL_law_2558 : decode cL_law 2558 = .ok (.aload_n 0, 1) := dk_42 (dk_at dksL_law_101 15 rfl rfl)
theorem dL_law_2559 : decode cL_law 2559 = .ok (.iload 5, 2) := dk_21 5 (dk_at dksL_law_101 16 rfl rfl)
theorem dL_law_2561 : decode cL_law 2561 = .ok (.iconst 1, 1) := dk_4 (dk_at dksL_law_101 18 rfl rfl)
theorem dL_law_2562 : decode cL_law 2562 = .ok (.iadd, 1) := dk_96 (dk_at dksL_law_101 19 rfl rfl)
theorem dL_law_2563 : decode cL_law 2563 = .ok (.iaload, 1) := dk_46 (dk_at dksL_law_101 20 rfl rfl)
theorem dL_law_2564 : decode cL_law 2564 = .ok (.aload_n 3, 1) := dk_45 (dk_at dksL_law_101 21 rfl rfl)
theorem dL_law_2565 : decode cL_law 2565 = .ok (.invokestatic 299, 3) := dk_184 1 43 (dk_at dksL_law_102 0 rfl rfl)
theorem dL_law_2568 : decode cL_law 2568 = .ok (.istore 6, 2) := dk_54 6 (dk_at dksL_law_102 3 rfl rfl)
theorem dL_law_2570 : decode cL_law 2570 = .ok (.aload_n 2, 1) := dk_44 (dk_at dksL_law_102 5 rfl rfl)
theorem dL_law_2571 : decode cL_law 2571 = .ok (.aload_n 0, 1) := dk_42 (dk_at dksL_law_102 6 rfl rfl)
theorem dL_law_2572 : decode cL_law 2572 = .ok (.iload 5, 2) := dk_21 5 (dk_at dksL_law_102 7 rfl rfl)
theorem dL_law_2574 : decode cL_law 2574 = .ok (.iconst 1, 1) := dk_4 (dk_at dksL_law_102 9 rfl rfl)
theorem dL_law_2575 : decode cL_law 2575 = .ok (.iadd, 1) := dk_96 (dk_at dksL_law_102 10 rfl rfl)
theorem dL_law_2576 : decode cL_law 2576 = .ok (.iaload, 1) := dk_46 (dk_at dksL_law_102 11 rfl rfl)
theorem dL_law_2577 : decode cL_law 2577 = .ok (.invokevirtual 301, 3) := dk_182 1 45 (dk_at dksL_law_102 12 rfl rfl)
theorem dL_law_2580 : decode cL_law 2580 = .ok (.istore 7, 2) := dk_54 7 (dk_at dksL_law_102 15 rfl rfl)
theorem dL_law_2582 : decode cL_law 2582 = .ok (.aload_n 2, 1) := dk_44 (dk_at dksL_law_102 17 rfl rfl)
theorem dL_law_2583 : decode cL_law 2583 = .ok (.invokevirtual 170, 3) := dk_182 0 170 (dk_at dksL_law_102 18 rfl rfl)
theorem dL_law_2586 : decode cL_law 2586 = .ok (.iload 6, 2) := dk_21 6 (dk_at dksL_law_102 21 rfl rfl)
theorem dL_law_2588 : decode cL_law 2588 = .ok (.if_icmp .eq 5, 3) := dk_159 0 5 (dk_at dksL_law_103 0 rfl rfl)
theorem dL_law_2591 : decode cL_law 2591 = .ok (.iconst 0, 1) := dk_3 (dk_at dksL_law_103 3 rfl rfl)
theorem dL_law_2592 : decode cL_law 2592 = .ok (.ireturn, 1) := dk_172 (dk_at dksL_law_103 4 rfl rfl)
theorem dL_law_2593 : decode cL_law 2593 = .ok (.iload 6, 2) := dk_21 6 (dk_at dksL_law_103 5 rfl rfl)
theorem dL_law_2595 : decode cL_law 2595 = .ok (.ifCond .ne 15, 3) := dk_154 0 15 (dk_at dksL_law_103 7 rfl rfl)
theorem dL_law_2598 : decode cL_law 2598 = .ok (.aload_n 3, 1) := dk_45 (dk_at dksL_law_103 10 rfl rfl)
theorem dL_law_2599 : decode cL_law 2599 = .ok (.iconst 0, 1) := dk_3 (dk_at dksL_law_103 11 rfl rfl)
theorem dL_law_2600 : decode cL_law 2600 = .ok (.laload, 1) := dk_47 (dk_at dksL_law_103 12 rfl rfl)
theorem dL_law_2601 : decode cL_law 2601 = .ok (.iload 7, 2) := dk_21 7 (dk_at dksL_law_103 13 rfl rfl)
theorem dL_law_2603 : decode cL_law 2603 = .ok (.i2l, 1) := dk_133 (dk_at dksL_law_103 15 rfl rfl)
theorem dL_law_2604 : decode cL_law 2604 = .ok (.lcmp, 1) := dk_148 (dk_at dksL_law_103 16 rfl rfl)
theorem dL_law_2605 : decode cL_law 2605 = .ok (.ifCond .eq 5, 3) := dk_153 0 5 (dk_at dksL_law_103 17 rfl rfl)
theorem dL_law_2608 : decode cL_law 2608 = .ok (.iconst 0, 1) := dk_3 (dk_at dksL_law_103 20 rfl rfl)
theorem dL_law_2609 : decode cL_law 2609 = .ok (.ireturn, 1) := dk_172 (dk_at dksL_law_103 21 rfl rfl)
theorem dL_law_2610 : decode cL_law 2610 = .ok (.goto 605, 3) := dk_167 2 93 (dk_at dksL_law_104 0 rfl rfl)
theorem dL_law_2613 : decode cL_law 2613 = .ok (.aload_n 1, 1) := dk_43 (dk_at dksL_law_104 3 rfl rfl)
theorem dL_law_2614 : decode cL_law 2614 = .ok (.aload_n 0, 1) := dk_42 (dk_at dksL_law_104 4 rfl rfl)
theorem dL_law_2615 : decode cL_law 2615 = .ok (.iload 5, 2) := dk_21 5 (dk_at dksL_law_104 5 rfl rfl)
theorem dL_law_2617 : decode cL_law 2617 = .ok (.iconst 1, 1) := dk_4 (dk_at dksL_law_104 7 rfl rfl)
theorem dL_law_2618 : decode cL_law 2618 = .ok (.iadd, 1) := dk_96 (dk_at dksL_law_104 8 rfl rfl)
theorem dL_law_2619 : decode cL_law 2619 = .ok (.iaload, 1) := dk_46 (dk_at dksL_law_104 9 rfl rfl)
theorem dL_law_2620 : decode cL_law 2620 = .ok (.aload_n 0, 1) := dk_42 (dk_at dksL_law_104 10 rfl rfl)
theorem dL_law_2621 : decode cL_law 2621 = .ok (.iload 5, 2) := dk_21 5 (dk_at dksL_law_104 11 rfl rfl)
theorem dL_law_2623 : decode cL_law 2623 = .ok (.iconst 2, 1) := dk_5 (dk_at dksL_law_104 13 rfl rfl)
theorem dL_law_2624 : decode cL_law 2624 = .ok (.iadd, 1) := dk_96 (dk_at dksL_law_104 14 rfl rfl)
theorem dL_law_2625 : decode cL_law 2625 = .ok (.iaload, 1) := dk_46 (dk_at dksL_law_104 15 rfl rfl)
theorem dL_law_2626 : decode cL_law 2626 = .ok (.aload_n 3, 1) := dk_45 (dk_at dksL_law_104 16 rfl rfl)
theorem dL_law_2627 : decode cL_law 2627 = .ok (.invokestatic 302, 3) := dk_184 1 46 (dk_at dksL_law_104 17 rfl rfl)
theorem dL_law_2630 : decode cL_law 2630 = .ok (.istore 6, 2) := dk_54 6 (dk_at dksL_law_104 20 rfl rfl)
theorem dL_law_2632 : decode cL_law 2632 = .ok (.aload_n 2, 1) := dk_44 (dk_at dksL_law_104 22 rfl rfl)
theorem dL_law_2633 : decode cL_law 2633 = .ok (.aload_n 0, 1) := dk_42 (dk_at dksL_law_104 23 rfl rfl)
theorem dL_law_2634 : decode cL_law 2634 = .ok (.iload 5, 2) := dk_21 5 (dk_at dksL_law_105 0 rfl rfl)
theorem dL_law_2636 : decode cL_law 2636 = .ok (.iconst 1, 1) := dk_4 (dk_at dksL_law_105 2 rfl rfl)
theorem dL_law_2637 : decode cL_law 2637 = .ok (.iadd, 1) := dk_96 (dk_at dksL_law_105 3 rfl rfl)
theorem dL_law_2638 : decode cL_law 2638 = .ok (.iaload, 1) := dk_46 (dk_at dksL_law_105 4 rfl rfl)
theorem dL_law_2639 : decode cL_law 2639 = .ok (.aload_n 0, 1) := dk_42 (dk_at dksL_law_105 5 rfl rfl)
theorem dL_law_2640 : decode cL_law 2640 = .ok (.iload 5, 2) := dk_21 5 (dk_at dksL_law_105 6 rfl rfl)
theorem dL_law_2642 : decode cL_law 2642 = .ok (.iconst 2, 1) := dk_5 (dk_at dksL_law_105 8 rfl rfl)
theorem dL_law_2643 : decode cL_law 2643 = .ok (.iadd, 1) := dk_96 (dk_at dksL_law_105 9 rfl rfl)
theorem dL_law_2644 : decode cL_law 2644 = .ok (.iaload, 1) := dk_46 (dk_at dksL_law_105 10 rfl rfl)
theorem dL_law_2645 : decode cL_law 2645 = .ok (.invokevirtual 304, 3) := dk_182 1 48 (dk_at dksL_law_105 11 rfl rfl)
theorem dL_law_2648 : decode cL_law 2648 = .ok (.istore 7, 2) := dk_54 7 (dk_at dksL_law_105 14 rfl rfl)
theorem dL_law_2650 : decode cL_law 2650 = .ok (.aload_n 2, 1) := dk_44 (dk_at dksL_law_105 16 rfl rfl)
theorem dL_law_2651 : decode cL_law 2651 = .ok (.invokevirtual 170, 3) := dk_182 0 170 (dk_at dksL_law_105 17 rfl rfl)
theorem dL_law_2654 : decode cL_law 2654 = .ok (.iload 6, 2) := dk_21 6 (dk_at dksL_law_105 20 rfl rfl)
theorem dL_law_2656 : decode cL_law 2656 = .ok (.if_icmp .eq 5, 3) := dk_159 0 5 (dk_at dksL_law_106 0 rfl rfl)
theorem dL_law_2659 : decode cL_law 2659 = .ok (.iconst 0, 1) := dk_3 (dk_at dksL_law_106 3 rfl rfl)
theorem dL_law_2660 : decode cL_law 2660 = .ok (.ireturn, 1) := dk_172 (dk_at dksL_law_106 4 rfl rfl)
theorem dL_law_2661 : decode cL_law 2661 = .ok (.iload 6, 2) := dk_21 6 (dk_at dksL_law_106 5 rfl rfl)
theorem dL_law_2663 : decode cL_law 2663 = .ok (.ifCond .ne 15, 3) := dk_154 0 15 (dk_at dksL_law_106 7 rfl rfl)
theorem dL_law_2666 : decode cL_law 2666 = .ok (.aload_n 3, 1) := dk_45 (dk_at dksL_law_106 10 rfl rfl)
theorem dL_law_2667 : decode cL_law 2667 = .ok (.iconst 0, 1) := dk_3 (dk_at dksL_law_106 11 rfl rfl)
theorem dL_law_2668 : decode cL_law 2668 = .ok (.laload, 1) := dk_47 (dk_at dksL_law_106 12 rfl rfl)
theorem dL_law_2669 : decode cL_law 2669 = .ok (.iload 7, 2) := dk_21 7 (dk_at dksL_law_106 13 rfl rfl)
theorem dL_law_2671 : decode cL_law 2671 = .ok (.i2l, 1) := dk_133 (dk_at dksL_law_106 15 rfl rfl)
theorem dL_law_2672 : decode cL_law 2672 = .ok (.lcmp, 1) := dk_148 (dk_at dksL_law_106 16 rfl rfl)
theorem dL_law_2673 : decode cL_law 2673 = .ok (.ifCond .eq 5, 3) := dk_153 0 5 (dk_at dksL_law_106 17 rfl rfl)
theorem dL_law_2676 : decode cL_law 2676 = .ok (.iconst 0, 1) := dk_3 (dk_at dksL_law_106 20 rfl rfl)
theorem dL_law_2677 : decode cL_law 2677 = .ok (.ireturn, 1) := dk_172 (dk_at dksL_law_106 21 rfl rfl)
theorem dL_law_2678 : decode cL_law 2678 = .ok (.goto 537, 3) := dk_167 2 25 (dk_at dksL_law_107 0 rfl rfl)
theorem dL_law_2681 : decode cL_law 2681 = .ok (.aload_n 1, 1) := dk_43 (dk_at dksL_law_107 3 rfl rfl)
theorem dL_law_2682 : decode cL_law 2682 = .ok (.aload_n 0, 1) := dk_42 (dk_at dksL_law_107 4 rfl rfl)
theorem dL_law_2683 : decode cL_law 2683 = .ok (.iload 5, 2) := dk_21 5 (dk_at dksL_law_107 5 rfl rfl)
theorem dL_law_2685 : decode cL_law 2685 = .ok (.iconst 1, 1) := dk_4 (dk_at dksL_law_107 7 rfl rfl)
theorem dL_law_2686 : decode cL_law 2686 = .ok (.iadd, 1) := dk_96 (dk_at dksL_law_107 8 rfl rfl)
theorem dL_law_2687 : decode cL_law 2687 = .ok (.iaload, 1) := dk_46 (dk_at dksL_law_107 9 rfl rfl)
theorem dL_law_2688 : decode cL_law 2688 = .ok (.aload_n 0, 1) := dk_42 (dk_at dksL_law_107 10 rfl rfl)
theorem dL_law_2689 : decode cL_law 2689 = .ok (.iload 5, 2) := dk_21 5 (dk_at dksL_law_107 11 rfl rfl)
theorem dL_law_2691 : decode cL_law 2691 = .ok (.iconst 2, 1) := dk_5 (dk_at dksL_law_107 13 rfl rfl)
theorem dL_law_2692 : decode cL_law 2692 = .ok (.iadd, 1) := dk_96 (dk_at dksL_law_107 14 rfl rfl)
theorem dL_law_2693 : decode cL_law 2693 = .ok (.iaload, 1) := dk_46 (dk_at dksL_law_107 15 rfl rfl)
theorem dL_law_2694 : decode cL_law 2694 = .ok (.aload_n 3, 1) := dk_45 (dk_at dksL_law_107 16 rfl rfl)
theorem dL_law_2695 : decode cL_law 2695 = .ok (.invokestatic 305, 3) := dk_184 1 49 (dk_at dksL_law_107 17 rfl rfl)
theorem dL_law_2698 : decode cL_law 2698 = .ok (.istore 6, 2) := dk_54 6 (dk_at dksL_law_107 20 rfl rfl)
theorem dL_law_2700 : decode cL_law 2700 = .ok (.aload_n 2, 1) := dk_44 (dk_at dksL_law_107 22 rfl rfl)
theorem dL_law_2701 : decode cL_law 2701 = .ok (.aload_n 0, 1) := dk_42 (dk_at dksL_law_107 23 rfl rfl)
theorem dL_law_2702 : decode cL_law 2702 = .ok (.iload 5, 2) := dk_21 5 (dk_at dksL_law_108 0 rfl rfl)
theorem dL_law_2704 : decode cL_law 2704 = .ok (.iconst 1, 1) := dk_4 (dk_at dksL_law_108 2 rfl rfl)
theorem dL_law_2705 : decode cL_law 2705 = .ok (.iadd, 1) := dk_96 (dk_at dksL_law_108 3 rfl rfl)
theorem dL_law_2706 : decode cL_law 2706 = .ok (.iaload, 1) := dk_46 (dk_at dksL_law_108 4 rfl rfl)
theorem dL_law_2707 : decode cL_law 2707 = .ok (.aload_n 0, 1) := dk_42 (dk_at dksL_law_108 5 rfl rfl)
theorem dL_law_2708 : decode cL_law 2708 = .ok (.iload 5, 2) := dk_21 5 (dk_at dksL_law_108 6 rfl rfl)
theorem dL_law_2710 : decode cL_law 2710 = .ok (.iconst 2, 1) := dk_5 (dk_at dksL_law_108 8 rfl rfl)
theorem dL_law_2711 : decode cL_law 2711 = .ok (.iadd, 1) := dk_96 (dk_at dksL_law_108 9 rfl rfl)
theorem dL_law_2712 : decode cL_law 2712 = .ok (.iaload, 1) := dk_46 (dk_at dksL_law_108 10 rfl rfl)
theorem dL_law_2713 : decode cL_law 2713 = .ok (.invokevirtual 307, 3) := dk_182 1 51 (dk_at dksL_law_108 11 rfl rfl)
theorem dL_law_2716 : decode cL_law 2716 = .ok (.istore 7, 2) := dk_54 7 (dk_at dksL_law_108 14 rfl rfl)
theorem dL_law_2718 : decode cL_law 2718 = .ok (.aload_n 2, 1) := dk_44 (dk_at dksL_law_108 16 rfl rfl)
theorem dL_law_2719 : decode cL_law 2719 = .ok (.invokevirtual 170, 3) := dk_182 0 170 (dk_at dksL_law_108 17 rfl rfl)
theorem dL_law_2722 : decode cL_law 2722 = .ok (.iload 6, 2) := dk_21 6 (dk_at dksL_law_108 20 rfl rfl)
theorem dL_law_2724 : decode cL_law 2724 = .ok (.if_icmp .eq 5, 3) := dk_159 0 5 (dk_at dksL_law_109 0 rfl rfl)
theorem dL_law_2727 : decode cL_law 2727 = .ok (.iconst 0, 1) := dk_3 (dk_at dksL_law_109 3 rfl rfl)
theorem dL_law_2728 : decode cL_law 2728 = .ok (.ireturn, 1) := dk_172 (dk_at dksL_law_109 4 rfl rfl)
theorem dL_law_2729 : decode cL_law 2729 = .ok (.iload 6, 2) := dk_21 6 (dk_at dksL_law_109 5 rfl rfl)
theorem dL_law_2731 : decode cL_law 2731 = .ok (.ifCond .ne 15, 3) := dk_154 0 15 (dk_at dksL_law_109 7 rfl rfl)
theorem dL_law_2734 : decode cL_law 2734 = .ok (.aload_n 3, 1) := dk_45 (dk_at dksL_law_109 10 rfl rfl)
theorem dL_law_2735 : decode cL_law 2735 = .ok (.iconst 0, 1) := dk_3 (dk_at dksL_law_109 11 rfl rfl)
theorem dL_law_2736 : decode cL_law 2736 = .ok (.laload, 1) := dk_47 (dk_at dksL_law_109 12 rfl rfl)
theorem dL_law_2737 : decode cL_law 2737 = .ok (.iload 7, 2) := dk_21 7 (dk_at dksL_law_109 13 rfl rfl)
theorem dL_law_2739 : decode cL_law 2739 = .ok (.i2l, 1) := dk_133 (dk_at dksL_law_109 15 rfl rfl)
theorem dL_law_2740 : decode cL_law 2740 = .ok (.lcmp, 1) := dk_148 (dk_at dksL_law_109 16 rfl rfl)
theorem dL_law_2741 : decode cL_law 2741 = .ok (.ifCond .eq 5, 3) := dk_153 0 5 (dk_at dksL_law_109 17 rfl rfl)
theorem dL_law_2744 : decode cL_law 2744 = .ok (.iconst 0, 1) := dk_3 (dk_at dksL_law_109 20 rfl rfl)
theorem dL_law_2745 : decode cL_law 2745 = .ok (.ireturn, 1) := dk_172 (dk_at dksL_law_109 21 rfl rfl)
theorem dL_law_2746 : decode cL_law 2746 = .ok (.goto 469, 3) := dk_167 1 213 (dk_at dksL_law_110 0 rfl rfl)
theorem dL_law_2749 : decode cL_law 2749 = .ok (.aload_n 1, 1) := dk_43 (dk_at dksL_law_110 3 rfl rfl)
theorem dL_law_2750 : decode cL_law 2750 = .ok (.aload_n 0, 1) := dk_42 (dk_at dksL_law_110 4 rfl rfl)
theorem dL_law_2751 : decode cL_law 2751 = .ok (.iload 5, 2) := dk_21 5 (dk_at dksL_law_110 5 rfl rfl)
theorem dL_law_2753 : decode cL_law 2753 = .ok (.iconst 1, 1) := dk_4 (dk_at dksL_law_110 7 rfl rfl)
theorem dL_law_2754 : decode cL_law 2754 = .ok (.iadd, 1) := dk_96 (dk_at dksL_law_110 8 rfl rfl)
theorem dL_law_2755 : decode cL_law 2755 = .ok (.iaload, 1) := dk_46 (dk_at dksL_law_110 9 rfl rfl)
theorem dL_law_2756 : decode cL_law 2756 = .ok (.aload_n 3, 1) := dk_45 (dk_at dksL_law_110 10 rfl rfl)
theorem dL_law_2757 : decode cL_law 2757 = .ok (.invokestatic 308, 3) := dk_184 1 52 (dk_at dksL_law_110 11 rfl rfl)
theorem dL_law_2760 : decode cL_law 2760 = .ok (.istore 6, 2) := dk_54 6 (dk_at dksL_law_110 14 rfl rfl)
theorem dL_law_2762 : decode cL_law 2762 = .ok (.aload_n 2, 1) := dk_44 (dk_at dksL_law_110 16 rfl rfl)
theorem dL_law_2763 : decode cL_law 2763 = .ok (.aload_n 0, 1) := dk_42 (dk_at dksL_law_110 17 rfl rfl)
theorem dL_law_2764 : decode cL_law 2764 = .ok (.iload 5, 2) := dk_21 5 (dk_at dksL_law_110 18 rfl rfl)
theorem dL_law_2766 : decode cL_law 2766 = .ok (.iconst 1, 1) := dk_4 (dk_at dksL_law_110 20 rfl rfl)
theorem dL_law_2767 : decode cL_law 2767 = .ok (.iadd, 1) := dk_96 (dk_at dksL_law_110 21 rfl rfl)
theorem dL_law_2768 : decode cL_law 2768 = .ok (.iaload, 1) := dk_46 (dk_at dksL_law_110 22 rfl rfl)
theorem dL_law_2769 : decode cL_law 2769 = .ok (.invokevirtual 310, 3) := dk_182 1 54 (dk_at dksL_law_111 0 rfl rfl)
theorem dL_law_2772 : decode cL_law 2772 = .ok (.istore 7, 2) := dk_54 7 (dk_at dksL_law_111 3 rfl rfl)
theorem dL_law_2774 : decode cL_law 2774 = .ok (.aload_n 2, 1) := dk_44 (dk_at dksL_law_111 5 rfl rfl)
theorem dL_law_2775 : decode cL_law 2775 = .ok (.invokevirtual 170, 3) := dk_182 0 170 (dk_at dksL_law_111 6 rfl rfl)
theorem dL_law_2778 : decode cL_law 2778 = .ok (.iload 6, 2) := dk_21 6 (dk_at dksL_law_111 9 rfl rfl)
theorem dL_law_2780 : decode cL_law 2780 = .ok (.if_icmp .eq 5, 3) := dk_159 0 5 (dk_at dksL_law_111 11 rfl rfl)
theorem dL_law_2783 : decode cL_law 2783 = .ok (.iconst 0, 1) := dk_3 (dk_at dksL_law_111 14 rfl rfl)
theorem dL_law_2784 : decode cL_law 2784 = .ok (.ireturn, 1) := dk_172 (dk_at dksL_law_111 15 rfl rfl)
theorem dL_law_2785 : decode cL_law 2785 = .ok (.iload 6, 2) := dk_21 6 (dk_at dksL_law_111 16 rfl rfl)
theorem dL_law_2787 : decode cL_law 2787 = .ok (.ifCond .ne 15, 3) := dk_154 0 15 (dk_at dksL_law_111 18 rfl rfl)
theorem dL_law_2790 : decode cL_law 2790 = .ok (.aload_n 3, 1) := dk_45 (dk_at dksL_law_111 21 rfl rfl)
theorem dL_law_2791 : decode cL_law 2791 = .ok (.iconst 0, 1) := dk_3 (dk_at dksL_law_111 22 rfl rfl)
theorem dL_law_2792 : decode cL_law 2792 = .ok (.laload, 1) := dk_47 (dk_at dksL_law_111 23 rfl rfl)
theorem dL_law_2793 : decode cL_law 2793 = .ok (.iload 7, 2) := dk_21 7 (dk_at dksL_law_112 0 rfl rfl)
theorem dL_law_2795 : decode cL_law 2795 = .ok (.i2l, 1) := dk_133 (dk_at dksL_law_112 2 rfl rfl)
theorem dL_law_2796 : decode cL_law 2796 = .ok (.lcmp, 1) := dk_148 (dk_at dksL_law_112 3 rfl rfl)
theorem dL_law_2797 : decode cL_law 2797 = .ok (.ifCond .eq 5, 3) := dk_153 0 5 (dk_at dksL_law_112 4 rfl rfl)
theorem dL_law_2800 : decode cL_law 2800 = .ok (.iconst 0, 1) := dk_3 (dk_at dksL_law_112 7 rfl rfl)
theorem dL_law_2801 : decode cL_law 2801 = .ok (.ireturn, 1) := dk_172 (dk_at dksL_law_112 8 rfl rfl)
theorem dL_law_2802 : decode cL_law 2802 = .ok (.goto 413, 3) := dk_167 1 157 (dk_at dksL_law_112 9 rfl rfl)
theorem dL_law_2805 : decode cL_law 2805 = .ok (.aload_n 1, 1) := dk_43 (dk_at dksL_law_112 12 rfl rfl)
theorem dL_law_2806 : decode cL_law 2806 = .ok (.aload_n 0, 1) := dk_42 (dk_at dksL_law_112 13 rfl rfl)
theorem dL_law_2807 : decode cL_law 2807 = .ok (.iload 5, 2) := dk_21 5 (dk_at dksL_law_112 14 rfl rfl)
theorem dL_law_2809 : decode cL_law 2809 = .ok (.iconst 1, 1) := dk_4 (dk_at dksL_law_112 16 rfl rfl)
theorem dL_law_2810 : decode cL_law 2810 = .ok (.iadd, 1) := dk_96 (dk_at dksL_law_112 17 rfl rfl)
theorem dL_law_2811 : decode cL_law 2811 = .ok (.iaload, 1) := dk_46 (dk_at dksL_law_112 18 rfl rfl)
theorem dL_law_2812 : decode cL_law 2812 = .ok (.aload_n 0, 1) := dk_42 (dk_at dksL_law_112 19 rfl rfl)
theorem dL_law_2813 : decode cL_law 2813 = .ok (.iload 5, 2) := dk_21 5 (dk_at dksL_law_112 20 rfl rfl)
theorem dL_law_2815 : decode cL_law 2815 = .ok (.iconst 2, 1) := dk_5 (dk_at dksL_law_112 22 rfl rfl)
theorem dL_law_2816 : decode cL_law 2816 = .ok (.iadd, 1) := dk_96 (dk_at dksL_law_112 23 rfl rfl)
theorem dL_law_2817 : decode cL_law 2817 = .ok (.iaload, 1) := dk_46 (dk_at dksL_law_113 0 rfl rfl)
theorem dL_law_2818 : decode cL_law 2818 = .ok (.aload_n 0, 1) := dk_42 (dk_at dksL_law_113 1 rfl rfl)
theorem dL_law_2819 : decode cL_law 2819 = .ok (.iload 5, 2) := dk_21 5 (dk_at dksL_law_113 2 rfl rfl)
theorem dL_law_2821 : decode cL_law 2821 = .ok (.iconst 3, 1) := dk_6 (dk_at dksL_law_113 4 rfl rfl)
theorem dL_law_2822 : decode cL_law 2822 = .ok (.iadd, 1) := dk_96 (dk_at dksL_law_113 5 rfl rfl)
theorem dL_law_2823 : decode cL_law 2823 = .ok (.iaload, 1) := dk_46 (dk_at dksL_law_113 6 rfl rfl)
theorem dL_law_2824 : decode cL_law 2824 = .ok (.aload_n 3, 1) := dk_45 (dk_at dksL_law_113 7 rfl rfl)
theorem dL_law_2825 : decode cL_law 2825 = .ok (.invokestatic 311, 3) := dk_184 1 55 (dk_at dksL_law_113 8 rfl rfl)
theorem dL_law_2828 : decode cL_law 2828 = .ok (.istore 6, 2) := dk_54 6 (dk_at dksL_law_113 11 rfl rfl)
theorem dL_law_2830 : decode cL_law 2830 = .ok (.aload_n 2, 1) := dk_44 (dk_at dksL_law_113 13 rfl rfl)
theorem dL_law_2831 : decode cL_law 2831 = .ok (.aload_n 0, 1) := dk_42 (dk_at dksL_law_113 14 rfl rfl)
theorem dL_law_2832 : decode cL_law 2832 = .ok (.iload 5, 2) := dk_21 5 (dk_at dksL_law_113 15 rfl rfl)
theorem dL_law_2834 : decode cL_law 2834 = .ok (.iconst 1, 1) := dk_4 (dk_at dksL_law_113 17 rfl rfl)
theorem dL_law_2835 : decode cL_law 2835 = .ok (.iadd, 1) := dk_96 (dk_at dksL_law_113 18 rfl rfl)
theorem dL_law_2836 : decode cL_law 2836 = .ok (.iaload, 1) := dk_46 (dk_at dksL_law_113 19 rfl rfl)
theorem dL_law_2837 : decode cL_law 2837 = .ok (.aload_n 0, 1) := dk_42 (dk_at dksL_law_113 20 rfl rfl)
theorem dL_law_2838 : decode cL_law 2838 = .ok (.iload 5, 2) := dk_21 5 (dk_at dksL_law_113 21 rfl rfl)
theorem dL_law_2840 : decode cL_law 2840 = .ok (.iconst 2, 1) := dk_5 (dk_at dksL_law_113 23 rfl rfl)
theorem dL_law_2841 : decode cL_law 2841 = .ok (.iadd, 1) := dk_96 (dk_at dksL_law_114 0 rfl rfl)
theorem dL_law_2842 : decode cL_law 2842 = .ok (.iaload, 1) := dk_46 (dk_at dksL_law_114 1 rfl rfl)
theorem dL_law_2843 : decode cL_law 2843 = .ok (.aload_n 0, 1) := dk_42 (dk_at dksL_law_114 2 rfl rfl)
theorem dL_law_2844 : decode cL_law 2844 = .ok (.iload 5, 2) := dk_21 5 (dk_at dksL_law_114 3 rfl rfl)
theorem dL_law_2846 : decode cL_law 2846 = .ok (.iconst 3, 1) := dk_6 (dk_at dksL_law_114 5 rfl rfl)
theorem dL_law_2847 : decode cL_law 2847 = .ok (.iadd, 1) := dk_96 (dk_at dksL_law_114 6 rfl rfl)
theorem dL_law_2848 : decode cL_law 2848 = .ok (.iaload, 1) := dk_46 (dk_at dksL_law_114 7 rfl rfl)
theorem dL_law_2849 : decode cL_law 2849 = .ok (.invokevirtual 313, 3) := dk_182 1 57 (dk_at dksL_law_114 8 rfl rfl)
theorem dL_law_2852 : decode cL_law 2852 = .ok (.istore 7, 2) := dk_54 7 (dk_at dksL_law_114 11 rfl rfl)
theorem dL_law_2854 : decode cL_law 2854 = .ok (.aload_n 2, 1) := dk_44 (dk_at dksL_law_114 13 rfl rfl)
theorem dL_law_2855 : decode cL_law 2855 = .ok (.invokevirtual 170, 3) := dk_182 0 170 (dk_at dksL_law_114 14 rfl rfl)
theorem dL_law_2858 : decode cL_law 2858 = .ok (.iload 6, 2) := dk_21 6 (dk_at dksL_law_114 17 rfl rfl)
theorem dL_law_2860 : decode cL_law 2860 = .ok (.if_icmp .eq 5, 3) := dk_159 0 5 (dk_at dksL_law_114 19 rfl rfl)
theorem dL_law_2863 : decode cL_law 2863 = .ok (.iconst 0, 1) := dk_3 (dk_at dksL_law_114 22 rfl rfl)
theorem dL_law_2864 : decode cL_law 2864 = .ok (.ireturn, 1) := dk_172 (dk_at dksL_law_114 23 rfl rfl)
theorem dL_law_2865 : decode cL_law 2865 = .ok (.iload 6, 2) := dk_21 6 (dk_at dksL_law_115 0 rfl rfl)
theorem dL_law_2867 : decode cL_law 2867 = .ok (.ifCond .ne 15, 3) := dk_154 0 15 (dk_at dksL_law_115 2 rfl rfl)
theorem dL_law_2870 : decode cL_law 2870 = .ok (.aload_n 3, 1) := dk_45 (dk_at dksL_law_115 5 rfl rfl)
theorem dL_law_2871 : decode cL_law 2871 = .ok (.iconst 0, 1) := dk_3 (dk_at dksL_law_115 6 rfl rfl)
theorem dL_law_2872 : decode cL_law 2872 = .ok (.laload, 1) := dk_47 (dk_at dksL_law_115 7 rfl rfl)
theorem dL_law_2873 : decode cL_law 2873 = .ok (.iload 7, 2) := dk_21 7 (dk_at dksL_law_115 8 rfl rfl)
theorem dL_law_2875 : decode cL_law 2875 = .ok (.i2l, 1) := dk_133 (dk_at dksL_law_115 10 rfl rfl)
theorem dL_law_2876 : decode cL_law 2876 = .ok (.lcmp, 1) := dk_148 (dk_at dksL_law_115 11 rfl rfl)
theorem dL_law_2877 : decode cL_law 2877 = .ok (.ifCond .eq 5, 3) := dk_153 0 5 (dk_at dksL_law_115 12 rfl rfl)
theorem dL_law_2880 : decode cL_law 2880 = .ok (.iconst 0, 1) := dk_3 (dk_at dksL_law_115 15 rfl rfl)
theorem dL_law_2881 : decode cL_law 2881 = .ok (.ireturn, 1) := dk_172 (dk_at dksL_law_115 16 rfl rfl)
theorem dL_law_2882 : decode cL_law 2882 = .ok (.goto 333, 3) := dk_167 1 77 (dk_at dksL_law_115 17 rfl rfl)
theorem dL_law_2885 : decode cL_law 2885 = .ok (.aload_n 1, 1) := dk_43 (dk_at dksL_law_115 20 rfl rfl)
theorem dL_law_2886 : decode cL_law 2886 = .ok (.aload_n 0, 1) := dk_42 (dk_at dksL_law_115 21 rfl rfl)
theorem dL_law_2887 : decode cL_law 2887 = .ok (.iload 5, 2) := dk_21 5 (dk_at dksL_law_115 22 rfl rfl)
theorem dL_law_2889 : decode cL_law 2889 = .ok (.iconst 1, 1) := dk_4 (dk_at dksL_law_116 0 rfl rfl)
theorem dL_law_2890 : decode cL_law 2890 = .ok (.iadd, 1) := dk_96 (dk_at dksL_law_116 1 rfl rfl)
theorem dL_law_2891 : decode cL_law 2891 = .ok (.iaload, 1) := dk_46 (dk_at dksL_law_116 2 rfl rfl)
theorem dL_law_2892 : decode cL_law 2892 = .ok (.aload_n 0, 1) := dk_42 (dk_at dksL_law_116 3 rfl rfl)
theorem dL_law_2893 : decode cL_law 2893 = .ok (.iload 5, 2) := dk_21 5 (dk_at dksL_law_116 4 rfl rfl)
theorem dL_law_2895 : decode cL_law 2895 = .ok (.iconst 2, 1) := dk_5 (dk_at dksL_law_116 6 rfl rfl)
theorem dL_law_2896 : decode cL_law 2896 = .ok (.iadd, 1) := dk_96 (dk_at dksL_law_116 7 rfl rfl)
theorem dL_law_2897 : decode cL_law 2897 = .ok (.iaload, 1) := dk_46 (dk_at dksL_law_116 8 rfl rfl)
theorem dL_law_2898 : decode cL_law 2898 = .ok (.aload_n 0, 1) := dk_42 (dk_at dksL_law_116 9 rfl rfl)
theorem dL_law_2899 : decode cL_law 2899 = .ok (.iload 5, 2) := dk_21 5 (dk_at dksL_law_116 10 rfl rfl)
theorem dL_law_2901 : decode cL_law 2901 = .ok (.iconst 3, 1) := dk_6 (dk_at dksL_law_116 12 rfl rfl)
theorem dL_law_2902 : decode cL_law 2902 = .ok (.iadd, 1) := dk_96 (dk_at dksL_law_116 13 rfl rfl)
theorem dL_law_2903 : decode cL_law 2903 = .ok (.iaload, 1) := dk_46 (dk_at dksL_law_116 14 rfl rfl)
theorem dL_law_2904 : decode cL_law 2904 = .ok (.aload_n 0, 1) := dk_42 (dk_at dksL_law_116 15 rfl rfl)
theorem dL_law_2905 : decode cL_law 2905 = .ok (.iload 5, 2) := dk_21 5 (dk_at dksL_law_116 16 rfl rfl)
theorem dL_law_2907 : decode cL_law 2907 = .ok (.iconst 4, 1) := dk_7 (dk_at dksL_law_116 18 rfl rfl)
theorem dL_law_2908 : decode cL_law 2908 = .ok (.iadd, 1) := dk_96 (dk_at dksL_law_116 19 rfl rfl)
theorem dL_law_2909 : decode cL_law 2909 = .ok (.iaload, 1) := dk_46 (dk_at dksL_law_116 20 rfl rfl)
theorem dL_law_2910 : decode cL_law 2910 = .ok (.aload_n 0, 1) := dk_42 (dk_at dksL_law_116 21 rfl rfl)
theorem dL_law_2911 : decode cL_law 2911 = .ok (.iload 5, 2) := dk_21 5 (dk_at dksL_law_116 22 rfl rfl)
theorem dL_law_2913 : decode cL_law 2913 = .ok (.iconst 5, 1) := dk_8 (dk_at dksL_law_117 0 rfl rfl)
theorem dL_law_2914 : decode cL_law 2914 = .ok (.iadd, 1) := dk_96 (dk_at dksL_law_117 1 rfl rfl)
theorem dL_law_2915 : decode cL_law 2915 = .ok (.iaload, 1) := dk_46 (dk_at dksL_law_117 2 rfl rfl)
theorem dL_law_2916 : decode cL_law 2916 = .ok (.aload_n 0, 1) := dk_42 (dk_at dksL_law_117 3 rfl rfl)
theorem dL_law_2917 : decode cL_law 2917 = .ok (.iload 5, 2) := dk_21 5 (dk_at dksL_law_117 4 rfl rfl)
theorem dL_law_2919 : decode cL_law 2919 = .ok (.bipush 6, 2) := dk_16 6 (dk_at dksL_law_117 6 rfl rfl)
theorem dL_law_2921 : decode cL_law 2921 = .ok (.iadd, 1) := dk_96 (dk_at dksL_law_117 8 rfl rfl)
theorem dL_law_2922 : decode cL_law 2922 = .ok (.iaload, 1) := dk_46 (dk_at dksL_law_117 9 rfl rfl)
theorem dL_law_2923 : decode cL_law 2923 = .ok (.aload_n 3, 1) := dk_45 (dk_at dksL_law_117 10 rfl rfl)
theorem dL_law_2924 : decode cL_law 2924 = .ok (.invokestatic 314, 3) := dk_184 1 58 (dk_at dksL_law_117 11 rfl rfl)
theorem dL_law_2927 : decode cL_law 2927 = .ok (.istore 6, 2) := dk_54 6 (dk_at dksL_law_117 14 rfl rfl)
theorem dL_law_2929 : decode cL_law 2929 = .ok (.aload_n 2, 1) := dk_44 (dk_at dksL_law_117 16 rfl rfl)
theorem dL_law_2930 : decode cL_law 2930 = .ok (.aload_n 0, 1) := dk_42 (dk_at dksL_law_117 17 rfl rfl)
theorem dL_law_2931 : decode cL_law 2931 = .ok (.iload 5, 2) := dk_21 5 (dk_at dksL_law_117 18 rfl rfl)
theorem dL_law_2933 : decode cL_law 2933 = .ok (.iconst 1, 1) := dk_4 (dk_at dksL_law_117 20 rfl rfl)
theorem dL_law_2934 : decode cL_law 2934 = .ok (.iadd, 1) := dk_96 (dk_at dksL_law_117 21 rfl rfl)
theorem dL_law_2935 : decode cL_law 2935 = .ok (.iaload, 1) := dk_46 (dk_at dksL_law_117 22 rfl rfl)
theorem dL_law_2936 : decode cL_law 2936 = .ok (.aload_n 0, 1) := dk_42 (dk_at dksL_law_117 23 rfl rfl)
theorem dL_law_2937 : decode cL_law 2937 = .ok (.iload 5, 2) := dk_21 5 (dk_at dksL_law_118 0 rfl rfl)
theorem dL_law_2939 : decode cL_law 2939 = .ok (.iconst 2, 1) := dk_5 (dk_at dksL_law_118 2 rfl rfl)
theorem dL_law_2940 : decode cL_law 2940 = .ok (.iadd, 1) := dk_96 (dk_at dksL_law_118 3 rfl rfl)
theorem dL_law_2941 : decode cL_law 2941 = .ok (.iaload, 1) := dk_46 (dk_at dksL_law_118 4 rfl rfl)
theorem dL_law_2942 : decode cL_law 2942 = .ok (.aload_n 0, 1) := dk_42 (dk_at dksL_law_118 5 rfl rfl)
theorem dL_law_2943 : decode cL_law 2943 = .ok (.iload 5, 2) := dk_21 5 (dk_at dksL_law_118 6 rfl rfl)
theorem dL_law_2945 : decode cL_law 2945 = .ok (.iconst 3, 1) := dk_6 (dk_at dksL_law_118 8 rfl rfl)
theorem dL_law_2946 : decode cL_law 2946 = .ok (.iadd, 1) := dk_96 (dk_at dksL_law_118 9 rfl rfl)
theorem dL_law_2947 : decode cL_law 2947 = .ok (.iaload, 1) := dk_46 (dk_at dksL_law_118 10 rfl rfl)
theorem dL_law_2948 : decode cL_law 2948 = .ok (.aload_n 0, 1) := dk_42 (dk_at dksL_law_118 11 rfl rfl)
theorem dL_law_2949 : decode cL_law 2949 = .ok (.iload 5, 2) := dk_21 5 (dk_at dksL_law_118 12 rfl rfl)
theorem dL_law_2951 : decode cL_law 2951 = .ok (.iconst 4, 1) := dk_7 (dk_at dksL_law_118 14 rfl rfl)
theorem dL_law_2952 : decode cL_law 2952 = .ok (.iadd, 1) := dk_96 (dk_at dksL_law_118 15 rfl rfl)
theorem dL_law_2953 : decode cL_law 2953 = .ok (.iaload, 1) := dk_46 (dk_at dksL_law_118 16 rfl rfl)
theorem dL_law_2954 : decode cL_law 2954 = .ok (.aload_n 0, 1) := dk_42 (dk_at dksL_law_118 17 rfl rfl)
theorem dL_law_2955 : decode cL_law 2955 = .ok (.iload 5, 2) := dk_21 5 (dk_at dksL_law_118 18 rfl rfl)
theorem dL_law_2957 : decode cL_law 2957 = .ok (.iconst 5, 1) := dk_8 (dk_at dksL_law_118 20 rfl rfl)
theorem dL_law_2958 : decode cL_law 2958 = .ok (.iadd, 1) := dk_96 (dk_at dksL_law_118 21 rfl rfl)
theorem dL_law_2959 : decode cL_law 2959 = .ok (.iaload, 1) := dk_46 (dk_at dksL_law_118 22 rfl rfl)
theorem dL_law_2960 : decode cL_law 2960 = .ok (.aload_n 0, 1) := dk_42 (dk_at dksL_law_118 23 rfl rfl)
theorem dL_law_2961 : decode cL_law 2961 = .ok (.iload 5, 2) := dk_21 5 (dk_at dksL_law_119 0 rfl rfl)
theorem dL_law_2963 : decode cL_law 2963 = .ok (.bipush 6, 2) := dk_16 6 (dk_at dksL_law_119 2 rfl rfl)
theorem dL_law_2965 : decode cL_law 2965 = .ok (.iadd, 1) := dk_96 (dk_at dksL_law_119 4 rfl rfl)
theorem dL_law_2966 : decode cL_law 2966 = .ok (.iaload, 1) := dk_46 (dk_at dksL_law_119 5 rfl rfl)
theorem dL_law_2967 : decode cL_law 2967 = .ok (.invokevirtual 317, 3) := dk_182 1 61 (dk_at dksL_law_119 6 rfl rfl)
theorem dL_law_2970 : decode cL_law 2970 = .ok (.istore 7, 2) := dk_54 7 (dk_at dksL_law_119 9 rfl rfl)
theorem dL_law_2972 : decode cL_law 2972 = .ok (.aload_n 2, 1) := dk_44 (dk_at dksL_law_119 11 rfl rfl)
theorem dL_law_2973 : decode cL_law 2973 = .ok (.invokevirtual 170, 3) := dk_182 0 170 (dk_at dksL_law_119 12 rfl rfl)
theorem dL_law_2976 : decode cL_law 2976 = .ok (.iload 6, 2) := dk_21 6 (dk_at dksL_law_119 15 rfl rfl)
theorem dL_law_2978 : decode cL_law 2978 = .ok (.if_icmp .eq 5, 3) := dk_159 0 5 (dk_at dksL_law_119 17 rfl rfl)
theorem dL_law_2981 : decode cL_law 2981 = .ok (.iconst 0, 1) := dk_3 (dk_at dksL_law_119 20 rfl rfl)
theorem dL_law_2982 : decode cL_law 2982 = .ok (.ireturn, 1) := dk_172 (dk_at dksL_law_119 21 rfl rfl)
theorem dL_law_2983 : decode cL_law 2983 = .ok (.iload 6, 2) := dk_21 6 (dk_at dksL_law_119 22 rfl rfl)
theorem dL_law_2985 : decode cL_law 2985 = .ok (.ifCond .ne 15, 3) := dk_154 0 15 (dk_at dksL_law_120 0 rfl rfl)
theorem dL_law_2988 : decode cL_law 2988 = .ok (.aload_n 3, 1) := dk_45 (dk_at dksL_law_120 3 rfl rfl)
theorem dL_law_2989 : decode cL_law 2989 = .ok (.iconst 0, 1) := dk_3 (dk_at dksL_law_120 4 rfl rfl)
theorem dL_law_2990 : decode cL_law 2990 = .ok (.laload, 1) := dk_47 (dk_at dksL_law_120 5 rfl rfl)
theorem dL_law_2991 : decode cL_law 2991 = .ok (.iload 7, 2) := dk_21 7 (dk_at dksL_law_120 6 rfl rfl)
theorem dL_law_2993 : decode cL_law 2993 = .ok (.i2l, 1) := dk_133 (dk_at dksL_law_120 8 rfl rfl)
theorem dL_law_2994 : decode cL_law 2994 = .ok (.lcmp, 1) := dk_148 (dk_at dksL_law_120 9 rfl rfl)
theorem dL_law_2995 : decode cL_law 2995 = .ok (.ifCond .eq 5, 3) := dk_153 0 5 (dk_at dksL_law_120 10 rfl rfl)
theorem dL_law_2998 : decode cL_law 2998 = .ok (.iconst 0, 1) := dk_3 (dk_at dksL_law_120 13 rfl rfl)
theorem dL_law_2999 : decode cL_law 2999 = .ok (.ireturn, 1) := dk_172 (dk_at dksL_law_120 14 rfl rfl)
theorem dL_law_3000 : decode cL_law 3000 = .ok (.goto 215, 3) := dk_167 0 215 (dk_at dksL_law_120 15 rfl rfl)
theorem dL_law_3003 : decode cL_law 3003 = .ok (.aload_n 1, 1) := dk_43 (dk_at dksL_law_120 18 rfl rfl)
theorem dL_law_3004 : decode cL_law 3004 = .ok (.aload_n 0, 1) := dk_42 (dk_at dksL_law_120 19 rfl rfl)
theorem dL_law_3005 : decode cL_law 3005 = .ok (.iload 5, 2) := dk_21 5 (dk_at dksL_law_120 20 rfl rfl)
theorem dL_law_3007 : decode cL_law 3007 = .ok (.iconst 1, 1) := dk_4 (dk_at dksL_law_120 22 rfl rfl)
theorem dL_law_3008 : decode cL_law 3008 = .ok (.iadd, 1) := dk_96 (dk_at dksL_law_120 23 rfl rfl)
theorem dL_law_3009 : decode cL_law 3009 = .ok (.iaload, 1) := dk_46 (dk_at dksL_law_121 0 rfl rfl)
theorem dL_law_3010 : decode cL_law 3010 = .ok (.aload_n 3, 1) := dk_45 (dk_at dksL_law_121 1 rfl rfl)
theorem dL_law_3011 : decode cL_law 3011 = .ok (.invokestatic 318, 3) := dk_184 1 62 (dk_at dksL_law_121 2 rfl rfl)
theorem dL_law_3014 : decode cL_law 3014 = .ok (.istore 6, 2) := dk_54 6 (dk_at dksL_law_121 5 rfl rfl)
theorem dL_law_3016 : decode cL_law 3016 = .ok (.aload_n 2, 1) := dk_44 (dk_at dksL_law_121 7 rfl rfl)
theorem dL_law_3017 : decode cL_law 3017 = .ok (.aload_n 0, 1) := dk_42 (dk_at dksL_law_121 8 rfl rfl)
theorem dL_law_3018 : decode cL_law 3018 = .ok (.iload 5, 2) := dk_21 5 (dk_at dksL_law_121 9 rfl rfl)
theorem dL_law_3020 : decode cL_law 3020 = .ok (.iconst 1, 1) := dk_4 (dk_at dksL_law_121 11 rfl rfl)
theorem dL_law_3021 : decode cL_law 3021 = .ok (.iadd, 1) := dk_96 (dk_at dksL_law_121 12 rfl rfl)
theorem dL_law_3022 : decode cL_law 3022 = .ok (.iaload, 1) := dk_46 (dk_at dksL_law_121 13 rfl rfl)
theorem dL_law_3023 : decode cL_law 3023 = .ok (.invokevirtual 320, 3) := dk_182 1 64 (dk_at dksL_law_121 14 rfl rfl)
theorem dL_law_3026 : decode cL_law 3026 = .ok (.istore 7, 2) := dk_54 7 (dk_at dksL_law_121 17 rfl rfl)
theorem dL_law_3028 : decode cL_law 3028 = .ok (.aload_n 2, 1) := dk_44 (dk_at dksL_law_121 19 rfl rfl)
theorem dL_law_3029 : decode cL_law 3029 = .ok (.invokevirtual 170, 3) := dk_182 0 170 (dk_at dksL_law_121 20 rfl rfl)
theorem dL_law_3032 : decode cL_law 3032 = .ok (.iload 6, 2) := dk_21 6 (dk_at dksL_law_122 0 rfl rfl)
theorem dL_law_3034 : decode cL_law 3034 = .ok (.if_icmp .eq 5, 3) := dk_159 0 5 (dk_at dksL_law_122 2 rfl rfl)
theorem dL_law_3037 : decode cL_law 3037 = .ok (.iconst 0, 1) := dk_3 (dk_at dksL_law_122 5 rfl rfl)
theorem dL_law_3038 : decode cL_law 3038 = .ok (.ireturn, 1) := dk_172 (dk_at dksL_law_122 6 rfl rfl)
theorem dL_law_3039 : decode cL_law 3039 = .ok (.iload 6, 2) := dk_21 6 (dk_at dksL_law_122 7 rfl rfl)
theorem dL_law_3041 : decode cL_law 3041 = .ok (.ifCond .ne 15, 3) := dk_154 0 15 (dk_at dksL_law_122 9 rfl rfl)
theorem dL_law_3044 : decode cL_law 3044 = .ok (.aload_n 3, 1) := dk_45 (dk_at dksL_law_122 12 rfl rfl)
theorem dL_law_3045 : decode cL_law 3045 = .ok (.iconst 0, 1) := dk_3 (dk_at dksL_law_122 13 rfl rfl)
theorem dL_law_3046 : decode cL_law 3046 = .ok (.laload, 1) := dk_47 (dk_at dksL_law_122 14 rfl rfl)
theorem dL_law_3047 : decode cL_law 3047 = .ok (.iload 7, 2) := dk_21 7 (dk_at dksL_law_122 15 rfl rfl)
theorem dL_law_3049 : decode cL_law 3049 = .ok (.i2l, 1) := dk_133 (dk_at dksL_law_122 17 rfl rfl)
theorem dL_law_3050 : decode cL_law 3050 = .ok (.lcmp, 1) := dk_148 (dk_at dksL_law_122 18 rfl rfl)
theorem dL_law_3051 : decode cL_law 3051 = .ok (.ifCond .eq 5, 3) := dk_153 0 5 (dk_at dksL_law_122 19 rfl rfl)
theorem dL_law_3054 : decode cL_law 3054 = .ok (.iconst 0, 1) := dk_3 (dk_at dksL_law_122 22 rfl rfl)
theorem dL_law_3055 : decode cL_law 3055 = .ok (.ireturn, 1) := dk_172 (dk_at dksL_law_122 23 rfl rfl)
theorem dL_law_3056 : decode cL_law 3056 = .ok (.goto 159, 3) := dk_167 0 159 (dk_at dksL_law_123 0 rfl rfl)
theorem dL_law_3059 : decode cL_law 3059 = .ok (.aload_n 1, 1) := dk_43 (dk_at dksL_law_123 3 rfl rfl)
theorem dL_law_3060 : decode cL_law 3060 = .ok (.aload_n 3, 1) := dk_45 (dk_at dksL_law_123 4 rfl rfl)
theorem dL_law_3061 : decode cL_law 3061 = .ok (.invokestatic 321, 3) := dk_184 1 65 (dk_at dksL_law_123 5 rfl rfl)
theorem dL_law_3064 : decode cL_law 3064 = .ok (.istore 6, 2) := dk_54 6 (dk_at dksL_law_123 8 rfl rfl)
theorem dL_law_3066 : decode cL_law 3066 = .ok (.aload_n 2, 1) := dk_44 (dk_at dksL_law_123 10 rfl rfl)
theorem dL_law_3067 : decode cL_law 3067 = .ok (.invokevirtual 323, 3) := dk_182 1 67 (dk_at dksL_law_123 11 rfl rfl)
theorem dL_law_3070 : decode cL_law 3070 = .ok (.istore 7, 2) := dk_54 7 (dk_at dksL_law_123 14 rfl rfl)
theorem dL_law_3072 : decode cL_law 3072 = .ok (.aload_n 2, 1) := dk_44 (dk_at dksL_law_123 16 rfl rfl)
theorem dL_law_3073 : decode cL_law 3073 = .ok (.invokevirtual 170, 3) := dk_182 0 170 (dk_at dksL_law_123 17 rfl rfl)
theorem dL_law_3076 : decode cL_law 3076 = .ok (.iload 6, 2) := dk_21 6 (dk_at dksL_law_123 20 rfl rfl)
theorem dL_law_3078 : decode cL_law 3078 = .ok (.if_icmp .eq 5, 3) := dk_159 0 5 (dk_at dksL_law_124 0 rfl rfl)
theorem dL_law_3081 : decode cL_law 3081 = .ok (.iconst 0, 1) := dk_3 (dk_at dksL_law_124 3 rfl rfl)
theorem dL_law_3082 : decode cL_law 3082 = .ok (.ireturn, 1) := dk_172 (dk_at dksL_law_124 4 rfl rfl)
theorem dL_law_3083 : decode cL_law 3083 = .ok (.iload 6, 2) := dk_21 6 (dk_at dksL_law_124 5 rfl rfl)
theorem dL_law_3085 : decode cL_law 3085 = .ok (.ifCond .ne 15, 3) := dk_154 0 15 (dk_at dksL_law_124 7 rfl rfl)
theorem dL_law_3088 : decode cL_law 3088 = .ok (.aload_n 3, 1) := dk_45 (dk_at dksL_law_124 10 rfl rfl)
theorem dL_law_3089 : decode cL_law 3089 = .ok (.iconst 0, 1) := dk_3 (dk_at dksL_law_124 11 rfl rfl)
theorem dL_law_3090 : decode cL_law 3090 = .ok (.laload, 1) := dk_47 (dk_at dksL_law_124 12 rfl rfl)
theorem dL_law_3091 : decode cL_law 3091 = .ok (.iload 7, 2) := dk_21 7 (dk_at dksL_law_124 13 rfl rfl)
theorem dL_law_3093 : decode cL_law 3093 = .ok (.i2l, 1) := dk_133 (dk_at dksL_law_124 15 rfl rfl)
theorem dL_law_3094 : decode cL_law 3094 = .ok (.lcmp, 1) := dk_148 (dk_at dksL_law_124 16 rfl rfl)
theorem dL_law_3095 : decode cL_law 3095 = .ok (.ifCond .eq 5, 3) := dk_153 0 5 (dk_at dksL_law_124 17 rfl rfl)
theorem dL_law_3098 : decode cL_law 3098 = .ok (.iconst 0, 1) := dk_3 (dk_at dksL_law_124 20 rfl rfl)
theorem dL_law_3099 : decode cL_law 3099 = .ok (.ireturn, 1) := dk_172 (dk_at dksL_law_124 21 rfl rfl)
theorem dL_law_3100 : decode cL_law 3100 = .ok (.goto 115, 3) := dk_167 0 115 (dk_at dksL_law_125 0 rfl rfl)
theorem dL_law_3103 : decode cL_law 3103 = .ok (.aload_n 1, 1) := dk_43 (dk_at dksL_law_125 3 rfl rfl)
theorem dL_law_3104 : decode cL_law 3104 = .ok (.aload_n 0, 1) := dk_42 (dk_at dksL_law_125 4 rfl rfl)
theorem dL_law_3105 : decode cL_law 3105 = .ok (.iload 5, 2) := dk_21 5 (dk_at dksL_law_125 5 rfl rfl)
theorem dL_law_3107 : decode cL_law 3107 = .ok (.iconst 1, 1) := dk_4 (dk_at dksL_law_125 7 rfl rfl)
theorem dL_law_3108 : decode cL_law 3108 = .ok (.iadd, 1) := dk_96 (dk_at dksL_law_125 8 rfl rfl)
theorem dL_law_3109 : decode cL_law 3109 = .ok (.iaload, 1) := dk_46 (dk_at dksL_law_125 9 rfl rfl)
theorem dL_law_3110 : decode cL_law 3110 = .ok (.aload_n 3, 1) := dk_45 (dk_at dksL_law_125 10 rfl rfl)
theorem dL_law_3111 : decode cL_law 3111 = .ok (.invokestatic 324, 3) := dk_184 1 68 (dk_at dksL_law_125 11 rfl rfl)
theorem dL_law_3114 : decode cL_law 3114 = .ok (.istore 6, 2) := dk_54 6 (dk_at dksL_law_125 14 rfl rfl)
theorem dL_law_3116 : decode cL_law 3116 = .ok (.aload_n 2, 1) := dk_44 (dk_at dksL_law_125 16 rfl rfl)
theorem dL_law_3117 : decode cL_law 3117 = .ok (.aload_n 0, 1) := dk_42 (dk_at dksL_law_125 17 rfl rfl)
theorem dL_law_3118 : decode cL_law 3118 = .ok (.iload 5, 2) := dk_21 5 (dk_at dksL_law_125 18 rfl rfl)
theorem dL_law_3120 : decode cL_law 3120 = .ok (.iconst 1, 1) := dk_4 (dk_at dksL_law_125 20 rfl rfl)
theorem dL_law_3121 : decode cL_law 3121 = .ok (.iadd, 1) := dk_96 (dk_at dksL_law_125 21 rfl rfl)
theorem dL_law_3122 : decode cL_law 3122 = .ok (.iaload, 1) := dk_46 (dk_at dksL_law_125 22 rfl rfl)
theorem dL_law_3123 : decode cL_law 3123 = .ok (.invokevirtual 326, 3) := dk_182 1 70 (dk_at dksL_law_126 0 rfl rfl)
theorem dL_law_3126 : decode cL_law 3126 = .ok (.istore 7, 2) := dk_54 7 (dk_at dksL_law_126 3 rfl rfl)
theorem dL_law_3128 : decode cL_law 3128 = .ok (.aload_n 2, 1) := dk_44 (dk_at dksL_law_126 5 rfl rfl)
theorem dL_law_3129 : decode cL_law 3129 = .ok (.invokevirtual 170, 3) := dk_182 0 170 (dk_at dksL_law_126 6 rfl rfl)
theorem dL_law_3132 : decode cL_law 3132 = .ok (.iload 6, 2) := dk_21 6 (dk_at dksL_law_126 9 rfl rfl)
theorem dL_law_3134 : decode cL_law 3134 = .ok (.if_icmp .eq 5, 3) := dk_159 0 5 (dk_at dksL_law_126 11 rfl rfl)
theorem dL_law_3137 : decode cL_law 3137 = .ok (.iconst 0, 1) := dk_3 (dk_at dksL_law_126 14 rfl rfl)
theorem dL_law_3138 : decode cL_law 3138 = .ok (.ireturn, 1) := dk_172 (dk_at dksL_law_126 15 rfl rfl)
theorem dL_law_3139 : decode cL_law 3139 = .ok (.iload 6, 2) := dk_21 6 (dk_at dksL_law_126 16 rfl rfl)
theorem dL_law_3141 : decode cL_law 3141 = .ok (.ifCond .ne 15, 3) := dk_154 0 15 (dk_at dksL_law_126 18 rfl rfl)
theorem dL_law_3144 : decode cL_law 3144 = .ok (.aload_n 3, 1) := dk_45 (dk_at dksL_law_126 21 rfl rfl)
theorem dL_law_3145 : decode cL_law 3145 = .ok (.iconst 0, 1) := dk_3 (dk_at dksL_law_126 22 rfl rfl)
theorem dL_law_3146 : decode cL_law 3146 = .ok (.laload, 1) := dk_47 (dk_at dksL_law_126 23 rfl rfl)
theorem dL_law_3147 : decode cL_law 3147 = .ok (.iload 7, 2) := dk_21 7 (dk_at dksL_law_127 0 rfl rfl)
theorem dL_law_3149 : decode cL_law 3149 = .ok (.i2l, 1) := dk_133 (dk_at dksL_law_127 2 rfl rfl)
theorem dL_law_3150 : decode cL_law 3150 = .ok (.lcmp, 1) := dk_148 (dk_at dksL_law_127 3 rfl rfl)
theorem dL_law_3151 : decode cL_law 3151 = .ok (.ifCond .eq 5, 3) := dk_153 0 5 (dk_at dksL_law_127 4 rfl rfl)
theorem dL_law_3154 : decode cL_law 3154 = .ok (.iconst 0, 1) := dk_3 (dk_at dksL_law_127 7 rfl rfl)
theorem dL_law_3155 : decode cL_law 3155 = .ok (.ireturn, 1) := dk_172 (dk_at dksL_law_127 8 rfl rfl)
theorem dL_law_3156 : decode cL_law 3156 = .ok (.goto 59, 3) := dk_167 0 59 (dk_at dksL_law_127 9 rfl rfl)
theorem dL_law_3159 : decode cL_law 3159 = .ok (.aload_n 1, 1) := dk_43 (dk_at dksL_law_127 12 rfl rfl)
theorem dL_law_3160 : decode cL_law 3160 = .ok (.aload_n 0, 1) := dk_42 (dk_at dksL_law_127 13 rfl rfl)
theorem dL_law_3161 : decode cL_law 3161 = .ok (.iload 5, 2) := dk_21 5 (dk_at dksL_law_127 14 rfl rfl)
theorem dL_law_3163 : decode cL_law 3163 = .ok (.iconst 1, 1) := dk_4 (dk_at dksL_law_127 16 rfl rfl)
theorem dL_law_3164 : decode cL_law 3164 = .ok (.iadd, 1) := dk_96 (dk_at dksL_law_127 17 rfl rfl)
theorem dL_law_3165 : decode cL_law 3165 = .ok (.iaload, 1) := dk_46 (dk_at dksL_law_127 18 rfl rfl)
theorem dL_law_3166 : decode cL_law 3166 = .ok (.aload_n 3, 1) := dk_45 (dk_at dksL_law_127 19 rfl rfl)
theorem dL_law_3167 : decode cL_law 3167 = .ok (.invokestatic 327, 3) := dk_184 1 71 (dk_at dksL_law_127 20 rfl rfl)
theorem dL_law_3170 : decode cL_law 3170 = .ok (.istore 6, 2) := dk_54 6 (dk_at dksL_law_128 0 rfl rfl)
theorem dL_law_3172 : decode cL_law 3172 = .ok (.aload_n 2, 1) := dk_44 (dk_at dksL_law_128 2 rfl rfl)
theorem dL_law_3173 : decode cL_law 3173 = .ok (.aload_n 0, 1) := dk_42 (dk_at dksL_law_128 3 rfl rfl)
theorem dL_law_3174 : decode cL_law 3174 = .ok (.iload 5, 2) := dk_21 5 (dk_at dksL_law_128 4 rfl rfl)
theorem dL_law_3176 : decode cL_law 3176 = .ok (.iconst 1, 1) := dk_4 (dk_at dksL_law_128 6 rfl rfl)
theorem dL_law_3177 : decode cL_law 3177 = .ok (.iadd, 1) := dk_96 (dk_at dksL_law_128 7 rfl rfl)
theorem dL_law_3178 : decode cL_law 3178 = .ok (.iaload, 1) := dk_46 (dk_at dksL_law_128 8 rfl rfl)
theorem dL_law_3179 : decode cL_law 3179 = .ok (.invokevirtual 329, 3) := dk_182 1 73 (dk_at dksL_law_128 9 rfl rfl)
theorem dL_law_3182 : decode cL_law 3182 = .ok (.istore 7, 2) := dk_54 7 (dk_at dksL_law_128 12 rfl rfl)
theorem dL_law_3184 : decode cL_law 3184 = .ok (.aload_n 2, 1) := dk_44 (dk_at dksL_law_128 14 rfl rfl)
theorem dL_law_3185 : decode cL_law 3185 = .ok (.invokevirtual 170, 3) := dk_182 0 170 (dk_at dksL_law_128 15 rfl rfl)
theorem dL_law_3188 : decode cL_law 3188 = .ok (.iload 6, 2) := dk_21 6 (dk_at dksL_law_128 18 rfl rfl)
theorem dL_law_3190 : decode cL_law 3190 = .ok (.if_icmp .eq 5, 3) := dk_159 0 5 (dk_at dksL_law_128 20 rfl rfl)
theorem dL_law_3193 : decode cL_law 3193 = .ok (.iconst 0, 1) := dk_3 (dk_at dksL_law_128 23 rfl rfl)
theorem dL_law_3194 : decode cL_law 3194 = .ok (.ireturn, 1) := dk_172 (dk_at dksL_law_129 0 rfl rfl)
theorem dL_law_3195 : decode cL_law 3195 = .ok (.iload 6, 2) := dk_21 6 (dk_at dksL_law_129 1 rfl rfl)
theorem dL_law_3197 : decode cL_law 3197 = .ok (.ifCond .ne 15, 3) := dk_154 0 15 (dk_at dksL_law_129 3 rfl rfl)
theorem dL_law_3200 : decode cL_law 3200 = .ok (.aload_n 3, 1) := dk_45 (dk_at dksL_law_129 6 rfl rfl)
theorem dL_law_3201 : decode cL_law 3201 = .ok (.iconst 0, 1) := dk_3 (dk_at dksL_law_129 7 rfl rfl)
theorem dL_law_3202 : decode cL_law 3202 = .ok (.laload, 1) := dk_47 (dk_at dksL_law_129 8 rfl rfl)
theorem dL_law_3203 : decode cL_law 3203 = .ok (.iload 7, 2) := dk_21 7 (dk_at dksL_law_129 9 rfl rfl)
theorem dL_law_3205 : decode cL_law 3205 = .ok (.i2l, 1) := dk_133 (dk_at dksL_law_129 11 rfl rfl)
theorem dL_law_3206 : decode cL_law 3206 = .ok (.lcmp, 1) := dk_148 (dk_at dksL_law_129 12 rfl rfl)
theorem dL_law_3207 : decode cL_law 3207 = .ok (.ifCond .eq 5, 3) := dk_153 0 5 (dk_at dksL_law_129 13 rfl rfl)
theorem dL_law_3210 : decode cL_law 3210 = .ok (.iconst 0, 1) := dk_3 (dk_at dksL_law_129 16 rfl rfl)
theorem dL_law_3211 : decode cL_law 3211 = .ok (.ireturn, 1) := dk_172 (dk_at dksL_law_129 17 rfl rfl)
theorem dL_law_3212 : decode cL_law 3212 = .ok (.goto 3, 3) := dk_167 0 3 (dk_at dksL_law_129 18 rfl rfl)
theorem dL_law_3215 : decode cL_law 3215 = .ok (.iinc 5 7, 3) := dk_132 5 7 (dk_at dksL_law_129 21 rfl rfl)
theorem dL_law_3218 : decode cL_law 3218 = .ok (.goto (-3190), 3) := dk_167 243 138 (dk_at dksL_law_130 0 rfl rfl)
theorem dL_law_3221 : decode cL_law 3221 = .ok (.iconst 1, 1) := dk_4 (dk_at dksL_law_130 3 rfl rfl)
theorem dL_law_3222 : decode cL_law 3222 = .ok (.ireturn, 1) := dk_172 (dk_at dksL_law_130 4 rfl rfl)

/-! CameraMovesLaw -/
set_option maxRecDepth 100000
def RX0 : String := "CameraMovesLaw"
abbrev cX0_append : ByteArray := method_3_code
def yX0_append : MethodName := ⟨RX0, "append", "(LCameraMoves;IIIII[J)I"⟩
def dkwX0_append_1 : List UInt8 := [172]
abbrev dktX0_append_1 : List UInt8 := dkwX0_append_1 ++ []
def dkwX0_append_0 : List UInt8 := [25, 6, 3, 42, 27, 28, 29, 21, 4, 21, 5, 182, 0, 7, 133, 80, 167, 0, 7, 58, 7, 4, 172, 3]
abbrev dktX0_append_0 : List UInt8 := dkwX0_append_0 ++ dktX0_append_1
theorem dksX0_append_0 : cX0_append.data.toList.drop 0 = dktX0_append_0 := by decide +kernel
theorem dksX0_append_1 : cX0_append.data.toList.drop 24 = dktX0_append_1 := dk_seg dksX0_append_0 24 rfl rfl
theorem dX0_append_0 : decode cX0_append 0 = .ok (.aload 6, 2) := dk_25 6 (dk_at dksX0_append_0 0 rfl rfl)
theorem dX0_append_2 : decode cX0_append 2 = .ok (.iconst 0, 1) := dk_3 (dk_at dksX0_append_0 2 rfl rfl)
theorem dX0_append_3 : decode cX0_append 3 = .ok (.aload_n 0, 1) := dk_42 (dk_at dksX0_append_0 3 rfl rfl)
theorem dX0_append_4 : decode cX0_append 4 = .ok (.iload_n 1, 1) := dk_27 (dk_at dksX0_append_0 4 rfl rfl)
theorem dX0_append_5 : decode cX0_append 5 = .ok (.iload_n 2, 1) := dk_28 (dk_at dksX0_append_0 5 rfl rfl)
theorem dX0_append_6 : decode cX0_append 6 = .ok (.iload_n 3, 1) := dk_29 (dk_at dksX0_append_0 6 rfl rfl)
theorem dX0_append_7 : decode cX0_append 7 = .ok (.iload 4, 2) := dk_21 4 (dk_at dksX0_append_0 7 rfl rfl)
theorem dX0_append_9 : decode cX0_append 9 = .ok (.iload 5, 2) := dk_21 5 (dk_at dksX0_append_0 9 rfl rfl)
theorem dX0_append_11 : decode cX0_append 11 = .ok (.invokevirtual 7, 3) := dk_182 0 7 (dk_at dksX0_append_0 11 rfl rfl)
theorem dX0_append_14 : decode cX0_append 14 = .ok (.i2l, 1) := dk_133 (dk_at dksX0_append_0 14 rfl rfl)
theorem dX0_append_15 : decode cX0_append 15 = .ok (.lastore, 1) := dk_80 (dk_at dksX0_append_0 15 rfl rfl)
theorem dX0_append_16 : decode cX0_append 16 = .ok (.goto 7, 3) := dk_167 0 7 (dk_at dksX0_append_0 16 rfl rfl)
theorem dX0_append_19 : decode cX0_append 19 = .ok (.astore 7, 2) := dk_58 7 (dk_at dksX0_append_0 19 rfl rfl)
theorem dX0_append_21 : decode cX0_append 21 = .ok (.iconst 1, 1) := dk_4 (dk_at dksX0_append_0 21 rfl rfl)
theorem dX0_append_22 : decode cX0_append 22 = .ok (.ireturn, 1) := dk_172 (dk_at dksX0_append_0 22 rfl rfl)
theorem dX0_append_23 : decode cX0_append 23 = .ok (.iconst 0, 1) := dk_3 (dk_at dksX0_append_0 23 rfl rfl)
theorem dX0_append_24 : decode cX0_append 24 = .ok (.ireturn, 1) := dk_172 (dk_at dksX0_append_1 0 rfl rfl)
abbrev cX0_truncate : ByteArray := method_4_code
def yX0_truncate : MethodName := ⟨RX0, "truncate", "(LCameraMoves;I)I"⟩
def dkwX0_truncate_0 : List UInt8 := [42, 27, 182, 0, 15, 167, 0, 6, 77, 4, 172, 3, 172]
abbrev dktX0_truncate_0 : List UInt8 := dkwX0_truncate_0 ++ []
theorem dksX0_truncate_0 : cX0_truncate.data.toList.drop 0 = dktX0_truncate_0 := by decide +kernel
theorem dX0_truncate_0 : decode cX0_truncate 0 = .ok (.aload_n 0, 1) := dk_42 (dk_at dksX0_truncate_0 0 rfl rfl)
theorem dX0_truncate_1 : decode cX0_truncate 1 = .ok (.iload_n 1, 1) := dk_27 (dk_at dksX0_truncate_0 1 rfl rfl)
theorem dX0_truncate_2 : decode cX0_truncate 2 = .ok (.invokevirtual 15, 3) := dk_182 0 15 (dk_at dksX0_truncate_0 2 rfl rfl)
theorem dX0_truncate_5 : decode cX0_truncate 5 = .ok (.goto 6, 3) := dk_167 0 6 (dk_at dksX0_truncate_0 5 rfl rfl)
theorem dX0_truncate_8 : decode cX0_truncate 8 = .ok (.astore_n 2, 1) := dk_77 (dk_at dksX0_truncate_0 8 rfl rfl)
theorem dX0_truncate_9 : decode cX0_truncate 9 = .ok (.iconst 1, 1) := dk_4 (dk_at dksX0_truncate_0 9 rfl rfl)
theorem dX0_truncate_10 : decode cX0_truncate 10 = .ok (.ireturn, 1) := dk_172 (dk_at dksX0_truncate_0 10 rfl rfl)
theorem dX0_truncate_11 : decode cX0_truncate 11 = .ok (.iconst 0, 1) := dk_3 (dk_at dksX0_truncate_0 11 rfl rfl)
theorem dX0_truncate_12 : decode cX0_truncate 12 = .ok (.ireturn, 1) := dk_172 (dk_at dksX0_truncate_0 12 rfl rfl)
abbrev cX0_load : ByteArray := method_5_code
def yX0_load : MethodName := ⟨RX0, "load", "(LCameraMoves;[J)I"⟩
def dkwX0_load_0 : List UInt8 := [43, 3, 42, 182, 0, 21, 133, 80, 167, 0, 6, 77, 4, 172, 3, 172]
abbrev dktX0_load_0 : List UInt8 := dkwX0_load_0 ++ []
theorem dksX0_load_0 : cX0_load.data.toList.drop 0 = dktX0_load_0 := by decide +kernel
theorem dX0_load_0 : decode cX0_load 0 = .ok (.aload_n 1, 1) := dk_43 (dk_at dksX0_load_0 0 rfl rfl)
theorem dX0_load_1 : decode cX0_load 1 = .ok (.iconst 0, 1) := dk_3 (dk_at dksX0_load_0 1 rfl rfl)
theorem dX0_load_2 : decode cX0_load 2 = .ok (.aload_n 0, 1) := dk_42 (dk_at dksX0_load_0 2 rfl rfl)
theorem dX0_load_3 : decode cX0_load 3 = .ok (.invokevirtual 21, 3) := dk_182 0 21 (dk_at dksX0_load_0 3 rfl rfl)
theorem dX0_load_6 : decode cX0_load 6 = .ok (.i2l, 1) := dk_133 (dk_at dksX0_load_0 6 rfl rfl)
theorem dX0_load_7 : decode cX0_load 7 = .ok (.lastore, 1) := dk_80 (dk_at dksX0_load_0 7 rfl rfl)
theorem dX0_load_8 : decode cX0_load 8 = .ok (.goto 6, 3) := dk_167 0 6 (dk_at dksX0_load_0 8 rfl rfl)
theorem dX0_load_11 : decode cX0_load 11 = .ok (.astore_n 2, 1) := dk_77 (dk_at dksX0_load_0 11 rfl rfl)
theorem dX0_load_12 : decode cX0_load 12 = .ok (.iconst 1, 1) := dk_4 (dk_at dksX0_load_0 12 rfl rfl)
theorem dX0_load_13 : decode cX0_load 13 = .ok (.ireturn, 1) := dk_172 (dk_at dksX0_load_0 13 rfl rfl)
theorem dX0_load_14 : decode cX0_load 14 = .ok (.iconst 0, 1) := dk_3 (dk_at dksX0_load_0 14 rfl rfl)
theorem dX0_load_15 : decode cX0_load 15 = .ok (.ireturn, 1) := dk_172 (dk_at dksX0_load_0 15 rfl rfl)
abbrev cX0_count : ByteArray := method_6_code
def yX0_count : MethodName := ⟨RX0, "count", "(LCameraMoves;I[J)I"⟩
def dkwX0_count_0 : List UInt8 := [44, 3, 42, 27, 182, 0, 25, 133, 80, 167, 0, 6, 78, 4, 172, 3, 172]
abbrev dktX0_count_0 : List UInt8 := dkwX0_count_0 ++ []
theorem dksX0_count_0 : cX0_count.data.toList.drop 0 = dktX0_count_0 := by decide +kernel
theorem dX0_count_0 : decode cX0_count 0 = .ok (.aload_n 2, 1) := dk_44 (dk_at dksX0_count_0 0 rfl rfl)
theorem dX0_count_1 : decode cX0_count 1 = .ok (.iconst 0, 1) := dk_3 (dk_at dksX0_count_0 1 rfl rfl)
theorem dX0_count_2 : decode cX0_count 2 = .ok (.aload_n 0, 1) := dk_42 (dk_at dksX0_count_0 2 rfl rfl)
theorem dX0_count_3 : decode cX0_count 3 = .ok (.iload_n 1, 1) := dk_27 (dk_at dksX0_count_0 3 rfl rfl)
theorem dX0_count_4 : decode cX0_count 4 = .ok (.invokevirtual 25, 3) := dk_182 0 25 (dk_at dksX0_count_0 4 rfl rfl)
theorem dX0_count_7 : decode cX0_count 7 = .ok (.i2l, 1) := dk_133 (dk_at dksX0_count_0 7 rfl rfl)
theorem dX0_count_8 : decode cX0_count 8 = .ok (.lastore, 1) := dk_80 (dk_at dksX0_count_0 8 rfl rfl)
theorem dX0_count_9 : decode cX0_count 9 = .ok (.goto 6, 3) := dk_167 0 6 (dk_at dksX0_count_0 9 rfl rfl)
theorem dX0_count_12 : decode cX0_count 12 = .ok (.astore_n 3, 1) := dk_78 (dk_at dksX0_count_0 12 rfl rfl)
theorem dX0_count_13 : decode cX0_count 13 = .ok (.iconst 1, 1) := dk_4 (dk_at dksX0_count_0 13 rfl rfl)
theorem dX0_count_14 : decode cX0_count 14 = .ok (.ireturn, 1) := dk_172 (dk_at dksX0_count_0 14 rfl rfl)
theorem dX0_count_15 : decode cX0_count 15 = .ok (.iconst 0, 1) := dk_3 (dk_at dksX0_count_0 15 rfl rfl)
theorem dX0_count_16 : decode cX0_count 16 = .ok (.ireturn, 1) := dk_172 (dk_at dksX0_count_0 16 rfl rfl)
abbrev cX0_limit : ByteArray := method_7_code
def yX0_limit : MethodName := ⟨RX0, "limit", "(LCameraMoves;II[J)I"⟩
def dkwX0_limit_0 : List UInt8 := [45, 3, 42, 27, 28, 182, 0, 29, 133, 80, 167, 0, 11, 58, 4, 4, 172, 58, 4, 5, 172, 3, 172]
abbrev dktX0_limit_0 : List UInt8 := dkwX0_limit_0 ++ []
theorem dksX0_limit_0 : cX0_limit.data.toList.drop 0 = dktX0_limit_0 := by decide +kernel
theorem dX0_limit_0 : decode cX0_limit 0 = .ok (.aload_n 3, 1) := dk_45 (dk_at dksX0_limit_0 0 rfl rfl)
theorem dX0_limit_1 : decode cX0_limit 1 = .ok (.iconst 0, 1) := dk_3 (dk_at dksX0_limit_0 1 rfl rfl)
theorem dX0_limit_2 : decode cX0_limit 2 = .ok (.aload_n 0, 1) := dk_42 (dk_at dksX0_limit_0 2 rfl rfl)
theorem dX0_limit_3 : decode cX0_limit 3 = .ok (.iload_n 1, 1) := dk_27 (dk_at dksX0_limit_0 3 rfl rfl)
theorem dX0_limit_4 : decode cX0_limit 4 = .ok (.iload_n 2, 1) := dk_28 (dk_at dksX0_limit_0 4 rfl rfl)
theorem dX0_limit_5 : decode cX0_limit 5 = .ok (.invokevirtual 29, 3) := dk_182 0 29 (dk_at dksX0_limit_0 5 rfl rfl)
theorem dX0_limit_8 : decode cX0_limit 8 = .ok (.i2l, 1) := dk_133 (dk_at dksX0_limit_0 8 rfl rfl)
theorem dX0_limit_9 : decode cX0_limit 9 = .ok (.lastore, 1) := dk_80 (dk_at dksX0_limit_0 9 rfl rfl)
theorem dX0_limit_10 : decode cX0_limit 10 = .ok (.goto 11, 3) := dk_167 0 11 (dk_at dksX0_limit_0 10 rfl rfl)
theorem dX0_limit_13 : decode cX0_limit 13 = .ok (.astore 4, 2) := dk_58 4 (dk_at dksX0_limit_0 13 rfl rfl)
theorem dX0_limit_15 : decode cX0_limit 15 = .ok (.iconst 1, 1) := dk_4 (dk_at dksX0_limit_0 15 rfl rfl)
theorem dX0_limit_16 : decode cX0_limit 16 = .ok (.ireturn, 1) := dk_172 (dk_at dksX0_limit_0 16 rfl rfl)
theorem dX0_limit_17 : decode cX0_limit 17 = .ok (.astore 4, 2) := dk_58 4 (dk_at dksX0_limit_0 17 rfl rfl)
theorem dX0_limit_19 : decode cX0_limit 19 = .ok (.iconst 2, 1) := dk_5 (dk_at dksX0_limit_0 19 rfl rfl)
theorem dX0_limit_20 : decode cX0_limit 20 = .ok (.ireturn, 1) := dk_172 (dk_at dksX0_limit_0 20 rfl rfl)
theorem dX0_limit_21 : decode cX0_limit 21 = .ok (.iconst 0, 1) := dk_3 (dk_at dksX0_limit_0 21 rfl rfl)
theorem dX0_limit_22 : decode cX0_limit 22 = .ok (.ireturn, 1) := dk_172 (dk_at dksX0_limit_0 22 rfl rfl)
abbrev cX0_cueFrame : ByteArray := method_8_code
def yX0_cueFrame : MethodName := ⟨RX0, "cueFrame", "(LCameraMoves;I[J)I"⟩
def dkwX0_cueFrame_0 : List UInt8 := [44, 3, 42, 27, 182, 0, 35, 133, 80, 167, 0, 6, 78, 4, 172, 3, 172]
abbrev dktX0_cueFrame_0 : List UInt8 := dkwX0_cueFrame_0 ++ []
theorem dksX0_cueFrame_0 : cX0_cueFrame.data.toList.drop 0 = dktX0_cueFrame_0 := by decide +kernel
theorem dX0_cueFrame_0 : decode cX0_cueFrame 0 = .ok (.aload_n 2, 1) := dk_44 (dk_at dksX0_cueFrame_0 0 rfl rfl)
theorem dX0_cueFrame_1 : decode cX0_cueFrame 1 = .ok (.iconst 0, 1) := dk_3 (dk_at dksX0_cueFrame_0 1 rfl rfl)
theorem dX0_cueFrame_2 : decode cX0_cueFrame 2 = .ok (.aload_n 0, 1) := dk_42 (dk_at dksX0_cueFrame_0 2 rfl rfl)
theorem dX0_cueFrame_3 : decode cX0_cueFrame 3 = .ok (.iload_n 1, 1) := dk_27 (dk_at dksX0_cueFrame_0 3 rfl rfl)
theorem dX0_cueFrame_4 : decode cX0_cueFrame 4 = .ok (.invokevirtual 35, 3) := dk_182 0 35 (dk_at dksX0_cueFrame_0 4 rfl rfl)
theorem dX0_cueFrame_7 : decode cX0_cueFrame 7 = .ok (.i2l, 1) := dk_133 (dk_at dksX0_cueFrame_0 7 rfl rfl)
theorem dX0_cueFrame_8 : decode cX0_cueFrame 8 = .ok (.lastore, 1) := dk_80 (dk_at dksX0_cueFrame_0 8 rfl rfl)
theorem dX0_cueFrame_9 : decode cX0_cueFrame 9 = .ok (.goto 6, 3) := dk_167 0 6 (dk_at dksX0_cueFrame_0 9 rfl rfl)
theorem dX0_cueFrame_12 : decode cX0_cueFrame 12 = .ok (.astore_n 3, 1) := dk_78 (dk_at dksX0_cueFrame_0 12 rfl rfl)
theorem dX0_cueFrame_13 : decode cX0_cueFrame 13 = .ok (.iconst 1, 1) := dk_4 (dk_at dksX0_cueFrame_0 13 rfl rfl)
theorem dX0_cueFrame_14 : decode cX0_cueFrame 14 = .ok (.ireturn, 1) := dk_172 (dk_at dksX0_cueFrame_0 14 rfl rfl)
theorem dX0_cueFrame_15 : decode cX0_cueFrame 15 = .ok (.iconst 0, 1) := dk_3 (dk_at dksX0_cueFrame_0 15 rfl rfl)
theorem dX0_cueFrame_16 : decode cX0_cueFrame 16 = .ok (.ireturn, 1) := dk_172 (dk_at dksX0_cueFrame_0 16 rfl rfl)
abbrev cX0_cueLength : ByteArray := method_9_code
def yX0_cueLength : MethodName := ⟨RX0, "cueLength", "(LCameraMoves;I[J)I"⟩
def dkwX0_cueLength_0 : List UInt8 := [44, 3, 42, 27, 182, 0, 38, 133, 80, 167, 0, 6, 78, 4, 172, 3, 172]
abbrev dktX0_cueLength_0 : List UInt8 := dkwX0_cueLength_0 ++ []
theorem dksX0_cueLength_0 : cX0_cueLength.data.toList.drop 0 = dktX0_cueLength_0 := by decide +kernel
theorem dX0_cueLength_0 : decode cX0_cueLength 0 = .ok (.aload_n 2, 1) := dk_44 (dk_at dksX0_cueLength_0 0 rfl rfl)
theorem dX0_cueLength_1 : decode cX0_cueLength 1 = .ok (.iconst 0, 1) := dk_3 (dk_at dksX0_cueLength_0 1 rfl rfl)
theorem dX0_cueLength_2 : decode cX0_cueLength 2 = .ok (.aload_n 0, 1) := dk_42 (dk_at dksX0_cueLength_0 2 rfl rfl)
theorem dX0_cueLength_3 : decode cX0_cueLength 3 = .ok (.iload_n 1, 1) := dk_27 (dk_at dksX0_cueLength_0 3 rfl rfl)
theorem dX0_cueLength_4 : decode cX0_cueLength 4 = .ok (.invokevirtual 38, 3) := dk_182 0 38 (dk_at dksX0_cueLength_0 4 rfl rfl)
theorem dX0_cueLength_7 : decode cX0_cueLength 7 = .ok (.i2l, 1) := dk_133 (dk_at dksX0_cueLength_0 7 rfl rfl)
theorem dX0_cueLength_8 : decode cX0_cueLength 8 = .ok (.lastore, 1) := dk_80 (dk_at dksX0_cueLength_0 8 rfl rfl)
theorem dX0_cueLength_9 : decode cX0_cueLength 9 = .ok (.goto 6, 3) := dk_167 0 6 (dk_at dksX0_cueLength_0 9 rfl rfl)
theorem dX0_cueLength_12 : decode cX0_cueLength 12 = .ok (.astore_n 3, 1) := dk_78 (dk_at dksX0_cueLength_0 12 rfl rfl)
theorem dX0_cueLength_13 : decode cX0_cueLength 13 = .ok (.iconst 1, 1) := dk_4 (dk_at dksX0_cueLength_0 13 rfl rfl)
theorem dX0_cueLength_14 : decode cX0_cueLength 14 = .ok (.ireturn, 1) := dk_172 (dk_at dksX0_cueLength_0 14 rfl rfl)
theorem dX0_cueLength_15 : decode cX0_cueLength 15 = .ok (.iconst 0, 1) := dk_3 (dk_at dksX0_cueLength_0 15 rfl rfl)
theorem dX0_cueLength_16 : decode cX0_cueLength 16 = .ok (.ireturn, 1) := dk_172 (dk_at dksX0_cueLength_0 16 rfl rfl)
abbrev cX0_target : ByteArray := method_10_code
def yX0_target : MethodName := ⟨RX0, "target", "(LCameraMoves;II[J)I"⟩
def dkwX0_target_0 : List UInt8 := [45, 3, 42, 27, 28, 182, 0, 41, 133, 80, 167, 0, 11, 58, 4, 4, 172, 58, 4, 5, 172, 3, 172]
abbrev dktX0_target_0 : List UInt8 := dkwX0_target_0 ++ []
theorem dksX0_target_0 : cX0_target.data.toList.drop 0 = dktX0_target_0 := by decide +kernel
theorem dX0_target_0 : decode cX0_target 0 = .ok (.aload_n 3, 1) := dk_45 (dk_at dksX0_target_0 0 rfl rfl)
theorem dX0_target_1 : decode cX0_target 1 = .ok (.iconst 0, 1) := dk_3 (dk_at dksX0_target_0 1 rfl rfl)
theorem dX0_target_2 : decode cX0_target 2 = .ok (.aload_n 0, 1) := dk_42 (dk_at dksX0_target_0 2 rfl rfl)
theorem dX0_target_3 : decode cX0_target 3 = .ok (.iload_n 1, 1) := dk_27 (dk_at dksX0_target_0 3 rfl rfl)
theorem dX0_target_4 : decode cX0_target 4 = .ok (.iload_n 2, 1) := dk_28 (dk_at dksX0_target_0 4 rfl rfl)
theorem dX0_target_5 : decode cX0_target 5 = .ok (.invokevirtual 41, 3) := dk_182 0 41 (dk_at dksX0_target_0 5 rfl rfl)
theorem dX0_target_8 : decode cX0_target 8 = .ok (.i2l, 1) := dk_133 (dk_at dksX0_target_0 8 rfl rfl)
theorem dX0_target_9 : decode cX0_target 9 = .ok (.lastore, 1) := dk_80 (dk_at dksX0_target_0 9 rfl rfl)
theorem dX0_target_10 : decode cX0_target 10 = .ok (.goto 11, 3) := dk_167 0 11 (dk_at dksX0_target_0 10 rfl rfl)
theorem dX0_target_13 : decode cX0_target 13 = .ok (.astore 4, 2) := dk_58 4 (dk_at dksX0_target_0 13 rfl rfl)
theorem dX0_target_15 : decode cX0_target 15 = .ok (.iconst 1, 1) := dk_4 (dk_at dksX0_target_0 15 rfl rfl)
theorem dX0_target_16 : decode cX0_target 16 = .ok (.ireturn, 1) := dk_172 (dk_at dksX0_target_0 16 rfl rfl)
theorem dX0_target_17 : decode cX0_target 17 = .ok (.astore 4, 2) := dk_58 4 (dk_at dksX0_target_0 17 rfl rfl)
theorem dX0_target_19 : decode cX0_target 19 = .ok (.iconst 2, 1) := dk_5 (dk_at dksX0_target_0 19 rfl rfl)
theorem dX0_target_20 : decode cX0_target 20 = .ok (.ireturn, 1) := dk_172 (dk_at dksX0_target_0 20 rfl rfl)
theorem dX0_target_21 : decode cX0_target 21 = .ok (.iconst 0, 1) := dk_3 (dk_at dksX0_target_0 21 rfl rfl)
theorem dX0_target_22 : decode cX0_target 22 = .ok (.ireturn, 1) := dk_172 (dk_at dksX0_target_0 22 rfl rfl)
abbrev cX0_leastFrames : ByteArray := method_11_code
def yX0_leastFrames : MethodName := ⟨RX0, "leastFrames", "(LCameraMoves;II[J)I"⟩
def dkwX0_leastFrames_0 : List UInt8 := [45, 3, 42, 27, 28, 182, 0, 46, 133, 80, 167, 0, 11, 58, 4, 4, 172, 58, 4, 5, 172, 3, 172]
abbrev dktX0_leastFrames_0 : List UInt8 := dkwX0_leastFrames_0 ++ []
theorem dksX0_leastFrames_0 : cX0_leastFrames.data.toList.drop 0 = dktX0_leastFrames_0 := by decide +kernel
theorem dX0_leastFrames_0 : decode cX0_leastFrames 0 = .ok (.aload_n 3, 1) := dk_45 (dk_at dksX0_leastFrames_0 0 rfl rfl)
theorem dX0_leastFrames_1 : decode cX0_leastFrames 1 = .ok (.iconst 0, 1) := dk_3 (dk_at dksX0_leastFrames_0 1 rfl rfl)
theorem dX0_leastFrames_2 : decode cX0_leastFrames 2 = .ok (.aload_n 0, 1) := dk_42 (dk_at dksX0_leastFrames_0 2 rfl rfl)
theorem dX0_leastFrames_3 : decode cX0_leastFrames 3 = .ok (.iload_n 1, 1) := dk_27 (dk_at dksX0_leastFrames_0 3 rfl rfl)
theorem dX0_leastFrames_4 : decode cX0_leastFrames 4 = .ok (.iload_n 2, 1) := dk_28 (dk_at dksX0_leastFrames_0 4 rfl rfl)
theorem dX0_leastFrames_5 : decode cX0_leastFrames 5 = .ok (.invokevirtual 46, 3) := dk_182 0 46 (dk_at dksX0_leastFrames_0 5 rfl rfl)
theorem dX0_leastFrames_8 : decode cX0_leastFrames 8 = .ok (.i2l, 1) := dk_133 (dk_at dksX0_leastFrames_0 8 rfl rfl)
theorem dX0_leastFrames_9 : decode cX0_leastFrames 9 = .ok (.lastore, 1) := dk_80 (dk_at dksX0_leastFrames_0 9 rfl rfl)
theorem dX0_leastFrames_10 : decode cX0_leastFrames 10 = .ok (.goto 11, 3) := dk_167 0 11 (dk_at dksX0_leastFrames_0 10 rfl rfl)
theorem dX0_leastFrames_13 : decode cX0_leastFrames 13 = .ok (.astore 4, 2) := dk_58 4 (dk_at dksX0_leastFrames_0 13 rfl rfl)
theorem dX0_leastFrames_15 : decode cX0_leastFrames 15 = .ok (.iconst 1, 1) := dk_4 (dk_at dksX0_leastFrames_0 15 rfl rfl)
theorem dX0_leastFrames_16 : decode cX0_leastFrames 16 = .ok (.ireturn, 1) := dk_172 (dk_at dksX0_leastFrames_0 16 rfl rfl)
theorem dX0_leastFrames_17 : decode cX0_leastFrames 17 = .ok (.astore 4, 2) := dk_58 4 (dk_at dksX0_leastFrames_0 17 rfl rfl)
theorem dX0_leastFrames_19 : decode cX0_leastFrames 19 = .ok (.iconst 2, 1) := dk_5 (dk_at dksX0_leastFrames_0 19 rfl rfl)
theorem dX0_leastFrames_20 : decode cX0_leastFrames 20 = .ok (.ireturn, 1) := dk_172 (dk_at dksX0_leastFrames_0 20 rfl rfl)
theorem dX0_leastFrames_21 : decode cX0_leastFrames 21 = .ok (.iconst 0, 1) := dk_3 (dk_at dksX0_leastFrames_0 21 rfl rfl)
theorem dX0_leastFrames_22 : decode cX0_leastFrames 22 = .ok (.ireturn, 1) := dk_172 (dk_at dksX0_leastFrames_0 22 rfl rfl)
abbrev cX0_rampSpeed : ByteArray := method_12_code
def yX0_rampSpeed : MethodName := ⟨RX0, "rampSpeed", "(LCameraMoves;IIII[J)I"⟩
def dkwX0_rampSpeed_1 : List UInt8 := [172, 58, 6, 6, 172, 3, 172]
abbrev dktX0_rampSpeed_1 : List UInt8 := dkwX0_rampSpeed_1 ++ []
def dkwX0_rampSpeed_0 : List UInt8 := [25, 5, 3, 42, 27, 28, 29, 21, 4, 182, 0, 49, 133, 80, 167, 0, 15, 58, 6, 4, 172, 58, 6, 5]
abbrev dktX0_rampSpeed_0 : List UInt8 := dkwX0_rampSpeed_0 ++ dktX0_rampSpeed_1
theorem dksX0_rampSpeed_0 : cX0_rampSpeed.data.toList.drop 0 = dktX0_rampSpeed_0 := by decide +kernel
theorem dksX0_rampSpeed_1 : cX0_rampSpeed.data.toList.drop 24 = dktX0_rampSpeed_1 := dk_seg dksX0_rampSpeed_0 24 rfl rfl
theorem dX0_rampSpeed_0 : decode cX0_rampSpeed 0 = .ok (.aload 5, 2) := dk_25 5 (dk_at dksX0_rampSpeed_0 0 rfl rfl)
theorem dX0_rampSpeed_2 : decode cX0_rampSpeed 2 = .ok (.iconst 0, 1) := dk_3 (dk_at dksX0_rampSpeed_0 2 rfl rfl)
theorem dX0_rampSpeed_3 : decode cX0_rampSpeed 3 = .ok (.aload_n 0, 1) := dk_42 (dk_at dksX0_rampSpeed_0 3 rfl rfl)
theorem dX0_rampSpeed_4 : decode cX0_rampSpeed 4 = .ok (.iload_n 1, 1) := dk_27 (dk_at dksX0_rampSpeed_0 4 rfl rfl)
theorem dX0_rampSpeed_5 : decode cX0_rampSpeed 5 = .ok (.iload_n 2, 1) := dk_28 (dk_at dksX0_rampSpeed_0 5 rfl rfl)
theorem dX0_rampSpeed_6 : decode cX0_rampSpeed 6 = .ok (.iload_n 3, 1) := dk_29 (dk_at dksX0_rampSpeed_0 6 rfl rfl)
theorem dX0_rampSpeed_7 : decode cX0_rampSpeed 7 = .ok (.iload 4, 2) := dk_21 4 (dk_at dksX0_rampSpeed_0 7 rfl rfl)
theorem dX0_rampSpeed_9 : decode cX0_rampSpeed 9 = .ok (.invokevirtual 49, 3) := dk_182 0 49 (dk_at dksX0_rampSpeed_0 9 rfl rfl)
theorem dX0_rampSpeed_12 : decode cX0_rampSpeed 12 = .ok (.i2l, 1) := dk_133 (dk_at dksX0_rampSpeed_0 12 rfl rfl)
theorem dX0_rampSpeed_13 : decode cX0_rampSpeed 13 = .ok (.lastore, 1) := dk_80 (dk_at dksX0_rampSpeed_0 13 rfl rfl)
theorem dX0_rampSpeed_14 : decode cX0_rampSpeed 14 = .ok (.goto 15, 3) := dk_167 0 15 (dk_at dksX0_rampSpeed_0 14 rfl rfl)
theorem dX0_rampSpeed_17 : decode cX0_rampSpeed 17 = .ok (.astore 6, 2) := dk_58 6 (dk_at dksX0_rampSpeed_0 17 rfl rfl)
theorem dX0_rampSpeed_19 : decode cX0_rampSpeed 19 = .ok (.iconst 1, 1) := dk_4 (dk_at dksX0_rampSpeed_0 19 rfl rfl)
theorem dX0_rampSpeed_20 : decode cX0_rampSpeed 20 = .ok (.ireturn, 1) := dk_172 (dk_at dksX0_rampSpeed_0 20 rfl rfl)
theorem dX0_rampSpeed_21 : decode cX0_rampSpeed 21 = .ok (.astore 6, 2) := dk_58 6 (dk_at dksX0_rampSpeed_0 21 rfl rfl)
theorem dX0_rampSpeed_23 : decode cX0_rampSpeed 23 = .ok (.iconst 2, 1) := dk_5 (dk_at dksX0_rampSpeed_0 23 rfl rfl)
theorem dX0_rampSpeed_24 : decode cX0_rampSpeed 24 = .ok (.ireturn, 1) := dk_172 (dk_at dksX0_rampSpeed_1 0 rfl rfl)
theorem dX0_rampSpeed_25 : decode cX0_rampSpeed 25 = .ok (.astore 6, 2) := dk_58 6 (dk_at dksX0_rampSpeed_1 1 rfl rfl)
theorem dX0_rampSpeed_27 : decode cX0_rampSpeed 27 = .ok (.iconst 3, 1) := dk_6 (dk_at dksX0_rampSpeed_1 3 rfl rfl)
theorem dX0_rampSpeed_28 : decode cX0_rampSpeed 28 = .ok (.ireturn, 1) := dk_172 (dk_at dksX0_rampSpeed_1 4 rfl rfl)
theorem dX0_rampSpeed_29 : decode cX0_rampSpeed 29 = .ok (.iconst 0, 1) := dk_3 (dk_at dksX0_rampSpeed_1 5 rfl rfl)
theorem dX0_rampSpeed_30 : decode cX0_rampSpeed 30 = .ok (.ireturn, 1) := dk_172 (dk_at dksX0_rampSpeed_1 6 rfl rfl)
abbrev cX0_reach : ByteArray := method_13_code
def yX0_reach : MethodName := ⟨RX0, "reach", "(LCameraMoves;II[J)I"⟩
def dkwX0_reach_0 : List UInt8 := [45, 3, 42, 27, 28, 182, 0, 53, 133, 80, 167, 0, 11, 58, 4, 4, 172, 58, 4, 5, 172, 3, 172]
abbrev dktX0_reach_0 : List UInt8 := dkwX0_reach_0 ++ []
theorem dksX0_reach_0 : cX0_reach.data.toList.drop 0 = dktX0_reach_0 := by decide +kernel
theorem dX0_reach_0 : decode cX0_reach 0 = .ok (.aload_n 3, 1) := dk_45 (dk_at dksX0_reach_0 0 rfl rfl)
theorem dX0_reach_1 : decode cX0_reach 1 = .ok (.iconst 0, 1) := dk_3 (dk_at dksX0_reach_0 1 rfl rfl)
theorem dX0_reach_2 : decode cX0_reach 2 = .ok (.aload_n 0, 1) := dk_42 (dk_at dksX0_reach_0 2 rfl rfl)
theorem dX0_reach_3 : decode cX0_reach 3 = .ok (.iload_n 1, 1) := dk_27 (dk_at dksX0_reach_0 3 rfl rfl)
theorem dX0_reach_4 : decode cX0_reach 4 = .ok (.iload_n 2, 1) := dk_28 (dk_at dksX0_reach_0 4 rfl rfl)
theorem dX0_reach_5 : decode cX0_reach 5 = .ok (.invokevirtual 53, 3) := dk_182 0 53 (dk_at dksX0_reach_0 5 rfl rfl)
theorem dX0_reach_8 : decode cX0_reach 8 = .ok (.i2l, 1) := dk_133 (dk_at dksX0_reach_0 8 rfl rfl)
theorem dX0_reach_9 : decode cX0_reach 9 = .ok (.lastore, 1) := dk_80 (dk_at dksX0_reach_0 9 rfl rfl)
theorem dX0_reach_10 : decode cX0_reach 10 = .ok (.goto 11, 3) := dk_167 0 11 (dk_at dksX0_reach_0 10 rfl rfl)
theorem dX0_reach_13 : decode cX0_reach 13 = .ok (.astore 4, 2) := dk_58 4 (dk_at dksX0_reach_0 13 rfl rfl)
theorem dX0_reach_15 : decode cX0_reach 15 = .ok (.iconst 1, 1) := dk_4 (dk_at dksX0_reach_0 15 rfl rfl)
theorem dX0_reach_16 : decode cX0_reach 16 = .ok (.ireturn, 1) := dk_172 (dk_at dksX0_reach_0 16 rfl rfl)
theorem dX0_reach_17 : decode cX0_reach 17 = .ok (.astore 4, 2) := dk_58 4 (dk_at dksX0_reach_0 17 rfl rfl)
theorem dX0_reach_19 : decode cX0_reach 19 = .ok (.iconst 2, 1) := dk_5 (dk_at dksX0_reach_0 19 rfl rfl)
theorem dX0_reach_20 : decode cX0_reach 20 = .ok (.ireturn, 1) := dk_172 (dk_at dksX0_reach_0 20 rfl rfl)
theorem dX0_reach_21 : decode cX0_reach 21 = .ok (.iconst 0, 1) := dk_3 (dk_at dksX0_reach_0 21 rfl rfl)
theorem dX0_reach_22 : decode cX0_reach 22 = .ok (.ireturn, 1) := dk_172 (dk_at dksX0_reach_0 22 rfl rfl)
abbrev cX0_status : ByteArray := method_14_code
def yX0_status : MethodName := ⟨RX0, "status", "(LCameraMoves;II[J)I"⟩
def dkwX0_status_0 : List UInt8 := [45, 3, 42, 27, 28, 182, 0, 56, 133, 80, 167, 0, 11, 58, 4, 4, 172, 58, 4, 5, 172, 3, 172]
abbrev dktX0_status_0 : List UInt8 := dkwX0_status_0 ++ []
theorem dksX0_status_0 : cX0_status.data.toList.drop 0 = dktX0_status_0 := by decide +kernel
theorem dX0_status_0 : decode cX0_status 0 = .ok (.aload_n 3, 1) := dk_45 (dk_at dksX0_status_0 0 rfl rfl)
theorem dX0_status_1 : decode cX0_status 1 = .ok (.iconst 0, 1) := dk_3 (dk_at dksX0_status_0 1 rfl rfl)
theorem dX0_status_2 : decode cX0_status 2 = .ok (.aload_n 0, 1) := dk_42 (dk_at dksX0_status_0 2 rfl rfl)
theorem dX0_status_3 : decode cX0_status 3 = .ok (.iload_n 1, 1) := dk_27 (dk_at dksX0_status_0 3 rfl rfl)
theorem dX0_status_4 : decode cX0_status 4 = .ok (.iload_n 2, 1) := dk_28 (dk_at dksX0_status_0 4 rfl rfl)
theorem dX0_status_5 : decode cX0_status 5 = .ok (.invokevirtual 56, 3) := dk_182 0 56 (dk_at dksX0_status_0 5 rfl rfl)
theorem dX0_status_8 : decode cX0_status 8 = .ok (.i2l, 1) := dk_133 (dk_at dksX0_status_0 8 rfl rfl)
theorem dX0_status_9 : decode cX0_status 9 = .ok (.lastore, 1) := dk_80 (dk_at dksX0_status_0 9 rfl rfl)
theorem dX0_status_10 : decode cX0_status 10 = .ok (.goto 11, 3) := dk_167 0 11 (dk_at dksX0_status_0 10 rfl rfl)
theorem dX0_status_13 : decode cX0_status 13 = .ok (.astore 4, 2) := dk_58 4 (dk_at dksX0_status_0 13 rfl rfl)
theorem dX0_status_15 : decode cX0_status 15 = .ok (.iconst 1, 1) := dk_4 (dk_at dksX0_status_0 15 rfl rfl)
theorem dX0_status_16 : decode cX0_status 16 = .ok (.ireturn, 1) := dk_172 (dk_at dksX0_status_0 16 rfl rfl)
theorem dX0_status_17 : decode cX0_status 17 = .ok (.astore 4, 2) := dk_58 4 (dk_at dksX0_status_0 17 rfl rfl)
theorem dX0_status_19 : decode cX0_status 19 = .ok (.iconst 2, 1) := dk_5 (dk_at dksX0_status_0 19 rfl rfl)
theorem dX0_status_20 : decode cX0_status 20 = .ok (.ireturn, 1) := dk_172 (dk_at dksX0_status_0 20 rfl rfl)
theorem dX0_status_21 : decode cX0_status 21 = .ok (.iconst 0, 1) := dk_3 (dk_at dksX0_status_0 21 rfl rfl)
theorem dX0_status_22 : decode cX0_status 22 = .ok (.ireturn, 1) := dk_172 (dk_at dksX0_status_0 22 rfl rfl)
abbrev cX0_distance : ByteArray := method_15_code
def yX0_distance : MethodName := ⟨RX0, "distance", "(LCameraMoves;II[J)I"⟩
def dkwX0_distance_0 : List UInt8 := [45, 3, 42, 27, 28, 182, 0, 59, 133, 80, 167, 0, 11, 58, 4, 4, 172, 58, 4, 5, 172, 3, 172]
abbrev dktX0_distance_0 : List UInt8 := dkwX0_distance_0 ++ []
theorem dksX0_distance_0 : cX0_distance.data.toList.drop 0 = dktX0_distance_0 := by decide +kernel
theorem dX0_distance_0 : decode cX0_distance 0 = .ok (.aload_n 3, 1) := dk_45 (dk_at dksX0_distance_0 0 rfl rfl)
theorem dX0_distance_1 : decode cX0_distance 1 = .ok (.iconst 0, 1) := dk_3 (dk_at dksX0_distance_0 1 rfl rfl)
theorem dX0_distance_2 : decode cX0_distance 2 = .ok (.aload_n 0, 1) := dk_42 (dk_at dksX0_distance_0 2 rfl rfl)
theorem dX0_distance_3 : decode cX0_distance 3 = .ok (.iload_n 1, 1) := dk_27 (dk_at dksX0_distance_0 3 rfl rfl)
theorem dX0_distance_4 : decode cX0_distance 4 = .ok (.iload_n 2, 1) := dk_28 (dk_at dksX0_distance_0 4 rfl rfl)
theorem dX0_distance_5 : decode cX0_distance 5 = .ok (.invokevirtual 59, 3) := dk_182 0 59 (dk_at dksX0_distance_0 5 rfl rfl)
theorem dX0_distance_8 : decode cX0_distance 8 = .ok (.i2l, 1) := dk_133 (dk_at dksX0_distance_0 8 rfl rfl)
theorem dX0_distance_9 : decode cX0_distance 9 = .ok (.lastore, 1) := dk_80 (dk_at dksX0_distance_0 9 rfl rfl)
theorem dX0_distance_10 : decode cX0_distance 10 = .ok (.goto 11, 3) := dk_167 0 11 (dk_at dksX0_distance_0 10 rfl rfl)
theorem dX0_distance_13 : decode cX0_distance 13 = .ok (.astore 4, 2) := dk_58 4 (dk_at dksX0_distance_0 13 rfl rfl)
theorem dX0_distance_15 : decode cX0_distance 15 = .ok (.iconst 1, 1) := dk_4 (dk_at dksX0_distance_0 15 rfl rfl)
theorem dX0_distance_16 : decode cX0_distance 16 = .ok (.ireturn, 1) := dk_172 (dk_at dksX0_distance_0 16 rfl rfl)
theorem dX0_distance_17 : decode cX0_distance 17 = .ok (.astore 4, 2) := dk_58 4 (dk_at dksX0_distance_0 17 rfl rfl)
theorem dX0_distance_19 : decode cX0_distance 19 = .ok (.iconst 2, 1) := dk_5 (dk_at dksX0_distance_0 19 rfl rfl)
theorem dX0_distance_20 : decode cX0_distance 20 = .ok (.ireturn, 1) := dk_172 (dk_at dksX0_distance_0 20 rfl rfl)
theorem dX0_distance_21 : decode cX0_distance 21 = .ok (.iconst 0, 1) := dk_3 (dk_at dksX0_distance_0 21 rfl rfl)
theorem dX0_distance_22 : decode cX0_distance 22 = .ok (.ireturn, 1) := dk_172 (dk_at dksX0_distance_0 22 rfl rfl)
abbrev cX0_leastLength : ByteArray := method_16_code
def yX0_leastLength : MethodName := ⟨RX0, "leastLength", "(LCameraMoves;I[J)I"⟩
def dkwX0_leastLength_0 : List UInt8 := [44, 3, 42, 27, 182, 0, 62, 133, 80, 167, 0, 6, 78, 4, 172, 3, 172]
abbrev dktX0_leastLength_0 : List UInt8 := dkwX0_leastLength_0 ++ []
theorem dksX0_leastLength_0 : cX0_leastLength.data.toList.drop 0 = dktX0_leastLength_0 := by decide +kernel
theorem dX0_leastLength_0 : decode cX0_leastLength 0 = .ok (.aload_n 2, 1) := dk_44 (dk_at dksX0_leastLength_0 0 rfl rfl)
theorem dX0_leastLength_1 : decode cX0_leastLength 1 = .ok (.iconst 0, 1) := dk_3 (dk_at dksX0_leastLength_0 1 rfl rfl)
theorem dX0_leastLength_2 : decode cX0_leastLength 2 = .ok (.aload_n 0, 1) := dk_42 (dk_at dksX0_leastLength_0 2 rfl rfl)
theorem dX0_leastLength_3 : decode cX0_leastLength 3 = .ok (.iload_n 1, 1) := dk_27 (dk_at dksX0_leastLength_0 3 rfl rfl)
theorem dX0_leastLength_4 : decode cX0_leastLength 4 = .ok (.invokevirtual 62, 3) := dk_182 0 62 (dk_at dksX0_leastLength_0 4 rfl rfl)
theorem dX0_leastLength_7 : decode cX0_leastLength 7 = .ok (.i2l, 1) := dk_133 (dk_at dksX0_leastLength_0 7 rfl rfl)
theorem dX0_leastLength_8 : decode cX0_leastLength 8 = .ok (.lastore, 1) := dk_80 (dk_at dksX0_leastLength_0 8 rfl rfl)
theorem dX0_leastLength_9 : decode cX0_leastLength 9 = .ok (.goto 6, 3) := dk_167 0 6 (dk_at dksX0_leastLength_0 9 rfl rfl)
theorem dX0_leastLength_12 : decode cX0_leastLength 12 = .ok (.astore_n 3, 1) := dk_78 (dk_at dksX0_leastLength_0 12 rfl rfl)
theorem dX0_leastLength_13 : decode cX0_leastLength 13 = .ok (.iconst 1, 1) := dk_4 (dk_at dksX0_leastLength_0 13 rfl rfl)
theorem dX0_leastLength_14 : decode cX0_leastLength 14 = .ok (.ireturn, 1) := dk_172 (dk_at dksX0_leastLength_0 14 rfl rfl)
theorem dX0_leastLength_15 : decode cX0_leastLength 15 = .ok (.iconst 0, 1) := dk_3 (dk_at dksX0_leastLength_0 15 rfl rfl)
theorem dX0_leastLength_16 : decode cX0_leastLength 16 = .ok (.ireturn, 1) := dk_172 (dk_at dksX0_leastLength_0 16 rfl rfl)
abbrev cX0_position : ByteArray := method_17_code
def yX0_position : MethodName := ⟨RX0, "position", "(LCameraMoves;II[J)I"⟩
def dkwX0_position_0 : List UInt8 := [45, 3, 42, 27, 28, 182, 0, 65, 133, 80, 167, 0, 7, 58, 4, 4, 172, 3, 172]
abbrev dktX0_position_0 : List UInt8 := dkwX0_position_0 ++ []
theorem dksX0_position_0 : cX0_position.data.toList.drop 0 = dktX0_position_0 := by decide +kernel
theorem dX0_position_0 : decode cX0_position 0 = .ok (.aload_n 3, 1) := dk_45 (dk_at dksX0_position_0 0 rfl rfl)
theorem dX0_position_1 : decode cX0_position 1 = .ok (.iconst 0, 1) := dk_3 (dk_at dksX0_position_0 1 rfl rfl)
theorem dX0_position_2 : decode cX0_position 2 = .ok (.aload_n 0, 1) := dk_42 (dk_at dksX0_position_0 2 rfl rfl)
theorem dX0_position_3 : decode cX0_position 3 = .ok (.iload_n 1, 1) := dk_27 (dk_at dksX0_position_0 3 rfl rfl)
theorem dX0_position_4 : decode cX0_position 4 = .ok (.iload_n 2, 1) := dk_28 (dk_at dksX0_position_0 4 rfl rfl)
theorem dX0_position_5 : decode cX0_position 5 = .ok (.invokevirtual 65, 3) := dk_182 0 65 (dk_at dksX0_position_0 5 rfl rfl)
theorem dX0_position_8 : decode cX0_position 8 = .ok (.i2l, 1) := dk_133 (dk_at dksX0_position_0 8 rfl rfl)
theorem dX0_position_9 : decode cX0_position 9 = .ok (.lastore, 1) := dk_80 (dk_at dksX0_position_0 9 rfl rfl)
theorem dX0_position_10 : decode cX0_position 10 = .ok (.goto 7, 3) := dk_167 0 7 (dk_at dksX0_position_0 10 rfl rfl)
theorem dX0_position_13 : decode cX0_position 13 = .ok (.astore 4, 2) := dk_58 4 (dk_at dksX0_position_0 13 rfl rfl)
theorem dX0_position_15 : decode cX0_position 15 = .ok (.iconst 1, 1) := dk_4 (dk_at dksX0_position_0 15 rfl rfl)
theorem dX0_position_16 : decode cX0_position 16 = .ok (.ireturn, 1) := dk_172 (dk_at dksX0_position_0 16 rfl rfl)
theorem dX0_position_17 : decode cX0_position 17 = .ok (.iconst 0, 1) := dk_3 (dk_at dksX0_position_0 17 rfl rfl)
theorem dX0_position_18 : decode cX0_position 18 = .ok (.ireturn, 1) := dk_172 (dk_at dksX0_position_0 18 rfl rfl)
abbrev cX0_speed : ByteArray := method_18_code
def yX0_speed : MethodName := ⟨RX0, "speed", "(LCameraMoves;II[J)I"⟩
def dkwX0_speed_0 : List UInt8 := [45, 3, 42, 27, 28, 182, 0, 68, 133, 80, 167, 0, 7, 58, 4, 4, 172, 3, 172]
abbrev dktX0_speed_0 : List UInt8 := dkwX0_speed_0 ++ []
theorem dksX0_speed_0 : cX0_speed.data.toList.drop 0 = dktX0_speed_0 := by decide +kernel
theorem dX0_speed_0 : decode cX0_speed 0 = .ok (.aload_n 3, 1) := dk_45 (dk_at dksX0_speed_0 0 rfl rfl)
theorem dX0_speed_1 : decode cX0_speed 1 = .ok (.iconst 0, 1) := dk_3 (dk_at dksX0_speed_0 1 rfl rfl)
theorem dX0_speed_2 : decode cX0_speed 2 = .ok (.aload_n 0, 1) := dk_42 (dk_at dksX0_speed_0 2 rfl rfl)
theorem dX0_speed_3 : decode cX0_speed 3 = .ok (.iload_n 1, 1) := dk_27 (dk_at dksX0_speed_0 3 rfl rfl)
theorem dX0_speed_4 : decode cX0_speed 4 = .ok (.iload_n 2, 1) := dk_28 (dk_at dksX0_speed_0 4 rfl rfl)
theorem dX0_speed_5 : decode cX0_speed 5 = .ok (.invokevirtual 68, 3) := dk_182 0 68 (dk_at dksX0_speed_0 5 rfl rfl)
theorem dX0_speed_8 : decode cX0_speed 8 = .ok (.i2l, 1) := dk_133 (dk_at dksX0_speed_0 8 rfl rfl)
theorem dX0_speed_9 : decode cX0_speed 9 = .ok (.lastore, 1) := dk_80 (dk_at dksX0_speed_0 9 rfl rfl)
theorem dX0_speed_10 : decode cX0_speed 10 = .ok (.goto 7, 3) := dk_167 0 7 (dk_at dksX0_speed_0 10 rfl rfl)
theorem dX0_speed_13 : decode cX0_speed 13 = .ok (.astore 4, 2) := dk_58 4 (dk_at dksX0_speed_0 13 rfl rfl)
theorem dX0_speed_15 : decode cX0_speed 15 = .ok (.iconst 1, 1) := dk_4 (dk_at dksX0_speed_0 15 rfl rfl)
theorem dX0_speed_16 : decode cX0_speed 16 = .ok (.ireturn, 1) := dk_172 (dk_at dksX0_speed_0 16 rfl rfl)
theorem dX0_speed_17 : decode cX0_speed 17 = .ok (.iconst 0, 1) := dk_3 (dk_at dksX0_speed_0 17 rfl rfl)
theorem dX0_speed_18 : decode cX0_speed 18 = .ok (.ireturn, 1) := dk_172 (dk_at dksX0_speed_0 18 rfl rfl)
abbrev cX0_moving : ByteArray := method_19_code
def yX0_moving : MethodName := ⟨RX0, "moving", "(LCameraMoves;I[J)I"⟩
def dkwX0_moving_0 : List UInt8 := [44, 3, 42, 27, 182, 0, 71, 133, 80, 167, 0, 6, 78, 4, 172, 3, 172]
abbrev dktX0_moving_0 : List UInt8 := dkwX0_moving_0 ++ []
theorem dksX0_moving_0 : cX0_moving.data.toList.drop 0 = dktX0_moving_0 := by decide +kernel
theorem dX0_moving_0 : decode cX0_moving 0 = .ok (.aload_n 2, 1) := dk_44 (dk_at dksX0_moving_0 0 rfl rfl)
theorem dX0_moving_1 : decode cX0_moving 1 = .ok (.iconst 0, 1) := dk_3 (dk_at dksX0_moving_0 1 rfl rfl)
theorem dX0_moving_2 : decode cX0_moving 2 = .ok (.aload_n 0, 1) := dk_42 (dk_at dksX0_moving_0 2 rfl rfl)
theorem dX0_moving_3 : decode cX0_moving 3 = .ok (.iload_n 1, 1) := dk_27 (dk_at dksX0_moving_0 3 rfl rfl)
theorem dX0_moving_4 : decode cX0_moving 4 = .ok (.invokevirtual 71, 3) := dk_182 0 71 (dk_at dksX0_moving_0 4 rfl rfl)
theorem dX0_moving_7 : decode cX0_moving 7 = .ok (.i2l, 1) := dk_133 (dk_at dksX0_moving_0 7 rfl rfl)
theorem dX0_moving_8 : decode cX0_moving 8 = .ok (.lastore, 1) := dk_80 (dk_at dksX0_moving_0 8 rfl rfl)
theorem dX0_moving_9 : decode cX0_moving 9 = .ok (.goto 6, 3) := dk_167 0 6 (dk_at dksX0_moving_0 9 rfl rfl)
theorem dX0_moving_12 : decode cX0_moving 12 = .ok (.astore_n 3, 1) := dk_78 (dk_at dksX0_moving_0 12 rfl rfl)
theorem dX0_moving_13 : decode cX0_moving 13 = .ok (.iconst 1, 1) := dk_4 (dk_at dksX0_moving_0 13 rfl rfl)
theorem dX0_moving_14 : decode cX0_moving 14 = .ok (.ireturn, 1) := dk_172 (dk_at dksX0_moving_0 14 rfl rfl)
theorem dX0_moving_15 : decode cX0_moving 15 = .ok (.iconst 0, 1) := dk_3 (dk_at dksX0_moving_0 15 rfl rfl)
theorem dX0_moving_16 : decode cX0_moving 16 = .ok (.ireturn, 1) := dk_172 (dk_at dksX0_moving_0 16 rfl rfl)
abbrev cX0_travelled : ByteArray := method_20_code
def yX0_travelled : MethodName := ⟨RX0, "travelled", "(LCameraMoves;I[J)I"⟩
def dkwX0_travelled_0 : List UInt8 := [44, 3, 42, 27, 182, 0, 74, 133, 80, 167, 0, 6, 78, 4, 172, 3, 172]
abbrev dktX0_travelled_0 : List UInt8 := dkwX0_travelled_0 ++ []
theorem dksX0_travelled_0 : cX0_travelled.data.toList.drop 0 = dktX0_travelled_0 := by decide +kernel
theorem dX0_travelled_0 : decode cX0_travelled 0 = .ok (.aload_n 2, 1) := dk_44 (dk_at dksX0_travelled_0 0 rfl rfl)
theorem dX0_travelled_1 : decode cX0_travelled 1 = .ok (.iconst 0, 1) := dk_3 (dk_at dksX0_travelled_0 1 rfl rfl)
theorem dX0_travelled_2 : decode cX0_travelled 2 = .ok (.aload_n 0, 1) := dk_42 (dk_at dksX0_travelled_0 2 rfl rfl)
theorem dX0_travelled_3 : decode cX0_travelled 3 = .ok (.iload_n 1, 1) := dk_27 (dk_at dksX0_travelled_0 3 rfl rfl)
theorem dX0_travelled_4 : decode cX0_travelled 4 = .ok (.invokevirtual 74, 3) := dk_182 0 74 (dk_at dksX0_travelled_0 4 rfl rfl)
theorem dX0_travelled_7 : decode cX0_travelled 7 = .ok (.i2l, 1) := dk_133 (dk_at dksX0_travelled_0 7 rfl rfl)
theorem dX0_travelled_8 : decode cX0_travelled 8 = .ok (.lastore, 1) := dk_80 (dk_at dksX0_travelled_0 8 rfl rfl)
theorem dX0_travelled_9 : decode cX0_travelled 9 = .ok (.goto 6, 3) := dk_167 0 6 (dk_at dksX0_travelled_0 9 rfl rfl)
theorem dX0_travelled_12 : decode cX0_travelled 12 = .ok (.astore_n 3, 1) := dk_78 (dk_at dksX0_travelled_0 12 rfl rfl)
theorem dX0_travelled_13 : decode cX0_travelled 13 = .ok (.iconst 1, 1) := dk_4 (dk_at dksX0_travelled_0 13 rfl rfl)
theorem dX0_travelled_14 : decode cX0_travelled 14 = .ok (.ireturn, 1) := dk_172 (dk_at dksX0_travelled_0 14 rfl rfl)
theorem dX0_travelled_15 : decode cX0_travelled 15 = .ok (.iconst 0, 1) := dk_3 (dk_at dksX0_travelled_0 15 rfl rfl)
theorem dX0_travelled_16 : decode cX0_travelled 16 = .ok (.ireturn, 1) := dk_172 (dk_at dksX0_travelled_0 16 rfl rfl)
abbrev cX0_fastest : ByteArray := method_21_code
def yX0_fastest : MethodName := ⟨RX0, "fastest", "(LCameraMoves;I[J)I"⟩
def dkwX0_fastest_0 : List UInt8 := [44, 3, 42, 27, 182, 0, 77, 133, 80, 167, 0, 6, 78, 4, 172, 3, 172]
abbrev dktX0_fastest_0 : List UInt8 := dkwX0_fastest_0 ++ []
theorem dksX0_fastest_0 : cX0_fastest.data.toList.drop 0 = dktX0_fastest_0 := by decide +kernel
theorem dX0_fastest_0 : decode cX0_fastest 0 = .ok (.aload_n 2, 1) := dk_44 (dk_at dksX0_fastest_0 0 rfl rfl)
theorem dX0_fastest_1 : decode cX0_fastest 1 = .ok (.iconst 0, 1) := dk_3 (dk_at dksX0_fastest_0 1 rfl rfl)
theorem dX0_fastest_2 : decode cX0_fastest 2 = .ok (.aload_n 0, 1) := dk_42 (dk_at dksX0_fastest_0 2 rfl rfl)
theorem dX0_fastest_3 : decode cX0_fastest 3 = .ok (.iload_n 1, 1) := dk_27 (dk_at dksX0_fastest_0 3 rfl rfl)
theorem dX0_fastest_4 : decode cX0_fastest 4 = .ok (.invokevirtual 77, 3) := dk_182 0 77 (dk_at dksX0_fastest_0 4 rfl rfl)
theorem dX0_fastest_7 : decode cX0_fastest 7 = .ok (.i2l, 1) := dk_133 (dk_at dksX0_fastest_0 7 rfl rfl)
theorem dX0_fastest_8 : decode cX0_fastest 8 = .ok (.lastore, 1) := dk_80 (dk_at dksX0_fastest_0 8 rfl rfl)
theorem dX0_fastest_9 : decode cX0_fastest 9 = .ok (.goto 6, 3) := dk_167 0 6 (dk_at dksX0_fastest_0 9 rfl rfl)
theorem dX0_fastest_12 : decode cX0_fastest 12 = .ok (.astore_n 3, 1) := dk_78 (dk_at dksX0_fastest_0 12 rfl rfl)
theorem dX0_fastest_13 : decode cX0_fastest 13 = .ok (.iconst 1, 1) := dk_4 (dk_at dksX0_fastest_0 13 rfl rfl)
theorem dX0_fastest_14 : decode cX0_fastest 14 = .ok (.ireturn, 1) := dk_172 (dk_at dksX0_fastest_0 14 rfl rfl)
theorem dX0_fastest_15 : decode cX0_fastest 15 = .ok (.iconst 0, 1) := dk_3 (dk_at dksX0_fastest_0 15 rfl rfl)
theorem dX0_fastest_16 : decode cX0_fastest 16 = .ok (.ireturn, 1) := dk_172 (dk_at dksX0_fastest_0 16 rfl rfl)
abbrev cX0_meanSpeed : ByteArray := method_22_code
def yX0_meanSpeed : MethodName := ⟨RX0, "meanSpeed", "(LCameraMoves;I[D)I"⟩
def dkwX0_meanSpeed_0 : List UInt8 := [44, 3, 42, 27, 182, 0, 80, 82, 167, 0, 6, 78, 4, 172, 3, 172]
abbrev dktX0_meanSpeed_0 : List UInt8 := dkwX0_meanSpeed_0 ++ []
theorem dksX0_meanSpeed_0 : cX0_meanSpeed.data.toList.drop 0 = dktX0_meanSpeed_0 := by decide +kernel
theorem dX0_meanSpeed_0 : decode cX0_meanSpeed 0 = .ok (.aload_n 2, 1) := dk_44 (dk_at dksX0_meanSpeed_0 0 rfl rfl)
theorem dX0_meanSpeed_1 : decode cX0_meanSpeed 1 = .ok (.iconst 0, 1) := dk_3 (dk_at dksX0_meanSpeed_0 1 rfl rfl)
theorem dX0_meanSpeed_2 : decode cX0_meanSpeed 2 = .ok (.aload_n 0, 1) := dk_42 (dk_at dksX0_meanSpeed_0 2 rfl rfl)
theorem dX0_meanSpeed_3 : decode cX0_meanSpeed 3 = .ok (.iload_n 1, 1) := dk_27 (dk_at dksX0_meanSpeed_0 3 rfl rfl)
theorem dX0_meanSpeed_4 : decode cX0_meanSpeed 4 = .ok (.invokevirtual 80, 3) := dk_182 0 80 (dk_at dksX0_meanSpeed_0 4 rfl rfl)
theorem dX0_meanSpeed_7 : decode cX0_meanSpeed 7 = .ok (.dastore, 1) := dk_82 (dk_at dksX0_meanSpeed_0 7 rfl rfl)
theorem dX0_meanSpeed_8 : decode cX0_meanSpeed 8 = .ok (.goto 6, 3) := dk_167 0 6 (dk_at dksX0_meanSpeed_0 8 rfl rfl)
theorem dX0_meanSpeed_11 : decode cX0_meanSpeed 11 = .ok (.astore_n 3, 1) := dk_78 (dk_at dksX0_meanSpeed_0 11 rfl rfl)
theorem dX0_meanSpeed_12 : decode cX0_meanSpeed 12 = .ok (.iconst 1, 1) := dk_4 (dk_at dksX0_meanSpeed_0 12 rfl rfl)
theorem dX0_meanSpeed_13 : decode cX0_meanSpeed 13 = .ok (.ireturn, 1) := dk_172 (dk_at dksX0_meanSpeed_0 13 rfl rfl)
theorem dX0_meanSpeed_14 : decode cX0_meanSpeed 14 = .ok (.iconst 0, 1) := dk_3 (dk_at dksX0_meanSpeed_0 14 rfl rfl)
theorem dX0_meanSpeed_15 : decode cX0_meanSpeed 15 = .ok (.ireturn, 1) := dk_172 (dk_at dksX0_meanSpeed_0 15 rfl rfl)
abbrev cX0_walls : ByteArray := method_23_code
def yX0_walls : MethodName := ⟨RX0, "walls", "(LCameraMoves;I[J)I"⟩
def dkwX0_walls_0 : List UInt8 := [44, 3, 42, 27, 182, 0, 84, 133, 80, 167, 0, 6, 78, 4, 172, 3, 172]
abbrev dktX0_walls_0 : List UInt8 := dkwX0_walls_0 ++ []
theorem dksX0_walls_0 : cX0_walls.data.toList.drop 0 = dktX0_walls_0 := by decide +kernel
theorem dX0_walls_0 : decode cX0_walls 0 = .ok (.aload_n 2, 1) := dk_44 (dk_at dksX0_walls_0 0 rfl rfl)
theorem dX0_walls_1 : decode cX0_walls 1 = .ok (.iconst 0, 1) := dk_3 (dk_at dksX0_walls_0 1 rfl rfl)
theorem dX0_walls_2 : decode cX0_walls 2 = .ok (.aload_n 0, 1) := dk_42 (dk_at dksX0_walls_0 2 rfl rfl)
theorem dX0_walls_3 : decode cX0_walls 3 = .ok (.iload_n 1, 1) := dk_27 (dk_at dksX0_walls_0 3 rfl rfl)
theorem dX0_walls_4 : decode cX0_walls 4 = .ok (.invokevirtual 84, 3) := dk_182 0 84 (dk_at dksX0_walls_0 4 rfl rfl)
theorem dX0_walls_7 : decode cX0_walls 7 = .ok (.i2l, 1) := dk_133 (dk_at dksX0_walls_0 7 rfl rfl)
theorem dX0_walls_8 : decode cX0_walls 8 = .ok (.lastore, 1) := dk_80 (dk_at dksX0_walls_0 8 rfl rfl)
theorem dX0_walls_9 : decode cX0_walls 9 = .ok (.goto 6, 3) := dk_167 0 6 (dk_at dksX0_walls_0 9 rfl rfl)
theorem dX0_walls_12 : decode cX0_walls 12 = .ok (.astore_n 3, 1) := dk_78 (dk_at dksX0_walls_0 12 rfl rfl)
theorem dX0_walls_13 : decode cX0_walls 13 = .ok (.iconst 1, 1) := dk_4 (dk_at dksX0_walls_0 13 rfl rfl)
theorem dX0_walls_14 : decode cX0_walls 14 = .ok (.ireturn, 1) := dk_172 (dk_at dksX0_walls_0 14 rfl rfl)
theorem dX0_walls_15 : decode cX0_walls 15 = .ok (.iconst 0, 1) := dk_3 (dk_at dksX0_walls_0 15 rfl rfl)
theorem dX0_walls_16 : decode cX0_walls 16 = .ok (.ireturn, 1) := dk_172 (dk_at dksX0_walls_0 16 rfl rfl)
abbrev cX0_framesInside : ByteArray := method_24_code
def yX0_framesInside : MethodName := ⟨RX0, "framesInside", "(LCameraMoves;I[J)I"⟩
def dkwX0_framesInside_0 : List UInt8 := [44, 3, 42, 27, 182, 0, 87, 133, 80, 167, 0, 6, 78, 4, 172, 3, 172]
abbrev dktX0_framesInside_0 : List UInt8 := dkwX0_framesInside_0 ++ []
theorem dksX0_framesInside_0 : cX0_framesInside.data.toList.drop 0 = dktX0_framesInside_0 := by decide +kernel
theorem dX0_framesInside_0 : decode cX0_framesInside 0 = .ok (.aload_n 2, 1) := dk_44 (dk_at dksX0_framesInside_0 0 rfl rfl)
theorem dX0_framesInside_1 : decode cX0_framesInside 1 = .ok (.iconst 0, 1) := dk_3 (dk_at dksX0_framesInside_0 1 rfl rfl)
theorem dX0_framesInside_2 : decode cX0_framesInside 2 = .ok (.aload_n 0, 1) := dk_42 (dk_at dksX0_framesInside_0 2 rfl rfl)
theorem dX0_framesInside_3 : decode cX0_framesInside 3 = .ok (.iload_n 1, 1) := dk_27 (dk_at dksX0_framesInside_0 3 rfl rfl)
theorem dX0_framesInside_4 : decode cX0_framesInside 4 = .ok (.invokevirtual 87, 3) := dk_182 0 87 (dk_at dksX0_framesInside_0 4 rfl rfl)
theorem dX0_framesInside_7 : decode cX0_framesInside 7 = .ok (.i2l, 1) := dk_133 (dk_at dksX0_framesInside_0 7 rfl rfl)
theorem dX0_framesInside_8 : decode cX0_framesInside 8 = .ok (.lastore, 1) := dk_80 (dk_at dksX0_framesInside_0 8 rfl rfl)
theorem dX0_framesInside_9 : decode cX0_framesInside 9 = .ok (.goto 6, 3) := dk_167 0 6 (dk_at dksX0_framesInside_0 9 rfl rfl)
theorem dX0_framesInside_12 : decode cX0_framesInside 12 = .ok (.astore_n 3, 1) := dk_78 (dk_at dksX0_framesInside_0 12 rfl rfl)
theorem dX0_framesInside_13 : decode cX0_framesInside 13 = .ok (.iconst 1, 1) := dk_4 (dk_at dksX0_framesInside_0 13 rfl rfl)
theorem dX0_framesInside_14 : decode cX0_framesInside 14 = .ok (.ireturn, 1) := dk_172 (dk_at dksX0_framesInside_0 14 rfl rfl)
theorem dX0_framesInside_15 : decode cX0_framesInside 15 = .ok (.iconst 0, 1) := dk_3 (dk_at dksX0_framesInside_0 15 rfl rfl)
theorem dX0_framesInside_16 : decode cX0_framesInside 16 = .ok (.ireturn, 1) := dk_172 (dk_at dksX0_framesInside_0 16 rfl rfl)
abbrev cX0_shown : ByteArray := method_25_code
def yX0_shown : MethodName := ⟨RX0, "shown", "(LCameraMoves;II[J)I"⟩
def dkwX0_shown_0 : List UInt8 := [45, 3, 42, 27, 28, 182, 0, 90, 133, 80, 167, 0, 7, 58, 4, 4, 172, 3, 172]
abbrev dktX0_shown_0 : List UInt8 := dkwX0_shown_0 ++ []
theorem dksX0_shown_0 : cX0_shown.data.toList.drop 0 = dktX0_shown_0 := by decide +kernel
theorem dX0_shown_0 : decode cX0_shown 0 = .ok (.aload_n 3, 1) := dk_45 (dk_at dksX0_shown_0 0 rfl rfl)
theorem dX0_shown_1 : decode cX0_shown 1 = .ok (.iconst 0, 1) := dk_3 (dk_at dksX0_shown_0 1 rfl rfl)
theorem dX0_shown_2 : decode cX0_shown 2 = .ok (.aload_n 0, 1) := dk_42 (dk_at dksX0_shown_0 2 rfl rfl)
theorem dX0_shown_3 : decode cX0_shown 3 = .ok (.iload_n 1, 1) := dk_27 (dk_at dksX0_shown_0 3 rfl rfl)
theorem dX0_shown_4 : decode cX0_shown 4 = .ok (.iload_n 2, 1) := dk_28 (dk_at dksX0_shown_0 4 rfl rfl)
theorem dX0_shown_5 : decode cX0_shown 5 = .ok (.invokevirtual 90, 3) := dk_182 0 90 (dk_at dksX0_shown_0 5 rfl rfl)
theorem dX0_shown_8 : decode cX0_shown 8 = .ok (.i2l, 1) := dk_133 (dk_at dksX0_shown_0 8 rfl rfl)
theorem dX0_shown_9 : decode cX0_shown 9 = .ok (.lastore, 1) := dk_80 (dk_at dksX0_shown_0 9 rfl rfl)
theorem dX0_shown_10 : decode cX0_shown 10 = .ok (.goto 7, 3) := dk_167 0 7 (dk_at dksX0_shown_0 10 rfl rfl)
theorem dX0_shown_13 : decode cX0_shown 13 = .ok (.astore 4, 2) := dk_58 4 (dk_at dksX0_shown_0 13 rfl rfl)
theorem dX0_shown_15 : decode cX0_shown 15 = .ok (.iconst 1, 1) := dk_4 (dk_at dksX0_shown_0 15 rfl rfl)
theorem dX0_shown_16 : decode cX0_shown 16 = .ok (.ireturn, 1) := dk_172 (dk_at dksX0_shown_0 16 rfl rfl)
theorem dX0_shown_17 : decode cX0_shown 17 = .ok (.iconst 0, 1) := dk_3 (dk_at dksX0_shown_0 17 rfl rfl)
theorem dX0_shown_18 : decode cX0_shown 18 = .ok (.ireturn, 1) := dk_172 (dk_at dksX0_shown_0 18 rfl rfl)
abbrev cX0_passPosition : ByteArray := method_26_code
def yX0_passPosition : MethodName := ⟨RX0, "passPosition", "(LCameraMoves;III[J)I"⟩
def dkwX0_passPosition_0 : List UInt8 := [25, 4, 3, 42, 27, 28, 29, 182, 0, 93, 133, 80, 167, 0, 7, 58, 5, 4, 172, 3, 172]
abbrev dktX0_passPosition_0 : List UInt8 := dkwX0_passPosition_0 ++ []
theorem dksX0_passPosition_0 : cX0_passPosition.data.toList.drop 0 = dktX0_passPosition_0 := by decide +kernel
theorem dX0_passPosition_0 : decode cX0_passPosition 0 = .ok (.aload 4, 2) := dk_25 4 (dk_at dksX0_passPosition_0 0 rfl rfl)
theorem dX0_passPosition_2 : decode cX0_passPosition 2 = .ok (.iconst 0, 1) := dk_3 (dk_at dksX0_passPosition_0 2 rfl rfl)
theorem dX0_passPosition_3 : decode cX0_passPosition 3 = .ok (.aload_n 0, 1) := dk_42 (dk_at dksX0_passPosition_0 3 rfl rfl)
theorem dX0_passPosition_4 : decode cX0_passPosition 4 = .ok (.iload_n 1, 1) := dk_27 (dk_at dksX0_passPosition_0 4 rfl rfl)
theorem dX0_passPosition_5 : decode cX0_passPosition 5 = .ok (.iload_n 2, 1) := dk_28 (dk_at dksX0_passPosition_0 5 rfl rfl)
theorem dX0_passPosition_6 : decode cX0_passPosition 6 = .ok (.iload_n 3, 1) := dk_29 (dk_at dksX0_passPosition_0 6 rfl rfl)
theorem dX0_passPosition_7 : decode cX0_passPosition 7 = .ok (.invokevirtual 93, 3) := dk_182 0 93 (dk_at dksX0_passPosition_0 7 rfl rfl)
theorem dX0_passPosition_10 : decode cX0_passPosition 10 = .ok (.i2l, 1) := dk_133 (dk_at dksX0_passPosition_0 10 rfl rfl)
theorem dX0_passPosition_11 : decode cX0_passPosition 11 = .ok (.lastore, 1) := dk_80 (dk_at dksX0_passPosition_0 11 rfl rfl)
theorem dX0_passPosition_12 : decode cX0_passPosition 12 = .ok (.goto 7, 3) := dk_167 0 7 (dk_at dksX0_passPosition_0 12 rfl rfl)
theorem dX0_passPosition_15 : decode cX0_passPosition 15 = .ok (.astore 5, 2) := dk_58 5 (dk_at dksX0_passPosition_0 15 rfl rfl)
theorem dX0_passPosition_17 : decode cX0_passPosition 17 = .ok (.iconst 1, 1) := dk_4 (dk_at dksX0_passPosition_0 17 rfl rfl)
theorem dX0_passPosition_18 : decode cX0_passPosition 18 = .ok (.ireturn, 1) := dk_172 (dk_at dksX0_passPosition_0 18 rfl rfl)
theorem dX0_passPosition_19 : decode cX0_passPosition 19 = .ok (.iconst 0, 1) := dk_3 (dk_at dksX0_passPosition_0 19 rfl rfl)
theorem dX0_passPosition_20 : decode cX0_passPosition 20 = .ok (.ireturn, 1) := dk_172 (dk_at dksX0_passPosition_0 20 rfl rfl)
abbrev cX0_fits : ByteArray := method_27_code
def yX0_fits : MethodName := ⟨RX0, "fits", "(LCameraMoves;I[J)I"⟩
def dkwX0_fits_0 : List UInt8 := [44, 3, 42, 27, 182, 0, 97, 153, 0, 7, 10, 167, 0, 4, 9, 80, 167, 0, 6, 78, 4, 172, 3, 172]
abbrev dktX0_fits_0 : List UInt8 := dkwX0_fits_0 ++ []
theorem dksX0_fits_0 : cX0_fits.data.toList.drop 0 = dktX0_fits_0 := by decide +kernel
theorem dX0_fits_0 : decode cX0_fits 0 = .ok (.aload_n 2, 1) := dk_44 (dk_at dksX0_fits_0 0 rfl rfl)
theorem dX0_fits_1 : decode cX0_fits 1 = .ok (.iconst 0, 1) := dk_3 (dk_at dksX0_fits_0 1 rfl rfl)
theorem dX0_fits_2 : decode cX0_fits 2 = .ok (.aload_n 0, 1) := dk_42 (dk_at dksX0_fits_0 2 rfl rfl)
theorem dX0_fits_3 : decode cX0_fits 3 = .ok (.iload_n 1, 1) := dk_27 (dk_at dksX0_fits_0 3 rfl rfl)
theorem dX0_fits_4 : decode cX0_fits 4 = .ok (.invokevirtual 97, 3) := dk_182 0 97 (dk_at dksX0_fits_0 4 rfl rfl)
theorem dX0_fits_7 : decode cX0_fits 7 = .ok (.ifCond .eq 7, 3) := dk_153 0 7 (dk_at dksX0_fits_0 7 rfl rfl)
theorem dX0_fits_10 : decode cX0_fits 10 = .ok (.lconst 1, 1) := dk_10 (dk_at dksX0_fits_0 10 rfl rfl)
theorem dX0_fits_11 : decode cX0_fits 11 = .ok (.goto 4, 3) := dk_167 0 4 (dk_at dksX0_fits_0 11 rfl rfl)
theorem dX0_fits_14 : decode cX0_fits 14 = .ok (.lconst 0, 1) := dk_9 (dk_at dksX0_fits_0 14 rfl rfl)
theorem dX0_fits_15 : decode cX0_fits 15 = .ok (.lastore, 1) := dk_80 (dk_at dksX0_fits_0 15 rfl rfl)
theorem dX0_fits_16 : decode cX0_fits 16 = .ok (.goto 6, 3) := dk_167 0 6 (dk_at dksX0_fits_0 16 rfl rfl)
theorem dX0_fits_19 : decode cX0_fits 19 = .ok (.astore_n 3, 1) := dk_78 (dk_at dksX0_fits_0 19 rfl rfl)
theorem dX0_fits_20 : decode cX0_fits 20 = .ok (.iconst 1, 1) := dk_4 (dk_at dksX0_fits_0 20 rfl rfl)
theorem dX0_fits_21 : decode cX0_fits 21 = .ok (.ireturn, 1) := dk_172 (dk_at dksX0_fits_0 21 rfl rfl)
theorem dX0_fits_22 : decode cX0_fits 22 = .ok (.iconst 0, 1) := dk_3 (dk_at dksX0_fits_0 22 rfl rfl)
theorem dX0_fits_23 : decode cX0_fits 23 = .ok (.ireturn, 1) := dk_172 (dk_at dksX0_fits_0 23 rfl rfl)
abbrev cX0_matches : ByteArray := method_28_code
def yX0_matches : MethodName := ⟨RX0, "matches", "(LCameraMoves;II[J)I"⟩
def dkwX0_matches_0 : List UInt8 := [45, 3, 42, 27, 28, 182, 0, 101, 133, 80, 167, 0, 7, 58, 4, 4, 172, 3, 172]
abbrev dktX0_matches_0 : List UInt8 := dkwX0_matches_0 ++ []
theorem dksX0_matches_0 : cX0_matches.data.toList.drop 0 = dktX0_matches_0 := by decide +kernel
theorem dX0_matches_0 : decode cX0_matches 0 = .ok (.aload_n 3, 1) := dk_45 (dk_at dksX0_matches_0 0 rfl rfl)
theorem dX0_matches_1 : decode cX0_matches 1 = .ok (.iconst 0, 1) := dk_3 (dk_at dksX0_matches_0 1 rfl rfl)
theorem dX0_matches_2 : decode cX0_matches 2 = .ok (.aload_n 0, 1) := dk_42 (dk_at dksX0_matches_0 2 rfl rfl)
theorem dX0_matches_3 : decode cX0_matches 3 = .ok (.iload_n 1, 1) := dk_27 (dk_at dksX0_matches_0 3 rfl rfl)
theorem dX0_matches_4 : decode cX0_matches 4 = .ok (.iload_n 2, 1) := dk_28 (dk_at dksX0_matches_0 4 rfl rfl)
theorem dX0_matches_5 : decode cX0_matches 5 = .ok (.invokevirtual 101, 3) := dk_182 0 101 (dk_at dksX0_matches_0 5 rfl rfl)
theorem dX0_matches_8 : decode cX0_matches 8 = .ok (.i2l, 1) := dk_133 (dk_at dksX0_matches_0 8 rfl rfl)
theorem dX0_matches_9 : decode cX0_matches 9 = .ok (.lastore, 1) := dk_80 (dk_at dksX0_matches_0 9 rfl rfl)
theorem dX0_matches_10 : decode cX0_matches 10 = .ok (.goto 7, 3) := dk_167 0 7 (dk_at dksX0_matches_0 10 rfl rfl)
theorem dX0_matches_13 : decode cX0_matches 13 = .ok (.astore 4, 2) := dk_58 4 (dk_at dksX0_matches_0 13 rfl rfl)
theorem dX0_matches_15 : decode cX0_matches 15 = .ok (.iconst 1, 1) := dk_4 (dk_at dksX0_matches_0 15 rfl rfl)
theorem dX0_matches_16 : decode cX0_matches 16 = .ok (.ireturn, 1) := dk_172 (dk_at dksX0_matches_0 16 rfl rfl)
theorem dX0_matches_17 : decode cX0_matches 17 = .ok (.iconst 0, 1) := dk_3 (dk_at dksX0_matches_0 17 rfl rfl)
theorem dX0_matches_18 : decode cX0_matches 18 = .ok (.ireturn, 1) := dk_172 (dk_at dksX0_matches_0 18 rfl rfl)
abbrev cX0_mismatch : ByteArray := method_29_code
def yX0_mismatch : MethodName := ⟨RX0, "mismatch", "(LCameraMoves;II[J)I"⟩
def dkwX0_mismatch_0 : List UInt8 := [45, 3, 42, 27, 28, 182, 0, 104, 133, 80, 167, 0, 7, 58, 4, 4, 172, 3, 172]
abbrev dktX0_mismatch_0 : List UInt8 := dkwX0_mismatch_0 ++ []
theorem dksX0_mismatch_0 : cX0_mismatch.data.toList.drop 0 = dktX0_mismatch_0 := by decide +kernel
theorem dX0_mismatch_0 : decode cX0_mismatch 0 = .ok (.aload_n 3, 1) := dk_45 (dk_at dksX0_mismatch_0 0 rfl rfl)
theorem dX0_mismatch_1 : decode cX0_mismatch 1 = .ok (.iconst 0, 1) := dk_3 (dk_at dksX0_mismatch_0 1 rfl rfl)
theorem dX0_mismatch_2 : decode cX0_mismatch 2 = .ok (.aload_n 0, 1) := dk_42 (dk_at dksX0_mismatch_0 2 rfl rfl)
theorem dX0_mismatch_3 : decode cX0_mismatch 3 = .ok (.iload_n 1, 1) := dk_27 (dk_at dksX0_mismatch_0 3 rfl rfl)
theorem dX0_mismatch_4 : decode cX0_mismatch 4 = .ok (.iload_n 2, 1) := dk_28 (dk_at dksX0_mismatch_0 4 rfl rfl)
theorem dX0_mismatch_5 : decode cX0_mismatch 5 = .ok (.invokevirtual 104, 3) := dk_182 0 104 (dk_at dksX0_mismatch_0 5 rfl rfl)
theorem dX0_mismatch_8 : decode cX0_mismatch 8 = .ok (.i2l, 1) := dk_133 (dk_at dksX0_mismatch_0 8 rfl rfl)
theorem dX0_mismatch_9 : decode cX0_mismatch 9 = .ok (.lastore, 1) := dk_80 (dk_at dksX0_mismatch_0 9 rfl rfl)
theorem dX0_mismatch_10 : decode cX0_mismatch 10 = .ok (.goto 7, 3) := dk_167 0 7 (dk_at dksX0_mismatch_0 10 rfl rfl)
theorem dX0_mismatch_13 : decode cX0_mismatch 13 = .ok (.astore 4, 2) := dk_58 4 (dk_at dksX0_mismatch_0 13 rfl rfl)
theorem dX0_mismatch_15 : decode cX0_mismatch 15 = .ok (.iconst 1, 1) := dk_4 (dk_at dksX0_mismatch_0 15 rfl rfl)
theorem dX0_mismatch_16 : decode cX0_mismatch 16 = .ok (.ireturn, 1) := dk_172 (dk_at dksX0_mismatch_0 16 rfl rfl)
theorem dX0_mismatch_17 : decode cX0_mismatch 17 = .ok (.iconst 0, 1) := dk_3 (dk_at dksX0_mismatch_0 17 rfl rfl)
theorem dX0_mismatch_18 : decode cX0_mismatch 18 = .ok (.ireturn, 1) := dk_172 (dk_at dksX0_mismatch_0 18 rfl rfl)
abbrev cX0_fittingDen : ByteArray := method_30_code
def yX0_fittingDen : MethodName := ⟨RX0, "fittingDen", "(LCameraMoves;I[J)I"⟩
def dkwX0_fittingDen_0 : List UInt8 := [44, 3, 42, 27, 182, 0, 107, 133, 80, 167, 0, 6, 78, 4, 172, 3, 172]
abbrev dktX0_fittingDen_0 : List UInt8 := dkwX0_fittingDen_0 ++ []
theorem dksX0_fittingDen_0 : cX0_fittingDen.data.toList.drop 0 = dktX0_fittingDen_0 := by decide +kernel
theorem dX0_fittingDen_0 : decode cX0_fittingDen 0 = .ok (.aload_n 2, 1) := dk_44 (dk_at dksX0_fittingDen_0 0 rfl rfl)
theorem dX0_fittingDen_1 : decode cX0_fittingDen 1 = .ok (.iconst 0, 1) := dk_3 (dk_at dksX0_fittingDen_0 1 rfl rfl)
theorem dX0_fittingDen_2 : decode cX0_fittingDen 2 = .ok (.aload_n 0, 1) := dk_42 (dk_at dksX0_fittingDen_0 2 rfl rfl)
theorem dX0_fittingDen_3 : decode cX0_fittingDen 3 = .ok (.iload_n 1, 1) := dk_27 (dk_at dksX0_fittingDen_0 3 rfl rfl)
theorem dX0_fittingDen_4 : decode cX0_fittingDen 4 = .ok (.invokevirtual 107, 3) := dk_182 0 107 (dk_at dksX0_fittingDen_0 4 rfl rfl)
theorem dX0_fittingDen_7 : decode cX0_fittingDen 7 = .ok (.i2l, 1) := dk_133 (dk_at dksX0_fittingDen_0 7 rfl rfl)
theorem dX0_fittingDen_8 : decode cX0_fittingDen 8 = .ok (.lastore, 1) := dk_80 (dk_at dksX0_fittingDen_0 8 rfl rfl)
theorem dX0_fittingDen_9 : decode cX0_fittingDen 9 = .ok (.goto 6, 3) := dk_167 0 6 (dk_at dksX0_fittingDen_0 9 rfl rfl)
theorem dX0_fittingDen_12 : decode cX0_fittingDen 12 = .ok (.astore_n 3, 1) := dk_78 (dk_at dksX0_fittingDen_0 12 rfl rfl)
theorem dX0_fittingDen_13 : decode cX0_fittingDen 13 = .ok (.iconst 1, 1) := dk_4 (dk_at dksX0_fittingDen_0 13 rfl rfl)
theorem dX0_fittingDen_14 : decode cX0_fittingDen 14 = .ok (.ireturn, 1) := dk_172 (dk_at dksX0_fittingDen_0 14 rfl rfl)
theorem dX0_fittingDen_15 : decode cX0_fittingDen 15 = .ok (.iconst 0, 1) := dk_3 (dk_at dksX0_fittingDen_0 15 rfl rfl)
theorem dX0_fittingDen_16 : decode cX0_fittingDen 16 = .ok (.ireturn, 1) := dk_172 (dk_at dksX0_fittingDen_0 16 rfl rfl)
abbrev cX0_earliest : ByteArray := method_31_code
def yX0_earliest : MethodName := ⟨RX0, "earliest", "(LCameraMoves;I[J)I"⟩
def dkwX0_earliest_0 : List UInt8 := [44, 3, 42, 27, 182, 0, 110, 133, 80, 167, 0, 6, 78, 4, 172, 3, 172]
abbrev dktX0_earliest_0 : List UInt8 := dkwX0_earliest_0 ++ []
theorem dksX0_earliest_0 : cX0_earliest.data.toList.drop 0 = dktX0_earliest_0 := by decide +kernel
theorem dX0_earliest_0 : decode cX0_earliest 0 = .ok (.aload_n 2, 1) := dk_44 (dk_at dksX0_earliest_0 0 rfl rfl)
theorem dX0_earliest_1 : decode cX0_earliest 1 = .ok (.iconst 0, 1) := dk_3 (dk_at dksX0_earliest_0 1 rfl rfl)
theorem dX0_earliest_2 : decode cX0_earliest 2 = .ok (.aload_n 0, 1) := dk_42 (dk_at dksX0_earliest_0 2 rfl rfl)
theorem dX0_earliest_3 : decode cX0_earliest 3 = .ok (.iload_n 1, 1) := dk_27 (dk_at dksX0_earliest_0 3 rfl rfl)
theorem dX0_earliest_4 : decode cX0_earliest 4 = .ok (.invokevirtual 110, 3) := dk_182 0 110 (dk_at dksX0_earliest_0 4 rfl rfl)
theorem dX0_earliest_7 : decode cX0_earliest 7 = .ok (.i2l, 1) := dk_133 (dk_at dksX0_earliest_0 7 rfl rfl)
theorem dX0_earliest_8 : decode cX0_earliest 8 = .ok (.lastore, 1) := dk_80 (dk_at dksX0_earliest_0 8 rfl rfl)
theorem dX0_earliest_9 : decode cX0_earliest 9 = .ok (.goto 6, 3) := dk_167 0 6 (dk_at dksX0_earliest_0 9 rfl rfl)
theorem dX0_earliest_12 : decode cX0_earliest 12 = .ok (.astore_n 3, 1) := dk_78 (dk_at dksX0_earliest_0 12 rfl rfl)
theorem dX0_earliest_13 : decode cX0_earliest 13 = .ok (.iconst 1, 1) := dk_4 (dk_at dksX0_earliest_0 13 rfl rfl)
theorem dX0_earliest_14 : decode cX0_earliest 14 = .ok (.ireturn, 1) := dk_172 (dk_at dksX0_earliest_0 14 rfl rfl)
theorem dX0_earliest_15 : decode cX0_earliest 15 = .ok (.iconst 0, 1) := dk_3 (dk_at dksX0_earliest_0 15 rfl rfl)
theorem dX0_earliest_16 : decode cX0_earliest 16 = .ok (.ireturn, 1) := dk_172 (dk_at dksX0_earliest_0 16 rfl rfl)
abbrev cX0_hitsIf : ByteArray := method_32_code
def yX0_hitsIf : MethodName := ⟨RX0, "hitsIf", "(LCameraMoves;II[J)I"⟩
def dkwX0_hitsIf_0 : List UInt8 := [45, 3, 42, 27, 28, 182, 0, 113, 133, 80, 167, 0, 11, 58, 4, 4, 172, 58, 4, 5, 172, 3, 172]
abbrev dktX0_hitsIf_0 : List UInt8 := dkwX0_hitsIf_0 ++ []
theorem dksX0_hitsIf_0 : cX0_hitsIf.data.toList.drop 0 = dktX0_hitsIf_0 := by decide +kernel
theorem dX0_hitsIf_0 : decode cX0_hitsIf 0 = .ok (.aload_n 3, 1) := dk_45 (dk_at dksX0_hitsIf_0 0 rfl rfl)
theorem dX0_hitsIf_1 : decode cX0_hitsIf 1 = .ok (.iconst 0, 1) := dk_3 (dk_at dksX0_hitsIf_0 1 rfl rfl)
theorem dX0_hitsIf_2 : decode cX0_hitsIf 2 = .ok (.aload_n 0, 1) := dk_42 (dk_at dksX0_hitsIf_0 2 rfl rfl)
theorem dX0_hitsIf_3 : decode cX0_hitsIf 3 = .ok (.iload_n 1, 1) := dk_27 (dk_at dksX0_hitsIf_0 3 rfl rfl)
theorem dX0_hitsIf_4 : decode cX0_hitsIf 4 = .ok (.iload_n 2, 1) := dk_28 (dk_at dksX0_hitsIf_0 4 rfl rfl)
theorem dX0_hitsIf_5 : decode cX0_hitsIf 5 = .ok (.invokevirtual 113, 3) := dk_182 0 113 (dk_at dksX0_hitsIf_0 5 rfl rfl)
theorem dX0_hitsIf_8 : decode cX0_hitsIf 8 = .ok (.i2l, 1) := dk_133 (dk_at dksX0_hitsIf_0 8 rfl rfl)
theorem dX0_hitsIf_9 : decode cX0_hitsIf 9 = .ok (.lastore, 1) := dk_80 (dk_at dksX0_hitsIf_0 9 rfl rfl)
theorem dX0_hitsIf_10 : decode cX0_hitsIf 10 = .ok (.goto 11, 3) := dk_167 0 11 (dk_at dksX0_hitsIf_0 10 rfl rfl)
theorem dX0_hitsIf_13 : decode cX0_hitsIf 13 = .ok (.astore 4, 2) := dk_58 4 (dk_at dksX0_hitsIf_0 13 rfl rfl)
theorem dX0_hitsIf_15 : decode cX0_hitsIf 15 = .ok (.iconst 1, 1) := dk_4 (dk_at dksX0_hitsIf_0 15 rfl rfl)
theorem dX0_hitsIf_16 : decode cX0_hitsIf 16 = .ok (.ireturn, 1) := dk_172 (dk_at dksX0_hitsIf_0 16 rfl rfl)
theorem dX0_hitsIf_17 : decode cX0_hitsIf 17 = .ok (.astore 4, 2) := dk_58 4 (dk_at dksX0_hitsIf_0 17 rfl rfl)
theorem dX0_hitsIf_19 : decode cX0_hitsIf 19 = .ok (.iconst 2, 1) := dk_5 (dk_at dksX0_hitsIf_0 19 rfl rfl)
theorem dX0_hitsIf_20 : decode cX0_hitsIf 20 = .ok (.ireturn, 1) := dk_172 (dk_at dksX0_hitsIf_0 20 rfl rfl)
theorem dX0_hitsIf_21 : decode cX0_hitsIf 21 = .ok (.iconst 0, 1) := dk_3 (dk_at dksX0_hitsIf_0 21 rfl rfl)
theorem dX0_hitsIf_22 : decode cX0_hitsIf 22 = .ok (.ireturn, 1) := dk_172 (dk_at dksX0_hitsIf_0 22 rfl rfl)
abbrev cX0_mostSaved : ByteArray := method_33_code
def yX0_mostSaved : MethodName := ⟨RX0, "mostSaved", "(LCameraMoves;I[J)I"⟩
def dkwX0_mostSaved_0 : List UInt8 := [44, 3, 42, 27, 182, 0, 116, 133, 80, 167, 0, 6, 78, 4, 172, 3, 172]
abbrev dktX0_mostSaved_0 : List UInt8 := dkwX0_mostSaved_0 ++ []
theorem dksX0_mostSaved_0 : cX0_mostSaved.data.toList.drop 0 = dktX0_mostSaved_0 := by decide +kernel
theorem dX0_mostSaved_0 : decode cX0_mostSaved 0 = .ok (.aload_n 2, 1) := dk_44 (dk_at dksX0_mostSaved_0 0 rfl rfl)
theorem dX0_mostSaved_1 : decode cX0_mostSaved 1 = .ok (.iconst 0, 1) := dk_3 (dk_at dksX0_mostSaved_0 1 rfl rfl)
theorem dX0_mostSaved_2 : decode cX0_mostSaved 2 = .ok (.aload_n 0, 1) := dk_42 (dk_at dksX0_mostSaved_0 2 rfl rfl)
theorem dX0_mostSaved_3 : decode cX0_mostSaved 3 = .ok (.iload_n 1, 1) := dk_27 (dk_at dksX0_mostSaved_0 3 rfl rfl)
theorem dX0_mostSaved_4 : decode cX0_mostSaved 4 = .ok (.invokevirtual 116, 3) := dk_182 0 116 (dk_at dksX0_mostSaved_0 4 rfl rfl)
theorem dX0_mostSaved_7 : decode cX0_mostSaved 7 = .ok (.i2l, 1) := dk_133 (dk_at dksX0_mostSaved_0 7 rfl rfl)
theorem dX0_mostSaved_8 : decode cX0_mostSaved 8 = .ok (.lastore, 1) := dk_80 (dk_at dksX0_mostSaved_0 8 rfl rfl)
theorem dX0_mostSaved_9 : decode cX0_mostSaved 9 = .ok (.goto 6, 3) := dk_167 0 6 (dk_at dksX0_mostSaved_0 9 rfl rfl)
theorem dX0_mostSaved_12 : decode cX0_mostSaved 12 = .ok (.astore_n 3, 1) := dk_78 (dk_at dksX0_mostSaved_0 12 rfl rfl)
theorem dX0_mostSaved_13 : decode cX0_mostSaved 13 = .ok (.iconst 1, 1) := dk_4 (dk_at dksX0_mostSaved_0 13 rfl rfl)
theorem dX0_mostSaved_14 : decode cX0_mostSaved 14 = .ok (.ireturn, 1) := dk_172 (dk_at dksX0_mostSaved_0 14 rfl rfl)
theorem dX0_mostSaved_15 : decode cX0_mostSaved 15 = .ok (.iconst 0, 1) := dk_3 (dk_at dksX0_mostSaved_0 15 rfl rfl)
theorem dX0_mostSaved_16 : decode cX0_mostSaved 16 = .ok (.ireturn, 1) := dk_172 (dk_at dksX0_mostSaved_0 16 rfl rfl)
abbrev cX0_addCue : ByteArray := method_34_code
def yX0_addCue : MethodName := ⟨RX0, "addCue", "(LCameraMoves;IIII[J)I"⟩
def dkwX0_addCue_1 : List UInt8 := [172, 58, 6, 6, 172, 3, 172]
abbrev dktX0_addCue_1 : List UInt8 := dkwX0_addCue_1 ++ []
def dkwX0_addCue_0 : List UInt8 := [25, 5, 3, 42, 27, 28, 29, 21, 4, 182, 0, 119, 133, 80, 167, 0, 15, 58, 6, 4, 172, 58, 6, 5]
abbrev dktX0_addCue_0 : List UInt8 := dkwX0_addCue_0 ++ dktX0_addCue_1
theorem dksX0_addCue_0 : cX0_addCue.data.toList.drop 0 = dktX0_addCue_0 := by decide +kernel
theorem dksX0_addCue_1 : cX0_addCue.data.toList.drop 24 = dktX0_addCue_1 := dk_seg dksX0_addCue_0 24 rfl rfl
theorem dX0_addCue_0 : decode cX0_addCue 0 = .ok (.aload 5, 2) := dk_25 5 (dk_at dksX0_addCue_0 0 rfl rfl)
theorem dX0_addCue_2 : decode cX0_addCue 2 = .ok (.iconst 0, 1) := dk_3 (dk_at dksX0_addCue_0 2 rfl rfl)
theorem dX0_addCue_3 : decode cX0_addCue 3 = .ok (.aload_n 0, 1) := dk_42 (dk_at dksX0_addCue_0 3 rfl rfl)
theorem dX0_addCue_4 : decode cX0_addCue 4 = .ok (.iload_n 1, 1) := dk_27 (dk_at dksX0_addCue_0 4 rfl rfl)
theorem dX0_addCue_5 : decode cX0_addCue 5 = .ok (.iload_n 2, 1) := dk_28 (dk_at dksX0_addCue_0 5 rfl rfl)
theorem dX0_addCue_6 : decode cX0_addCue 6 = .ok (.iload_n 3, 1) := dk_29 (dk_at dksX0_addCue_0 6 rfl rfl)
theorem dX0_addCue_7 : decode cX0_addCue 7 = .ok (.iload 4, 2) := dk_21 4 (dk_at dksX0_addCue_0 7 rfl rfl)
theorem dX0_addCue_9 : decode cX0_addCue 9 = .ok (.invokevirtual 119, 3) := dk_182 0 119 (dk_at dksX0_addCue_0 9 rfl rfl)
theorem dX0_addCue_12 : decode cX0_addCue 12 = .ok (.i2l, 1) := dk_133 (dk_at dksX0_addCue_0 12 rfl rfl)
theorem dX0_addCue_13 : decode cX0_addCue 13 = .ok (.lastore, 1) := dk_80 (dk_at dksX0_addCue_0 13 rfl rfl)
theorem dX0_addCue_14 : decode cX0_addCue 14 = .ok (.goto 15, 3) := dk_167 0 15 (dk_at dksX0_addCue_0 14 rfl rfl)
theorem dX0_addCue_17 : decode cX0_addCue 17 = .ok (.astore 6, 2) := dk_58 6 (dk_at dksX0_addCue_0 17 rfl rfl)
theorem dX0_addCue_19 : decode cX0_addCue 19 = .ok (.iconst 1, 1) := dk_4 (dk_at dksX0_addCue_0 19 rfl rfl)
theorem dX0_addCue_20 : decode cX0_addCue 20 = .ok (.ireturn, 1) := dk_172 (dk_at dksX0_addCue_0 20 rfl rfl)
theorem dX0_addCue_21 : decode cX0_addCue 21 = .ok (.astore 6, 2) := dk_58 6 (dk_at dksX0_addCue_0 21 rfl rfl)
theorem dX0_addCue_23 : decode cX0_addCue 23 = .ok (.iconst 2, 1) := dk_5 (dk_at dksX0_addCue_0 23 rfl rfl)
theorem dX0_addCue_24 : decode cX0_addCue 24 = .ok (.ireturn, 1) := dk_172 (dk_at dksX0_addCue_1 0 rfl rfl)
theorem dX0_addCue_25 : decode cX0_addCue 25 = .ok (.astore 6, 2) := dk_58 6 (dk_at dksX0_addCue_1 1 rfl rfl)
theorem dX0_addCue_27 : decode cX0_addCue 27 = .ok (.iconst 3, 1) := dk_6 (dk_at dksX0_addCue_1 3 rfl rfl)
theorem dX0_addCue_28 : decode cX0_addCue 28 = .ok (.ireturn, 1) := dk_172 (dk_at dksX0_addCue_1 4 rfl rfl)
theorem dX0_addCue_29 : decode cX0_addCue 29 = .ok (.iconst 0, 1) := dk_3 (dk_at dksX0_addCue_1 5 rfl rfl)
theorem dX0_addCue_30 : decode cX0_addCue 30 = .ok (.ireturn, 1) := dk_172 (dk_at dksX0_addCue_1 6 rfl rfl)
abbrev cX0_setTarget : ByteArray := method_35_code
def yX0_setTarget : MethodName := ⟨RX0, "setTarget", "(LCameraMoves;III[J)I"⟩
def dkwX0_setTarget_1 : List UInt8 := [172]
abbrev dktX0_setTarget_1 : List UInt8 := dkwX0_setTarget_1 ++ []
def dkwX0_setTarget_0 : List UInt8 := [25, 4, 3, 42, 27, 28, 29, 182, 0, 122, 133, 80, 167, 0, 11, 58, 5, 4, 172, 58, 5, 5, 172, 3]
abbrev dktX0_setTarget_0 : List UInt8 := dkwX0_setTarget_0 ++ dktX0_setTarget_1
theorem dksX0_setTarget_0 : cX0_setTarget.data.toList.drop 0 = dktX0_setTarget_0 := by decide +kernel
theorem dksX0_setTarget_1 : cX0_setTarget.data.toList.drop 24 = dktX0_setTarget_1 := dk_seg dksX0_setTarget_0 24 rfl rfl
theorem dX0_setTarget_0 : decode cX0_setTarget 0 = .ok (.aload 4, 2) := dk_25 4 (dk_at dksX0_setTarget_0 0 rfl rfl)
theorem dX0_setTarget_2 : decode cX0_setTarget 2 = .ok (.iconst 0, 1) := dk_3 (dk_at dksX0_setTarget_0 2 rfl rfl)
theorem dX0_setTarget_3 : decode cX0_setTarget 3 = .ok (.aload_n 0, 1) := dk_42 (dk_at dksX0_setTarget_0 3 rfl rfl)
theorem dX0_setTarget_4 : decode cX0_setTarget 4 = .ok (.iload_n 1, 1) := dk_27 (dk_at dksX0_setTarget_0 4 rfl rfl)
theorem dX0_setTarget_5 : decode cX0_setTarget 5 = .ok (.iload_n 2, 1) := dk_28 (dk_at dksX0_setTarget_0 5 rfl rfl)
theorem dX0_setTarget_6 : decode cX0_setTarget 6 = .ok (.iload_n 3, 1) := dk_29 (dk_at dksX0_setTarget_0 6 rfl rfl)
theorem dX0_setTarget_7 : decode cX0_setTarget 7 = .ok (.invokevirtual 122, 3) := dk_182 0 122 (dk_at dksX0_setTarget_0 7 rfl rfl)
theorem dX0_setTarget_10 : decode cX0_setTarget 10 = .ok (.i2l, 1) := dk_133 (dk_at dksX0_setTarget_0 10 rfl rfl)
theorem dX0_setTarget_11 : decode cX0_setTarget 11 = .ok (.lastore, 1) := dk_80 (dk_at dksX0_setTarget_0 11 rfl rfl)
theorem dX0_setTarget_12 : decode cX0_setTarget 12 = .ok (.goto 11, 3) := dk_167 0 11 (dk_at dksX0_setTarget_0 12 rfl rfl)
theorem dX0_setTarget_15 : decode cX0_setTarget 15 = .ok (.astore 5, 2) := dk_58 5 (dk_at dksX0_setTarget_0 15 rfl rfl)
theorem dX0_setTarget_17 : decode cX0_setTarget 17 = .ok (.iconst 1, 1) := dk_4 (dk_at dksX0_setTarget_0 17 rfl rfl)
theorem dX0_setTarget_18 : decode cX0_setTarget 18 = .ok (.ireturn, 1) := dk_172 (dk_at dksX0_setTarget_0 18 rfl rfl)
theorem dX0_setTarget_19 : decode cX0_setTarget 19 = .ok (.astore 5, 2) := dk_58 5 (dk_at dksX0_setTarget_0 19 rfl rfl)
theorem dX0_setTarget_21 : decode cX0_setTarget 21 = .ok (.iconst 2, 1) := dk_5 (dk_at dksX0_setTarget_0 21 rfl rfl)
theorem dX0_setTarget_22 : decode cX0_setTarget 22 = .ok (.ireturn, 1) := dk_172 (dk_at dksX0_setTarget_0 22 rfl rfl)
theorem dX0_setTarget_23 : decode cX0_setTarget 23 = .ok (.iconst 0, 1) := dk_3 (dk_at dksX0_setTarget_0 23 rfl rfl)
theorem dX0_setTarget_24 : decode cX0_setTarget 24 = .ok (.ireturn, 1) := dk_172 (dk_at dksX0_setTarget_1 0 rfl rfl)
abbrev cX0_removeTarget : ByteArray := method_36_code
def yX0_removeTarget : MethodName := ⟨RX0, "removeTarget", "(LCameraMoves;II[J)I"⟩
def dkwX0_removeTarget_0 : List UInt8 := [45, 3, 42, 27, 28, 182, 0, 125, 133, 80, 167, 0, 11, 58, 4, 4, 172, 58, 4, 5, 172, 3, 172]
abbrev dktX0_removeTarget_0 : List UInt8 := dkwX0_removeTarget_0 ++ []
theorem dksX0_removeTarget_0 : cX0_removeTarget.data.toList.drop 0 = dktX0_removeTarget_0 := by decide +kernel
theorem dX0_removeTarget_0 : decode cX0_removeTarget 0 = .ok (.aload_n 3, 1) := dk_45 (dk_at dksX0_removeTarget_0 0 rfl rfl)
theorem dX0_removeTarget_1 : decode cX0_removeTarget 1 = .ok (.iconst 0, 1) := dk_3 (dk_at dksX0_removeTarget_0 1 rfl rfl)
theorem dX0_removeTarget_2 : decode cX0_removeTarget 2 = .ok (.aload_n 0, 1) := dk_42 (dk_at dksX0_removeTarget_0 2 rfl rfl)
theorem dX0_removeTarget_3 : decode cX0_removeTarget 3 = .ok (.iload_n 1, 1) := dk_27 (dk_at dksX0_removeTarget_0 3 rfl rfl)
theorem dX0_removeTarget_4 : decode cX0_removeTarget 4 = .ok (.iload_n 2, 1) := dk_28 (dk_at dksX0_removeTarget_0 4 rfl rfl)
theorem dX0_removeTarget_5 : decode cX0_removeTarget 5 = .ok (.invokevirtual 125, 3) := dk_182 0 125 (dk_at dksX0_removeTarget_0 5 rfl rfl)
theorem dX0_removeTarget_8 : decode cX0_removeTarget 8 = .ok (.i2l, 1) := dk_133 (dk_at dksX0_removeTarget_0 8 rfl rfl)
theorem dX0_removeTarget_9 : decode cX0_removeTarget 9 = .ok (.lastore, 1) := dk_80 (dk_at dksX0_removeTarget_0 9 rfl rfl)
theorem dX0_removeTarget_10 : decode cX0_removeTarget 10 = .ok (.goto 11, 3) := dk_167 0 11 (dk_at dksX0_removeTarget_0 10 rfl rfl)
theorem dX0_removeTarget_13 : decode cX0_removeTarget 13 = .ok (.astore 4, 2) := dk_58 4 (dk_at dksX0_removeTarget_0 13 rfl rfl)
theorem dX0_removeTarget_15 : decode cX0_removeTarget 15 = .ok (.iconst 1, 1) := dk_4 (dk_at dksX0_removeTarget_0 15 rfl rfl)
theorem dX0_removeTarget_16 : decode cX0_removeTarget 16 = .ok (.ireturn, 1) := dk_172 (dk_at dksX0_removeTarget_0 16 rfl rfl)
theorem dX0_removeTarget_17 : decode cX0_removeTarget 17 = .ok (.astore 4, 2) := dk_58 4 (dk_at dksX0_removeTarget_0 17 rfl rfl)
theorem dX0_removeTarget_19 : decode cX0_removeTarget 19 = .ok (.iconst 2, 1) := dk_5 (dk_at dksX0_removeTarget_0 19 rfl rfl)
theorem dX0_removeTarget_20 : decode cX0_removeTarget 20 = .ok (.ireturn, 1) := dk_172 (dk_at dksX0_removeTarget_0 20 rfl rfl)
theorem dX0_removeTarget_21 : decode cX0_removeTarget 21 = .ok (.iconst 0, 1) := dk_3 (dk_at dksX0_removeTarget_0 21 rfl rfl)
theorem dX0_removeTarget_22 : decode cX0_removeTarget 22 = .ok (.ireturn, 1) := dk_172 (dk_at dksX0_removeTarget_0 22 rfl rfl)
abbrev cX0_removeCue : ByteArray := method_37_code
def yX0_removeCue : MethodName := ⟨RX0, "removeCue", "(LCameraMoves;I[J)I"⟩
def dkwX0_removeCue_0 : List UInt8 := [44, 3, 42, 27, 182, 0, 128, 133, 80, 167, 0, 6, 78, 4, 172, 3, 172]
abbrev dktX0_removeCue_0 : List UInt8 := dkwX0_removeCue_0 ++ []
theorem dksX0_removeCue_0 : cX0_removeCue.data.toList.drop 0 = dktX0_removeCue_0 := by decide +kernel
theorem dX0_removeCue_0 : decode cX0_removeCue 0 = .ok (.aload_n 2, 1) := dk_44 (dk_at dksX0_removeCue_0 0 rfl rfl)
theorem dX0_removeCue_1 : decode cX0_removeCue 1 = .ok (.iconst 0, 1) := dk_3 (dk_at dksX0_removeCue_0 1 rfl rfl)
theorem dX0_removeCue_2 : decode cX0_removeCue 2 = .ok (.aload_n 0, 1) := dk_42 (dk_at dksX0_removeCue_0 2 rfl rfl)
theorem dX0_removeCue_3 : decode cX0_removeCue 3 = .ok (.iload_n 1, 1) := dk_27 (dk_at dksX0_removeCue_0 3 rfl rfl)
theorem dX0_removeCue_4 : decode cX0_removeCue 4 = .ok (.invokevirtual 128, 3) := dk_182 0 128 (dk_at dksX0_removeCue_0 4 rfl rfl)
theorem dX0_removeCue_7 : decode cX0_removeCue 7 = .ok (.i2l, 1) := dk_133 (dk_at dksX0_removeCue_0 7 rfl rfl)
theorem dX0_removeCue_8 : decode cX0_removeCue 8 = .ok (.lastore, 1) := dk_80 (dk_at dksX0_removeCue_0 8 rfl rfl)
theorem dX0_removeCue_9 : decode cX0_removeCue 9 = .ok (.goto 6, 3) := dk_167 0 6 (dk_at dksX0_removeCue_0 9 rfl rfl)
theorem dX0_removeCue_12 : decode cX0_removeCue 12 = .ok (.astore_n 3, 1) := dk_78 (dk_at dksX0_removeCue_0 12 rfl rfl)
theorem dX0_removeCue_13 : decode cX0_removeCue 13 = .ok (.iconst 1, 1) := dk_4 (dk_at dksX0_removeCue_0 13 rfl rfl)
theorem dX0_removeCue_14 : decode cX0_removeCue 14 = .ok (.ireturn, 1) := dk_172 (dk_at dksX0_removeCue_0 14 rfl rfl)
theorem dX0_removeCue_15 : decode cX0_removeCue 15 = .ok (.iconst 0, 1) := dk_3 (dk_at dksX0_removeCue_0 15 rfl rfl)
theorem dX0_removeCue_16 : decode cX0_removeCue 16 = .ok (.ireturn, 1) := dk_172 (dk_at dksX0_removeCue_0 16 rfl rfl)
abbrev cX0_moveCue : ByteArray := method_38_code
def yX0_moveCue : MethodName := ⟨RX0, "moveCue", "(LCameraMoves;II[J)I"⟩
def dkwX0_moveCue_0 : List UInt8 := [45, 3, 42, 27, 28, 182, 0, 131, 133, 80, 167, 0, 11, 58, 4, 4, 172, 58, 4, 5, 172, 3, 172]
abbrev dktX0_moveCue_0 : List UInt8 := dkwX0_moveCue_0 ++ []
theorem dksX0_moveCue_0 : cX0_moveCue.data.toList.drop 0 = dktX0_moveCue_0 := by decide +kernel
theorem dX0_moveCue_0 : decode cX0_moveCue 0 = .ok (.aload_n 3, 1) := dk_45 (dk_at dksX0_moveCue_0 0 rfl rfl)
theorem dX0_moveCue_1 : decode cX0_moveCue 1 = .ok (.iconst 0, 1) := dk_3 (dk_at dksX0_moveCue_0 1 rfl rfl)
theorem dX0_moveCue_2 : decode cX0_moveCue 2 = .ok (.aload_n 0, 1) := dk_42 (dk_at dksX0_moveCue_0 2 rfl rfl)
theorem dX0_moveCue_3 : decode cX0_moveCue 3 = .ok (.iload_n 1, 1) := dk_27 (dk_at dksX0_moveCue_0 3 rfl rfl)
theorem dX0_moveCue_4 : decode cX0_moveCue 4 = .ok (.iload_n 2, 1) := dk_28 (dk_at dksX0_moveCue_0 4 rfl rfl)
theorem dX0_moveCue_5 : decode cX0_moveCue 5 = .ok (.invokevirtual 131, 3) := dk_182 0 131 (dk_at dksX0_moveCue_0 5 rfl rfl)
theorem dX0_moveCue_8 : decode cX0_moveCue 8 = .ok (.i2l, 1) := dk_133 (dk_at dksX0_moveCue_0 8 rfl rfl)
theorem dX0_moveCue_9 : decode cX0_moveCue 9 = .ok (.lastore, 1) := dk_80 (dk_at dksX0_moveCue_0 9 rfl rfl)
theorem dX0_moveCue_10 : decode cX0_moveCue 10 = .ok (.goto 11, 3) := dk_167 0 11 (dk_at dksX0_moveCue_0 10 rfl rfl)
theorem dX0_moveCue_13 : decode cX0_moveCue 13 = .ok (.astore 4, 2) := dk_58 4 (dk_at dksX0_moveCue_0 13 rfl rfl)
theorem dX0_moveCue_15 : decode cX0_moveCue 15 = .ok (.iconst 1, 1) := dk_4 (dk_at dksX0_moveCue_0 15 rfl rfl)
theorem dX0_moveCue_16 : decode cX0_moveCue 16 = .ok (.ireturn, 1) := dk_172 (dk_at dksX0_moveCue_0 16 rfl rfl)
theorem dX0_moveCue_17 : decode cX0_moveCue 17 = .ok (.astore 4, 2) := dk_58 4 (dk_at dksX0_moveCue_0 17 rfl rfl)
theorem dX0_moveCue_19 : decode cX0_moveCue 19 = .ok (.iconst 2, 1) := dk_5 (dk_at dksX0_moveCue_0 19 rfl rfl)
theorem dX0_moveCue_20 : decode cX0_moveCue 20 = .ok (.ireturn, 1) := dk_172 (dk_at dksX0_moveCue_0 20 rfl rfl)
theorem dX0_moveCue_21 : decode cX0_moveCue 21 = .ok (.iconst 0, 1) := dk_3 (dk_at dksX0_moveCue_0 21 rfl rfl)
theorem dX0_moveCue_22 : decode cX0_moveCue 22 = .ok (.ireturn, 1) := dk_172 (dk_at dksX0_moveCue_0 22 rfl rfl)
abbrev cX0_setLength : ByteArray := method_39_code
def yX0_setLength : MethodName := ⟨RX0, "setLength", "(LCameraMoves;II[J)I"⟩
def dkwX0_setLength_0 : List UInt8 := [45, 3, 42, 27, 28, 182, 0, 134, 133, 80, 167, 0, 11, 58, 4, 4, 172, 58, 4, 5, 172, 3, 172]
abbrev dktX0_setLength_0 : List UInt8 := dkwX0_setLength_0 ++ []
theorem dksX0_setLength_0 : cX0_setLength.data.toList.drop 0 = dktX0_setLength_0 := by decide +kernel
theorem dX0_setLength_0 : decode cX0_setLength 0 = .ok (.aload_n 3, 1) := dk_45 (dk_at dksX0_setLength_0 0 rfl rfl)
theorem dX0_setLength_1 : decode cX0_setLength 1 = .ok (.iconst 0, 1) := dk_3 (dk_at dksX0_setLength_0 1 rfl rfl)
theorem dX0_setLength_2 : decode cX0_setLength 2 = .ok (.aload_n 0, 1) := dk_42 (dk_at dksX0_setLength_0 2 rfl rfl)
theorem dX0_setLength_3 : decode cX0_setLength 3 = .ok (.iload_n 1, 1) := dk_27 (dk_at dksX0_setLength_0 3 rfl rfl)
theorem dX0_setLength_4 : decode cX0_setLength 4 = .ok (.iload_n 2, 1) := dk_28 (dk_at dksX0_setLength_0 4 rfl rfl)
theorem dX0_setLength_5 : decode cX0_setLength 5 = .ok (.invokevirtual 134, 3) := dk_182 0 134 (dk_at dksX0_setLength_0 5 rfl rfl)
theorem dX0_setLength_8 : decode cX0_setLength 8 = .ok (.i2l, 1) := dk_133 (dk_at dksX0_setLength_0 8 rfl rfl)
theorem dX0_setLength_9 : decode cX0_setLength 9 = .ok (.lastore, 1) := dk_80 (dk_at dksX0_setLength_0 9 rfl rfl)
theorem dX0_setLength_10 : decode cX0_setLength 10 = .ok (.goto 11, 3) := dk_167 0 11 (dk_at dksX0_setLength_0 10 rfl rfl)
theorem dX0_setLength_13 : decode cX0_setLength 13 = .ok (.astore 4, 2) := dk_58 4 (dk_at dksX0_setLength_0 13 rfl rfl)
theorem dX0_setLength_15 : decode cX0_setLength 15 = .ok (.iconst 1, 1) := dk_4 (dk_at dksX0_setLength_0 15 rfl rfl)
theorem dX0_setLength_16 : decode cX0_setLength 16 = .ok (.ireturn, 1) := dk_172 (dk_at dksX0_setLength_0 16 rfl rfl)
theorem dX0_setLength_17 : decode cX0_setLength 17 = .ok (.astore 4, 2) := dk_58 4 (dk_at dksX0_setLength_0 17 rfl rfl)
theorem dX0_setLength_19 : decode cX0_setLength 19 = .ok (.iconst 2, 1) := dk_5 (dk_at dksX0_setLength_0 19 rfl rfl)
theorem dX0_setLength_20 : decode cX0_setLength 20 = .ok (.ireturn, 1) := dk_172 (dk_at dksX0_setLength_0 20 rfl rfl)
theorem dX0_setLength_21 : decode cX0_setLength 21 = .ok (.iconst 0, 1) := dk_3 (dk_at dksX0_setLength_0 21 rfl rfl)
theorem dX0_setLength_22 : decode cX0_setLength 22 = .ok (.ireturn, 1) := dk_172 (dk_at dksX0_setLength_0 22 rfl rfl)
abbrev cX0_fit : ByteArray := method_40_code
def yX0_fit : MethodName := ⟨RX0, "fit", "(LCameraMoves;I[J)I"⟩
def dkwX0_fit_0 : List UInt8 := [44, 3, 42, 27, 182, 0, 137, 133, 80, 167, 0, 9, 78, 4, 172, 78, 5, 172, 3, 172]
abbrev dktX0_fit_0 : List UInt8 := dkwX0_fit_0 ++ []
theorem dksX0_fit_0 : cX0_fit.data.toList.drop 0 = dktX0_fit_0 := by decide +kernel
theorem dX0_fit_0 : decode cX0_fit 0 = .ok (.aload_n 2, 1) := dk_44 (dk_at dksX0_fit_0 0 rfl rfl)
theorem dX0_fit_1 : decode cX0_fit 1 = .ok (.iconst 0, 1) := dk_3 (dk_at dksX0_fit_0 1 rfl rfl)
theorem dX0_fit_2 : decode cX0_fit 2 = .ok (.aload_n 0, 1) := dk_42 (dk_at dksX0_fit_0 2 rfl rfl)
theorem dX0_fit_3 : decode cX0_fit 3 = .ok (.iload_n 1, 1) := dk_27 (dk_at dksX0_fit_0 3 rfl rfl)
theorem dX0_fit_4 : decode cX0_fit 4 = .ok (.invokevirtual 137, 3) := dk_182 0 137 (dk_at dksX0_fit_0 4 rfl rfl)
theorem dX0_fit_7 : decode cX0_fit 7 = .ok (.i2l, 1) := dk_133 (dk_at dksX0_fit_0 7 rfl rfl)
theorem dX0_fit_8 : decode cX0_fit 8 = .ok (.lastore, 1) := dk_80 (dk_at dksX0_fit_0 8 rfl rfl)
theorem dX0_fit_9 : decode cX0_fit 9 = .ok (.goto 9, 3) := dk_167 0 9 (dk_at dksX0_fit_0 9 rfl rfl)
theorem dX0_fit_12 : decode cX0_fit 12 = .ok (.astore_n 3, 1) := dk_78 (dk_at dksX0_fit_0 12 rfl rfl)
theorem dX0_fit_13 : decode cX0_fit 13 = .ok (.iconst 1, 1) := dk_4 (dk_at dksX0_fit_0 13 rfl rfl)
theorem dX0_fit_14 : decode cX0_fit 14 = .ok (.ireturn, 1) := dk_172 (dk_at dksX0_fit_0 14 rfl rfl)
theorem dX0_fit_15 : decode cX0_fit 15 = .ok (.astore_n 3, 1) := dk_78 (dk_at dksX0_fit_0 15 rfl rfl)
theorem dX0_fit_16 : decode cX0_fit 16 = .ok (.iconst 2, 1) := dk_5 (dk_at dksX0_fit_0 16 rfl rfl)
theorem dX0_fit_17 : decode cX0_fit 17 = .ok (.ireturn, 1) := dk_172 (dk_at dksX0_fit_0 17 rfl rfl)
theorem dX0_fit_18 : decode cX0_fit 18 = .ok (.iconst 0, 1) := dk_3 (dk_at dksX0_fit_0 18 rfl rfl)
theorem dX0_fit_19 : decode cX0_fit 19 = .ok (.ireturn, 1) := dk_172 (dk_at dksX0_fit_0 19 rfl rfl)
abbrev cX0_setLimits : ByteArray := method_41_code
def yX0_setLimits : MethodName := ⟨RX0, "setLimits", "(LCameraMoves;III[J)I"⟩
def dkwX0_setLimits_1 : List UInt8 := [172]
abbrev dktX0_setLimits_1 : List UInt8 := dkwX0_setLimits_1 ++ []
def dkwX0_setLimits_0 : List UInt8 := [25, 4, 3, 42, 27, 28, 29, 182, 0, 140, 133, 80, 167, 0, 11, 58, 5, 4, 172, 58, 5, 5, 172, 3]
abbrev dktX0_setLimits_0 : List UInt8 := dkwX0_setLimits_0 ++ dktX0_setLimits_1
theorem dksX0_setLimits_0 : cX0_setLimits.data.toList.drop 0 = dktX0_setLimits_0 := by decide +kernel
theorem dksX0_setLimits_1 : cX0_setLimits.data.toList.drop 24 = dktX0_setLimits_1 := dk_seg dksX0_setLimits_0 24 rfl rfl
theorem dX0_setLimits_0 : decode cX0_setLimits 0 = .ok (.aload 4, 2) := dk_25 4 (dk_at dksX0_setLimits_0 0 rfl rfl)
theorem dX0_setLimits_2 : decode cX0_setLimits 2 = .ok (.iconst 0, 1) := dk_3 (dk_at dksX0_setLimits_0 2 rfl rfl)
theorem dX0_setLimits_3 : decode cX0_setLimits 3 = .ok (.aload_n 0, 1) := dk_42 (dk_at dksX0_setLimits_0 3 rfl rfl)
theorem dX0_setLimits_4 : decode cX0_setLimits 4 = .ok (.iload_n 1, 1) := dk_27 (dk_at dksX0_setLimits_0 4 rfl rfl)
theorem dX0_setLimits_5 : decode cX0_setLimits 5 = .ok (.iload_n 2, 1) := dk_28 (dk_at dksX0_setLimits_0 5 rfl rfl)
theorem dX0_setLimits_6 : decode cX0_setLimits 6 = .ok (.iload_n 3, 1) := dk_29 (dk_at dksX0_setLimits_0 6 rfl rfl)
theorem dX0_setLimits_7 : decode cX0_setLimits 7 = .ok (.invokevirtual 140, 3) := dk_182 0 140 (dk_at dksX0_setLimits_0 7 rfl rfl)
theorem dX0_setLimits_10 : decode cX0_setLimits 10 = .ok (.i2l, 1) := dk_133 (dk_at dksX0_setLimits_0 10 rfl rfl)
theorem dX0_setLimits_11 : decode cX0_setLimits 11 = .ok (.lastore, 1) := dk_80 (dk_at dksX0_setLimits_0 11 rfl rfl)
theorem dX0_setLimits_12 : decode cX0_setLimits 12 = .ok (.goto 11, 3) := dk_167 0 11 (dk_at dksX0_setLimits_0 12 rfl rfl)
theorem dX0_setLimits_15 : decode cX0_setLimits 15 = .ok (.astore 5, 2) := dk_58 5 (dk_at dksX0_setLimits_0 15 rfl rfl)
theorem dX0_setLimits_17 : decode cX0_setLimits 17 = .ok (.iconst 1, 1) := dk_4 (dk_at dksX0_setLimits_0 17 rfl rfl)
theorem dX0_setLimits_18 : decode cX0_setLimits 18 = .ok (.ireturn, 1) := dk_172 (dk_at dksX0_setLimits_0 18 rfl rfl)
theorem dX0_setLimits_19 : decode cX0_setLimits 19 = .ok (.astore 5, 2) := dk_58 5 (dk_at dksX0_setLimits_0 19 rfl rfl)
theorem dX0_setLimits_21 : decode cX0_setLimits 21 = .ok (.iconst 2, 1) := dk_5 (dk_at dksX0_setLimits_0 21 rfl rfl)
theorem dX0_setLimits_22 : decode cX0_setLimits 22 = .ok (.ireturn, 1) := dk_172 (dk_at dksX0_setLimits_0 22 rfl rfl)
theorem dX0_setLimits_23 : decode cX0_setLimits 23 = .ok (.iconst 0, 1) := dk_3 (dk_at dksX0_setLimits_0 23 rfl rfl)
theorem dX0_setLimits_24 : decode cX0_setLimits 24 = .ok (.ireturn, 1) := dk_172 (dk_at dksX0_setLimits_1 0 rfl rfl)
abbrev cX0_addWall : ByteArray := method_42_code
def yX0_addWall : MethodName := ⟨RX0, "addWall", "(LCameraMoves;IIIIII[J)I"⟩
def dkwX0_addWall_1 : List UInt8 := [172, 58, 8, 5, 172, 58, 8, 6, 172, 3, 172]
abbrev dktX0_addWall_1 : List UInt8 := dkwX0_addWall_1 ++ []
def dkwX0_addWall_0 : List UInt8 := [25, 7, 3, 42, 27, 28, 29, 21, 4, 21, 5, 21, 6, 182, 0, 143, 133, 80, 167, 0, 15, 58, 8, 4]
abbrev dktX0_addWall_0 : List UInt8 := dkwX0_addWall_0 ++ dktX0_addWall_1
theorem dksX0_addWall_0 : cX0_addWall.data.toList.drop 0 = dktX0_addWall_0 := by decide +kernel
theorem dksX0_addWall_1 : cX0_addWall.data.toList.drop 24 = dktX0_addWall_1 := dk_seg dksX0_addWall_0 24 rfl rfl
theorem dX0_addWall_0 : decode cX0_addWall 0 = .ok (.aload 7, 2) := dk_25 7 (dk_at dksX0_addWall_0 0 rfl rfl)
theorem dX0_addWall_2 : decode cX0_addWall 2 = .ok (.iconst 0, 1) := dk_3 (dk_at dksX0_addWall_0 2 rfl rfl)
theorem dX0_addWall_3 : decode cX0_addWall 3 = .ok (.aload_n 0, 1) := dk_42 (dk_at dksX0_addWall_0 3 rfl rfl)
theorem dX0_addWall_4 : decode cX0_addWall 4 = .ok (.iload_n 1, 1) := dk_27 (dk_at dksX0_addWall_0 4 rfl rfl)
theorem dX0_addWall_5 : decode cX0_addWall 5 = .ok (.iload_n 2, 1) := dk_28 (dk_at dksX0_addWall_0 5 rfl rfl)
theorem dX0_addWall_6 : decode cX0_addWall 6 = .ok (.iload_n 3, 1) := dk_29 (dk_at dksX0_addWall_0 6 rfl rfl)
theorem dX0_addWall_7 : decode cX0_addWall 7 = .ok (.iload 4, 2) := dk_21 4 (dk_at dksX0_addWall_0 7 rfl rfl)
theorem dX0_addWall_9 : decode cX0_addWall 9 = .ok (.iload 5, 2) := dk_21 5 (dk_at dksX0_addWall_0 9 rfl rfl)
theorem dX0_addWall_11 : decode cX0_addWall 11 = .ok (.iload 6, 2) := dk_21 6 (dk_at dksX0_addWall_0 11 rfl rfl)
theorem dX0_addWall_13 : decode cX0_addWall 13 = .ok (.invokevirtual 143, 3) := dk_182 0 143 (dk_at dksX0_addWall_0 13 rfl rfl)
theorem dX0_addWall_16 : decode cX0_addWall 16 = .ok (.i2l, 1) := dk_133 (dk_at dksX0_addWall_0 16 rfl rfl)
theorem dX0_addWall_17 : decode cX0_addWall 17 = .ok (.lastore, 1) := dk_80 (dk_at dksX0_addWall_0 17 rfl rfl)
theorem dX0_addWall_18 : decode cX0_addWall 18 = .ok (.goto 15, 3) := dk_167 0 15 (dk_at dksX0_addWall_0 18 rfl rfl)
theorem dX0_addWall_21 : decode cX0_addWall 21 = .ok (.astore 8, 2) := dk_58 8 (dk_at dksX0_addWall_0 21 rfl rfl)
theorem dX0_addWall_23 : decode cX0_addWall 23 = .ok (.iconst 1, 1) := dk_4 (dk_at dksX0_addWall_0 23 rfl rfl)
theorem dX0_addWall_24 : decode cX0_addWall 24 = .ok (.ireturn, 1) := dk_172 (dk_at dksX0_addWall_1 0 rfl rfl)
theorem dX0_addWall_25 : decode cX0_addWall 25 = .ok (.astore 8, 2) := dk_58 8 (dk_at dksX0_addWall_1 1 rfl rfl)
theorem dX0_addWall_27 : decode cX0_addWall 27 = .ok (.iconst 2, 1) := dk_5 (dk_at dksX0_addWall_1 3 rfl rfl)
theorem dX0_addWall_28 : decode cX0_addWall 28 = .ok (.ireturn, 1) := dk_172 (dk_at dksX0_addWall_1 4 rfl rfl)
theorem dX0_addWall_29 : decode cX0_addWall 29 = .ok (.astore 8, 2) := dk_58 8 (dk_at dksX0_addWall_1 5 rfl rfl)
theorem dX0_addWall_31 : decode cX0_addWall 31 = .ok (.iconst 3, 1) := dk_6 (dk_at dksX0_addWall_1 7 rfl rfl)
theorem dX0_addWall_32 : decode cX0_addWall 32 = .ok (.ireturn, 1) := dk_172 (dk_at dksX0_addWall_1 8 rfl rfl)
theorem dX0_addWall_33 : decode cX0_addWall 33 = .ok (.iconst 0, 1) := dk_3 (dk_at dksX0_addWall_1 9 rfl rfl)
theorem dX0_addWall_34 : decode cX0_addWall 34 = .ok (.ireturn, 1) := dk_172 (dk_at dksX0_addWall_1 10 rfl rfl)
abbrev cX0_removeWall : ByteArray := method_43_code
def yX0_removeWall : MethodName := ⟨RX0, "removeWall", "(LCameraMoves;I[J)I"⟩
def dkwX0_removeWall_0 : List UInt8 := [44, 3, 42, 27, 182, 0, 147, 133, 80, 167, 0, 6, 78, 4, 172, 3, 172]
abbrev dktX0_removeWall_0 : List UInt8 := dkwX0_removeWall_0 ++ []
theorem dksX0_removeWall_0 : cX0_removeWall.data.toList.drop 0 = dktX0_removeWall_0 := by decide +kernel
theorem dX0_removeWall_0 : decode cX0_removeWall 0 = .ok (.aload_n 2, 1) := dk_44 (dk_at dksX0_removeWall_0 0 rfl rfl)
theorem dX0_removeWall_1 : decode cX0_removeWall 1 = .ok (.iconst 0, 1) := dk_3 (dk_at dksX0_removeWall_0 1 rfl rfl)
theorem dX0_removeWall_2 : decode cX0_removeWall 2 = .ok (.aload_n 0, 1) := dk_42 (dk_at dksX0_removeWall_0 2 rfl rfl)
theorem dX0_removeWall_3 : decode cX0_removeWall 3 = .ok (.iload_n 1, 1) := dk_27 (dk_at dksX0_removeWall_0 3 rfl rfl)
theorem dX0_removeWall_4 : decode cX0_removeWall 4 = .ok (.invokevirtual 147, 3) := dk_182 0 147 (dk_at dksX0_removeWall_0 4 rfl rfl)
theorem dX0_removeWall_7 : decode cX0_removeWall 7 = .ok (.i2l, 1) := dk_133 (dk_at dksX0_removeWall_0 7 rfl rfl)
theorem dX0_removeWall_8 : decode cX0_removeWall 8 = .ok (.lastore, 1) := dk_80 (dk_at dksX0_removeWall_0 8 rfl rfl)
theorem dX0_removeWall_9 : decode cX0_removeWall 9 = .ok (.goto 6, 3) := dk_167 0 6 (dk_at dksX0_removeWall_0 9 rfl rfl)
theorem dX0_removeWall_12 : decode cX0_removeWall 12 = .ok (.astore_n 3, 1) := dk_78 (dk_at dksX0_removeWall_0 12 rfl rfl)
theorem dX0_removeWall_13 : decode cX0_removeWall 13 = .ok (.iconst 1, 1) := dk_4 (dk_at dksX0_removeWall_0 13 rfl rfl)
theorem dX0_removeWall_14 : decode cX0_removeWall 14 = .ok (.ireturn, 1) := dk_172 (dk_at dksX0_removeWall_0 14 rfl rfl)
theorem dX0_removeWall_15 : decode cX0_removeWall 15 = .ok (.iconst 0, 1) := dk_3 (dk_at dksX0_removeWall_0 15 rfl rfl)
theorem dX0_removeWall_16 : decode cX0_removeWall 16 = .ok (.ireturn, 1) := dk_172 (dk_at dksX0_removeWall_0 16 rfl rfl)
abbrev cX0_undo : ByteArray := method_44_code
def yX0_undo : MethodName := ⟨RX0, "undo", "(LCameraMoves;[J)I"⟩
def dkwX0_undo_0 : List UInt8 := [43, 3, 42, 182, 0, 150, 133, 80, 167, 0, 6, 77, 4, 172, 3, 172]
abbrev dktX0_undo_0 : List UInt8 := dkwX0_undo_0 ++ []
theorem dksX0_undo_0 : cX0_undo.data.toList.drop 0 = dktX0_undo_0 := by decide +kernel
theorem dX0_undo_0 : decode cX0_undo 0 = .ok (.aload_n 1, 1) := dk_43 (dk_at dksX0_undo_0 0 rfl rfl)
theorem dX0_undo_1 : decode cX0_undo 1 = .ok (.iconst 0, 1) := dk_3 (dk_at dksX0_undo_0 1 rfl rfl)
theorem dX0_undo_2 : decode cX0_undo 2 = .ok (.aload_n 0, 1) := dk_42 (dk_at dksX0_undo_0 2 rfl rfl)
theorem dX0_undo_3 : decode cX0_undo 3 = .ok (.invokevirtual 150, 3) := dk_182 0 150 (dk_at dksX0_undo_0 3 rfl rfl)
theorem dX0_undo_6 : decode cX0_undo 6 = .ok (.i2l, 1) := dk_133 (dk_at dksX0_undo_0 6 rfl rfl)
theorem dX0_undo_7 : decode cX0_undo 7 = .ok (.lastore, 1) := dk_80 (dk_at dksX0_undo_0 7 rfl rfl)
theorem dX0_undo_8 : decode cX0_undo 8 = .ok (.goto 6, 3) := dk_167 0 6 (dk_at dksX0_undo_0 8 rfl rfl)
theorem dX0_undo_11 : decode cX0_undo 11 = .ok (.astore_n 2, 1) := dk_77 (dk_at dksX0_undo_0 11 rfl rfl)
theorem dX0_undo_12 : decode cX0_undo 12 = .ok (.iconst 1, 1) := dk_4 (dk_at dksX0_undo_0 12 rfl rfl)
theorem dX0_undo_13 : decode cX0_undo 13 = .ok (.ireturn, 1) := dk_172 (dk_at dksX0_undo_0 13 rfl rfl)
theorem dX0_undo_14 : decode cX0_undo 14 = .ok (.iconst 0, 1) := dk_3 (dk_at dksX0_undo_0 14 rfl rfl)
theorem dX0_undo_15 : decode cX0_undo 15 = .ok (.ireturn, 1) := dk_172 (dk_at dksX0_undo_0 15 rfl rfl)
abbrev cX0_format : ByteArray := method_45_code
def yX0_format : MethodName := ⟨RX0, "format", "(LCameraMoves;I[J)I"⟩
def dkwX0_format_0 : List UInt8 := [44, 3, 42, 27, 182, 0, 153, 133, 80, 167, 0, 6, 78, 4, 172, 3, 172]
abbrev dktX0_format_0 : List UInt8 := dkwX0_format_0 ++ []
theorem dksX0_format_0 : cX0_format.data.toList.drop 0 = dktX0_format_0 := by decide +kernel
theorem dX0_format_0 : decode cX0_format 0 = .ok (.aload_n 2, 1) := dk_44 (dk_at dksX0_format_0 0 rfl rfl)
theorem dX0_format_1 : decode cX0_format 1 = .ok (.iconst 0, 1) := dk_3 (dk_at dksX0_format_0 1 rfl rfl)
theorem dX0_format_2 : decode cX0_format 2 = .ok (.aload_n 0, 1) := dk_42 (dk_at dksX0_format_0 2 rfl rfl)
theorem dX0_format_3 : decode cX0_format 3 = .ok (.iload_n 1, 1) := dk_27 (dk_at dksX0_format_0 3 rfl rfl)
theorem dX0_format_4 : decode cX0_format 4 = .ok (.invokevirtual 153, 3) := dk_182 0 153 (dk_at dksX0_format_0 4 rfl rfl)
theorem dX0_format_7 : decode cX0_format 7 = .ok (.i2l, 1) := dk_133 (dk_at dksX0_format_0 7 rfl rfl)
theorem dX0_format_8 : decode cX0_format 8 = .ok (.lastore, 1) := dk_80 (dk_at dksX0_format_0 8 rfl rfl)
theorem dX0_format_9 : decode cX0_format 9 = .ok (.goto 6, 3) := dk_167 0 6 (dk_at dksX0_format_0 9 rfl rfl)
theorem dX0_format_12 : decode cX0_format 12 = .ok (.astore_n 3, 1) := dk_78 (dk_at dksX0_format_0 12 rfl rfl)
theorem dX0_format_13 : decode cX0_format 13 = .ok (.iconst 1, 1) := dk_4 (dk_at dksX0_format_0 13 rfl rfl)
theorem dX0_format_14 : decode cX0_format 14 = .ok (.ireturn, 1) := dk_172 (dk_at dksX0_format_0 14 rfl rfl)
theorem dX0_format_15 : decode cX0_format 15 = .ok (.iconst 0, 1) := dk_3 (dk_at dksX0_format_0 15 rfl rfl)
theorem dX0_format_16 : decode cX0_format 16 = .ok (.ireturn, 1) := dk_172 (dk_at dksX0_format_0 16 rfl rfl)
abbrev cX0_formattedCharacter : ByteArray := method_46_code
def yX0_formattedCharacter : MethodName := ⟨RX0, "formattedCharacter", "(LCameraMoves;I[J)I"⟩
def dkwX0_formattedCharacter_0 : List UInt8 := [44, 3, 42, 27, 182, 0, 156, 133, 80, 167, 0, 6, 78, 4, 172, 3, 172]
abbrev dktX0_formattedCharacter_0 : List UInt8 := dkwX0_formattedCharacter_0 ++ []
theorem dksX0_formattedCharacter_0 : cX0_formattedCharacter.data.toList.drop 0 = dktX0_formattedCharacter_0 := by decide +kernel
theorem dX0_formattedCharacter_0 : decode cX0_formattedCharacter 0 = .ok (.aload_n 2, 1) := dk_44 (dk_at dksX0_formattedCharacter_0 0 rfl rfl)
theorem dX0_formattedCharacter_1 : decode cX0_formattedCharacter 1 = .ok (.iconst 0, 1) := dk_3 (dk_at dksX0_formattedCharacter_0 1 rfl rfl)
theorem dX0_formattedCharacter_2 : decode cX0_formattedCharacter 2 = .ok (.aload_n 0, 1) := dk_42 (dk_at dksX0_formattedCharacter_0 2 rfl rfl)
theorem dX0_formattedCharacter_3 : decode cX0_formattedCharacter 3 = .ok (.iload_n 1, 1) := dk_27 (dk_at dksX0_formattedCharacter_0 3 rfl rfl)
theorem dX0_formattedCharacter_4 : decode cX0_formattedCharacter 4 = .ok (.invokevirtual 156, 3) := dk_182 0 156 (dk_at dksX0_formattedCharacter_0 4 rfl rfl)
theorem dX0_formattedCharacter_7 : decode cX0_formattedCharacter 7 = .ok (.i2l, 1) := dk_133 (dk_at dksX0_formattedCharacter_0 7 rfl rfl)
theorem dX0_formattedCharacter_8 : decode cX0_formattedCharacter 8 = .ok (.lastore, 1) := dk_80 (dk_at dksX0_formattedCharacter_0 8 rfl rfl)
theorem dX0_formattedCharacter_9 : decode cX0_formattedCharacter 9 = .ok (.goto 6, 3) := dk_167 0 6 (dk_at dksX0_formattedCharacter_0 9 rfl rfl)
theorem dX0_formattedCharacter_12 : decode cX0_formattedCharacter 12 = .ok (.astore_n 3, 1) := dk_78 (dk_at dksX0_formattedCharacter_0 12 rfl rfl)
theorem dX0_formattedCharacter_13 : decode cX0_formattedCharacter 13 = .ok (.iconst 1, 1) := dk_4 (dk_at dksX0_formattedCharacter_0 13 rfl rfl)
theorem dX0_formattedCharacter_14 : decode cX0_formattedCharacter 14 = .ok (.ireturn, 1) := dk_172 (dk_at dksX0_formattedCharacter_0 14 rfl rfl)
theorem dX0_formattedCharacter_15 : decode cX0_formattedCharacter 15 = .ok (.iconst 0, 1) := dk_3 (dk_at dksX0_formattedCharacter_0 15 rfl rfl)
theorem dX0_formattedCharacter_16 : decode cX0_formattedCharacter 16 = .ok (.ireturn, 1) := dk_172 (dk_at dksX0_formattedCharacter_0 16 rfl rfl)
theorem q107 : (Jvm.Cond.initialized "CameraMovesLaw") ∈ lw_all := lw_g (lw_at lw_m1 0 rfl) rfl
theorem q152 : (Jvm.Cond.classLink "CameraMovesLaw" (8 : Nat) "CameraMoves") ∈ lw_all := lw_g (lw_at lw_m1 45 rfl) rfl
theorem q154 : (Jvm.Cond.methodLink "CameraMovesLaw" (160 : Nat) ({ cls := "CameraMoves", name := "<init>", desc := "()V" } : Jvm.MethodName)) ∈ lw_all := lw_g (lw_at lw_m1 47 rfl) rfl
theorem q614 : (Jvm.Cond.methodLink "CameraMovesLaw" (181 : Nat) ({ cls := "CameraMoves", name := "errorOffset", desc := "()I" } : Jvm.MethodName)) ∈ lw_all := lw_g (lw_at lw_m3 27 rfl) rfl
theorem q618 : (Jvm.Cond.methodLink "CameraMovesLaw" (218 : Nat) ({ cls := "CameraMoves", name := "withStatus", desc := "(I)I" } : Jvm.MethodName)) ∈ lw_all := lw_g (lw_at lw_m3 31 rfl) rfl
theorem q806 : (Jvm.Cond.methodLink "CameraMovesLaw" (234 : Nat) ({ cls := "CameraMoves", name := "end", desc := "()I" } : Jvm.MethodName)) ∈ lw_all := lw_g (lw_at lw_m3 219 rfl) rfl
theorem q875 : (Jvm.Cond.methodLink "CameraMovesLaw" (238 : Nat) ({ cls := "CameraMoves", name := "stillFrames", desc := "()I" } : Jvm.MethodName)) ∈ lw_all := lw_g (lw_at lw_m4 48 rfl) rfl
theorem q879 : (Jvm.Cond.methodLink "CameraMovesLaw" (255 : Nat) ({ cls := "CameraMoves", name := "firstHit", desc := "()I" } : Jvm.MethodName)) ∈ lw_all := lw_g (lw_at lw_m4 52 rfl) rfl
theorem q893 : (Jvm.Cond.methodLink "CameraMovesLaw" (164 : Nat) ({ cls := "CameraMovesLaw", name := "append", desc := "(LCameraMoves;IIIII[J)I" } : Jvm.MethodName)) ∈ lw_all := lw_g (lw_at lw_m4 66 rfl) rfl
theorem q894 : (Jvm.Cond.static ({ cls := "CameraMovesLaw", name := "append", desc := "(LCameraMoves;IIIII[J)I" } : Jvm.MethodName)) ∈ lw_all := lw_g (lw_at lw_m4 67 rfl) rfl
theorem q895 : (Jvm.Cond.codeWith ({ cls := "CameraMovesLaw", name := "append", desc := "(LCameraMoves;IIIII[J)I" } : Jvm.MethodName) method_3_code (8 : Nat) (Option.some Jvm.ClassFile.FieldType.int) [((0 : Nat), (16 : Nat), (19 : Nat), (13 : Nat))]) ∈ lw_all := lw_g (lw_at lw_m4 68 rfl) rfl
theorem q896 : (Jvm.Cond.classLink "CameraMovesLaw" (13 : Nat) "java/lang/IllegalStateException") ∈ lw_all := lw_g (lw_at lw_m4 69 rfl) rfl
theorem q897 : (Jvm.Cond.methodLink "CameraMovesLaw" (7 : Nat) ({ cls := "CameraMoves", name := "append", desc := "(IIIII)I" } : Jvm.MethodName)) ∈ lw_all := lw_g (lw_at lw_m4 70 rfl) rfl
theorem q919 : (Jvm.Cond.methodLink "CameraMovesLaw" (173 : Nat) ({ cls := "CameraMovesLaw", name := "truncate", desc := "(LCameraMoves;I)I" } : Jvm.MethodName)) ∈ lw_all := lw_g (lw_at lw_m4 92 rfl) rfl
theorem q920 : (Jvm.Cond.static ({ cls := "CameraMovesLaw", name := "truncate", desc := "(LCameraMoves;I)I" } : Jvm.MethodName)) ∈ lw_all := lw_g (lw_at lw_m4 93 rfl) rfl
theorem q921 : (Jvm.Cond.codeWith ({ cls := "CameraMovesLaw", name := "truncate", desc := "(LCameraMoves;I)I" } : Jvm.MethodName) method_4_code (3 : Nat) (Option.some Jvm.ClassFile.FieldType.int) [((0 : Nat), (5 : Nat), (8 : Nat), (19 : Nat))]) ∈ lw_all := lw_g (lw_at lw_m4 94 rfl) rfl
theorem q922 : (Jvm.Cond.classLink "CameraMovesLaw" (19 : Nat) "java/lang/IllegalArgumentException") ∈ lw_all := lw_g (lw_at lw_m4 95 rfl) rfl
theorem q923 : (Jvm.Cond.methodLink "CameraMovesLaw" (15 : Nat) ({ cls := "CameraMoves", name := "truncate", desc := "(I)V" } : Jvm.MethodName)) ∈ lw_all := lw_g (lw_at lw_m4 96 rfl) rfl
theorem q935 : (Jvm.Cond.methodLink "CameraMovesLaw" (177 : Nat) ({ cls := "CameraMovesLaw", name := "load", desc := "(LCameraMoves;[J)I" } : Jvm.MethodName)) ∈ lw_all := lw_g (lw_at lw_m4 108 rfl) rfl
theorem q936 : (Jvm.Cond.static ({ cls := "CameraMovesLaw", name := "load", desc := "(LCameraMoves;[J)I" } : Jvm.MethodName)) ∈ lw_all := lw_g (lw_at lw_m4 109 rfl) rfl
theorem q937 : (Jvm.Cond.codeWith ({ cls := "CameraMovesLaw", name := "load", desc := "(LCameraMoves;[J)I" } : Jvm.MethodName) method_5_code (3 : Nat) (Option.some Jvm.ClassFile.FieldType.int) [((0 : Nat), (8 : Nat), (11 : Nat), (19 : Nat))]) ∈ lw_all := lw_g (lw_at lw_m4 110 rfl) rfl
theorem q938 : (Jvm.Cond.methodLink "CameraMovesLaw" (21 : Nat) ({ cls := "CameraMoves", name := "load", desc := "()I" } : Jvm.MethodName)) ∈ lw_all := lw_g (lw_at lw_m4 111 rfl) rfl
theorem q1342 : (Jvm.Cond.methodLink "CameraMovesLaw" (185 : Nat) ({ cls := "CameraMovesLaw", name := "count", desc := "(LCameraMoves;I[J)I" } : Jvm.MethodName)) ∈ lw_all := lw_g (lw_at lw_m6 35 rfl) rfl
theorem q1343 : (Jvm.Cond.static ({ cls := "CameraMovesLaw", name := "count", desc := "(LCameraMoves;I[J)I" } : Jvm.MethodName)) ∈ lw_all := lw_g (lw_at lw_m6 36 rfl) rfl
theorem q1344 : (Jvm.Cond.codeWith ({ cls := "CameraMovesLaw", name := "count", desc := "(LCameraMoves;I[J)I" } : Jvm.MethodName) method_6_code (4 : Nat) (Option.some Jvm.ClassFile.FieldType.int) [((0 : Nat), (9 : Nat), (12 : Nat), (19 : Nat))]) ∈ lw_all := lw_g (lw_at lw_m6 37 rfl) rfl
theorem q1345 : (Jvm.Cond.methodLink "CameraMovesLaw" (25 : Nat) ({ cls := "CameraMoves", name := "count", desc := "(I)I" } : Jvm.MethodName)) ∈ lw_all := lw_g (lw_at lw_m6 38 rfl) rfl
theorem q1350 : (Jvm.Cond.methodLink "CameraMovesLaw" (189 : Nat) ({ cls := "CameraMovesLaw", name := "limit", desc := "(LCameraMoves;II[J)I" } : Jvm.MethodName)) ∈ lw_all := lw_g (lw_at lw_m6 43 rfl) rfl
theorem q1351 : (Jvm.Cond.static ({ cls := "CameraMovesLaw", name := "limit", desc := "(LCameraMoves;II[J)I" } : Jvm.MethodName)) ∈ lw_all := lw_g (lw_at lw_m6 44 rfl) rfl
theorem q1352 : (Jvm.Cond.codeWith ({ cls := "CameraMovesLaw", name := "limit", desc := "(LCameraMoves;II[J)I" } : Jvm.MethodName) method_7_code (5 : Nat) (Option.some Jvm.ClassFile.FieldType.int) [((0 : Nat), (10 : Nat), (13 : Nat), (33 : Nat)), ((0 : Nat), (10 : Nat), (17 : Nat), (19 : Nat))]) ∈ lw_all := lw_g (lw_at lw_m6 45 rfl) rfl
theorem q1353 : (Jvm.Cond.classLink "CameraMovesLaw" (33 : Nat) "java/lang/IndexOutOfBoundsException") ∈ lw_all := lw_g (lw_at lw_m6 46 rfl) rfl
theorem q1372 : (Jvm.Cond.methodLink "CameraMovesLaw" (29 : Nat) ({ cls := "CameraMoves", name := "limit", desc := "(II)I" } : Jvm.MethodName)) ∈ lw_all := lw_g (lw_at lw_m6 65 rfl) rfl
theorem q1400 : (Jvm.Cond.methodLink "CameraMovesLaw" (193 : Nat) ({ cls := "CameraMovesLaw", name := "cueFrame", desc := "(LCameraMoves;I[J)I" } : Jvm.MethodName)) ∈ lw_all := lw_g (lw_at lw_m6 93 rfl) rfl
theorem q1401 : (Jvm.Cond.static ({ cls := "CameraMovesLaw", name := "cueFrame", desc := "(LCameraMoves;I[J)I" } : Jvm.MethodName)) ∈ lw_all := lw_g (lw_at lw_m6 94 rfl) rfl
theorem q1402 : (Jvm.Cond.codeWith ({ cls := "CameraMovesLaw", name := "cueFrame", desc := "(LCameraMoves;I[J)I" } : Jvm.MethodName) method_8_code (4 : Nat) (Option.some Jvm.ClassFile.FieldType.int) [((0 : Nat), (9 : Nat), (12 : Nat), (33 : Nat))]) ∈ lw_all := lw_g (lw_at lw_m6 95 rfl) rfl
theorem q1403 : (Jvm.Cond.methodLink "CameraMovesLaw" (35 : Nat) ({ cls := "CameraMoves", name := "cueFrame", desc := "(I)I" } : Jvm.MethodName)) ∈ lw_all := lw_g (lw_at lw_m6 96 rfl) rfl
theorem q1412 : (Jvm.Cond.methodLink "CameraMovesLaw" (196 : Nat) ({ cls := "CameraMovesLaw", name := "cueLength", desc := "(LCameraMoves;I[J)I" } : Jvm.MethodName)) ∈ lw_all := lw_g (lw_at lw_m6 105 rfl) rfl
theorem q1413 : (Jvm.Cond.static ({ cls := "CameraMovesLaw", name := "cueLength", desc := "(LCameraMoves;I[J)I" } : Jvm.MethodName)) ∈ lw_all := lw_g (lw_at lw_m6 106 rfl) rfl
theorem q1414 : (Jvm.Cond.codeWith ({ cls := "CameraMovesLaw", name := "cueLength", desc := "(LCameraMoves;I[J)I" } : Jvm.MethodName) method_9_code (4 : Nat) (Option.some Jvm.ClassFile.FieldType.int) [((0 : Nat), (9 : Nat), (12 : Nat), (33 : Nat))]) ∈ lw_all := lw_g (lw_at lw_m6 107 rfl) rfl
theorem q1415 : (Jvm.Cond.methodLink "CameraMovesLaw" (38 : Nat) ({ cls := "CameraMoves", name := "cueLength", desc := "(I)I" } : Jvm.MethodName)) ∈ lw_all := lw_g (lw_at lw_m6 108 rfl) rfl
theorem q1419 : (Jvm.Cond.methodLink "CameraMovesLaw" (199 : Nat) ({ cls := "CameraMovesLaw", name := "target", desc := "(LCameraMoves;II[J)I" } : Jvm.MethodName)) ∈ lw_all := lw_g (lw_at lw_m6 112 rfl) rfl
theorem q1420 : (Jvm.Cond.static ({ cls := "CameraMovesLaw", name := "target", desc := "(LCameraMoves;II[J)I" } : Jvm.MethodName)) ∈ lw_all := lw_g (lw_at lw_m6 113 rfl) rfl
theorem q1421 : (Jvm.Cond.codeWith ({ cls := "CameraMovesLaw", name := "target", desc := "(LCameraMoves;II[J)I" } : Jvm.MethodName) method_10_code (5 : Nat) (Option.some Jvm.ClassFile.FieldType.int) [((0 : Nat), (10 : Nat), (13 : Nat), (33 : Nat)), ((0 : Nat), (10 : Nat), (17 : Nat), (44 : Nat))]) ∈ lw_all := lw_g (lw_at lw_m6 114 rfl) rfl
theorem q1422 : (Jvm.Cond.classLink "CameraMovesLaw" (44 : Nat) "java/util/NoSuchElementException") ∈ lw_all := lw_g (lw_at lw_m6 115 rfl) rfl
theorem q1423 : (Jvm.Cond.methodLink "CameraMovesLaw" (41 : Nat) ({ cls := "CameraMoves", name := "target", desc := "(II)I" } : Jvm.MethodName)) ∈ lw_all := lw_g (lw_at lw_m6 116 rfl) rfl
theorem q1433 : (Jvm.Cond.methodLink "CameraMovesLaw" (202 : Nat) ({ cls := "CameraMovesLaw", name := "leastFrames", desc := "(LCameraMoves;II[J)I" } : Jvm.MethodName)) ∈ lw_all := lw_g (lw_at lw_m6 126 rfl) rfl
theorem q1434 : (Jvm.Cond.static ({ cls := "CameraMovesLaw", name := "leastFrames", desc := "(LCameraMoves;II[J)I" } : Jvm.MethodName)) ∈ lw_all := lw_g (lw_at lw_m6 127 rfl) rfl
theorem q1435 : (Jvm.Cond.codeWith ({ cls := "CameraMovesLaw", name := "leastFrames", desc := "(LCameraMoves;II[J)I" } : Jvm.MethodName) method_11_code (5 : Nat) (Option.some Jvm.ClassFile.FieldType.int) [((0 : Nat), (10 : Nat), (13 : Nat), (33 : Nat)), ((0 : Nat), (10 : Nat), (17 : Nat), (19 : Nat))]) ∈ lw_all := lw_g (lw_at lw_m6 128 rfl) rfl
theorem q1436 : (Jvm.Cond.methodLink "CameraMovesLaw" (46 : Nat) ({ cls := "CameraMoves", name := "leastFrames", desc := "(II)I" } : Jvm.MethodName)) ∈ lw_all := lw_g (lw_at lw_m6 129 rfl) rfl
theorem q1451 : (Jvm.Cond.methodLink "CameraMovesLaw" (205 : Nat) ({ cls := "CameraMovesLaw", name := "rampSpeed", desc := "(LCameraMoves;IIII[J)I" } : Jvm.MethodName)) ∈ lw_all := lw_g (lw_at lw_m6 144 rfl) rfl
theorem q1452 : (Jvm.Cond.static ({ cls := "CameraMovesLaw", name := "rampSpeed", desc := "(LCameraMoves;IIII[J)I" } : Jvm.MethodName)) ∈ lw_all := lw_g (lw_at lw_m6 145 rfl) rfl
theorem q1453 : (Jvm.Cond.codeWith ({ cls := "CameraMovesLaw", name := "rampSpeed", desc := "(LCameraMoves;IIII[J)I" } : Jvm.MethodName) method_12_code (7 : Nat) (Option.some Jvm.ClassFile.FieldType.int) [((0 : Nat), (14 : Nat), (17 : Nat), (33 : Nat)), ((0 : Nat), (14 : Nat), (21 : Nat), (19 : Nat)), ((0 : Nat), (14 : Nat), (25 : Nat), (44 : Nat))]) ∈ lw_all := lw_g (lw_at lw_m6 146 rfl) rfl
theorem q1454 : (Jvm.Cond.methodLink "CameraMovesLaw" (49 : Nat) ({ cls := "CameraMoves", name := "rampSpeed", desc := "(IIII)I" } : Jvm.MethodName)) ∈ lw_all := lw_g (lw_at lw_m6 147 rfl) rfl
theorem q1464 : (Jvm.Cond.methodLink "CameraMovesLaw" (209 : Nat) ({ cls := "CameraMovesLaw", name := "reach", desc := "(LCameraMoves;II[J)I" } : Jvm.MethodName)) ∈ lw_all := lw_g (lw_at lw_m6 157 rfl) rfl
theorem q1465 : (Jvm.Cond.static ({ cls := "CameraMovesLaw", name := "reach", desc := "(LCameraMoves;II[J)I" } : Jvm.MethodName)) ∈ lw_all := lw_g (lw_at lw_m6 158 rfl) rfl
theorem q1466 : (Jvm.Cond.codeWith ({ cls := "CameraMovesLaw", name := "reach", desc := "(LCameraMoves;II[J)I" } : Jvm.MethodName) method_13_code (5 : Nat) (Option.some Jvm.ClassFile.FieldType.int) [((0 : Nat), (10 : Nat), (13 : Nat), (33 : Nat)), ((0 : Nat), (10 : Nat), (17 : Nat), (19 : Nat))]) ∈ lw_all := lw_g (lw_at lw_m6 159 rfl) rfl
theorem q1467 : (Jvm.Cond.methodLink "CameraMovesLaw" (53 : Nat) ({ cls := "CameraMoves", name := "reach", desc := "(II)I" } : Jvm.MethodName)) ∈ lw_all := lw_g (lw_at lw_m6 160 rfl) rfl
theorem q1471 : (Jvm.Cond.methodLink "CameraMovesLaw" (212 : Nat) ({ cls := "CameraMovesLaw", name := "status", desc := "(LCameraMoves;II[J)I" } : Jvm.MethodName)) ∈ lw_all := lw_g (lw_at lw_m6 164 rfl) rfl
theorem q1472 : (Jvm.Cond.static ({ cls := "CameraMovesLaw", name := "status", desc := "(LCameraMoves;II[J)I" } : Jvm.MethodName)) ∈ lw_all := lw_g (lw_at lw_m6 165 rfl) rfl
theorem q1473 : (Jvm.Cond.codeWith ({ cls := "CameraMovesLaw", name := "status", desc := "(LCameraMoves;II[J)I" } : Jvm.MethodName) method_14_code (5 : Nat) (Option.some Jvm.ClassFile.FieldType.int) [((0 : Nat), (10 : Nat), (13 : Nat), (33 : Nat)), ((0 : Nat), (10 : Nat), (17 : Nat), (44 : Nat))]) ∈ lw_all := lw_g (lw_at lw_m6 166 rfl) rfl
theorem q1474 : (Jvm.Cond.methodLink "CameraMovesLaw" (56 : Nat) ({ cls := "CameraMoves", name := "status", desc := "(II)I" } : Jvm.MethodName)) ∈ lw_all := lw_g (lw_at lw_m6 167 rfl) rfl
theorem q1478 : (Jvm.Cond.methodLink "CameraMovesLaw" (215 : Nat) ({ cls := "CameraMovesLaw", name := "distance", desc := "(LCameraMoves;II[J)I" } : Jvm.MethodName)) ∈ lw_all := lw_g (lw_at lw_m6 171 rfl) rfl
theorem q1479 : (Jvm.Cond.static ({ cls := "CameraMovesLaw", name := "distance", desc := "(LCameraMoves;II[J)I" } : Jvm.MethodName)) ∈ lw_all := lw_g (lw_at lw_m6 172 rfl) rfl
theorem q1480 : (Jvm.Cond.codeWith ({ cls := "CameraMovesLaw", name := "distance", desc := "(LCameraMoves;II[J)I" } : Jvm.MethodName) method_15_code (5 : Nat) (Option.some Jvm.ClassFile.FieldType.int) [((0 : Nat), (10 : Nat), (13 : Nat), (33 : Nat)), ((0 : Nat), (10 : Nat), (17 : Nat), (44 : Nat))]) ∈ lw_all := lw_g (lw_at lw_m6 173 rfl) rfl
theorem q1481 : (Jvm.Cond.methodLink "CameraMovesLaw" (59 : Nat) ({ cls := "CameraMoves", name := "distance", desc := "(II)I" } : Jvm.MethodName)) ∈ lw_all := lw_g (lw_at lw_m6 174 rfl) rfl
theorem q1485 : (Jvm.Cond.methodLink "CameraMovesLaw" (222 : Nat) ({ cls := "CameraMovesLaw", name := "leastLength", desc := "(LCameraMoves;I[J)I" } : Jvm.MethodName)) ∈ lw_all := lw_g (lw_at lw_m6 178 rfl) rfl
theorem q1486 : (Jvm.Cond.static ({ cls := "CameraMovesLaw", name := "leastLength", desc := "(LCameraMoves;I[J)I" } : Jvm.MethodName)) ∈ lw_all := lw_g (lw_at lw_m6 179 rfl) rfl
theorem q1487 : (Jvm.Cond.codeWith ({ cls := "CameraMovesLaw", name := "leastLength", desc := "(LCameraMoves;I[J)I" } : Jvm.MethodName) method_16_code (4 : Nat) (Option.some Jvm.ClassFile.FieldType.int) [((0 : Nat), (9 : Nat), (12 : Nat), (33 : Nat))]) ∈ lw_all := lw_g (lw_at lw_m6 180 rfl) rfl
theorem q1488 : (Jvm.Cond.methodLink "CameraMovesLaw" (62 : Nat) ({ cls := "CameraMoves", name := "leastLength", desc := "(I)I" } : Jvm.MethodName)) ∈ lw_all := lw_g (lw_at lw_m6 181 rfl) rfl
theorem q1497 : (Jvm.Cond.methodLink "CameraMovesLaw" (225 : Nat) ({ cls := "CameraMovesLaw", name := "position", desc := "(LCameraMoves;II[J)I" } : Jvm.MethodName)) ∈ lw_all := lw_g (lw_at lw_m6 190 rfl) rfl
theorem q1498 : (Jvm.Cond.static ({ cls := "CameraMovesLaw", name := "position", desc := "(LCameraMoves;II[J)I" } : Jvm.MethodName)) ∈ lw_all := lw_g (lw_at lw_m6 191 rfl) rfl
theorem q1499 : (Jvm.Cond.codeWith ({ cls := "CameraMovesLaw", name := "position", desc := "(LCameraMoves;II[J)I" } : Jvm.MethodName) method_17_code (5 : Nat) (Option.some Jvm.ClassFile.FieldType.int) [((0 : Nat), (10 : Nat), (13 : Nat), (33 : Nat))]) ∈ lw_all := lw_g (lw_at lw_m6 192 rfl) rfl
theorem q1500 : (Jvm.Cond.methodLink "CameraMovesLaw" (65 : Nat) ({ cls := "CameraMoves", name := "position", desc := "(II)I" } : Jvm.MethodName)) ∈ lw_all := lw_g (lw_at lw_m6 193 rfl) rfl
theorem q1507 : (Jvm.Cond.methodLink "CameraMovesLaw" (228 : Nat) ({ cls := "CameraMovesLaw", name := "speed", desc := "(LCameraMoves;II[J)I" } : Jvm.MethodName)) ∈ lw_all := lw_g (lw_at lw_m6 200 rfl) rfl
theorem q1508 : (Jvm.Cond.static ({ cls := "CameraMovesLaw", name := "speed", desc := "(LCameraMoves;II[J)I" } : Jvm.MethodName)) ∈ lw_all := lw_g (lw_at lw_m6 201 rfl) rfl
theorem q1509 : (Jvm.Cond.codeWith ({ cls := "CameraMovesLaw", name := "speed", desc := "(LCameraMoves;II[J)I" } : Jvm.MethodName) method_18_code (5 : Nat) (Option.some Jvm.ClassFile.FieldType.int) [((0 : Nat), (10 : Nat), (13 : Nat), (33 : Nat))]) ∈ lw_all := lw_g (lw_at lw_m6 202 rfl) rfl
theorem q1510 : (Jvm.Cond.methodLink "CameraMovesLaw" (68 : Nat) ({ cls := "CameraMoves", name := "speed", desc := "(II)I" } : Jvm.MethodName)) ∈ lw_all := lw_g (lw_at lw_m6 203 rfl) rfl
theorem q1515 : (Jvm.Cond.methodLink "CameraMovesLaw" (231 : Nat) ({ cls := "CameraMovesLaw", name := "moving", desc := "(LCameraMoves;I[J)I" } : Jvm.MethodName)) ∈ lw_all := lw_g (lw_at lw_m6 208 rfl) rfl
theorem q1516 : (Jvm.Cond.static ({ cls := "CameraMovesLaw", name := "moving", desc := "(LCameraMoves;I[J)I" } : Jvm.MethodName)) ∈ lw_all := lw_g (lw_at lw_m6 209 rfl) rfl
theorem q1517 : (Jvm.Cond.codeWith ({ cls := "CameraMovesLaw", name := "moving", desc := "(LCameraMoves;I[J)I" } : Jvm.MethodName) method_19_code (4 : Nat) (Option.some Jvm.ClassFile.FieldType.int) [((0 : Nat), (9 : Nat), (12 : Nat), (33 : Nat))]) ∈ lw_all := lw_g (lw_at lw_m6 210 rfl) rfl
theorem q1518 : (Jvm.Cond.methodLink "CameraMovesLaw" (71 : Nat) ({ cls := "CameraMoves", name := "moving", desc := "(I)I" } : Jvm.MethodName)) ∈ lw_all := lw_g (lw_at lw_m6 211 rfl) rfl
theorem q1522 : (Jvm.Cond.methodLink "CameraMovesLaw" (242 : Nat) ({ cls := "CameraMovesLaw", name := "travelled", desc := "(LCameraMoves;I[J)I" } : Jvm.MethodName)) ∈ lw_all := lw_g (lw_at lw_m6 215 rfl) rfl
theorem q1523 : (Jvm.Cond.static ({ cls := "CameraMovesLaw", name := "travelled", desc := "(LCameraMoves;I[J)I" } : Jvm.MethodName)) ∈ lw_all := lw_g (lw_at lw_m6 216 rfl) rfl
theorem q1524 : (Jvm.Cond.codeWith ({ cls := "CameraMovesLaw", name := "travelled", desc := "(LCameraMoves;I[J)I" } : Jvm.MethodName) method_20_code (4 : Nat) (Option.some Jvm.ClassFile.FieldType.int) [((0 : Nat), (9 : Nat), (12 : Nat), (33 : Nat))]) ∈ lw_all := lw_g (lw_at lw_m6 217 rfl) rfl
theorem q1525 : (Jvm.Cond.methodLink "CameraMovesLaw" (74 : Nat) ({ cls := "CameraMoves", name := "travelled", desc := "(I)I" } : Jvm.MethodName)) ∈ lw_all := lw_g (lw_at lw_m6 218 rfl) rfl
theorem q1565 : (Jvm.Cond.methodLink "CameraMovesLaw" (245 : Nat) ({ cls := "CameraMovesLaw", name := "fastest", desc := "(LCameraMoves;I[J)I" } : Jvm.MethodName)) ∈ lw_all := lw_g (lw_at lw_m7 18 rfl) rfl
theorem q1566 : (Jvm.Cond.static ({ cls := "CameraMovesLaw", name := "fastest", desc := "(LCameraMoves;I[J)I" } : Jvm.MethodName)) ∈ lw_all := lw_g (lw_at lw_m7 19 rfl) rfl
theorem q1567 : (Jvm.Cond.codeWith ({ cls := "CameraMovesLaw", name := "fastest", desc := "(LCameraMoves;I[J)I" } : Jvm.MethodName) method_21_code (4 : Nat) (Option.some Jvm.ClassFile.FieldType.int) [((0 : Nat), (9 : Nat), (12 : Nat), (33 : Nat))]) ∈ lw_all := lw_g (lw_at lw_m7 20 rfl) rfl
theorem q1568 : (Jvm.Cond.methodLink "CameraMovesLaw" (77 : Nat) ({ cls := "CameraMoves", name := "fastest", desc := "(I)I" } : Jvm.MethodName)) ∈ lw_all := lw_g (lw_at lw_m7 21 rfl) rfl
theorem q1583 : (Jvm.Cond.methodLink "CameraMovesLaw" (248 : Nat) ({ cls := "CameraMovesLaw", name := "meanSpeed", desc := "(LCameraMoves;I[D)I" } : Jvm.MethodName)) ∈ lw_all := lw_g (lw_at lw_m7 36 rfl) rfl
theorem q1584 : (Jvm.Cond.static ({ cls := "CameraMovesLaw", name := "meanSpeed", desc := "(LCameraMoves;I[D)I" } : Jvm.MethodName)) ∈ lw_all := lw_g (lw_at lw_m7 37 rfl) rfl
theorem q1585 : (Jvm.Cond.codeWith ({ cls := "CameraMovesLaw", name := "meanSpeed", desc := "(LCameraMoves;I[D)I" } : Jvm.MethodName) method_22_code (4 : Nat) (Option.some Jvm.ClassFile.FieldType.int) [((0 : Nat), (8 : Nat), (11 : Nat), (33 : Nat))]) ∈ lw_all := lw_g (lw_at lw_m7 38 rfl) rfl
theorem q1586 : (Jvm.Cond.methodLink "CameraMovesLaw" (80 : Nat) ({ cls := "CameraMoves", name := "meanSpeed", desc := "(I)D" } : Jvm.MethodName)) ∈ lw_all := lw_g (lw_at lw_m7 39 rfl) rfl
theorem q1600 : (Jvm.Cond.methodLink "CameraMovesLaw" (252 : Nat) ({ cls := "CameraMovesLaw", name := "walls", desc := "(LCameraMoves;I[J)I" } : Jvm.MethodName)) ∈ lw_all := lw_g (lw_at lw_m7 53 rfl) rfl
theorem q1601 : (Jvm.Cond.static ({ cls := "CameraMovesLaw", name := "walls", desc := "(LCameraMoves;I[J)I" } : Jvm.MethodName)) ∈ lw_all := lw_g (lw_at lw_m7 54 rfl) rfl
theorem q1602 : (Jvm.Cond.codeWith ({ cls := "CameraMovesLaw", name := "walls", desc := "(LCameraMoves;I[J)I" } : Jvm.MethodName) method_23_code (4 : Nat) (Option.some Jvm.ClassFile.FieldType.int) [((0 : Nat), (9 : Nat), (12 : Nat), (33 : Nat))]) ∈ lw_all := lw_g (lw_at lw_m7 55 rfl) rfl
theorem q1603 : (Jvm.Cond.methodLink "CameraMovesLaw" (84 : Nat) ({ cls := "CameraMoves", name := "walls", desc := "(I)I" } : Jvm.MethodName)) ∈ lw_all := lw_g (lw_at lw_m7 56 rfl) rfl
theorem q1607 : (Jvm.Cond.methodLink "CameraMovesLaw" (259 : Nat) ({ cls := "CameraMovesLaw", name := "framesInside", desc := "(LCameraMoves;I[J)I" } : Jvm.MethodName)) ∈ lw_all := lw_g (lw_at lw_m7 60 rfl) rfl
theorem q1608 : (Jvm.Cond.static ({ cls := "CameraMovesLaw", name := "framesInside", desc := "(LCameraMoves;I[J)I" } : Jvm.MethodName)) ∈ lw_all := lw_g (lw_at lw_m7 61 rfl) rfl
theorem q1609 : (Jvm.Cond.codeWith ({ cls := "CameraMovesLaw", name := "framesInside", desc := "(LCameraMoves;I[J)I" } : Jvm.MethodName) method_24_code (4 : Nat) (Option.some Jvm.ClassFile.FieldType.int) [((0 : Nat), (9 : Nat), (12 : Nat), (33 : Nat))]) ∈ lw_all := lw_g (lw_at lw_m7 62 rfl) rfl
theorem q1610 : (Jvm.Cond.methodLink "CameraMovesLaw" (87 : Nat) ({ cls := "CameraMoves", name := "framesInside", desc := "(I)I" } : Jvm.MethodName)) ∈ lw_all := lw_g (lw_at lw_m7 63 rfl) rfl
theorem q1620 : (Jvm.Cond.methodLink "CameraMovesLaw" (262 : Nat) ({ cls := "CameraMovesLaw", name := "shown", desc := "(LCameraMoves;II[J)I" } : Jvm.MethodName)) ∈ lw_all := lw_g (lw_at lw_m7 73 rfl) rfl
theorem q1621 : (Jvm.Cond.static ({ cls := "CameraMovesLaw", name := "shown", desc := "(LCameraMoves;II[J)I" } : Jvm.MethodName)) ∈ lw_all := lw_g (lw_at lw_m7 74 rfl) rfl
theorem q1622 : (Jvm.Cond.codeWith ({ cls := "CameraMovesLaw", name := "shown", desc := "(LCameraMoves;II[J)I" } : Jvm.MethodName) method_25_code (5 : Nat) (Option.some Jvm.ClassFile.FieldType.int) [((0 : Nat), (10 : Nat), (13 : Nat), (33 : Nat))]) ∈ lw_all := lw_g (lw_at lw_m7 75 rfl) rfl
theorem q1623 : (Jvm.Cond.methodLink "CameraMovesLaw" (90 : Nat) ({ cls := "CameraMoves", name := "shown", desc := "(II)I" } : Jvm.MethodName)) ∈ lw_all := lw_g (lw_at lw_m7 76 rfl) rfl
theorem q1637 : (Jvm.Cond.methodLink "CameraMovesLaw" (265 : Nat) ({ cls := "CameraMovesLaw", name := "passPosition", desc := "(LCameraMoves;III[J)I" } : Jvm.MethodName)) ∈ lw_all := lw_g (lw_at lw_m7 90 rfl) rfl
theorem q1638 : (Jvm.Cond.static ({ cls := "CameraMovesLaw", name := "passPosition", desc := "(LCameraMoves;III[J)I" } : Jvm.MethodName)) ∈ lw_all := lw_g (lw_at lw_m7 91 rfl) rfl
theorem q1639 : (Jvm.Cond.codeWith ({ cls := "CameraMovesLaw", name := "passPosition", desc := "(LCameraMoves;III[J)I" } : Jvm.MethodName) method_26_code (6 : Nat) (Option.some Jvm.ClassFile.FieldType.int) [((0 : Nat), (12 : Nat), (15 : Nat), (33 : Nat))]) ∈ lw_all := lw_g (lw_at lw_m7 92 rfl) rfl
theorem q1640 : (Jvm.Cond.methodLink "CameraMovesLaw" (93 : Nat) ({ cls := "CameraMoves", name := "passPosition", desc := "(III)I" } : Jvm.MethodName)) ∈ lw_all := lw_g (lw_at lw_m7 93 rfl) rfl
theorem q1644 : (Jvm.Cond.methodLink "CameraMovesLaw" (269 : Nat) ({ cls := "CameraMovesLaw", name := "fits", desc := "(LCameraMoves;I[J)I" } : Jvm.MethodName)) ∈ lw_all := lw_g (lw_at lw_m7 97 rfl) rfl
theorem q1645 : (Jvm.Cond.static ({ cls := "CameraMovesLaw", name := "fits", desc := "(LCameraMoves;I[J)I" } : Jvm.MethodName)) ∈ lw_all := lw_g (lw_at lw_m7 98 rfl) rfl
theorem q1646 : (Jvm.Cond.codeWith ({ cls := "CameraMovesLaw", name := "fits", desc := "(LCameraMoves;I[J)I" } : Jvm.MethodName) method_27_code (4 : Nat) (Option.some Jvm.ClassFile.FieldType.int) [((0 : Nat), (16 : Nat), (19 : Nat), (33 : Nat))]) ∈ lw_all := lw_g (lw_at lw_m7 99 rfl) rfl
theorem q1647 : (Jvm.Cond.methodLink "CameraMovesLaw" (97 : Nat) ({ cls := "CameraMoves", name := "fits", desc := "(I)Z" } : Jvm.MethodName)) ∈ lw_all := lw_g (lw_at lw_m7 100 rfl) rfl
theorem q1656 : (Jvm.Cond.methodLink "CameraMovesLaw" (272 : Nat) ({ cls := "CameraMovesLaw", name := "matches", desc := "(LCameraMoves;II[J)I" } : Jvm.MethodName)) ∈ lw_all := lw_g (lw_at lw_m7 109 rfl) rfl
theorem q1657 : (Jvm.Cond.static ({ cls := "CameraMovesLaw", name := "matches", desc := "(LCameraMoves;II[J)I" } : Jvm.MethodName)) ∈ lw_all := lw_g (lw_at lw_m7 110 rfl) rfl
theorem q1658 : (Jvm.Cond.codeWith ({ cls := "CameraMovesLaw", name := "matches", desc := "(LCameraMoves;II[J)I" } : Jvm.MethodName) method_28_code (5 : Nat) (Option.some Jvm.ClassFile.FieldType.int) [((0 : Nat), (10 : Nat), (13 : Nat), (33 : Nat))]) ∈ lw_all := lw_g (lw_at lw_m7 111 rfl) rfl
theorem q1659 : (Jvm.Cond.methodLink "CameraMovesLaw" (101 : Nat) ({ cls := "CameraMoves", name := "matches", desc := "(II)I" } : Jvm.MethodName)) ∈ lw_all := lw_g (lw_at lw_m7 112 rfl) rfl
theorem q1667 : (Jvm.Cond.methodLink "CameraMovesLaw" (275 : Nat) ({ cls := "CameraMovesLaw", name := "mismatch", desc := "(LCameraMoves;II[J)I" } : Jvm.MethodName)) ∈ lw_all := lw_g (lw_at lw_m7 120 rfl) rfl
theorem q1668 : (Jvm.Cond.static ({ cls := "CameraMovesLaw", name := "mismatch", desc := "(LCameraMoves;II[J)I" } : Jvm.MethodName)) ∈ lw_all := lw_g (lw_at lw_m7 121 rfl) rfl
theorem q1669 : (Jvm.Cond.codeWith ({ cls := "CameraMovesLaw", name := "mismatch", desc := "(LCameraMoves;II[J)I" } : Jvm.MethodName) method_29_code (5 : Nat) (Option.some Jvm.ClassFile.FieldType.int) [((0 : Nat), (10 : Nat), (13 : Nat), (33 : Nat))]) ∈ lw_all := lw_g (lw_at lw_m7 122 rfl) rfl
theorem q1670 : (Jvm.Cond.methodLink "CameraMovesLaw" (104 : Nat) ({ cls := "CameraMoves", name := "mismatch", desc := "(II)I" } : Jvm.MethodName)) ∈ lw_all := lw_g (lw_at lw_m7 123 rfl) rfl
theorem q1674 : (Jvm.Cond.methodLink "CameraMovesLaw" (278 : Nat) ({ cls := "CameraMovesLaw", name := "fittingDen", desc := "(LCameraMoves;I[J)I" } : Jvm.MethodName)) ∈ lw_all := lw_g (lw_at lw_m7 127 rfl) rfl
theorem q1675 : (Jvm.Cond.static ({ cls := "CameraMovesLaw", name := "fittingDen", desc := "(LCameraMoves;I[J)I" } : Jvm.MethodName)) ∈ lw_all := lw_g (lw_at lw_m7 128 rfl) rfl
theorem q1676 : (Jvm.Cond.codeWith ({ cls := "CameraMovesLaw", name := "fittingDen", desc := "(LCameraMoves;I[J)I" } : Jvm.MethodName) method_30_code (4 : Nat) (Option.some Jvm.ClassFile.FieldType.int) [((0 : Nat), (9 : Nat), (12 : Nat), (33 : Nat))]) ∈ lw_all := lw_g (lw_at lw_m7 129 rfl) rfl
theorem q1677 : (Jvm.Cond.methodLink "CameraMovesLaw" (107 : Nat) ({ cls := "CameraMoves", name := "fittingDen", desc := "(I)I" } : Jvm.MethodName)) ∈ lw_all := lw_g (lw_at lw_m7 130 rfl) rfl
theorem q1682 : (Jvm.Cond.methodLink "CameraMovesLaw" (281 : Nat) ({ cls := "CameraMovesLaw", name := "earliest", desc := "(LCameraMoves;I[J)I" } : Jvm.MethodName)) ∈ lw_all := lw_g (lw_at lw_m7 135 rfl) rfl
theorem q1683 : (Jvm.Cond.static ({ cls := "CameraMovesLaw", name := "earliest", desc := "(LCameraMoves;I[J)I" } : Jvm.MethodName)) ∈ lw_all := lw_g (lw_at lw_m7 136 rfl) rfl
theorem q1684 : (Jvm.Cond.codeWith ({ cls := "CameraMovesLaw", name := "earliest", desc := "(LCameraMoves;I[J)I" } : Jvm.MethodName) method_31_code (4 : Nat) (Option.some Jvm.ClassFile.FieldType.int) [((0 : Nat), (9 : Nat), (12 : Nat), (33 : Nat))]) ∈ lw_all := lw_g (lw_at lw_m7 137 rfl) rfl
theorem q1685 : (Jvm.Cond.methodLink "CameraMovesLaw" (110 : Nat) ({ cls := "CameraMoves", name := "earliest", desc := "(I)I" } : Jvm.MethodName)) ∈ lw_all := lw_g (lw_at lw_m7 138 rfl) rfl
theorem q1746 : (Jvm.Cond.methodLink "CameraMovesLaw" (284 : Nat) ({ cls := "CameraMovesLaw", name := "hitsIf", desc := "(LCameraMoves;II[J)I" } : Jvm.MethodName)) ∈ lw_all := lw_g (lw_at lw_m7 199 rfl) rfl
theorem q1747 : (Jvm.Cond.static ({ cls := "CameraMovesLaw", name := "hitsIf", desc := "(LCameraMoves;II[J)I" } : Jvm.MethodName)) ∈ lw_all := lw_g (lw_at lw_m7 200 rfl) rfl
theorem q1748 : (Jvm.Cond.codeWith ({ cls := "CameraMovesLaw", name := "hitsIf", desc := "(LCameraMoves;II[J)I" } : Jvm.MethodName) method_32_code (5 : Nat) (Option.some Jvm.ClassFile.FieldType.int) [((0 : Nat), (10 : Nat), (13 : Nat), (33 : Nat)), ((0 : Nat), (10 : Nat), (17 : Nat), (19 : Nat))]) ∈ lw_all := lw_g (lw_at lw_m7 201 rfl) rfl
theorem q1749 : (Jvm.Cond.methodLink "CameraMovesLaw" (113 : Nat) ({ cls := "CameraMoves", name := "hitsIf", desc := "(II)I" } : Jvm.MethodName)) ∈ lw_all := lw_g (lw_at lw_m7 202 rfl) rfl
theorem q1758 : (Jvm.Cond.methodLink "CameraMovesLaw" (287 : Nat) ({ cls := "CameraMovesLaw", name := "mostSaved", desc := "(LCameraMoves;I[J)I" } : Jvm.MethodName)) ∈ lw_all := lw_g (lw_at lw_m7 211 rfl) rfl
theorem q1759 : (Jvm.Cond.static ({ cls := "CameraMovesLaw", name := "mostSaved", desc := "(LCameraMoves;I[J)I" } : Jvm.MethodName)) ∈ lw_all := lw_g (lw_at lw_m7 212 rfl) rfl
theorem q1760 : (Jvm.Cond.codeWith ({ cls := "CameraMovesLaw", name := "mostSaved", desc := "(LCameraMoves;I[J)I" } : Jvm.MethodName) method_33_code (4 : Nat) (Option.some Jvm.ClassFile.FieldType.int) [((0 : Nat), (9 : Nat), (12 : Nat), (33 : Nat))]) ∈ lw_all := lw_g (lw_at lw_m7 213 rfl) rfl
theorem q1761 : (Jvm.Cond.methodLink "CameraMovesLaw" (116 : Nat) ({ cls := "CameraMoves", name := "mostSaved", desc := "(I)I" } : Jvm.MethodName)) ∈ lw_all := lw_g (lw_at lw_m7 214 rfl) rfl
theorem q1774 : (Jvm.Cond.methodLink "CameraMovesLaw" (290 : Nat) ({ cls := "CameraMovesLaw", name := "addCue", desc := "(LCameraMoves;IIII[J)I" } : Jvm.MethodName)) ∈ lw_all := lw_g (lw_at lw_m7 227 rfl) rfl
theorem q1775 : (Jvm.Cond.static ({ cls := "CameraMovesLaw", name := "addCue", desc := "(LCameraMoves;IIII[J)I" } : Jvm.MethodName)) ∈ lw_all := lw_g (lw_at lw_m7 228 rfl) rfl
theorem q1776 : (Jvm.Cond.codeWith ({ cls := "CameraMovesLaw", name := "addCue", desc := "(LCameraMoves;IIII[J)I" } : Jvm.MethodName) method_34_code (7 : Nat) (Option.some Jvm.ClassFile.FieldType.int) [((0 : Nat), (14 : Nat), (17 : Nat), (33 : Nat)), ((0 : Nat), (14 : Nat), (21 : Nat), (19 : Nat)), ((0 : Nat), (14 : Nat), (25 : Nat), (13 : Nat))]) ∈ lw_all := lw_g (lw_at lw_m7 229 rfl) rfl
theorem q1777 : (Jvm.Cond.methodLink "CameraMovesLaw" (119 : Nat) ({ cls := "CameraMoves", name := "addCue", desc := "(IIII)I" } : Jvm.MethodName)) ∈ lw_all := lw_g (lw_at lw_m7 230 rfl) rfl
theorem q1837 : (Jvm.Cond.methodLink "CameraMovesLaw" (293 : Nat) ({ cls := "CameraMovesLaw", name := "setTarget", desc := "(LCameraMoves;III[J)I" } : Jvm.MethodName)) ∈ lw_all := lw_g (lw_at lw_m8 50 rfl) rfl
theorem q1838 : (Jvm.Cond.static ({ cls := "CameraMovesLaw", name := "setTarget", desc := "(LCameraMoves;III[J)I" } : Jvm.MethodName)) ∈ lw_all := lw_g (lw_at lw_m8 51 rfl) rfl
theorem q1839 : (Jvm.Cond.codeWith ({ cls := "CameraMovesLaw", name := "setTarget", desc := "(LCameraMoves;III[J)I" } : Jvm.MethodName) method_35_code (6 : Nat) (Option.some Jvm.ClassFile.FieldType.int) [((0 : Nat), (12 : Nat), (15 : Nat), (33 : Nat)), ((0 : Nat), (12 : Nat), (19 : Nat), (19 : Nat))]) ∈ lw_all := lw_g (lw_at lw_m8 52 rfl) rfl
theorem q1840 : (Jvm.Cond.methodLink "CameraMovesLaw" (122 : Nat) ({ cls := "CameraMoves", name := "setTarget", desc := "(III)I" } : Jvm.MethodName)) ∈ lw_all := lw_g (lw_at lw_m8 53 rfl) rfl
theorem q1844 : (Jvm.Cond.methodLink "CameraMovesLaw" (296 : Nat) ({ cls := "CameraMovesLaw", name := "removeTarget", desc := "(LCameraMoves;II[J)I" } : Jvm.MethodName)) ∈ lw_all := lw_g (lw_at lw_m8 57 rfl) rfl
theorem q1845 : (Jvm.Cond.static ({ cls := "CameraMovesLaw", name := "removeTarget", desc := "(LCameraMoves;II[J)I" } : Jvm.MethodName)) ∈ lw_all := lw_g (lw_at lw_m8 58 rfl) rfl
theorem q1846 : (Jvm.Cond.codeWith ({ cls := "CameraMovesLaw", name := "removeTarget", desc := "(LCameraMoves;II[J)I" } : Jvm.MethodName) method_36_code (5 : Nat) (Option.some Jvm.ClassFile.FieldType.int) [((0 : Nat), (10 : Nat), (13 : Nat), (33 : Nat)), ((0 : Nat), (10 : Nat), (17 : Nat), (44 : Nat))]) ∈ lw_all := lw_g (lw_at lw_m8 59 rfl) rfl
theorem q1847 : (Jvm.Cond.methodLink "CameraMovesLaw" (125 : Nat) ({ cls := "CameraMoves", name := "removeTarget", desc := "(II)I" } : Jvm.MethodName)) ∈ lw_all := lw_g (lw_at lw_m8 60 rfl) rfl
theorem q1851 : (Jvm.Cond.methodLink "CameraMovesLaw" (299 : Nat) ({ cls := "CameraMovesLaw", name := "removeCue", desc := "(LCameraMoves;I[J)I" } : Jvm.MethodName)) ∈ lw_all := lw_g (lw_at lw_m8 64 rfl) rfl
theorem q1852 : (Jvm.Cond.static ({ cls := "CameraMovesLaw", name := "removeCue", desc := "(LCameraMoves;I[J)I" } : Jvm.MethodName)) ∈ lw_all := lw_g (lw_at lw_m8 65 rfl) rfl
theorem q1853 : (Jvm.Cond.codeWith ({ cls := "CameraMovesLaw", name := "removeCue", desc := "(LCameraMoves;I[J)I" } : Jvm.MethodName) method_37_code (4 : Nat) (Option.some Jvm.ClassFile.FieldType.int) [((0 : Nat), (9 : Nat), (12 : Nat), (33 : Nat))]) ∈ lw_all := lw_g (lw_at lw_m8 66 rfl) rfl
theorem q1854 : (Jvm.Cond.methodLink "CameraMovesLaw" (128 : Nat) ({ cls := "CameraMoves", name := "removeCue", desc := "(I)I" } : Jvm.MethodName)) ∈ lw_all := lw_g (lw_at lw_m8 67 rfl) rfl
theorem q1858 : (Jvm.Cond.methodLink "CameraMovesLaw" (302 : Nat) ({ cls := "CameraMovesLaw", name := "moveCue", desc := "(LCameraMoves;II[J)I" } : Jvm.MethodName)) ∈ lw_all := lw_g (lw_at lw_m8 71 rfl) rfl
theorem q1859 : (Jvm.Cond.static ({ cls := "CameraMovesLaw", name := "moveCue", desc := "(LCameraMoves;II[J)I" } : Jvm.MethodName)) ∈ lw_all := lw_g (lw_at lw_m8 72 rfl) rfl
theorem q1860 : (Jvm.Cond.codeWith ({ cls := "CameraMovesLaw", name := "moveCue", desc := "(LCameraMoves;II[J)I" } : Jvm.MethodName) method_38_code (5 : Nat) (Option.some Jvm.ClassFile.FieldType.int) [((0 : Nat), (10 : Nat), (13 : Nat), (33 : Nat)), ((0 : Nat), (10 : Nat), (17 : Nat), (19 : Nat))]) ∈ lw_all := lw_g (lw_at lw_m8 73 rfl) rfl
theorem q1861 : (Jvm.Cond.methodLink "CameraMovesLaw" (131 : Nat) ({ cls := "CameraMoves", name := "moveCue", desc := "(II)I" } : Jvm.MethodName)) ∈ lw_all := lw_g (lw_at lw_m8 74 rfl) rfl
theorem q1865 : (Jvm.Cond.methodLink "CameraMovesLaw" (305 : Nat) ({ cls := "CameraMovesLaw", name := "setLength", desc := "(LCameraMoves;II[J)I" } : Jvm.MethodName)) ∈ lw_all := lw_g (lw_at lw_m8 78 rfl) rfl
theorem q1866 : (Jvm.Cond.static ({ cls := "CameraMovesLaw", name := "setLength", desc := "(LCameraMoves;II[J)I" } : Jvm.MethodName)) ∈ lw_all := lw_g (lw_at lw_m8 79 rfl) rfl
theorem q1867 : (Jvm.Cond.codeWith ({ cls := "CameraMovesLaw", name := "setLength", desc := "(LCameraMoves;II[J)I" } : Jvm.MethodName) method_39_code (5 : Nat) (Option.some Jvm.ClassFile.FieldType.int) [((0 : Nat), (10 : Nat), (13 : Nat), (33 : Nat)), ((0 : Nat), (10 : Nat), (17 : Nat), (19 : Nat))]) ∈ lw_all := lw_g (lw_at lw_m8 80 rfl) rfl
theorem q1868 : (Jvm.Cond.methodLink "CameraMovesLaw" (134 : Nat) ({ cls := "CameraMoves", name := "setLength", desc := "(II)I" } : Jvm.MethodName)) ∈ lw_all := lw_g (lw_at lw_m8 81 rfl) rfl
theorem q1872 : (Jvm.Cond.methodLink "CameraMovesLaw" (308 : Nat) ({ cls := "CameraMovesLaw", name := "fit", desc := "(LCameraMoves;I[J)I" } : Jvm.MethodName)) ∈ lw_all := lw_g (lw_at lw_m8 85 rfl) rfl
theorem q1873 : (Jvm.Cond.static ({ cls := "CameraMovesLaw", name := "fit", desc := "(LCameraMoves;I[J)I" } : Jvm.MethodName)) ∈ lw_all := lw_g (lw_at lw_m8 86 rfl) rfl
theorem q1874 : (Jvm.Cond.codeWith ({ cls := "CameraMovesLaw", name := "fit", desc := "(LCameraMoves;I[J)I" } : Jvm.MethodName) method_40_code (4 : Nat) (Option.some Jvm.ClassFile.FieldType.int) [((0 : Nat), (9 : Nat), (12 : Nat), (33 : Nat)), ((0 : Nat), (9 : Nat), (15 : Nat), (13 : Nat))]) ∈ lw_all := lw_g (lw_at lw_m8 87 rfl) rfl
theorem q1875 : (Jvm.Cond.methodLink "CameraMovesLaw" (137 : Nat) ({ cls := "CameraMoves", name := "fit", desc := "(I)I" } : Jvm.MethodName)) ∈ lw_all := lw_g (lw_at lw_m8 88 rfl) rfl
theorem q1879 : (Jvm.Cond.methodLink "CameraMovesLaw" (311 : Nat) ({ cls := "CameraMovesLaw", name := "setLimits", desc := "(LCameraMoves;III[J)I" } : Jvm.MethodName)) ∈ lw_all := lw_g (lw_at lw_m8 92 rfl) rfl
theorem q1880 : (Jvm.Cond.static ({ cls := "CameraMovesLaw", name := "setLimits", desc := "(LCameraMoves;III[J)I" } : Jvm.MethodName)) ∈ lw_all := lw_g (lw_at lw_m8 93 rfl) rfl
theorem q1881 : (Jvm.Cond.codeWith ({ cls := "CameraMovesLaw", name := "setLimits", desc := "(LCameraMoves;III[J)I" } : Jvm.MethodName) method_41_code (6 : Nat) (Option.some Jvm.ClassFile.FieldType.int) [((0 : Nat), (12 : Nat), (15 : Nat), (33 : Nat)), ((0 : Nat), (12 : Nat), (19 : Nat), (19 : Nat))]) ∈ lw_all := lw_g (lw_at lw_m8 94 rfl) rfl
theorem q1882 : (Jvm.Cond.methodLink "CameraMovesLaw" (140 : Nat) ({ cls := "CameraMoves", name := "setLimits", desc := "(III)I" } : Jvm.MethodName)) ∈ lw_all := lw_g (lw_at lw_m8 95 rfl) rfl
theorem q1888 : (Jvm.Cond.methodLink "CameraMovesLaw" (314 : Nat) ({ cls := "CameraMovesLaw", name := "addWall", desc := "(LCameraMoves;IIIIII[J)I" } : Jvm.MethodName)) ∈ lw_all := lw_g (lw_at lw_m8 101 rfl) rfl
theorem q1889 : (Jvm.Cond.static ({ cls := "CameraMovesLaw", name := "addWall", desc := "(LCameraMoves;IIIIII[J)I" } : Jvm.MethodName)) ∈ lw_all := lw_g (lw_at lw_m8 102 rfl) rfl
theorem q1890 : (Jvm.Cond.codeWith ({ cls := "CameraMovesLaw", name := "addWall", desc := "(LCameraMoves;IIIIII[J)I" } : Jvm.MethodName) method_42_code (9 : Nat) (Option.some Jvm.ClassFile.FieldType.int) [((0 : Nat), (18 : Nat), (21 : Nat), (33 : Nat)), ((0 : Nat), (18 : Nat), (25 : Nat), (19 : Nat)), ((0 : Nat), (18 : Nat), (29 : Nat), (13 : Nat))]) ∈ lw_all := lw_g (lw_at lw_m8 103 rfl) rfl
theorem q1891 : (Jvm.Cond.methodLink "CameraMovesLaw" (143 : Nat) ({ cls := "CameraMoves", name := "addWall", desc := "(IIIIII)I" } : Jvm.MethodName)) ∈ lw_all := lw_g (lw_at lw_m8 104 rfl) rfl
theorem q1901 : (Jvm.Cond.methodLink "CameraMovesLaw" (318 : Nat) ({ cls := "CameraMovesLaw", name := "removeWall", desc := "(LCameraMoves;I[J)I" } : Jvm.MethodName)) ∈ lw_all := lw_g (lw_at lw_m8 114 rfl) rfl
theorem q1902 : (Jvm.Cond.static ({ cls := "CameraMovesLaw", name := "removeWall", desc := "(LCameraMoves;I[J)I" } : Jvm.MethodName)) ∈ lw_all := lw_g (lw_at lw_m8 115 rfl) rfl
theorem q1903 : (Jvm.Cond.codeWith ({ cls := "CameraMovesLaw", name := "removeWall", desc := "(LCameraMoves;I[J)I" } : Jvm.MethodName) method_43_code (4 : Nat) (Option.some Jvm.ClassFile.FieldType.int) [((0 : Nat), (9 : Nat), (12 : Nat), (33 : Nat))]) ∈ lw_all := lw_g (lw_at lw_m8 116 rfl) rfl
theorem q1904 : (Jvm.Cond.methodLink "CameraMovesLaw" (147 : Nat) ({ cls := "CameraMoves", name := "removeWall", desc := "(I)I" } : Jvm.MethodName)) ∈ lw_all := lw_g (lw_at lw_m8 117 rfl) rfl
theorem q1908 : (Jvm.Cond.methodLink "CameraMovesLaw" (321 : Nat) ({ cls := "CameraMovesLaw", name := "undo", desc := "(LCameraMoves;[J)I" } : Jvm.MethodName)) ∈ lw_all := lw_g (lw_at lw_m8 121 rfl) rfl
theorem q1909 : (Jvm.Cond.static ({ cls := "CameraMovesLaw", name := "undo", desc := "(LCameraMoves;[J)I" } : Jvm.MethodName)) ∈ lw_all := lw_g (lw_at lw_m8 122 rfl) rfl
theorem q1910 : (Jvm.Cond.codeWith ({ cls := "CameraMovesLaw", name := "undo", desc := "(LCameraMoves;[J)I" } : Jvm.MethodName) method_44_code (3 : Nat) (Option.some Jvm.ClassFile.FieldType.int) [((0 : Nat), (8 : Nat), (11 : Nat), (13 : Nat))]) ∈ lw_all := lw_g (lw_at lw_m8 123 rfl) rfl
theorem q1911 : (Jvm.Cond.methodLink "CameraMovesLaw" (150 : Nat) ({ cls := "CameraMoves", name := "undo", desc := "()I" } : Jvm.MethodName)) ∈ lw_all := lw_g (lw_at lw_m8 124 rfl) rfl
theorem q1930 : (Jvm.Cond.methodLink "CameraMovesLaw" (324 : Nat) ({ cls := "CameraMovesLaw", name := "format", desc := "(LCameraMoves;I[J)I" } : Jvm.MethodName)) ∈ lw_all := lw_g (lw_at lw_m8 143 rfl) rfl
theorem q1931 : (Jvm.Cond.static ({ cls := "CameraMovesLaw", name := "format", desc := "(LCameraMoves;I[J)I" } : Jvm.MethodName)) ∈ lw_all := lw_g (lw_at lw_m8 144 rfl) rfl
theorem q1932 : (Jvm.Cond.codeWith ({ cls := "CameraMovesLaw", name := "format", desc := "(LCameraMoves;I[J)I" } : Jvm.MethodName) method_45_code (4 : Nat) (Option.some Jvm.ClassFile.FieldType.int) [((0 : Nat), (9 : Nat), (12 : Nat), (33 : Nat))]) ∈ lw_all := lw_g (lw_at lw_m8 145 rfl) rfl
theorem q1933 : (Jvm.Cond.methodLink "CameraMovesLaw" (153 : Nat) ({ cls := "CameraMoves", name := "format", desc := "(I)I" } : Jvm.MethodName)) ∈ lw_all := lw_g (lw_at lw_m8 146 rfl) rfl
theorem q1996 : (Jvm.Cond.methodLink "CameraMovesLaw" (327 : Nat) ({ cls := "CameraMovesLaw", name := "formattedCharacter", desc := "(LCameraMoves;I[J)I" } : Jvm.MethodName)) ∈ lw_all := lw_g (lw_at lw_m8 209 rfl) rfl
theorem q1997 : (Jvm.Cond.static ({ cls := "CameraMovesLaw", name := "formattedCharacter", desc := "(LCameraMoves;I[J)I" } : Jvm.MethodName)) ∈ lw_all := lw_g (lw_at lw_m8 210 rfl) rfl
theorem q1998 : (Jvm.Cond.codeWith ({ cls := "CameraMovesLaw", name := "formattedCharacter", desc := "(LCameraMoves;I[J)I" } : Jvm.MethodName) method_46_code (4 : Nat) (Option.some Jvm.ClassFile.FieldType.int) [((0 : Nat), (9 : Nat), (12 : Nat), (33 : Nat))]) ∈ lw_all := lw_g (lw_at lw_m8 211 rfl) rfl
theorem q1999 : (Jvm.Cond.methodLink "CameraMovesLaw" (156 : Nat) ({ cls := "CameraMoves", name := "formattedCharacter", desc := "(I)C" } : Jvm.MethodName)) ∈ lw_all := lw_g (lw_at lw_m8 212 rfl) rfl
theorem q2013 : (Jvm.Cond.classLink "CameraMovesLaw" (161 : Nat) "CameraMovesModel") ∈ lw_all := lw_g (lw_at lw_m8 226 rfl) rfl
theorem q2015 : (Jvm.Cond.methodLink "CameraMovesLaw" (163 : Nat) ({ cls := "CameraMovesModel", name := "<init>", desc := "()V" } : Jvm.MethodName)) ∈ lw_all := lw_g (lw_at lw_m8 228 rfl) rfl
theorem q2143 : (Jvm.Cond.methodLink "CameraMovesLaw" (170 : Nat) ({ cls := "CameraMovesModel", name := "thrown", desc := "()I" } : Jvm.MethodName)) ∈ lw_all := lw_g (lw_at lw_m9 116 rfl) rfl
theorem q2147 : (Jvm.Cond.methodLink "CameraMovesLaw" (169 : Nat) ({ cls := "CameraMovesModel", name := "append", desc := "(IIIII)I" } : Jvm.MethodName)) ∈ lw_all := lw_g (lw_at lw_m9 120 rfl) rfl
theorem q2159 : (Jvm.Cond.methodLink "CameraMovesLaw" (176 : Nat) ({ cls := "CameraMovesModel", name := "truncate", desc := "(I)V" } : Jvm.MethodName)) ∈ lw_all := lw_g (lw_at lw_m9 132 rfl) rfl
theorem q2166 : (Jvm.Cond.methodLink "CameraMovesLaw" (180 : Nat) ({ cls := "CameraMovesModel", name := "load", desc := "()I" } : Jvm.MethodName)) ∈ lw_all := lw_g (lw_at lw_m9 139 rfl) rfl
theorem q2267 : (Jvm.Cond.methodLink "CameraMovesLaw" (184 : Nat) ({ cls := "CameraMovesModel", name := "errorOffset", desc := "()I" } : Jvm.MethodName)) ∈ lw_all := lw_g (lw_at lw_m10 0 rfl) rfl
theorem q2271 : (Jvm.Cond.methodLink "CameraMovesLaw" (188 : Nat) ({ cls := "CameraMovesModel", name := "count", desc := "(I)I" } : Jvm.MethodName)) ∈ lw_all := lw_g (lw_at lw_m10 4 rfl) rfl
theorem q2275 : (Jvm.Cond.methodLink "CameraMovesLaw" (192 : Nat) ({ cls := "CameraMovesModel", name := "limit", desc := "(II)I" } : Jvm.MethodName)) ∈ lw_all := lw_g (lw_at lw_m10 8 rfl) rfl
theorem q2291 : (Jvm.Cond.methodLink "CameraMovesLaw" (195 : Nat) ({ cls := "CameraMovesModel", name := "cueFrame", desc := "(I)I" } : Jvm.MethodName)) ∈ lw_all := lw_g (lw_at lw_m10 24 rfl) rfl
theorem q2303 : (Jvm.Cond.methodLink "CameraMovesLaw" (198 : Nat) ({ cls := "CameraMovesModel", name := "cueLength", desc := "(I)I" } : Jvm.MethodName)) ∈ lw_all := lw_g (lw_at lw_m10 36 rfl) rfl
theorem q2307 : (Jvm.Cond.methodLink "CameraMovesLaw" (201 : Nat) ({ cls := "CameraMovesModel", name := "target", desc := "(II)I" } : Jvm.MethodName)) ∈ lw_all := lw_g (lw_at lw_m10 40 rfl) rfl
theorem q2319 : (Jvm.Cond.methodLink "CameraMovesLaw" (204 : Nat) ({ cls := "CameraMovesModel", name := "leastFrames", desc := "(II)I" } : Jvm.MethodName)) ∈ lw_all := lw_g (lw_at lw_m10 52 rfl) rfl
theorem q2337 : (Jvm.Cond.methodLink "CameraMovesLaw" (208 : Nat) ({ cls := "CameraMovesModel", name := "rampSpeed", desc := "(IIII)I" } : Jvm.MethodName)) ∈ lw_all := lw_g (lw_at lw_m10 70 rfl) rfl
theorem q2357 : (Jvm.Cond.methodLink "CameraMovesLaw" (211 : Nat) ({ cls := "CameraMovesModel", name := "reach", desc := "(II)I" } : Jvm.MethodName)) ∈ lw_all := lw_g (lw_at lw_m10 90 rfl) rfl
theorem q2361 : (Jvm.Cond.methodLink "CameraMovesLaw" (214 : Nat) ({ cls := "CameraMovesModel", name := "status", desc := "(II)I" } : Jvm.MethodName)) ∈ lw_all := lw_g (lw_at lw_m10 94 rfl) rfl
theorem q2373 : (Jvm.Cond.methodLink "CameraMovesLaw" (217 : Nat) ({ cls := "CameraMovesModel", name := "distance", desc := "(II)I" } : Jvm.MethodName)) ∈ lw_all := lw_g (lw_at lw_m10 106 rfl) rfl
theorem q2377 : (Jvm.Cond.methodLink "CameraMovesLaw" (221 : Nat) ({ cls := "CameraMovesModel", name := "withStatus", desc := "(I)I" } : Jvm.MethodName)) ∈ lw_all := lw_g (lw_at lw_m10 110 rfl) rfl
theorem q2385 : (Jvm.Cond.methodLink "CameraMovesLaw" (224 : Nat) ({ cls := "CameraMovesModel", name := "leastLength", desc := "(I)I" } : Jvm.MethodName)) ∈ lw_all := lw_g (lw_at lw_m10 118 rfl) rfl
theorem q2393 : (Jvm.Cond.methodLink "CameraMovesLaw" (227 : Nat) ({ cls := "CameraMovesModel", name := "position", desc := "(II)I" } : Jvm.MethodName)) ∈ lw_all := lw_g (lw_at lw_m10 126 rfl) rfl
theorem q2416 : (Jvm.Cond.methodLink "CameraMovesLaw" (230 : Nat) ({ cls := "CameraMovesModel", name := "speed", desc := "(II)I" } : Jvm.MethodName)) ∈ lw_all := lw_g (lw_at lw_m10 149 rfl) rfl
theorem q2424 : (Jvm.Cond.methodLink "CameraMovesLaw" (233 : Nat) ({ cls := "CameraMovesModel", name := "moving", desc := "(I)I" } : Jvm.MethodName)) ∈ lw_all := lw_g (lw_at lw_m10 157 rfl) rfl
theorem q2436 : (Jvm.Cond.methodLink "CameraMovesLaw" (237 : Nat) ({ cls := "CameraMovesModel", name := "end", desc := "()I" } : Jvm.MethodName)) ∈ lw_all := lw_g (lw_at lw_m10 169 rfl) rfl
theorem q2444 : (Jvm.Cond.methodLink "CameraMovesLaw" (241 : Nat) ({ cls := "CameraMovesModel", name := "stillFrames", desc := "()I" } : Jvm.MethodName)) ∈ lw_all := lw_g (lw_at lw_m10 177 rfl) rfl
theorem q2448 : (Jvm.Cond.methodLink "CameraMovesLaw" (244 : Nat) ({ cls := "CameraMovesModel", name := "travelled", desc := "(I)I" } : Jvm.MethodName)) ∈ lw_all := lw_g (lw_at lw_m10 181 rfl) rfl
theorem q2456 : (Jvm.Cond.methodLink "CameraMovesLaw" (247 : Nat) ({ cls := "CameraMovesModel", name := "fastest", desc := "(I)I" } : Jvm.MethodName)) ∈ lw_all := lw_g (lw_at lw_m10 189 rfl) rfl
theorem q2460 : (Jvm.Cond.methodLink "CameraMovesLaw" (251 : Nat) ({ cls := "CameraMovesModel", name := "meanSpeed", desc := "(I)D" } : Jvm.MethodName)) ∈ lw_all := lw_g (lw_at lw_m10 193 rfl) rfl
theorem q2464 : (Jvm.Cond.methodLink "CameraMovesLaw" (254 : Nat) ({ cls := "CameraMovesModel", name := "walls", desc := "(I)I" } : Jvm.MethodName)) ∈ lw_all := lw_g (lw_at lw_m10 197 rfl) rfl
theorem q2480 : (Jvm.Cond.methodLink "CameraMovesLaw" (258 : Nat) ({ cls := "CameraMovesModel", name := "firstHit", desc := "()I" } : Jvm.MethodName)) ∈ lw_all := lw_g (lw_at lw_m10 213 rfl) rfl
theorem q2484 : (Jvm.Cond.methodLink "CameraMovesLaw" (261 : Nat) ({ cls := "CameraMovesModel", name := "framesInside", desc := "(I)I" } : Jvm.MethodName)) ∈ lw_all := lw_g (lw_at lw_m10 217 rfl) rfl
theorem q2492 : (Jvm.Cond.methodLink "CameraMovesLaw" (264 : Nat) ({ cls := "CameraMovesModel", name := "shown", desc := "(II)I" } : Jvm.MethodName)) ∈ lw_all := lw_g (lw_at lw_m10 225 rfl) rfl
theorem q2507 : (Jvm.Cond.methodLink "CameraMovesLaw" (268 : Nat) ({ cls := "CameraMovesModel", name := "passPosition", desc := "(III)I" } : Jvm.MethodName)) ∈ lw_all := lw_g (lw_at lw_m11 0 rfl) rfl
theorem q2511 : (Jvm.Cond.methodLink "CameraMovesLaw" (271 : Nat) ({ cls := "CameraMovesModel", name := "fits", desc := "(I)Z" } : Jvm.MethodName)) ∈ lw_all := lw_g (lw_at lw_m11 4 rfl) rfl
theorem q2519 : (Jvm.Cond.methodLink "CameraMovesLaw" (274 : Nat) ({ cls := "CameraMovesModel", name := "matches", desc := "(II)I" } : Jvm.MethodName)) ∈ lw_all := lw_g (lw_at lw_m11 12 rfl) rfl
theorem q2527 : (Jvm.Cond.methodLink "CameraMovesLaw" (277 : Nat) ({ cls := "CameraMovesModel", name := "mismatch", desc := "(II)I" } : Jvm.MethodName)) ∈ lw_all := lw_g (lw_at lw_m11 20 rfl) rfl
theorem q2531 : (Jvm.Cond.methodLink "CameraMovesLaw" (280 : Nat) ({ cls := "CameraMovesModel", name := "fittingDen", desc := "(I)I" } : Jvm.MethodName)) ∈ lw_all := lw_g (lw_at lw_m11 24 rfl) rfl
theorem q2535 : (Jvm.Cond.methodLink "CameraMovesLaw" (283 : Nat) ({ cls := "CameraMovesModel", name := "earliest", desc := "(I)I" } : Jvm.MethodName)) ∈ lw_all := lw_g (lw_at lw_m11 28 rfl) rfl
theorem q2555 : (Jvm.Cond.methodLink "CameraMovesLaw" (286 : Nat) ({ cls := "CameraMovesModel", name := "hitsIf", desc := "(II)I" } : Jvm.MethodName)) ∈ lw_all := lw_g (lw_at lw_m11 48 rfl) rfl
theorem q2559 : (Jvm.Cond.methodLink "CameraMovesLaw" (289 : Nat) ({ cls := "CameraMovesModel", name := "mostSaved", desc := "(I)I" } : Jvm.MethodName)) ∈ lw_all := lw_g (lw_at lw_m11 52 rfl) rfl
theorem q2571 : (Jvm.Cond.methodLink "CameraMovesLaw" (323 : Nat) ({ cls := "CameraMovesModel", name := "undo", desc := "()I" } : Jvm.MethodName)) ∈ lw_all := lw_g (lw_at lw_m11 64 rfl) rfl
theorem q2579 : (Jvm.Cond.methodLink "CameraMovesLaw" (292 : Nat) ({ cls := "CameraMovesModel", name := "addCue", desc := "(IIII)I" } : Jvm.MethodName)) ∈ lw_all := lw_g (lw_at lw_m11 72 rfl) rfl
theorem q2587 : (Jvm.Cond.methodLink "CameraMovesLaw" (295 : Nat) ({ cls := "CameraMovesModel", name := "setTarget", desc := "(III)I" } : Jvm.MethodName)) ∈ lw_all := lw_g (lw_at lw_m11 80 rfl) rfl
theorem q2595 : (Jvm.Cond.methodLink "CameraMovesLaw" (298 : Nat) ({ cls := "CameraMovesModel", name := "removeTarget", desc := "(II)I" } : Jvm.MethodName)) ∈ lw_all := lw_g (lw_at lw_m11 88 rfl) rfl
theorem q2599 : (Jvm.Cond.methodLink "CameraMovesLaw" (301 : Nat) ({ cls := "CameraMovesModel", name := "removeCue", desc := "(I)I" } : Jvm.MethodName)) ∈ lw_all := lw_g (lw_at lw_m11 92 rfl) rfl
theorem q2603 : (Jvm.Cond.methodLink "CameraMovesLaw" (304 : Nat) ({ cls := "CameraMovesModel", name := "moveCue", desc := "(II)I" } : Jvm.MethodName)) ∈ lw_all := lw_g (lw_at lw_m11 96 rfl) rfl
theorem q2611 : (Jvm.Cond.methodLink "CameraMovesLaw" (307 : Nat) ({ cls := "CameraMovesModel", name := "setLength", desc := "(II)I" } : Jvm.MethodName)) ∈ lw_all := lw_g (lw_at lw_m11 104 rfl) rfl
theorem q2615 : (Jvm.Cond.methodLink "CameraMovesLaw" (310 : Nat) ({ cls := "CameraMovesModel", name := "fit", desc := "(I)I" } : Jvm.MethodName)) ∈ lw_all := lw_g (lw_at lw_m11 108 rfl) rfl
theorem q2619 : (Jvm.Cond.methodLink "CameraMovesLaw" (313 : Nat) ({ cls := "CameraMovesModel", name := "setLimits", desc := "(III)I" } : Jvm.MethodName)) ∈ lw_all := lw_g (lw_at lw_m11 112 rfl) rfl
theorem q2623 : (Jvm.Cond.methodLink "CameraMovesLaw" (317 : Nat) ({ cls := "CameraMovesModel", name := "addWall", desc := "(IIIIII)I" } : Jvm.MethodName)) ∈ lw_all := lw_g (lw_at lw_m11 116 rfl) rfl
theorem q2627 : (Jvm.Cond.methodLink "CameraMovesLaw" (320 : Nat) ({ cls := "CameraMovesModel", name := "removeWall", desc := "(I)I" } : Jvm.MethodName)) ∈ lw_all := lw_g (lw_at lw_m11 120 rfl) rfl
theorem q2631 : (Jvm.Cond.methodLink "CameraMovesLaw" (326 : Nat) ({ cls := "CameraMovesModel", name := "format", desc := "(I)I" } : Jvm.MethodName)) ∈ lw_all := lw_g (lw_at lw_m11 124 rfl) rfl
theorem q2648 : (Jvm.Cond.methodLink "CameraMovesLaw" (329 : Nat) ({ cls := "CameraMovesModel", name := "formattedCharacter", desc := "(I)C" } : Jvm.MethodName)) ∈ lw_all := lw_g (lw_at lw_m11 141 rfl) rfl
