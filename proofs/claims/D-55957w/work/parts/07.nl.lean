/-! the law's own entry -/
set_option maxRecDepth 100000
abbrev cL_law : ByteArray := code
def dkwL_law_133 : List UInt8 := [153, 0, 5, 3, 172, 167, 0, 3, 132, 4, 5, 167, 243, 1, 4, 172]
abbrev dktL_law_133 : List UInt8 := dkwL_law_133 ++ []
def dkwL_law_132 : List UInt8 := [182, 0, 182, 21, 5, 159, 0, 5, 3, 172, 21, 5, 154, 0, 15, 45, 3, 47, 21, 6, 133, 148]
abbrev dktL_law_132 : List UInt8 := dkwL_law_132 ++ dktL_law_133
def dkwL_law_131 : List UInt8 := [182, 1, 135, 159, 0, 49, 3, 172, 43, 45, 184, 1, 136, 54, 5, 44, 182, 1, 138, 54, 6, 44]
abbrev dktL_law_131 : List UInt8 := dkwL_law_131 ++ dktL_law_132
def dkwL_law_130 : List UInt8 := [154, 0, 15, 45, 3, 47, 21, 6, 133, 148, 153, 0, 5, 3, 172, 167, 0, 60, 43, 182, 1, 132, 44]
abbrev dktL_law_130 : List UInt8 := dkwL_law_130 ++ dktL_law_131
def dkwL_law_129 : List UInt8 := [184, 1, 129, 54, 5, 44, 182, 1, 131, 54, 6, 44, 182, 0, 182, 21, 5, 159, 0, 5, 3, 172, 21, 5]
abbrev dktL_law_129 : List UInt8 := dkwL_law_129 ++ dktL_law_130
def dkwL_law_128 : List UInt8 := [153, 0, 5, 3, 172, 167, 0, 117, 43, 182, 1, 125, 44, 182, 1, 128, 159, 0, 106, 3, 172, 43, 45]
abbrev dktL_law_128 : List UInt8 := dkwL_law_128 ++ dktL_law_129
def dkwL_law_127 : List UInt8 := [182, 0, 182, 21, 5, 159, 0, 5, 3, 172, 21, 5, 154, 0, 15, 45, 3, 47, 21, 6, 133, 148]
abbrev dktL_law_127 : List UInt8 := dkwL_law_127 ++ dktL_law_128
def dkwL_law_126 : List UInt8 := [153, 0, 5, 3, 172, 167, 0, 161, 43, 45, 184, 1, 122, 54, 5, 44, 182, 1, 124, 54, 6, 44]
abbrev dktL_law_126 : List UInt8 := dkwL_law_126 ++ dktL_law_127
def dkwL_law_125 : List UInt8 := [182, 0, 182, 21, 5, 159, 0, 5, 3, 172, 21, 5, 154, 0, 15, 45, 3, 47, 21, 6, 133, 148]
abbrev dktL_law_125 : List UInt8 := dkwL_law_125 ++ dktL_law_126
def dkwL_law_124 : List UInt8 := [153, 0, 5, 3, 172, 167, 0, 205, 43, 45, 184, 1, 119, 54, 5, 44, 182, 1, 121, 54, 6, 44]
abbrev dktL_law_124 : List UInt8 := dkwL_law_124 ++ dktL_law_125
def dkwL_law_123 : List UInt8 := [182, 0, 182, 21, 5, 159, 0, 5, 3, 172, 21, 5, 154, 0, 15, 45, 3, 47, 21, 6, 133, 148]
abbrev dktL_law_123 : List UInt8 := dkwL_law_123 ++ dktL_law_124
def dkwL_law_122 : List UInt8 := [153, 0, 5, 3, 172, 167, 0, 249, 43, 45, 184, 1, 116, 54, 5, 44, 182, 1, 118, 54, 6, 44]
abbrev dktL_law_122 : List UInt8 := dkwL_law_122 ++ dktL_law_123
def dkwL_law_121 : List UInt8 := [182, 0, 182, 21, 5, 159, 0, 5, 3, 172, 21, 5, 154, 0, 15, 45, 3, 47, 21, 6, 133, 148]
abbrev dktL_law_121 : List UInt8 := dkwL_law_121 ++ dktL_law_122
def dkwL_law_120 : List UInt8 := [46, 146, 45, 184, 1, 112, 54, 5, 44, 42, 21, 4, 4, 96, 46, 146, 182, 1, 115, 54, 6, 44]
abbrev dktL_law_120 : List UInt8 := dkwL_law_120 ++ dktL_law_121
def dkwL_law_119 : List UInt8 := [154, 0, 15, 45, 3, 47, 21, 6, 133, 148, 153, 0, 5, 3, 172, 167, 1, 51, 43, 42, 21, 4, 4, 96]
abbrev dktL_law_119 : List UInt8 := dkwL_law_119 ++ dktL_law_120
def dkwL_law_118 : List UInt8 := [21, 4, 4, 96, 46, 182, 1, 111, 54, 6, 44, 182, 0, 182, 21, 5, 159, 0, 5, 3, 172, 21, 5]
abbrev dktL_law_118 : List UInt8 := dkwL_law_118 ++ dktL_law_119
def dkwL_law_117 : List UInt8 := [153, 0, 5, 3, 172, 167, 1, 107, 43, 42, 21, 4, 4, 96, 46, 45, 184, 1, 109, 54, 5, 44, 42]
abbrev dktL_law_117 : List UInt8 := dkwL_law_117 ++ dktL_law_118
def dkwL_law_116 : List UInt8 := [182, 0, 182, 21, 5, 159, 0, 5, 3, 172, 21, 5, 154, 0, 15, 45, 3, 47, 21, 6, 133, 148]
abbrev dktL_law_116 : List UInt8 := dkwL_law_116 ++ dktL_law_117
def dkwL_law_115 : List UInt8 := [21, 4, 4, 96, 46, 45, 184, 1, 106, 54, 5, 44, 42, 21, 4, 4, 96, 46, 182, 1, 108, 54, 6, 44]
abbrev dktL_law_115 : List UInt8 := dkwL_law_115 ++ dktL_law_116
def dkwL_law_114 : List UInt8 := [182, 1, 101, 148, 153, 1, 178, 3, 172, 43, 182, 1, 102, 44, 182, 1, 105, 159, 1, 165, 3, 172, 43, 42]
abbrev dktL_law_114 : List UInt8 := dkwL_law_114 ++ dktL_law_115
def dkwL_law_113 : List UInt8 := [153, 1, 206, 3, 172, 43, 182, 1, 94, 44, 182, 1, 97, 148, 153, 1, 192, 3, 172, 43, 182, 1, 98, 44]
abbrev dktL_law_113 : List UInt8 := dkwL_law_113 ++ dktL_law_114
def dkwL_law_112 : List UInt8 := [172, 43, 182, 1, 85, 44, 182, 1, 88, 159, 1, 220, 3, 172, 43, 182, 1, 89, 44, 182, 1, 93, 148]
abbrev dktL_law_112 : List UInt8 := dkwL_law_112 ++ dktL_law_113
def dkwL_law_111 : List UInt8 := [182, 1, 77, 44, 182, 1, 80, 159, 1, 246, 3, 172, 43, 182, 1, 81, 44, 182, 1, 84, 159, 1, 233, 3]
abbrev dktL_law_111 : List UInt8 := dkwL_law_111 ++ dktL_law_112
def dkwL_law_110 : List UInt8 := [172, 21, 5, 154, 0, 15, 45, 3, 47, 21, 6, 133, 148, 153, 0, 5, 3, 172, 167, 2, 1, 43]
abbrev dktL_law_110 : List UInt8 := dkwL_law_110 ++ dktL_law_111
def dkwL_law_109 : List UInt8 := [54, 5, 44, 42, 21, 4, 4, 96, 46, 182, 1, 76, 54, 6, 44, 182, 0, 182, 21, 5, 159, 0, 5, 3]
abbrev dktL_law_109 : List UInt8 := dkwL_law_109 ++ dktL_law_110
def dkwL_law_108 : List UInt8 := [167, 0, 4, 9, 148, 153, 0, 5, 3, 172, 167, 2, 57, 43, 42, 21, 4, 4, 96, 46, 45, 184, 1, 74]
abbrev dktL_law_108 : List UInt8 := dkwL_law_108 ++ dktL_law_109
def dkwL_law_107 : List UInt8 := [182, 0, 182, 21, 5, 159, 0, 5, 3, 172, 21, 5, 154, 0, 22, 45, 3, 47, 21, 6, 153, 0, 7, 10]
abbrev dktL_law_107 : List UInt8 := dkwL_law_107 ++ dktL_law_108
def dkwL_law_106 : List UInt8 := [184, 1, 71, 54, 5, 44, 42, 21, 4, 4, 96, 46, 42, 21, 4, 5, 96, 46, 182, 1, 73, 54, 6, 44]
abbrev dktL_law_106 : List UInt8 := dkwL_law_106 ++ dktL_law_107
def dkwL_law_105 : List UInt8 := [153, 0, 5, 3, 172, 167, 2, 132, 43, 42, 21, 4, 4, 96, 46, 42, 21, 4, 5, 96, 46, 45]
abbrev dktL_law_105 : List UInt8 := dkwL_law_105 ++ dktL_law_106
def dkwL_law_104 : List UInt8 := [159, 0, 5, 3, 172, 21, 5, 154, 0, 22, 45, 3, 47, 21, 6, 153, 0, 7, 10, 167, 0, 4, 9, 148]
abbrev dktL_law_104 : List UInt8 := dkwL_law_104 ++ dktL_law_105
def dkwL_law_103 : List UInt8 := [21, 4, 4, 96, 46, 42, 21, 4, 5, 96, 46, 182, 1, 70, 54, 6, 44, 182, 0, 182, 21, 5]
abbrev dktL_law_103 : List UInt8 := dkwL_law_103 ++ dktL_law_104
def dkwL_law_102 : List UInt8 := [167, 2, 207, 43, 42, 21, 4, 4, 96, 46, 42, 21, 4, 5, 96, 46, 45, 184, 1, 68, 54, 5, 44, 42]
abbrev dktL_law_102 : List UInt8 := dkwL_law_102 ++ dktL_law_103
def dkwL_law_101 : List UInt8 := [159, 0, 5, 3, 172, 21, 5, 154, 0, 15, 45, 3, 47, 21, 6, 133, 148, 153, 0, 5, 3, 172]
abbrev dktL_law_101 : List UInt8 := dkwL_law_101 ++ dktL_law_102
def dkwL_law_100 : List UInt8 := [21, 4, 4, 96, 46, 42, 21, 4, 5, 96, 46, 182, 1, 67, 54, 6, 44, 182, 0, 182, 21, 5]
abbrev dktL_law_100 : List UInt8 := dkwL_law_100 ++ dktL_law_101
def dkwL_law_99 : List UInt8 := [167, 3, 19, 43, 42, 21, 4, 4, 96, 46, 42, 21, 4, 5, 96, 46, 45, 184, 1, 65, 54, 5, 44, 42]
abbrev dktL_law_99 : List UInt8 := dkwL_law_99 ++ dktL_law_100
def dkwL_law_98 : List UInt8 := [21, 5, 159, 0, 5, 3, 172, 21, 5, 154, 0, 15, 45, 3, 47, 21, 6, 133, 148, 153, 0, 5, 3, 172]
abbrev dktL_law_98 : List UInt8 := dkwL_law_98 ++ dktL_law_99
def dkwL_law_97 : List UInt8 := [46, 45, 184, 1, 62, 54, 5, 44, 42, 21, 4, 4, 96, 46, 182, 1, 64, 54, 6, 44, 182, 0, 182]
abbrev dktL_law_97 : List UInt8 := dkwL_law_97 ++ dktL_law_98
def dkwL_law_96 : List UInt8 := [154, 0, 15, 45, 3, 47, 21, 6, 133, 148, 153, 0, 5, 3, 172, 167, 3, 75, 43, 42, 21, 4, 4, 96]
abbrev dktL_law_96 : List UInt8 := dkwL_law_96 ++ dktL_law_97
def dkwL_law_95 : List UInt8 := [21, 4, 4, 96, 46, 182, 1, 61, 54, 6, 44, 182, 0, 182, 21, 5, 159, 0, 5, 3, 172, 21, 5]
abbrev dktL_law_95 : List UInt8 := dkwL_law_95 ++ dktL_law_96
def dkwL_law_94 : List UInt8 := [153, 0, 5, 3, 172, 167, 3, 131, 43, 42, 21, 4, 4, 96, 46, 45, 184, 1, 59, 54, 5, 44, 42]
abbrev dktL_law_94 : List UInt8 := dkwL_law_94 ++ dktL_law_95
def dkwL_law_93 : List UInt8 := [182, 0, 182, 21, 5, 159, 0, 5, 3, 172, 21, 5, 154, 0, 15, 45, 3, 47, 21, 6, 133, 148]
abbrev dktL_law_93 : List UInt8 := dkwL_law_93 ++ dktL_law_94
def dkwL_law_92 : List UInt8 := [21, 4, 4, 96, 46, 45, 184, 1, 56, 54, 5, 44, 42, 21, 4, 4, 96, 46, 182, 1, 58, 54, 6, 44]
abbrev dktL_law_92 : List UInt8 := dkwL_law_92 ++ dktL_law_93
def dkwL_law_91 : List UInt8 := [172, 21, 5, 154, 0, 15, 45, 3, 47, 21, 6, 133, 148, 153, 0, 5, 3, 172, 167, 3, 187, 43, 42]
abbrev dktL_law_91 : List UInt8 := dkwL_law_91 ++ dktL_law_92
def dkwL_law_90 : List UInt8 := [54, 5, 44, 42, 21, 4, 4, 96, 46, 182, 1, 55, 54, 6, 44, 182, 0, 182, 21, 5, 159, 0, 5, 3]
abbrev dktL_law_90 : List UInt8 := dkwL_law_90 ++ dktL_law_91
def dkwL_law_89 : List UInt8 := [182, 1, 48, 44, 182, 1, 52, 159, 3, 245, 3, 172, 43, 42, 21, 4, 4, 96, 46, 45, 184, 1, 53]
abbrev dktL_law_89 : List UInt8 := dkwL_law_89 ++ dktL_law_90
def dkwL_law_88 : List UInt8 := [172, 21, 5, 154, 0, 15, 45, 3, 47, 21, 6, 133, 148, 153, 0, 5, 3, 172, 167, 4, 0, 43]
abbrev dktL_law_88 : List UInt8 := dkwL_law_88 ++ dktL_law_89
def dkwL_law_87 : List UInt8 := [54, 5, 44, 42, 21, 4, 4, 96, 46, 182, 1, 47, 54, 6, 44, 182, 0, 182, 21, 5, 159, 0, 5, 3]
abbrev dktL_law_87 : List UInt8 := dkwL_law_87 ++ dktL_law_88
def dkwL_law_86 : List UInt8 := [21, 6, 133, 148, 153, 0, 5, 3, 172, 167, 4, 56, 43, 42, 21, 4, 4, 96, 46, 45, 184, 1, 45]
abbrev dktL_law_86 : List UInt8 := dkwL_law_86 ++ dktL_law_87
def dkwL_law_85 : List UInt8 := [182, 1, 44, 54, 6, 44, 182, 0, 182, 21, 5, 159, 0, 5, 3, 172, 21, 5, 154, 0, 15, 45, 3, 47]
abbrev dktL_law_85 : List UInt8 := dkwL_law_85 ++ dktL_law_86
def dkwL_law_84 : List UInt8 := [5, 96, 46, 45, 184, 1, 42, 54, 5, 44, 42, 21, 4, 4, 96, 46, 42, 21, 4, 5, 96, 46]
abbrev dktL_law_84 : List UInt8 := dkwL_law_84 ++ dktL_law_85
def dkwL_law_83 : List UInt8 := [3, 47, 21, 6, 133, 148, 153, 0, 5, 3, 172, 167, 4, 124, 43, 42, 21, 4, 4, 96, 46, 42, 21, 4]
abbrev dktL_law_83 : List UInt8 := dkwL_law_83 ++ dktL_law_84
def dkwL_law_82 : List UInt8 := [96, 46, 182, 1, 41, 54, 6, 44, 182, 0, 182, 21, 5, 159, 0, 5, 3, 172, 21, 5, 154, 0, 15, 45]
abbrev dktL_law_82 : List UInt8 := dkwL_law_82 ++ dktL_law_83
def dkwL_law_81 : List UInt8 := [46, 42, 21, 4, 5, 96, 46, 45, 184, 1, 39, 54, 5, 44, 42, 21, 4, 4, 96, 46, 42, 21, 4, 5]
abbrev dktL_law_81 : List UInt8 := dkwL_law_81 ++ dktL_law_82
def dkwL_law_80 : List UInt8 := [154, 0, 15, 45, 3, 47, 21, 6, 133, 148, 153, 0, 5, 3, 172, 167, 4, 192, 43, 42, 21, 4, 4, 96]
abbrev dktL_law_80 : List UInt8 := dkwL_law_80 ++ dktL_law_81
def dkwL_law_79 : List UInt8 := [42, 21, 4, 5, 96, 46, 182, 1, 38, 54, 6, 44, 182, 0, 182, 21, 5, 159, 0, 5, 3, 172, 21, 5]
abbrev dktL_law_79 : List UInt8 := dkwL_law_79 ++ dktL_law_80
def dkwL_law_78 : List UInt8 := [21, 4, 4, 96, 46, 42, 21, 4, 5, 96, 46, 45, 184, 1, 36, 54, 5, 44, 42, 21, 4, 4, 96, 46]
abbrev dktL_law_78 : List UInt8 := dkwL_law_78 ++ dktL_law_79
def dkwL_law_77 : List UInt8 := [3, 47, 21, 6, 153, 0, 7, 10, 167, 0, 4, 9, 148, 153, 0, 5, 3, 172, 167, 5, 4, 43, 42]
abbrev dktL_law_77 : List UInt8 := dkwL_law_77 ++ dktL_law_78
def dkwL_law_76 : List UInt8 := [96, 46, 182, 1, 35, 54, 6, 44, 182, 0, 182, 21, 5, 159, 0, 5, 3, 172, 21, 5, 154, 0, 22, 45]
abbrev dktL_law_76 : List UInt8 := dkwL_law_76 ++ dktL_law_77
def dkwL_law_75 : List UInt8 := [46, 42, 21, 4, 5, 96, 46, 45, 184, 1, 33, 54, 5, 44, 42, 21, 4, 4, 96, 46, 42, 21, 4, 5]
abbrev dktL_law_75 : List UInt8 := dkwL_law_75 ++ dktL_law_76
def dkwL_law_74 : List UInt8 := [154, 0, 15, 45, 3, 47, 21, 6, 133, 148, 153, 0, 5, 3, 172, 167, 5, 79, 43, 42, 21, 4, 4, 96]
abbrev dktL_law_74 : List UInt8 := dkwL_law_74 ++ dktL_law_75
def dkwL_law_73 : List UInt8 := [21, 4, 4, 96, 46, 182, 1, 32, 54, 6, 44, 182, 0, 182, 21, 5, 159, 0, 5, 3, 172, 21, 5]
abbrev dktL_law_73 : List UInt8 := dkwL_law_73 ++ dktL_law_74
def dkwL_law_72 : List UInt8 := [148, 153, 0, 5, 3, 172, 167, 5, 135, 43, 42, 21, 4, 4, 96, 46, 45, 184, 1, 30, 54, 5, 44, 42]
abbrev dktL_law_72 : List UInt8 := dkwL_law_72 ++ dktL_law_73
def dkwL_law_71 : List UInt8 := [54, 6, 44, 182, 0, 182, 21, 5, 159, 0, 5, 3, 172, 21, 5, 154, 0, 15, 45, 3, 47, 21, 6, 133]
abbrev dktL_law_71 : List UInt8 := dkwL_law_71 ++ dktL_law_72
def dkwL_law_70 : List UInt8 := [21, 6, 133, 148, 153, 0, 5, 3, 172, 167, 5, 179, 43, 45, 184, 1, 27, 54, 5, 44, 182, 1, 29]
abbrev dktL_law_70 : List UInt8 := dkwL_law_70 ++ dktL_law_71
def dkwL_law_69 : List UInt8 := [182, 1, 26, 54, 6, 44, 182, 0, 182, 21, 5, 159, 0, 5, 3, 172, 21, 5, 154, 0, 15, 45, 3, 47]
abbrev dktL_law_69 : List UInt8 := dkwL_law_69 ++ dktL_law_70
def dkwL_law_68 : List UInt8 := [45, 3, 47, 21, 6, 133, 148, 153, 0, 5, 3, 172, 167, 5, 223, 43, 45, 184, 1, 24, 54, 5, 44]
abbrev dktL_law_68 : List UInt8 := dkwL_law_68 ++ dktL_law_69
def dkwL_law_67 : List UInt8 := [54, 5, 44, 182, 1, 23, 54, 6, 44, 182, 0, 182, 21, 5, 159, 0, 5, 3, 172, 21, 5, 154, 0, 15]
abbrev dktL_law_67 : List UInt8 := dkwL_law_67 ++ dktL_law_68
def dkwL_law_66 : List UInt8 := [154, 0, 15, 45, 3, 47, 21, 6, 133, 148, 153, 0, 5, 3, 172, 167, 6, 11, 43, 45, 184, 1, 21]
abbrev dktL_law_66 : List UInt8 := dkwL_law_66 ++ dktL_law_67
def dkwL_law_65 : List UInt8 := [184, 1, 17, 54, 5, 44, 182, 1, 20, 54, 6, 44, 182, 0, 182, 21, 5, 159, 0, 5, 3, 172, 21, 5]
abbrev dktL_law_65 : List UInt8 := dkwL_law_65 ++ dktL_law_66
def dkwL_law_64 : List UInt8 := [172, 21, 5, 154, 0, 15, 45, 3, 47, 21, 6, 133, 148, 153, 0, 5, 3, 172, 167, 6, 55, 43, 45]
abbrev dktL_law_64 : List UInt8 := dkwL_law_64 ++ dktL_law_65
def dkwL_law_63 : List UInt8 := [54, 5, 44, 42, 21, 4, 4, 96, 46, 182, 1, 16, 54, 6, 44, 182, 0, 182, 21, 5, 159, 0, 5, 3]
abbrev dktL_law_63 : List UInt8 := dkwL_law_63 ++ dktL_law_64
def dkwL_law_62 : List UInt8 := [21, 6, 133, 148, 153, 0, 5, 3, 172, 167, 6, 111, 43, 42, 21, 4, 4, 96, 46, 45, 184, 1, 14]
abbrev dktL_law_62 : List UInt8 := dkwL_law_62 ++ dktL_law_63
def dkwL_law_61 : List UInt8 := [182, 1, 13, 54, 6, 44, 182, 0, 182, 21, 5, 159, 0, 5, 3, 172, 21, 5, 154, 0, 15, 45, 3, 47]
abbrev dktL_law_61 : List UInt8 := dkwL_law_61 ++ dktL_law_62
def dkwL_law_60 : List UInt8 := [167, 6, 167, 43, 42, 21, 4, 4, 96, 46, 45, 184, 1, 11, 54, 5, 44, 42, 21, 4, 4, 96, 46]
abbrev dktL_law_60 : List UInt8 := dkwL_law_60 ++ dktL_law_61
def dkwL_law_59 : List UInt8 := [21, 5, 159, 0, 5, 3, 172, 21, 5, 154, 0, 15, 45, 3, 47, 21, 6, 133, 148, 153, 0, 5, 3, 172]
abbrev dktL_law_59 : List UInt8 := dkwL_law_59 ++ dktL_law_60
def dkwL_law_58 : List UInt8 := [46, 45, 184, 1, 8, 54, 5, 44, 42, 21, 4, 4, 96, 46, 182, 1, 10, 54, 6, 44, 182, 0, 182]
abbrev dktL_law_58 : List UInt8 := dkwL_law_58 ++ dktL_law_59
def dkwL_law_57 : List UInt8 := [154, 0, 15, 45, 3, 47, 21, 6, 133, 148, 153, 0, 5, 3, 172, 167, 6, 223, 43, 42, 21, 4, 4, 96]
abbrev dktL_law_57 : List UInt8 := dkwL_law_57 ++ dktL_law_58
def dkwL_law_56 : List UInt8 := [21, 4, 4, 96, 46, 182, 1, 7, 54, 6, 44, 182, 0, 182, 21, 5, 159, 0, 5, 3, 172, 21, 5]
abbrev dktL_law_56 : List UInt8 := dkwL_law_56 ++ dktL_law_57
def dkwL_law_55 : List UInt8 := [153, 0, 5, 3, 172, 167, 7, 23, 43, 42, 21, 4, 4, 96, 46, 45, 184, 1, 5, 54, 5, 44, 42]
abbrev dktL_law_55 : List UInt8 := dkwL_law_55 ++ dktL_law_56
def dkwL_law_54 : List UInt8 := [182, 0, 182, 21, 5, 159, 0, 5, 3, 172, 21, 5, 154, 0, 15, 45, 3, 47, 21, 6, 133, 148]
abbrev dktL_law_54 : List UInt8 := dkwL_law_54 ++ dktL_law_55
def dkwL_law_53 : List UInt8 := [21, 4, 4, 96, 46, 45, 184, 1, 2, 54, 5, 44, 42, 21, 4, 4, 96, 46, 182, 1, 4, 54, 6, 44]
abbrev dktL_law_53 : List UInt8 := dkwL_law_53 ++ dktL_law_54
def dkwL_law_52 : List UInt8 := [172, 21, 5, 154, 0, 15, 45, 3, 47, 21, 6, 133, 148, 153, 0, 5, 3, 172, 167, 7, 79, 43, 42]
abbrev dktL_law_52 : List UInt8 := dkwL_law_52 ++ dktL_law_53
def dkwL_law_51 : List UInt8 := [54, 5, 44, 42, 21, 4, 4, 96, 46, 182, 1, 1, 54, 6, 44, 182, 0, 182, 21, 5, 159, 0, 5, 3]
abbrev dktL_law_51 : List UInt8 := dkwL_law_51 ++ dktL_law_52
def dkwL_law_50 : List UInt8 := [21, 6, 133, 148, 153, 0, 5, 3, 172, 167, 7, 135, 43, 42, 21, 4, 4, 96, 46, 45, 184, 0, 255]
abbrev dktL_law_50 : List UInt8 := dkwL_law_50 ++ dktL_law_51
def dkwL_law_49 : List UInt8 := [182, 0, 254, 54, 6, 44, 182, 0, 182, 21, 5, 159, 0, 5, 3, 172, 21, 5, 154, 0, 15, 45, 3, 47]
abbrev dktL_law_49 : List UInt8 := dkwL_law_49 ++ dktL_law_50
def dkwL_law_48 : List UInt8 := [172, 167, 7, 191, 43, 42, 21, 4, 4, 96, 46, 45, 184, 0, 252, 54, 5, 44, 42, 21, 4, 4, 96, 46]
abbrev dktL_law_48 : List UInt8 := dkwL_law_48 ++ dktL_law_49
def dkwL_law_47 : List UInt8 := [172, 21, 5, 154, 0, 22, 45, 3, 47, 21, 6, 153, 0, 7, 10, 167, 0, 4, 9, 148, 153, 0, 5, 3]
abbrev dktL_law_47 : List UInt8 := dkwL_law_47 ++ dktL_law_48
def dkwL_law_46 : List UInt8 := [54, 5, 44, 42, 21, 4, 4, 96, 46, 182, 0, 251, 54, 6, 44, 182, 0, 182, 21, 5, 159, 0, 5, 3]
abbrev dktL_law_46 : List UInt8 := dkwL_law_46 ++ dktL_law_47
def dkwL_law_45 : List UInt8 := [167, 0, 4, 9, 148, 153, 0, 5, 3, 172, 167, 7, 254, 43, 42, 21, 4, 4, 96, 46, 45, 184, 0, 249]
abbrev dktL_law_45 : List UInt8 := dkwL_law_45 ++ dktL_law_46
def dkwL_law_44 : List UInt8 := [182, 0, 182, 21, 5, 159, 0, 5, 3, 172, 21, 5, 154, 0, 22, 45, 3, 47, 21, 6, 153, 0, 7, 10]
abbrev dktL_law_44 : List UInt8 := dkwL_law_44 ++ dktL_law_45
def dkwL_law_43 : List UInt8 := [21, 4, 4, 96, 46, 45, 184, 0, 246, 54, 5, 44, 42, 21, 4, 4, 96, 46, 182, 0, 248, 54, 6, 44]
abbrev dktL_law_43 : List UInt8 := dkwL_law_43 ++ dktL_law_44
def dkwL_law_42 : List UInt8 := [172, 21, 5, 154, 0, 15, 45, 3, 47, 21, 6, 133, 148, 153, 0, 5, 3, 172, 167, 8, 61, 43, 42]
abbrev dktL_law_42 : List UInt8 := dkwL_law_42 ++ dktL_law_43
def dkwL_law_41 : List UInt8 := [54, 5, 44, 42, 21, 4, 4, 96, 46, 182, 0, 245, 54, 6, 44, 182, 0, 182, 21, 5, 159, 0, 5, 3]
abbrev dktL_law_41 : List UInt8 := dkwL_law_41 ++ dktL_law_42
def dkwL_law_40 : List UInt8 := [21, 6, 133, 148, 153, 0, 5, 3, 172, 167, 8, 117, 43, 42, 21, 4, 4, 96, 46, 45, 184, 0, 243]
abbrev dktL_law_40 : List UInt8 := dkwL_law_40 ++ dktL_law_41
def dkwL_law_39 : List UInt8 := [182, 0, 242, 54, 6, 44, 182, 0, 182, 21, 5, 159, 0, 5, 3, 172, 21, 5, 154, 0, 15, 45, 3, 47]
abbrev dktL_law_39 : List UInt8 := dkwL_law_39 ++ dktL_law_40
def dkwL_law_38 : List UInt8 := [167, 8, 173, 43, 42, 21, 4, 4, 96, 46, 45, 184, 0, 240, 54, 5, 44, 42, 21, 4, 4, 96, 46]
abbrev dktL_law_38 : List UInt8 := dkwL_law_38 ++ dktL_law_39
def dkwL_law_37 : List UInt8 := [21, 5, 159, 0, 5, 3, 172, 21, 5, 154, 0, 15, 45, 3, 47, 21, 6, 133, 148, 153, 0, 5, 3, 172]
abbrev dktL_law_37 : List UInt8 := dkwL_law_37 ++ dktL_law_38
def dkwL_law_36 : List UInt8 := [46, 45, 184, 0, 237, 54, 5, 44, 42, 21, 4, 4, 96, 46, 182, 0, 239, 54, 6, 44, 182, 0, 182]
abbrev dktL_law_36 : List UInt8 := dkwL_law_36 ++ dktL_law_37
def dkwL_law_35 : List UInt8 := [154, 0, 15, 45, 3, 47, 21, 6, 133, 148, 153, 0, 5, 3, 172, 167, 8, 229, 43, 42, 21, 4, 4, 96]
abbrev dktL_law_35 : List UInt8 := dkwL_law_35 ++ dktL_law_36
def dkwL_law_34 : List UInt8 := [21, 4, 4, 96, 46, 182, 0, 236, 54, 6, 44, 182, 0, 182, 21, 5, 159, 0, 5, 3, 172, 21, 5]
abbrev dktL_law_34 : List UInt8 := dkwL_law_34 ++ dktL_law_35
def dkwL_law_33 : List UInt8 := [153, 0, 5, 3, 172, 167, 9, 29, 43, 42, 21, 4, 4, 96, 46, 45, 184, 0, 234, 54, 5, 44, 42]
abbrev dktL_law_33 : List UInt8 := dkwL_law_33 ++ dktL_law_34
def dkwL_law_32 : List UInt8 := [182, 0, 182, 21, 5, 159, 0, 5, 3, 172, 21, 5, 154, 0, 15, 45, 3, 47, 21, 6, 133, 148]
abbrev dktL_law_32 : List UInt8 := dkwL_law_32 ++ dktL_law_33
def dkwL_law_31 : List UInt8 := [21, 4, 4, 96, 46, 45, 184, 0, 231, 54, 5, 44, 42, 21, 4, 4, 96, 46, 182, 0, 233, 54, 6, 44]
abbrev dktL_law_31 : List UInt8 := dkwL_law_31 ++ dktL_law_32
def dkwL_law_30 : List UInt8 := [172, 21, 5, 154, 0, 15, 45, 3, 47, 21, 6, 133, 148, 153, 0, 5, 3, 172, 167, 9, 85, 43, 42]
abbrev dktL_law_30 : List UInt8 := dkwL_law_30 ++ dktL_law_31
def dkwL_law_29 : List UInt8 := [54, 5, 44, 42, 21, 4, 4, 96, 46, 182, 0, 230, 54, 6, 44, 182, 0, 182, 21, 5, 159, 0, 5, 3]
abbrev dktL_law_29 : List UInt8 := dkwL_law_29 ++ dktL_law_30
def dkwL_law_28 : List UInt8 := [21, 4, 4, 96, 46, 182, 0, 227, 159, 9, 143, 3, 172, 43, 42, 21, 4, 4, 96, 46, 45, 184, 0, 228]
abbrev dktL_law_28 : List UInt8 := dkwL_law_28 ++ dktL_law_29
def dkwL_law_27 : List UInt8 := [182, 0, 220, 44, 182, 0, 223, 159, 9, 168, 3, 172, 43, 42, 21, 4, 4, 96, 46, 182, 0, 224, 44, 42]
abbrev dktL_law_27 : List UInt8 := dkwL_law_27 ++ dktL_law_28
def dkwL_law_26 : List UInt8 := [172, 21, 5, 154, 0, 15, 45, 3, 47, 21, 6, 133, 148, 153, 0, 5, 3, 172, 167, 9, 179, 43]
abbrev dktL_law_26 : List UInt8 := dkwL_law_26 ++ dktL_law_27
def dkwL_law_25 : List UInt8 := [54, 5, 44, 42, 21, 4, 4, 96, 46, 182, 0, 219, 54, 6, 44, 182, 0, 182, 21, 5, 159, 0, 5, 3]
abbrev dktL_law_25 : List UInt8 := dkwL_law_25 ++ dktL_law_26
def dkwL_law_24 : List UInt8 := [182, 0, 213, 44, 182, 0, 216, 159, 9, 237, 3, 172, 43, 42, 21, 4, 4, 96, 46, 45, 184, 0, 217]
abbrev dktL_law_24 : List UInt8 := dkwL_law_24 ++ dktL_law_25
def dkwL_law_23 : List UInt8 := [148, 153, 0, 5, 3, 172, 167, 10, 5, 43, 182, 0, 209, 44, 182, 0, 212, 159, 9, 250, 3, 172, 43]
abbrev dktL_law_23 : List UInt8 := dkwL_law_23 ++ dktL_law_24
def dkwL_law_22 : List UInt8 := [54, 6, 44, 182, 0, 182, 21, 5, 159, 0, 5, 3, 172, 21, 5, 154, 0, 15, 45, 3, 47, 21, 6, 133]
abbrev dktL_law_22 : List UInt8 := dkwL_law_22 ++ dktL_law_23
def dkwL_law_21 : List UInt8 := [46, 45, 184, 0, 206, 54, 5, 44, 42, 21, 4, 4, 96, 46, 42, 21, 4, 5, 96, 46, 182, 0, 208]
abbrev dktL_law_21 : List UInt8 := dkwL_law_21 ++ dktL_law_22
def dkwL_law_20 : List UInt8 := [21, 6, 133, 148, 153, 0, 5, 3, 172, 167, 10, 73, 43, 42, 21, 4, 4, 96, 46, 42, 21, 4, 5, 96]
abbrev dktL_law_20 : List UInt8 := dkwL_law_20 ++ dktL_law_21
def dkwL_law_19 : List UInt8 := [182, 0, 205, 54, 6, 44, 182, 0, 182, 21, 5, 159, 0, 5, 3, 172, 21, 5, 154, 0, 15, 45, 3, 47]
abbrev dktL_law_19 : List UInt8 := dkwL_law_19 ++ dktL_law_20
def dkwL_law_18 : List UInt8 := [167, 10, 129, 43, 42, 21, 4, 4, 96, 46, 45, 184, 0, 203, 54, 5, 44, 42, 21, 4, 4, 96, 46]
abbrev dktL_law_18 : List UInt8 := dkwL_law_18 ++ dktL_law_19
def dkwL_law_17 : List UInt8 := [159, 0, 5, 3, 172, 21, 5, 154, 0, 15, 45, 3, 47, 21, 6, 133, 148, 153, 0, 5, 3, 172]
abbrev dktL_law_17 : List UInt8 := dkwL_law_17 ++ dktL_law_18
def dkwL_law_16 : List UInt8 := [184, 0, 200, 54, 5, 44, 42, 21, 4, 4, 96, 46, 182, 0, 202, 54, 6, 44, 182, 0, 182, 21, 5]
abbrev dktL_law_16 : List UInt8 := dkwL_law_16 ++ dktL_law_17
def dkwL_law_15 : List UInt8 := [167, 10, 198, 43, 182, 0, 196, 44, 182, 0, 199, 159, 10, 187, 3, 172, 43, 42, 21, 4, 4, 96, 46, 45]
abbrev dktL_law_15 : List UInt8 := dkwL_law_15 ++ dktL_law_16
def dkwL_law_14 : List UInt8 := [159, 0, 5, 3, 172, 21, 5, 154, 0, 15, 45, 3, 47, 21, 6, 133, 148, 153, 0, 5, 3, 172]
abbrev dktL_law_14 : List UInt8 := dkwL_law_14 ++ dktL_law_15
def dkwL_law_13 : List UInt8 := [184, 0, 192, 54, 5, 44, 42, 21, 4, 4, 96, 46, 182, 0, 195, 54, 6, 44, 182, 0, 182, 21, 5]
abbrev dktL_law_13 : List UInt8 := dkwL_law_13 ++ dktL_law_14
def dkwL_law_12 : List UInt8 := [3, 47, 21, 6, 133, 148, 153, 0, 5, 3, 172, 167, 10, 254, 43, 42, 21, 4, 4, 96, 46, 45]
abbrev dktL_law_12 : List UInt8 := dkwL_law_12 ++ dktL_law_13
def dkwL_law_11 : List UInt8 := [96, 46, 182, 0, 191, 54, 6, 44, 182, 0, 182, 21, 5, 159, 0, 5, 3, 172, 21, 5, 154, 0, 15, 45]
abbrev dktL_law_11 : List UInt8 := dkwL_law_11 ++ dktL_law_12
def dkwL_law_10 : List UInt8 := [46, 42, 21, 4, 5, 96, 46, 45, 184, 0, 189, 54, 5, 44, 42, 21, 4, 4, 96, 46, 42, 21, 4, 5]
abbrev dktL_law_10 : List UInt8 := dkwL_law_10 ++ dktL_law_11
def dkwL_law_9 : List UInt8 := [154, 0, 15, 45, 3, 47, 21, 6, 133, 148, 153, 0, 5, 3, 172, 167, 11, 66, 43, 42, 21, 4, 4, 96]
abbrev dktL_law_9 : List UInt8 := dkwL_law_9 ++ dktL_law_10
def dkwL_law_8 : List UInt8 := [21, 4, 5, 96, 46, 182, 0, 188, 54, 6, 44, 182, 0, 182, 21, 5, 159, 0, 5, 3, 172, 21, 5]
abbrev dktL_law_8 : List UInt8 := dkwL_law_8 ++ dktL_law_9
def dkwL_law_7 : List UInt8 := [4, 96, 46, 42, 21, 4, 5, 96, 46, 45, 184, 0, 185, 54, 5, 44, 42, 21, 4, 4, 96, 46, 42]
abbrev dktL_law_7 : List UInt8 := dkwL_law_7 ++ dktL_law_8
def dkwL_law_6 : List UInt8 := [21, 5, 154, 0, 15, 45, 3, 47, 21, 6, 133, 148, 153, 0, 5, 3, 172, 167, 11, 134, 43, 42, 21, 4]
abbrev dktL_law_6 : List UInt8 := dkwL_law_6 ++ dktL_law_7
def dkwL_law_5 : List UInt8 := [96, 46, 42, 21, 4, 7, 96, 46, 182, 0, 181, 54, 6, 44, 182, 0, 182, 21, 5, 159, 0, 5, 3, 172]
abbrev dktL_law_5 : List UInt8 := dkwL_law_5 ++ dktL_law_6
def dkwL_law_4 : List UInt8 := [46, 45, 184, 0, 176, 54, 5, 44, 42, 21, 4, 4, 96, 46, 42, 21, 4, 5, 96, 46, 42, 21, 4, 6]
abbrev dktL_law_4 : List UInt8 := dkwL_law_4 ++ dktL_law_5
def dkwL_law_3 : List UInt8 := [43, 42, 21, 4, 4, 96, 46, 42, 21, 4, 5, 96, 46, 42, 21, 4, 6, 96, 46, 42, 21, 4, 7, 96]
abbrev dktL_law_3 : List UInt8 := dkwL_law_3 ++ dktL_law_4
def dkwL_law_2 : List UInt8 := [170, 0, 0, 12, 236, 0, 0, 0, 0, 0, 0, 0, 63, 0, 0, 1, 13, 0, 0, 1, 105, 0, 0, 1, 173, 0, 0, 1, 241, 0, 0, 2, 41, 0, 0, 2, 54, 0, 0, 2, 110, 0, 0, 2, 166, 0, 0, 2, 234, 0, 0, 2, 247, 0, 0, 3, 4, 0, 0, 3, 60, 0, 0, 3, 73, 0, 0, 3, 98, 0, 0, 3, 154, 0, 0, 3, 210, 0, 0, 4, 10, 0, 0, 4, 66, 0, 0, 4, 122, 0, 0, 4, 178, 0, 0, 4, 241, 0, 0, 5, 48, 0, 0, 5, 104, 0, 0, 5, 160, 0, 0, 5, 216, 0, 0, 6, 16, 0, 0, 6, 72, 0, 0, 6, 128, 0, 0, 6, 184, 0, 0, 6, 228, 0, 0, 7, 16, 0, 0, 7, 60, 0, 0, 7, 104, 0, 0, 7, 160, 0, 0, 7, 235, 0, 0, 8, 47, 0, 0, 8, 115, 0, 0, 8, 183, 0, 0, 8, 239, 0, 0, 8, 252, 0, 0, 9, 52, 0, 0, 9, 108, 0, 0, 9, 164, 0, 0, 9, 220, 0, 0, 10, 32, 0, 0, 10, 107, 0, 0, 10, 182, 0, 0, 10, 238, 0, 0, 10, 251, 0, 0, 11, 8, 0, 0, 11, 21, 0, 0, 11, 35, 0, 0, 11, 49, 0, 0, 11, 63, 0, 0, 11, 76, 0, 0, 11, 132, 0, 0, 11, 188, 0, 0, 11, 246, 0, 0, 12, 34, 0, 0, 12, 78, 0, 0, 12, 122, 0, 0, 12, 135, 0, 0, 12, 179, 0, 0, 12, 192]
abbrev dktL_law_2 : List UInt8 := dkwL_law_2 ++ dktL_law_3
def dkwL_law_1 : List UInt8 := [21, 4, 42, 190, 8, 100, 163, 12, 252, 42, 21, 4, 46, 16, 63, 126]
abbrev dktL_law_1 : List UInt8 := dkwL_law_1 ++ dktL_law_2
def dkwL_law_0 : List UInt8 := [187, 0, 8, 89, 183, 0, 172, 76, 187, 0, 173, 89, 183, 0, 175, 77, 4, 188, 11, 78, 3, 54, 4]
abbrev dktL_law_0 : List UInt8 := dkwL_law_0 ++ dktL_law_1
theorem dksL_law_0 : cL_law.data.toList.drop 0 = dktL_law_0 := by decide +kernel
theorem dksL_law_1 : cL_law.data.toList.drop 23 = dktL_law_1 := dk_seg dksL_law_0 23 rfl rfl
theorem dksL_law_2 : cL_law.data.toList.drop 39 = dktL_law_2 := dk_seg dksL_law_1 16 rfl rfl
theorem dksL_law_3 : cL_law.data.toList.drop 308 = dktL_law_3 := dk_seg dksL_law_2 269 rfl rfl
theorem dksL_law_4 : cL_law.data.toList.drop 332 = dktL_law_4 := dk_seg dksL_law_3 24 rfl rfl
theorem dksL_law_5 : cL_law.data.toList.drop 356 = dktL_law_5 := dk_seg dksL_law_4 24 rfl rfl
theorem dksL_law_6 : cL_law.data.toList.drop 380 = dktL_law_6 := dk_seg dksL_law_5 24 rfl rfl
theorem dksL_law_7 : cL_law.data.toList.drop 404 = dktL_law_7 := dk_seg dksL_law_6 24 rfl rfl
theorem dksL_law_8 : cL_law.data.toList.drop 427 = dktL_law_8 := dk_seg dksL_law_7 23 rfl rfl
theorem dksL_law_9 : cL_law.data.toList.drop 450 = dktL_law_9 := dk_seg dksL_law_8 23 rfl rfl
theorem dksL_law_10 : cL_law.data.toList.drop 474 = dktL_law_10 := dk_seg dksL_law_9 24 rfl rfl
theorem dksL_law_11 : cL_law.data.toList.drop 498 = dktL_law_11 := dk_seg dksL_law_10 24 rfl rfl
theorem dksL_law_12 : cL_law.data.toList.drop 522 = dktL_law_12 := dk_seg dksL_law_11 24 rfl rfl
theorem dksL_law_13 : cL_law.data.toList.drop 544 = dktL_law_13 := dk_seg dksL_law_12 22 rfl rfl
theorem dksL_law_14 : cL_law.data.toList.drop 567 = dktL_law_14 := dk_seg dksL_law_13 23 rfl rfl
theorem dksL_law_15 : cL_law.data.toList.drop 589 = dktL_law_15 := dk_seg dksL_law_14 22 rfl rfl
theorem dksL_law_16 : cL_law.data.toList.drop 613 = dktL_law_16 := dk_seg dksL_law_15 24 rfl rfl
theorem dksL_law_17 : cL_law.data.toList.drop 636 = dktL_law_17 := dk_seg dksL_law_16 23 rfl rfl
theorem dksL_law_18 : cL_law.data.toList.drop 658 = dktL_law_18 := dk_seg dksL_law_17 22 rfl rfl
theorem dksL_law_19 : cL_law.data.toList.drop 681 = dktL_law_19 := dk_seg dksL_law_18 23 rfl rfl
theorem dksL_law_20 : cL_law.data.toList.drop 705 = dktL_law_20 := dk_seg dksL_law_19 24 rfl rfl
theorem dksL_law_21 : cL_law.data.toList.drop 729 = dktL_law_21 := dk_seg dksL_law_20 24 rfl rfl
theorem dksL_law_22 : cL_law.data.toList.drop 752 = dktL_law_22 := dk_seg dksL_law_21 23 rfl rfl
theorem dksL_law_23 : cL_law.data.toList.drop 776 = dktL_law_23 := dk_seg dksL_law_22 24 rfl rfl
theorem dksL_law_24 : cL_law.data.toList.drop 799 = dktL_law_24 := dk_seg dksL_law_23 23 rfl rfl
theorem dksL_law_25 : cL_law.data.toList.drop 822 = dktL_law_25 := dk_seg dksL_law_24 23 rfl rfl
theorem dksL_law_26 : cL_law.data.toList.drop 846 = dktL_law_26 := dk_seg dksL_law_25 24 rfl rfl
theorem dksL_law_27 : cL_law.data.toList.drop 868 = dktL_law_27 := dk_seg dksL_law_26 22 rfl rfl
theorem dksL_law_28 : cL_law.data.toList.drop 892 = dktL_law_28 := dk_seg dksL_law_27 24 rfl rfl
theorem dksL_law_29 : cL_law.data.toList.drop 916 = dktL_law_29 := dk_seg dksL_law_28 24 rfl rfl
theorem dksL_law_30 : cL_law.data.toList.drop 940 = dktL_law_30 := dk_seg dksL_law_29 24 rfl rfl
theorem dksL_law_31 : cL_law.data.toList.drop 963 = dktL_law_31 := dk_seg dksL_law_30 23 rfl rfl
theorem dksL_law_32 : cL_law.data.toList.drop 987 = dktL_law_32 := dk_seg dksL_law_31 24 rfl rfl
theorem dksL_law_33 : cL_law.data.toList.drop 1009 = dktL_law_33 := dk_seg dksL_law_32 22 rfl rfl
theorem dksL_law_34 : cL_law.data.toList.drop 1032 = dktL_law_34 := dk_seg dksL_law_33 23 rfl rfl
theorem dksL_law_35 : cL_law.data.toList.drop 1055 = dktL_law_35 := dk_seg dksL_law_34 23 rfl rfl
theorem dksL_law_36 : cL_law.data.toList.drop 1079 = dktL_law_36 := dk_seg dksL_law_35 24 rfl rfl
theorem dksL_law_37 : cL_law.data.toList.drop 1102 = dktL_law_37 := dk_seg dksL_law_36 23 rfl rfl
theorem dksL_law_38 : cL_law.data.toList.drop 1126 = dktL_law_38 := dk_seg dksL_law_37 24 rfl rfl
theorem dksL_law_39 : cL_law.data.toList.drop 1149 = dktL_law_39 := dk_seg dksL_law_38 23 rfl rfl
theorem dksL_law_40 : cL_law.data.toList.drop 1173 = dktL_law_40 := dk_seg dksL_law_39 24 rfl rfl
theorem dksL_law_41 : cL_law.data.toList.drop 1196 = dktL_law_41 := dk_seg dksL_law_40 23 rfl rfl
theorem dksL_law_42 : cL_law.data.toList.drop 1220 = dktL_law_42 := dk_seg dksL_law_41 24 rfl rfl
theorem dksL_law_43 : cL_law.data.toList.drop 1243 = dktL_law_43 := dk_seg dksL_law_42 23 rfl rfl
theorem dksL_law_44 : cL_law.data.toList.drop 1267 = dktL_law_44 := dk_seg dksL_law_43 24 rfl rfl
theorem dksL_law_45 : cL_law.data.toList.drop 1291 = dktL_law_45 := dk_seg dksL_law_44 24 rfl rfl
theorem dksL_law_46 : cL_law.data.toList.drop 1315 = dktL_law_46 := dk_seg dksL_law_45 24 rfl rfl
theorem dksL_law_47 : cL_law.data.toList.drop 1339 = dktL_law_47 := dk_seg dksL_law_46 24 rfl rfl
theorem dksL_law_48 : cL_law.data.toList.drop 1363 = dktL_law_48 := dk_seg dksL_law_47 24 rfl rfl
theorem dksL_law_49 : cL_law.data.toList.drop 1387 = dktL_law_49 := dk_seg dksL_law_48 24 rfl rfl
theorem dksL_law_50 : cL_law.data.toList.drop 1411 = dktL_law_50 := dk_seg dksL_law_49 24 rfl rfl
theorem dksL_law_51 : cL_law.data.toList.drop 1434 = dktL_law_51 := dk_seg dksL_law_50 23 rfl rfl
theorem dksL_law_52 : cL_law.data.toList.drop 1458 = dktL_law_52 := dk_seg dksL_law_51 24 rfl rfl
theorem dksL_law_53 : cL_law.data.toList.drop 1481 = dktL_law_53 := dk_seg dksL_law_52 23 rfl rfl
theorem dksL_law_54 : cL_law.data.toList.drop 1505 = dktL_law_54 := dk_seg dksL_law_53 24 rfl rfl
theorem dksL_law_55 : cL_law.data.toList.drop 1527 = dktL_law_55 := dk_seg dksL_law_54 22 rfl rfl
theorem dksL_law_56 : cL_law.data.toList.drop 1550 = dktL_law_56 := dk_seg dksL_law_55 23 rfl rfl
theorem dksL_law_57 : cL_law.data.toList.drop 1573 = dktL_law_57 := dk_seg dksL_law_56 23 rfl rfl
theorem dksL_law_58 : cL_law.data.toList.drop 1597 = dktL_law_58 := dk_seg dksL_law_57 24 rfl rfl
theorem dksL_law_59 : cL_law.data.toList.drop 1620 = dktL_law_59 := dk_seg dksL_law_58 23 rfl rfl
theorem dksL_law_60 : cL_law.data.toList.drop 1644 = dktL_law_60 := dk_seg dksL_law_59 24 rfl rfl
theorem dksL_law_61 : cL_law.data.toList.drop 1667 = dktL_law_61 := dk_seg dksL_law_60 23 rfl rfl
theorem dksL_law_62 : cL_law.data.toList.drop 1691 = dktL_law_62 := dk_seg dksL_law_61 24 rfl rfl
theorem dksL_law_63 : cL_law.data.toList.drop 1714 = dktL_law_63 := dk_seg dksL_law_62 23 rfl rfl
theorem dksL_law_64 : cL_law.data.toList.drop 1738 = dktL_law_64 := dk_seg dksL_law_63 24 rfl rfl
theorem dksL_law_65 : cL_law.data.toList.drop 1761 = dktL_law_65 := dk_seg dksL_law_64 23 rfl rfl
theorem dksL_law_66 : cL_law.data.toList.drop 1785 = dktL_law_66 := dk_seg dksL_law_65 24 rfl rfl
theorem dksL_law_67 : cL_law.data.toList.drop 1808 = dktL_law_67 := dk_seg dksL_law_66 23 rfl rfl
theorem dksL_law_68 : cL_law.data.toList.drop 1832 = dktL_law_68 := dk_seg dksL_law_67 24 rfl rfl
theorem dksL_law_69 : cL_law.data.toList.drop 1855 = dktL_law_69 := dk_seg dksL_law_68 23 rfl rfl
theorem dksL_law_70 : cL_law.data.toList.drop 1879 = dktL_law_70 := dk_seg dksL_law_69 24 rfl rfl
theorem dksL_law_71 : cL_law.data.toList.drop 1902 = dktL_law_71 := dk_seg dksL_law_70 23 rfl rfl
theorem dksL_law_72 : cL_law.data.toList.drop 1926 = dktL_law_72 := dk_seg dksL_law_71 24 rfl rfl
theorem dksL_law_73 : cL_law.data.toList.drop 1950 = dktL_law_73 := dk_seg dksL_law_72 24 rfl rfl
theorem dksL_law_74 : cL_law.data.toList.drop 1973 = dktL_law_74 := dk_seg dksL_law_73 23 rfl rfl
theorem dksL_law_75 : cL_law.data.toList.drop 1997 = dktL_law_75 := dk_seg dksL_law_74 24 rfl rfl
theorem dksL_law_76 : cL_law.data.toList.drop 2021 = dktL_law_76 := dk_seg dksL_law_75 24 rfl rfl
theorem dksL_law_77 : cL_law.data.toList.drop 2045 = dktL_law_77 := dk_seg dksL_law_76 24 rfl rfl
theorem dksL_law_78 : cL_law.data.toList.drop 2068 = dktL_law_78 := dk_seg dksL_law_77 23 rfl rfl
theorem dksL_law_79 : cL_law.data.toList.drop 2092 = dktL_law_79 := dk_seg dksL_law_78 24 rfl rfl
theorem dksL_law_80 : cL_law.data.toList.drop 2116 = dktL_law_80 := dk_seg dksL_law_79 24 rfl rfl
theorem dksL_law_81 : cL_law.data.toList.drop 2140 = dktL_law_81 := dk_seg dksL_law_80 24 rfl rfl
theorem dksL_law_82 : cL_law.data.toList.drop 2164 = dktL_law_82 := dk_seg dksL_law_81 24 rfl rfl
theorem dksL_law_83 : cL_law.data.toList.drop 2188 = dktL_law_83 := dk_seg dksL_law_82 24 rfl rfl
theorem dksL_law_84 : cL_law.data.toList.drop 2212 = dktL_law_84 := dk_seg dksL_law_83 24 rfl rfl
theorem dksL_law_85 : cL_law.data.toList.drop 2234 = dktL_law_85 := dk_seg dksL_law_84 22 rfl rfl
theorem dksL_law_86 : cL_law.data.toList.drop 2258 = dktL_law_86 := dk_seg dksL_law_85 24 rfl rfl
theorem dksL_law_87 : cL_law.data.toList.drop 2281 = dktL_law_87 := dk_seg dksL_law_86 23 rfl rfl
theorem dksL_law_88 : cL_law.data.toList.drop 2305 = dktL_law_88 := dk_seg dksL_law_87 24 rfl rfl
theorem dksL_law_89 : cL_law.data.toList.drop 2327 = dktL_law_89 := dk_seg dksL_law_88 22 rfl rfl
theorem dksL_law_90 : cL_law.data.toList.drop 2350 = dktL_law_90 := dk_seg dksL_law_89 23 rfl rfl
theorem dksL_law_91 : cL_law.data.toList.drop 2374 = dktL_law_91 := dk_seg dksL_law_90 24 rfl rfl
theorem dksL_law_92 : cL_law.data.toList.drop 2397 = dktL_law_92 := dk_seg dksL_law_91 23 rfl rfl
theorem dksL_law_93 : cL_law.data.toList.drop 2421 = dktL_law_93 := dk_seg dksL_law_92 24 rfl rfl
theorem dksL_law_94 : cL_law.data.toList.drop 2443 = dktL_law_94 := dk_seg dksL_law_93 22 rfl rfl
theorem dksL_law_95 : cL_law.data.toList.drop 2466 = dktL_law_95 := dk_seg dksL_law_94 23 rfl rfl
theorem dksL_law_96 : cL_law.data.toList.drop 2489 = dktL_law_96 := dk_seg dksL_law_95 23 rfl rfl
theorem dksL_law_97 : cL_law.data.toList.drop 2513 = dktL_law_97 := dk_seg dksL_law_96 24 rfl rfl
theorem dksL_law_98 : cL_law.data.toList.drop 2536 = dktL_law_98 := dk_seg dksL_law_97 23 rfl rfl
theorem dksL_law_99 : cL_law.data.toList.drop 2560 = dktL_law_99 := dk_seg dksL_law_98 24 rfl rfl
theorem dksL_law_100 : cL_law.data.toList.drop 2584 = dktL_law_100 := dk_seg dksL_law_99 24 rfl rfl
theorem dksL_law_101 : cL_law.data.toList.drop 2606 = dktL_law_101 := dk_seg dksL_law_100 22 rfl rfl
theorem dksL_law_102 : cL_law.data.toList.drop 2628 = dktL_law_102 := dk_seg dksL_law_101 22 rfl rfl
theorem dksL_law_103 : cL_law.data.toList.drop 2652 = dktL_law_103 := dk_seg dksL_law_102 24 rfl rfl
theorem dksL_law_104 : cL_law.data.toList.drop 2674 = dktL_law_104 := dk_seg dksL_law_103 22 rfl rfl
theorem dksL_law_105 : cL_law.data.toList.drop 2698 = dktL_law_105 := dk_seg dksL_law_104 24 rfl rfl
theorem dksL_law_106 : cL_law.data.toList.drop 2720 = dktL_law_106 := dk_seg dksL_law_105 22 rfl rfl
theorem dksL_law_107 : cL_law.data.toList.drop 2744 = dktL_law_107 := dk_seg dksL_law_106 24 rfl rfl
theorem dksL_law_108 : cL_law.data.toList.drop 2768 = dktL_law_108 := dk_seg dksL_law_107 24 rfl rfl
theorem dksL_law_109 : cL_law.data.toList.drop 2792 = dktL_law_109 := dk_seg dksL_law_108 24 rfl rfl
theorem dksL_law_110 : cL_law.data.toList.drop 2816 = dktL_law_110 := dk_seg dksL_law_109 24 rfl rfl
theorem dksL_law_111 : cL_law.data.toList.drop 2838 = dktL_law_111 := dk_seg dksL_law_110 22 rfl rfl
theorem dksL_law_112 : cL_law.data.toList.drop 2862 = dktL_law_112 := dk_seg dksL_law_111 24 rfl rfl
theorem dksL_law_113 : cL_law.data.toList.drop 2885 = dktL_law_113 := dk_seg dksL_law_112 23 rfl rfl
theorem dksL_law_114 : cL_law.data.toList.drop 2909 = dktL_law_114 := dk_seg dksL_law_113 24 rfl rfl
theorem dksL_law_115 : cL_law.data.toList.drop 2933 = dktL_law_115 := dk_seg dksL_law_114 24 rfl rfl
theorem dksL_law_116 : cL_law.data.toList.drop 2957 = dktL_law_116 := dk_seg dksL_law_115 24 rfl rfl
theorem dksL_law_117 : cL_law.data.toList.drop 2979 = dktL_law_117 := dk_seg dksL_law_116 22 rfl rfl
theorem dksL_law_118 : cL_law.data.toList.drop 3002 = dktL_law_118 := dk_seg dksL_law_117 23 rfl rfl
theorem dksL_law_119 : cL_law.data.toList.drop 3025 = dktL_law_119 := dk_seg dksL_law_118 23 rfl rfl
theorem dksL_law_120 : cL_law.data.toList.drop 3049 = dktL_law_120 := dk_seg dksL_law_119 24 rfl rfl
theorem dksL_law_121 : cL_law.data.toList.drop 3071 = dktL_law_121 := dk_seg dksL_law_120 22 rfl rfl
theorem dksL_law_122 : cL_law.data.toList.drop 3093 = dktL_law_122 := dk_seg dksL_law_121 22 rfl rfl
theorem dksL_law_123 : cL_law.data.toList.drop 3115 = dktL_law_123 := dk_seg dksL_law_122 22 rfl rfl
theorem dksL_law_124 : cL_law.data.toList.drop 3137 = dktL_law_124 := dk_seg dksL_law_123 22 rfl rfl
theorem dksL_law_125 : cL_law.data.toList.drop 3159 = dktL_law_125 := dk_seg dksL_law_124 22 rfl rfl
theorem dksL_law_126 : cL_law.data.toList.drop 3181 = dktL_law_126 := dk_seg dksL_law_125 22 rfl rfl
theorem dksL_law_127 : cL_law.data.toList.drop 3203 = dktL_law_127 := dk_seg dksL_law_126 22 rfl rfl
theorem dksL_law_128 : cL_law.data.toList.drop 3225 = dktL_law_128 := dk_seg dksL_law_127 22 rfl rfl
theorem dksL_law_129 : cL_law.data.toList.drop 3248 = dktL_law_129 := dk_seg dksL_law_128 23 rfl rfl
theorem dksL_law_130 : cL_law.data.toList.drop 3272 = dktL_law_130 := dk_seg dksL_law_129 24 rfl rfl
theorem dksL_law_131 : cL_law.data.toList.drop 3295 = dktL_law_131 := dk_seg dksL_law_130 23 rfl rfl
theorem dksL_law_132 : cL_law.data.toList.drop 3317 = dktL_law_132 := dk_seg dksL_law_131 22 rfl rfl
theorem dksL_law_133 : cL_law.data.toList.drop 3339 = dktL_law_133 := dk_seg dksL_law_132 22 rfl rfl
theorem dL_law_0 : decode cL_law 0 = .ok (.new 8, 3) := dk_187 0 8 (dk_at dksL_law_0 0 rfl rfl)
theorem dL_law_3 : decode cL_law 3 = .ok (.dup, 1) := dk_89 (dk_at dksL_law_0 3 rfl rfl)
theorem dL_law_4 : decode cL_law 4 = .ok (.invokespecial 172, 3) := dk_183 0 172 (dk_at dksL_law_0 4 rfl rfl)
theorem dL_law_7 : decode cL_law 7 = .ok (.astore_n 1, 1) := dk_76 (dk_at dksL_law_0 7 rfl rfl)
theorem dL_law_8 : decode cL_law 8 = .ok (.new 173, 3) := dk_187 0 173 (dk_at dksL_law_0 8 rfl rfl)
theorem dL_law_11 : decode cL_law 11 = .ok (.dup, 1) := dk_89 (dk_at dksL_law_0 11 rfl rfl)
theorem dL_law_12 : decode cL_law 12 = .ok (.invokespecial 175, 3) := dk_183 0 175 (dk_at dksL_law_0 12 rfl rfl)
theorem dL_law_15 : decode cL_law 15 = .ok (.astore_n 2, 1) := dk_77 (dk_at dksL_law_0 15 rfl rfl)
theorem dL_law_16 : decode cL_law 16 = .ok (.iconst 1, 1) := dk_4 (dk_at dksL_law_0 16 rfl rfl)
theorem dL_law_17 : decode cL_law 17 = .ok (.newarray .long, 2) := dk_188_11 (dk_at dksL_law_0 17 rfl rfl)
theorem dL_law_19 : decode cL_law 19 = .ok (.astore_n 3, 1) := dk_78 (dk_at dksL_law_0 19 rfl rfl)
theorem dL_law_20 : decode cL_law 20 = .ok (.iconst 0, 1) := dk_3 (dk_at dksL_law_0 20 rfl rfl)
theorem dL_law_21 : decode cL_law 21 = .ok (.istore 4, 2) := dk_54 4 (dk_at dksL_law_0 21 rfl rfl)
theorem dL_law_23 : decode cL_law 23 = .ok (.iload 4, 2) := dk_21 4 (dk_at dksL_law_1 0 rfl rfl)
theorem dL_law_25 : decode cL_law 25 = .ok (.aload_n 0, 1) := dk_42 (dk_at dksL_law_1 2 rfl rfl)
theorem dL_law_26 : decode cL_law 26 = .ok (.arraylength, 1) := dk_190 (dk_at dksL_law_1 3 rfl rfl)
theorem dL_law_27 : decode cL_law 27 = .ok (.iconst 5, 1) := dk_8 (dk_at dksL_law_1 4 rfl rfl)
theorem dL_law_28 : decode cL_law 28 = .ok (.isub, 1) := dk_100 (dk_at dksL_law_1 5 rfl rfl)
theorem dL_law_29 : decode cL_law 29 = .ok (.if_icmp .gt 3324, 3) := dk_163 12 252 (dk_at dksL_law_1 6 rfl rfl)
theorem dL_law_32 : decode cL_law 32 = .ok (.aload_n 0, 1) := dk_42 (dk_at dksL_law_1 9 rfl rfl)
theorem dL_law_33 : decode cL_law 33 = .ok (.iload 4, 2) := dk_21 4 (dk_at dksL_law_1 10 rfl rfl)
theorem dL_law_35 : decode cL_law 35 = .ok (.iaload, 1) := dk_46 (dk_at dksL_law_1 12 rfl rfl)
theorem dL_law_36 : decode cL_law 36 = .ok (.bipush 63, 2) := dk_16 63 (dk_at dksL_law_1 13 rfl rfl)
theorem dL_law_38 : decode cL_law 38 = .ok (.iand, 1) := dk_126 (dk_at dksL_law_1 15 rfl rfl)
theorem dL_law_39 : decode cL_law 39 = .ok (.tableswitch 3308 0 63 #[269, 361, 429, 497, 553, 566, 622, 678, 746, 759, 772, 828, 841, 866, 922, 978, 1034, 1090, 1146, 1202, 1265, 1328, 1384, 1440, 1496, 1552, 1608, 1664, 1720, 1764, 1808, 1852, 1896, 1952, 2027, 2095, 2163, 2231, 2287, 2300, 2356, 2412, 2468, 2524, 2592, 2667, 2742, 2798, 2811, 2824, 2837, 2851, 2865, 2879, 2892, 2948, 3004, 3062, 3106, 3150, 3194, 3207, 3251, 3264], 269) := by decide +kernel
theorem dL_law_308 : decode cL_law 308 = .ok (.aload_n 1, 1) := dk_43 (dk_at dksL_law_3 0 rfl rfl)
theorem dL_law_309 : decode cL_law 309 = .ok (.aload_n 0, 1) := dk_42 (dk_at dksL_law_3 1 rfl rfl)
theorem dL_law_310 : decode cL_law 310 = .ok (.iload 4, 2) := dk_21 4 (dk_at dksL_law_3 2 rfl rfl)
theorem dL_law_312 : decode cL_law 312 = .ok (.iconst 1, 1) := dk_4 (dk_at dksL_law_3 4 rfl rfl)
theorem dL_law_313 : decode cL_law 313 = .ok (.iadd, 1) := dk_96 (dk_at dksL_law_3 5 rfl rfl)
theorem dL_law_314 : decode cL_law 314 = .ok (.iaload, 1) := dk_46 (dk_at dksL_law_3 6 rfl rfl)
theorem dL_law_315 : decode cL_law 315 = .ok (.aload_n 0, 1) := dk_42 (dk_at dksL_law_3 7 rfl rfl)
theorem dL_law_316 : decode cL_law 316 = .ok (.iload 4, 2) := dk_21 4 (dk_at dksL_law_3 8 rfl rfl)
theorem dL_law_318 : decode cL_law 318 = .ok (.iconst 2, 1) := dk_5 (dk_at dksL_law_3 10 rfl rfl)
theorem dL_law_319 : decode cL_law 319 = .ok (.iadd, 1) := dk_96 (dk_at dksL_law_3 11 rfl rfl)
theorem dL_law_320 : decode cL_law 320 = .ok (.iaload, 1) := dk_46 (dk_at dksL_law_3 12 rfl rfl)
theorem dL_law_321 : decode cL_law 321 = .ok (.aload_n 0, 1) := dk_42 (dk_at dksL_law_3 13 rfl rfl)
theorem dL_law_322 : decode cL_law 322 = .ok (.iload 4, 2) := dk_21 4 (dk_at dksL_law_3 14 rfl rfl)
theorem dL_law_324 : decode cL_law 324 = .ok (.iconst 3, 1) := dk_6 (dk_at dksL_law_3 16 rfl rfl)
theorem dL_law_325 : decode cL_law 325 = .ok (.iadd, 1) := dk_96 (dk_at dksL_law_3 17 rfl rfl)
theorem dL_law_326 : decode cL_law 326 = .ok (.iaload, 1) := dk_46 (dk_at dksL_law_3 18 rfl rfl)
theorem dL_law_327 : decode cL_law 327 = .ok (.aload_n 0, 1) := dk_42 (dk_at dksL_law_3 19 rfl rfl)
theorem dL_law_328 : decode cL_law 328 = .ok (.iload 4, 2) := dk_21 4 (dk_at dksL_law_3 20 rfl rfl)
theorem dL_law_330 : decode cL_law 330 = .ok (.iconst 4, 1) := dk_7 (dk_at dksL_law_3 22 rfl rfl)
theorem dL_law_331 : decode cL_law 331 = .ok (.iadd, 1) := dk_96 (dk_at dksL_law_3 23 rfl rfl)
theorem dL_law_332 : decode cL_law 332 = .ok (.iaload, 1) := dk_46 (dk_at dksL_law_4 0 rfl rfl)
theorem dL_law_333 : decode cL_law 333 = .ok (.aload_n 3, 1) := dk_45 (dk_at dksL_law_4 1 rfl rfl)
theorem dL_law_334 : decode cL_law 334 = .ok (.invokestatic 176, 3) := dk_184 0 176 (dk_at dksL_law_4 2 rfl rfl)
theorem dL_law_337 : decode cL_law 337 = .ok (.istore 5, 2) := dk_54 5 (dk_at dksL_law_4 5 rfl rfl)
theorem dL_law_339 : decode cL_law 339 = .ok (.aload_n 2, 1) := dk_44 (dk_at dksL_law_4 7 rfl rfl)
theorem dL_law_340 : decode cL_law 340 = .ok (.aload_n 0, 1) := dk_42 (dk_at dksL_law_4 8 rfl rfl)
theorem dL_law_341 : decode cL_law 341 = .ok (.iload 4, 2) := dk_21 4 (dk_at dksL_law_4 9 rfl rfl)
theorem dL_law_343 : decode cL_law 343 = .ok (.iconst 1, 1) := dk_4 (dk_at dksL_law_4 11 rfl rfl)
theorem dL_law_344 : decode cL_law 344 = .ok (.iadd, 1) := dk_96 (dk_at dksL_law_4 12 rfl rfl)
theorem dL_law_345 : decode cL_law 345 = .ok (.iaload, 1) := dk_46 (dk_at dksL_law_4 13 rfl rfl)
theorem dL_law_346 : decode cL_law 346 = .ok (.aload_n 0, 1) := dk_42 (dk_at dksL_law_4 14 rfl rfl)
theorem dL_law_347 : decode cL_law 347 = .ok (.iload 4, 2) := dk_21 4 (dk_at dksL_law_4 15 rfl rfl)
theorem dL_law_349 : decode cL_law 349 = .ok (.iconst 2, 1) := dk_5 (dk_at dksL_law_4 17 rfl rfl)
theorem dL_law_350 : decode cL_law 350 = .ok (.iadd, 1) := dk_96 (dk_at dksL_law_4 18 rfl rfl)
theorem dL_law_351 : decode cL_law 351 = .ok (.iaload, 1) := dk_46 (dk_at dksL_law_4 19 rfl rfl)
theorem dL_law_352 : decode cL_law 352 = .ok (.aload_n 0, 1) := dk_42 (dk_at dksL_law_4 20 rfl rfl)
theorem dL_law_353 : decode cL_law 353 = .ok (.iload 4, 2) := dk_21 4 (dk_at dksL_law_4 21 rfl rfl)
theorem dL_law_355 : decode cL_law 355 = .ok (.iconst 3, 1) := dk_6 (dk_at dksL_law_4 23 rfl rfl)
theorem dL_law_356 : decode cL_law 356 = .ok (.iadd, 1) := dk_96 (dk_at dksL_law_5 0 rfl rfl)
theorem dL_law_357 : decode cL_law 357 = .ok (.iaload, 1) := dk_46 (dk_at dksL_law_5 1 rfl rfl)
theorem dL_law_358 : decode cL_law 358 = .ok (.aload_n 0, 1) := dk_42 (dk_at dksL_law_5 2 rfl rfl)
theorem dL_law_359 : decode cL_law 359 = .ok (.iload 4, 2) := dk_21 4 (dk_at dksL_law_5 3 rfl rfl)
theorem dL_law_361 : decode cL_law 361 = .ok (.iconst 4, 1) := dk_7 (dk_at dksL_law_5 5 rfl rfl)
theorem dL_law_362 : decode cL_law 362 = .ok (.iadd, 1) := dk_96 (dk_at dksL_law_5 6 rfl rfl)
theorem dL_law_363 : decode cL_law 363 = .ok (.iaload, 1) := dk_46 (dk_at dksL_law_5 7 rfl rfl)
theorem dL_law_364 : decode cL_law 364 = .ok (.invokevirtual 181, 3) := dk_182 0 181 (dk_at dksL_law_5 8 rfl rfl)
theorem dL_law_367 : decode cL_law 367 = .ok (.istore 6, 2) := dk_54 6 (dk_at dksL_law_5 11 rfl rfl)
theorem dL_law_369 : decode cL_law 369 = .ok (.aload_n 2, 1) := dk_44 (dk_at dksL_law_5 13 rfl rfl)
theorem dL_law_370 : decode cL_law 370 = .ok (.invokevirtual 182, 3) := dk_182 0 182 (dk_at dksL_law_5 14 rfl rfl)
theorem dL_law_373 : decode cL_law 373 = .ok (.iload 5, 2) := dk_21 5 (dk_at dksL_law_5 17 rfl rfl)
theorem dL_law_375 : decode cL_law 375 = .ok (.if_icmp .eq 5, 3) := dk_159 0 5 (dk_at dksL_law_5 19 rfl rfl)
theorem dL_law_378 : decode cL_law 378 = .ok (.iconst 0, 1) := dk_3 (dk_at dksL_law_5 22 rfl rfl)
theorem dL_law_379 : decode cL_law 379 = .ok (.ireturn, 1) := dk_172 (dk_at dksL_law_5 23 rfl rfl)
theorem dL_law_380 : decode cL_law 380 = .ok (.iload 5, 2) := dk_21 5 (dk_at dksL_law_6 0 rfl rfl)
theorem dL_law_382 : decode cL_law 382 = .ok (.ifCond .ne 15, 3) := dk_154 0 15 (dk_at dksL_law_6 2 rfl rfl)
theorem dL_law_385 : decode cL_law 385 = .ok (.aload_n 3, 1) := dk_45 (dk_at dksL_law_6 5 rfl rfl)
theorem dL_law_386 : decode cL_law 386 = .ok (.iconst 0, 1) := dk_3 (dk_at dksL_law_6 6 rfl rfl)
theorem dL_law_387 : decode cL_law 387 = .ok (.laload, 1) := dk_47 (dk_at dksL_law_6 7 rfl rfl)
theorem dL_law_388 : decode cL_law 388 = .ok (.iload 6, 2) := dk_21 6 (dk_at dksL_law_6 8 rfl rfl)
theorem dL_law_390 : decode cL_law 390 = .ok (.i2l, 1) := dk_133 (dk_at dksL_law_6 10 rfl rfl)
theorem dL_law_391 : decode cL_law 391 = .ok (.lcmp, 1) := dk_148 (dk_at dksL_law_6 11 rfl rfl)
theorem dL_law_392 : decode cL_law 392 = .ok (.ifCond .eq 5, 3) := dk_153 0 5 (dk_at dksL_law_6 12 rfl rfl)
theorem dL_law_395 : decode cL_law 395 = .ok (.iconst 0, 1) := dk_3 (dk_at dksL_law_6 15 rfl rfl)
theorem dL_law_396 : decode cL_law 396 = .ok (.ireturn, 1) := dk_172 (dk_at dksL_law_6 16 rfl rfl)
theorem dL_law_397 : decode cL_law 397 = .ok (.goto 2950, 3) := dk_167 11 134 (dk_at dksL_law_6 17 rfl rfl)
theorem dL_law_400 : decode cL_law 400 = .ok (.aload_n 1, 1) := dk_43 (dk_at dksL_law_6 20 rfl rfl)
theorem dL_law_401 : decode cL_law 401 = .ok (.aload_n 0, 1) := dk_42 (dk_at dksL_law_6 21 rfl rfl)
theorem dL_law_402 : decode cL_law 402 = .ok (.iload 4, 2) := dk_21 4 (dk_at dksL_law_6 22 rfl rfl)
theorem dL_law_404 : decode cL_law 404 = .ok (.iconst 1, 1) := dk_4 (dk_at dksL_law_7 0 rfl rfl)
theorem dL_law_405 : decode cL_law 405 = .ok (.iadd, 1) := dk_96 (dk_at dksL_law_7 1 rfl rfl)
theorem dL_law_406 : decode cL_law 406 = .ok (.iaload, 1) := dk_46 (dk_at dksL_law_7 2 rfl rfl)
theorem dL_law_407 : decode cL_law 407 = .ok (.aload_n 0, 1) := dk_42 (dk_at dksL_law_7 3 rfl rfl)
theorem dL_law_408 : decode cL_law 408 = .ok (.iload 4, 2) := dk_21 4 (dk_at dksL_law_7 4 rfl rfl)
theorem dL_law_410 : decode cL_law 410 = .ok (.iconst 2, 1) := dk_5 (dk_at dksL_law_7 6 rfl rfl)
theorem dL_law_411 : decode cL_law 411 = .ok (.iadd, 1) := dk_96 (dk_at dksL_law_7 7 rfl rfl)
theorem dL_law_412 : decode cL_law 412 = .ok (.iaload, 1) := dk_46 (dk_at dksL_law_7 8 rfl rfl)
theorem dL_law_413 : decode cL_law 413 = .ok (.aload_n 3, 1) := dk_45 (dk_at dksL_law_7 9 rfl rfl)
theorem dL_law_414 : decode cL_law 414 = .ok (.invokestatic 185, 3) := dk_184 0 185 (dk_at dksL_law_7 10 rfl rfl)
theorem dL_law_417 : decode cL_law 417 = .ok (.istore 5, 2) := dk_54 5 (dk_at dksL_law_7 13 rfl rfl)
theorem dL_law_419 : decode cL_law 419 = .ok (.aload_n 2, 1) := dk_44 (dk_at dksL_law_7 15 rfl rfl)
theorem dL_law_420 : decode cL_law 420 = .ok (.aload_n 0, 1) := dk_42 (dk_at dksL_law_7 16 rfl rfl)
theorem dL_law_421 : decode cL_law 421 = .ok (.iload 4, 2) := dk_21 4 (dk_at dksL_law_7 17 rfl rfl)
theorem dL_law_423 : decode cL_law 423 = .ok (.iconst 1, 1) := dk_4 (dk_at dksL_law_7 19 rfl rfl)
theorem dL_law_424 : decode cL_law 424 = .ok (.iadd, 1) := dk_96 (dk_at dksL_law_7 20 rfl rfl)
theorem dL_law_425 : decode cL_law 425 = .ok (.iaload, 1) := dk_46 (dk_at dksL_law_7 21 rfl rfl)
theorem dL_law_426 : decode cL_law 426 = .ok (.aload_n 0, 1) := dk_42 (dk_at dksL_law_7 22 rfl rfl)
theorem dL_law_427 : decode cL_law 427 = .ok (.iload 4, 2) := dk_21 4 (dk_at dksL_law_8 0 rfl rfl)
theorem dL_law_429 : decode cL_law 429 = .ok (.iconst 2, 1) := dk_5 (dk_at dksL_law_8 2 rfl rfl)
theorem dL_law_430 : decode cL_law 430 = .ok (.iadd, 1) := dk_96 (dk_at dksL_law_8 3 rfl rfl)
theorem dL_law_431 : decode cL_law 431 = .ok (.iaload, 1) := dk_46 (dk_at dksL_law_8 4 rfl rfl)
theorem dL_law_432 : decode cL_law 432 = .ok (.invokevirtual 188, 3) := dk_182 0 188 (dk_at dksL_law_8 5 rfl rfl)
theorem dL_law_435 : decode cL_law 435 = .ok (.istore 6, 2) := dk_54 6 (dk_at dksL_law_8 8 rfl rfl)
theorem dL_law_437 : decode cL_law 437 = .ok (.aload_n 2, 1) := dk_44 (dk_at dksL_law_8 10 rfl rfl)
theorem dL_law_438 : decode cL_law 438 = .ok (.invokevirtual 182, 3) := dk_182 0 182 (dk_at dksL_law_8 11 rfl rfl)
theorem dL_law_441 : decode cL_law 441 = .ok (.iload 5, 2) := dk_21 5 (dk_at dksL_law_8 14 rfl rfl)
theorem dL_law_443 : decode cL_law 443 = .ok (.if_icmp .eq 5, 3) := dk_159 0 5 (dk_at dksL_law_8 16 rfl rfl)
theorem dL_law_446 : decode cL_law 446 = .ok (.iconst 0, 1) := dk_3 (dk_at dksL_law_8 19 rfl rfl)
theorem dL_law_447 : decode cL_law 447 = .ok (.ireturn, 1) := dk_172 (dk_at dksL_law_8 20 rfl rfl)
theorem dL_law_448 : decode cL_law 448 = .ok (.iload 5, 2) := dk_21 5 (dk_at dksL_law_8 21 rfl rfl)
theorem dL_law_450 : decode cL_law 450 = .ok (.ifCond .ne 15, 3) := dk_154 0 15 (dk_at dksL_law_9 0 rfl rfl)
theorem dL_law_453 : decode cL_law 453 = .ok (.aload_n 3, 1) := dk_45 (dk_at dksL_law_9 3 rfl rfl)
theorem dL_law_454 : decode cL_law 454 = .ok (.iconst 0, 1) := dk_3 (dk_at dksL_law_9 4 rfl rfl)
theorem dL_law_455 : decode cL_law 455 = .ok (.laload, 1) := dk_47 (dk_at dksL_law_9 5 rfl rfl)
theorem dL_law_456 : decode cL_law 456 = .ok (.iload 6, 2) := dk_21 6 (dk_at dksL_law_9 6 rfl rfl)
theorem dL_law_458 : decode cL_law 458 = .ok (.i2l, 1) := dk_133 (dk_at dksL_law_9 8 rfl rfl)
theorem dL_law_459 : decode cL_law 459 = .ok (.lcmp, 1) := dk_148 (dk_at dksL_law_9 9 rfl rfl)
theorem dL_law_460 : decode cL_law 460 = .ok (.ifCond .eq 5, 3) := dk_153 0 5 (dk_at dksL_law_9 10 rfl rfl)
theorem dL_law_463 : decode cL_law 463 = .ok (.iconst 0, 1) := dk_3 (dk_at dksL_law_9 13 rfl rfl)
theorem dL_law_464 : decode cL_law 464 = .ok (.ireturn, 1) := dk_172 (dk_at dksL_law_9 14 rfl rfl)
theorem dL_law_465 : decode cL_law 465 = .ok (.goto 2882, 3) := dk_167 11 66 (dk_at dksL_law_9 15 rfl rfl)
theorem dL_law_468 : decode cL_law 468 = .ok (.aload_n 1, 1) := dk_43 (dk_at dksL_law_9 18 rfl rfl)
theorem dL_law_469 : decode cL_law 469 = .ok (.aload_n 0, 1) := dk_42 (dk_at dksL_law_9 19 rfl rfl)
theorem dL_law_470 : decode cL_law 470 = .ok (.iload 4, 2) := dk_21 4 (dk_at dksL_law_9 20 rfl rfl)
theorem dL_law_472 : decode cL_law 472 = .ok (.iconst 1, 1) := dk_4 (dk_at dksL_law_9 22 rfl rfl)
theorem dL_law_473 : decode cL_law 473 = .ok (.iadd, 1) := dk_96 (dk_at dksL_law_9 23 rfl rfl)
theorem dL_law_474 : decode cL_law 474 = .ok (.iaload, 1) := dk_46 (dk_at dksL_law_10 0 rfl rfl)
theorem dL_law_475 : decode cL_law 475 = .ok (.aload_n 0, 1) := dk_42 (dk_at dksL_law_10 1 rfl rfl)
theorem dL_law_476 : decode cL_law 476 = .ok (.iload 4, 2) := dk_21 4 (dk_at dksL_law_10 2 rfl rfl)
theorem dL_law_478 : decode cL_law 478 = .ok (.iconst 2, 1) := dk_5 (dk_at dksL_law_10 4 rfl rfl)
theorem dL_law_479 : decode cL_law 479 = .ok (.iadd, 1) := dk_96 (dk_at dksL_law_10 5 rfl rfl)
theorem dL_law_480 : decode cL_law 480 = .ok (.iaload, 1) := dk_46 (dk_at dksL_law_10 6 rfl rfl)
theorem dL_law_481 : decode cL_law 481 = .ok (.aload_n 3, 1) := dk_45 (dk_at dksL_law_10 7 rfl rfl)
theorem dL_law_482 : decode cL_law 482 = .ok (.invokestatic 189, 3) := dk_184 0 189 (dk_at dksL_law_10 8 rfl rfl)
theorem dL_law_485 : decode cL_law 485 = .ok (.istore 5, 2) := dk_54 5 (dk_at dksL_law_10 11 rfl rfl)
theorem dL_law_487 : decode cL_law 487 = .ok (.aload_n 2, 1) := dk_44 (dk_at dksL_law_10 13 rfl rfl)
theorem dL_law_488 : decode cL_law 488 = .ok (.aload_n 0, 1) := dk_42 (dk_at dksL_law_10 14 rfl rfl)
theorem dL_law_489 : decode cL_law 489 = .ok (.iload 4, 2) := dk_21 4 (dk_at dksL_law_10 15 rfl rfl)
theorem dL_law_491 : decode cL_law 491 = .ok (.iconst 1, 1) := dk_4 (dk_at dksL_law_10 17 rfl rfl)
theorem dL_law_492 : decode cL_law 492 = .ok (.iadd, 1) := dk_96 (dk_at dksL_law_10 18 rfl rfl)
theorem dL_law_493 : decode cL_law 493 = .ok (.iaload, 1) := dk_46 (dk_at dksL_law_10 19 rfl rfl)
theorem dL_law_494 : decode cL_law 494 = .ok (.aload_n 0, 1) := dk_42 (dk_at dksL_law_10 20 rfl rfl)
theorem dL_law_495 : decode cL_law 495 = .ok (.iload 4, 2) := dk_21 4 (dk_at dksL_law_10 21 rfl rfl)
theorem dL_law_497 : decode cL_law 497 = .ok (.iconst 2, 1) := dk_5 (dk_at dksL_law_10 23 rfl rfl)
theorem dL_law_498 : decode cL_law 498 = .ok (.iadd, 1) := dk_96 (dk_at dksL_law_11 0 rfl rfl)
theorem dL_law_499 : decode cL_law 499 = .ok (.iaload, 1) := dk_46 (dk_at dksL_law_11 1 rfl rfl)
theorem dL_law_500 : decode cL_law 500 = .ok (.invokevirtual 191, 3) := dk_182 0 191 (dk_at dksL_law_11 2 rfl rfl)
theorem dL_law_503 : decode cL_law 503 = .ok (.istore 6, 2) := dk_54 6 (dk_at dksL_law_11 5 rfl rfl)
theorem dL_law_505 : decode cL_law 505 = .ok (.aload_n 2, 1) := dk_44 (dk_at dksL_law_11 7 rfl rfl)
theorem dL_law_506 : decode cL_law 506 = .ok (.invokevirtual 182, 3) := dk_182 0 182 (dk_at dksL_law_11 8 rfl rfl)
theorem dL_law_509 : decode cL_law 509 = .ok (.iload 5, 2) := dk_21 5 (dk_at dksL_law_11 11 rfl rfl)
theorem dL_law_511 : decode cL_law 511 = .ok (.if_icmp .eq 5, 3) := dk_159 0 5 (dk_at dksL_law_11 13 rfl rfl)
theorem dL_law_514 : decode cL_law 514 = .ok (.iconst 0, 1) := dk_3 (dk_at dksL_law_11 16 rfl rfl)
theorem dL_law_515 : decode cL_law 515 = .ok (.ireturn, 1) := dk_172 (dk_at dksL_law_11 17 rfl rfl)
theorem dL_law_516 : decode cL_law 516 = .ok (.iload 5, 2) := dk_21 5 (dk_at dksL_law_11 18 rfl rfl)
theorem dL_law_518 : decode cL_law 518 = .ok (.ifCond .ne 15, 3) := dk_154 0 15 (dk_at dksL_law_11 20 rfl rfl)
theorem dL_law_521 : decode cL_law 521 = .ok (.aload_n 3, 1) := dk_45 (dk_at dksL_law_11 23 rfl rfl)
theorem dL_law_522 : decode cL_law 522 = .ok (.iconst 0, 1) := dk_3 (dk_at dksL_law_12 0 rfl rfl)
theorem dL_law_523 : decode cL_law 523 = .ok (.laload, 1) := dk_47 (dk_at dksL_law_12 1 rfl rfl)
theorem dL_law_524 : decode cL_law 524 = .ok (.iload 6, 2) := dk_21 6 (dk_at dksL_law_12 2 rfl rfl)
theorem dL_law_526 : decode cL_law 526 = .ok (.i2l, 1) := dk_133 (dk_at dksL_law_12 4 rfl rfl)
theorem dL_law_527 : decode cL_law 527 = .ok (.lcmp, 1) := dk_148 (dk_at dksL_law_12 5 rfl rfl)
theorem dL_law_528 : decode cL_law 528 = .ok (.ifCond .eq 5, 3) := dk_153 0 5 (dk_at dksL_law_12 6 rfl rfl)
theorem dL_law_531 : decode cL_law 531 = .ok (.iconst 0, 1) := dk_3 (dk_at dksL_law_12 9 rfl rfl)
theorem dL_law_532 : decode cL_law 532 = .ok (.ireturn, 1) := dk_172 (dk_at dksL_law_12 10 rfl rfl)
theorem dL_law_533 : decode cL_law 533 = .ok (.goto 2814, 3) := dk_167 10 254 (dk_at dksL_law_12 11 rfl rfl)
theorem dL_law_536 : decode cL_law 536 = .ok (.aload_n 1, 1) := dk_43 (dk_at dksL_law_12 14 rfl rfl)
theorem dL_law_537 : decode cL_law 537 = .ok (.aload_n 0, 1) := dk_42 (dk_at dksL_law_12 15 rfl rfl)
theorem dL_law_538 : decode cL_law 538 = .ok (.iload 4, 2) := dk_21 4 (dk_at dksL_law_12 16 rfl rfl)
theorem dL_law_540 : decode cL_law 540 = .ok (.iconst 1, 1) := dk_4 (dk_at dksL_law_12 18 rfl rfl)
theorem dL_law_541 : decode cL_law 541 = .ok (.iadd, 1) := dk_96 (dk_at dksL_law_12 19 rfl rfl)
theorem dL_law_542 : decode cL_law 542 = .ok (.iaload, 1) := dk_46 (dk_at dksL_law_12 20 rfl rfl)
theorem dL_law_543 : decode cL_law 543 = .ok (.aload_n 3, 1) := dk_45 (dk_at dksL_law_12 21 rfl rfl)
theorem dL_law_544 : decode cL_law 544 = .ok (.invokestatic 192, 3) := dk_184 0 192 (dk_at dksL_law_13 0 rfl rfl)
theorem dL_law_547 : decode cL_law 547 = .ok (.istore 5, 2) := dk_54 5 (dk_at dksL_law_13 3 rfl rfl)
theorem dL_law_549 : decode cL_law 549 = .ok (.aload_n 2, 1) := dk_44 (dk_at dksL_law_13 5 rfl rfl)
theorem dL_law_550 : decode cL_law 550 = .ok (.aload_n 0, 1) := dk_42 (dk_at dksL_law_13 6 rfl rfl)
theorem dL_law_551 : decode cL_law 551 = .ok (.iload 4, 2) := dk_21 4 (dk_at dksL_law_13 7 rfl rfl)
theorem dL_law_553 : decode cL_law 553 = .ok (.iconst 1, 1) := dk_4 (dk_at dksL_law_13 9 rfl rfl)
theorem dL_law_554 : decode cL_law 554 = .ok (.iadd, 1) := dk_96 (dk_at dksL_law_13 10 rfl rfl)
theorem dL_law_555 : decode cL_law 555 = .ok (.iaload, 1) := dk_46 (dk_at dksL_law_13 11 rfl rfl)
theorem dL_law_556 : decode cL_law 556 = .ok (.invokevirtual 195, 3) := dk_182 0 195 (dk_at dksL_law_13 12 rfl rfl)
theorem dL_law_559 : decode cL_law 559 = .ok (.istore 6, 2) := dk_54 6 (dk_at dksL_law_13 15 rfl rfl)
theorem dL_law_561 : decode cL_law 561 = .ok (.aload_n 2, 1) := dk_44 (dk_at dksL_law_13 17 rfl rfl)
theorem dL_law_562 : decode cL_law 562 = .ok (.invokevirtual 182, 3) := dk_182 0 182 (dk_at dksL_law_13 18 rfl rfl)
theorem dL_law_565 : decode cL_law 565 = .ok (.iload 5, 2) := dk_21 5 (dk_at dksL_law_13 21 rfl rfl)
theorem dL_law_567 : decode cL_law 567 = .ok (.if_icmp .eq 5, 3) := dk_159 0 5 (dk_at dksL_law_14 0 rfl rfl)
theorem dL_law_570 : decode cL_law 570 = .ok (.iconst 0, 1) := dk_3 (dk_at dksL_law_14 3 rfl rfl)
theorem dL_law_571 : decode cL_law 571 = .ok (.ireturn, 1) := dk_172 (dk_at dksL_law_14 4 rfl rfl)
theorem dL_law_572 : decode cL_law 572 = .ok (.iload 5, 2) := dk_21 5 (dk_at dksL_law_14 5 rfl rfl)
theorem dL_law_574 : decode cL_law 574 = .ok (.ifCond .ne 15, 3) := dk_154 0 15 (dk_at dksL_law_14 7 rfl rfl)
theorem dL_law_577 : decode cL_law 577 = .ok (.aload_n 3, 1) := dk_45 (dk_at dksL_law_14 10 rfl rfl)
theorem dL_law_578 : decode cL_law 578 = .ok (.iconst 0, 1) := dk_3 (dk_at dksL_law_14 11 rfl rfl)
theorem dL_law_579 : decode cL_law 579 = .ok (.laload, 1) := dk_47 (dk_at dksL_law_14 12 rfl rfl)
theorem dL_law_580 : decode cL_law 580 = .ok (.iload 6, 2) := dk_21 6 (dk_at dksL_law_14 13 rfl rfl)
theorem dL_law_582 : decode cL_law 582 = .ok (.i2l, 1) := dk_133 (dk_at dksL_law_14 15 rfl rfl)
theorem dL_law_583 : decode cL_law 583 = .ok (.lcmp, 1) := dk_148 (dk_at dksL_law_14 16 rfl rfl)
theorem dL_law_584 : decode cL_law 584 = .ok (.ifCond .eq 5, 3) := dk_153 0 5 (dk_at dksL_law_14 17 rfl rfl)
theorem dL_law_587 : decode cL_law 587 = .ok (.iconst 0, 1) := dk_3 (dk_at dksL_law_14 20 rfl rfl)
theorem dL_law_588 : decode cL_law 588 = .ok (.ireturn, 1) := dk_172 (dk_at dksL_law_14 21 rfl rfl)
theorem dL_law_589 : decode cL_law 589 = .ok (.goto 2758, 3) := dk_167 10 198 (dk_at dksL_law_15 0 rfl rfl)
theorem dL_law_592 : decode cL_law 592 = .ok (.aload_n 1, 1) := dk_43 (dk_at dksL_law_15 3 rfl rfl)
theorem dL_law_593 : decode cL_law 593 = .ok (.invokevirtual 196, 3) := dk_182 0 196 (dk_at dksL_law_15 4 rfl rfl)
theorem dL_law_596 : decode cL_law 596 = .ok (.aload_n 2, 1) := dk_44 (dk_at dksL_law_15 7 rfl rfl)
theorem dL_law_597 : decode cL_law 597 = .ok (.invokevirtual 199, 3) := dk_182 0 199 (dk_at dksL_law_15 8 rfl rfl)
theorem dL_law_600 : decode cL_law 600 = .ok (.if_icmp .eq 2747, 3) := dk_159 10 187 (dk_at dksL_law_15 11 rfl rfl)
theorem dL_law_603 : decode cL_law 603 = .ok (.iconst 0, 1) := dk_3 (dk_at dksL_law_15 14 rfl rfl)
theorem dL_law_604 : decode cL_law 604 = .ok (.ireturn, 1) := dk_172 (dk_at dksL_law_15 15 rfl rfl)
theorem dL_law_605 : decode cL_law 605 = .ok (.aload_n 1, 1) := dk_43 (dk_at dksL_law_15 16 rfl rfl)
theorem dL_law_606 : decode cL_law 606 = .ok (.aload_n 0, 1) := dk_42 (dk_at dksL_law_15 17 rfl rfl)
theorem dL_law_607 : decode cL_law 607 = .ok (.iload 4, 2) := dk_21 4 (dk_at dksL_law_15 18 rfl rfl)
theorem dL_law_609 : decode cL_law 609 = .ok (.iconst 1, 1) := dk_4 (dk_at dksL_law_15 20 rfl rfl)
theorem dL_law_610 : decode cL_law 610 = .ok (.iadd, 1) := dk_96 (dk_at dksL_law_15 21 rfl rfl)
theorem dL_law_611 : decode cL_law 611 = .ok (.iaload, 1) := dk_46 (dk_at dksL_law_15 22 rfl rfl)
theorem dL_law_612 : decode cL_law 612 = .ok (.aload_n 3, 1) := dk_45 (dk_at dksL_law_15 23 rfl rfl)
theorem dL_law_613 : decode cL_law 613 = .ok (.invokestatic 200, 3) := dk_184 0 200 (dk_at dksL_law_16 0 rfl rfl)
theorem dL_law_616 : decode cL_law 616 = .ok (.istore 5, 2) := dk_54 5 (dk_at dksL_law_16 3 rfl rfl)
theorem dL_law_618 : decode cL_law 618 = .ok (.aload_n 2, 1) := dk_44 (dk_at dksL_law_16 5 rfl rfl)
theorem dL_law_619 : decode cL_law 619 = .ok (.aload_n 0, 1) := dk_42 (dk_at dksL_law_16 6 rfl rfl)
theorem dL_law_620 : decode cL_law 620 = .ok (.iload 4, 2) := dk_21 4 (dk_at dksL_law_16 7 rfl rfl)
theorem dL_law_622 : decode cL_law 622 = .ok (.iconst 1, 1) := dk_4 (dk_at dksL_law_16 9 rfl rfl)
theorem dL_law_623 : decode cL_law 623 = .ok (.iadd, 1) := dk_96 (dk_at dksL_law_16 10 rfl rfl)
theorem dL_law_624 : decode cL_law 624 = .ok (.iaload, 1) := dk_46 (dk_at dksL_law_16 11 rfl rfl)
theorem dL_law_625 : decode cL_law 625 = .ok (.invokevirtual 202, 3) := dk_182 0 202 (dk_at dksL_law_16 12 rfl rfl)
theorem dL_law_628 : decode cL_law 628 = .ok (.istore 6, 2) := dk_54 6 (dk_at dksL_law_16 15 rfl rfl)
theorem dL_law_630 : decode cL_law 630 = .ok (.aload_n 2, 1) := dk_44 (dk_at dksL_law_16 17 rfl rfl)
theorem dL_law_631 : decode cL_law 631 = .ok (.invokevirtual 182, 3) := dk_182 0 182 (dk_at dksL_law_16 18 rfl rfl)
theorem dL_law_634 : decode cL_law 634 = .ok (.iload 5, 2) := dk_21 5 (dk_at dksL_law_16 21 rfl rfl)
theorem dL_law_636 : decode cL_law 636 = .ok (.if_icmp .eq 5, 3) := dk_159 0 5 (dk_at dksL_law_17 0 rfl rfl)
theorem dL_law_639 : decode cL_law 639 = .ok (.iconst 0, 1) := dk_3 (dk_at dksL_law_17 3 rfl rfl)
theorem dL_law_640 : decode cL_law 640 = .ok (.ireturn, 1) := dk_172 (dk_at dksL_law_17 4 rfl rfl)
theorem dL_law_641 : decode cL_law 641 = .ok (.iload 5, 2) := dk_21 5 (dk_at dksL_law_17 5 rfl rfl)
theorem dL_law_643 : decode cL_law 643 = .ok (.ifCond .ne 15, 3) := dk_154 0 15 (dk_at dksL_law_17 7 rfl rfl)
theorem dL_law_646 : decode cL_law 646 = .ok (.aload_n 3, 1) := dk_45 (dk_at dksL_law_17 10 rfl rfl)
theorem dL_law_647 : decode cL_law 647 = .ok (.iconst 0, 1) := dk_3 (dk_at dksL_law_17 11 rfl rfl)
theorem dL_law_648 : decode cL_law 648 = .ok (.laload, 1) := dk_47 (dk_at dksL_law_17 12 rfl rfl)
theorem dL_law_649 : decode cL_law 649 = .ok (.iload 6, 2) := dk_21 6 (dk_at dksL_law_17 13 rfl rfl)
theorem dL_law_651 : decode cL_law 651 = .ok (.i2l, 1) := dk_133 (dk_at dksL_law_17 15 rfl rfl)
theorem dL_law_652 : decode cL_law 652 = .ok (.lcmp, 1) := dk_148 (dk_at dksL_law_17 16 rfl rfl)
theorem dL_law_653 : decode cL_law 653 = .ok (.ifCond .eq 5, 3) := dk_153 0 5 (dk_at dksL_law_17 17 rfl rfl)
theorem dL_law_656 : decode cL_law 656 = .ok (.iconst 0, 1) := dk_3 (dk_at dksL_law_17 20 rfl rfl)
theorem dL_law_657 : decode cL_law 657 = .ok (.ireturn, 1) := dk_172 (dk_at dksL_law_17 21 rfl rfl)
theorem dL_law_658 : decode cL_law 658 = .ok (.goto 2689, 3) := dk_167 10 129 (dk_at dksL_law_18 0 rfl rfl)
theorem dL_law_661 : decode cL_law 661 = .ok (.aload_n 1, 1) := dk_43 (dk_at dksL_law_18 3 rfl rfl)
theorem dL_law_662 : decode cL_law 662 = .ok (.aload_n 0, 1) := dk_42 (dk_at dksL_law_18 4 rfl rfl)
theorem dL_law_663 : decode cL_law 663 = .ok (.iload 4, 2) := dk_21 4 (dk_at dksL_law_18 5 rfl rfl)
theorem dL_law_665 : decode cL_law 665 = .ok (.iconst 1, 1) := dk_4 (dk_at dksL_law_18 7 rfl rfl)
theorem dL_law_666 : decode cL_law 666 = .ok (.iadd, 1) := dk_96 (dk_at dksL_law_18 8 rfl rfl)
theorem dL_law_667 : decode cL_law 667 = .ok (.iaload, 1) := dk_46 (dk_at dksL_law_18 9 rfl rfl)
theorem dL_law_668 : decode cL_law 668 = .ok (.aload_n 3, 1) := dk_45 (dk_at dksL_law_18 10 rfl rfl)
theorem dL_law_669 : decode cL_law 669 = .ok (.invokestatic 203, 3) := dk_184 0 203 (dk_at dksL_law_18 11 rfl rfl)
theorem dL_law_672 : decode cL_law 672 = .ok (.istore 5, 2) := dk_54 5 (dk_at dksL_law_18 14 rfl rfl)
theorem dL_law_674 : decode cL_law 674 = .ok (.aload_n 2, 1) := dk_44 (dk_at dksL_law_18 16 rfl rfl)
theorem dL_law_675 : decode cL_law 675 = .ok (.aload_n 0, 1) := dk_42 (dk_at dksL_law_18 17 rfl rfl)
theorem dL_law_676 : decode cL_law 676 = .ok (.iload 4, 2) := dk_21 4 (dk_at dksL_law_18 18 rfl rfl)
theorem dL_law_678 : decode cL_law 678 = .ok (.iconst 1, 1) := dk_4 (dk_at dksL_law_18 20 rfl rfl)
theorem dL_law_679 : decode cL_law 679 = .ok (.iadd, 1) := dk_96 (dk_at dksL_law_18 21 rfl rfl)
theorem dL_law_680 : decode cL_law 680 = .ok (.iaload, 1) := dk_46 (dk_at dksL_law_18 22 rfl rfl)
theorem dL_law_681 : decode cL_law 681 = .ok (.invokevirtual 205, 3) := dk_182 0 205 (dk_at dksL_law_19 0 rfl rfl)
theorem dL_law_684 : decode cL_law 684 = .ok (.istore 6, 2) := dk_54 6 (dk_at dksL_law_19 3 rfl rfl)
theorem dL_law_686 : decode cL_law 686 = .ok (.aload_n 2, 1) := dk_44 (dk_at dksL_law_19 5 rfl rfl)
theorem dL_law_687 : decode cL_law 687 = .ok (.invokevirtual 182, 3) := dk_182 0 182 (dk_at dksL_law_19 6 rfl rfl)
theorem dL_law_690 : decode cL_law 690 = .ok (.iload 5, 2) := dk_21 5 (dk_at dksL_law_19 9 rfl rfl)
theorem dL_law_692 : decode cL_law 692 = .ok (.if_icmp .eq 5, 3) := dk_159 0 5 (dk_at dksL_law_19 11 rfl rfl)
theorem dL_law_695 : decode cL_law 695 = .ok (.iconst 0, 1) := dk_3 (dk_at dksL_law_19 14 rfl rfl)
theorem dL_law_696 : decode cL_law 696 = .ok (.ireturn, 1) := dk_172 (dk_at dksL_law_19 15 rfl rfl)
theorem dL_law_697 : decode cL_law 697 = .ok (.iload 5, 2) := dk_21 5 (dk_at dksL_law_19 16 rfl rfl)
theorem dL_law_699 : decode cL_law 699 = .ok (.ifCond .ne 15, 3) := dk_154 0 15 (dk_at dksL_law_19 18 rfl rfl)
theorem dL_law_702 : decode cL_law 702 = .ok (.aload_n 3, 1) := dk_45 (dk_at dksL_law_19 21 rfl rfl)
theorem dL_law_703 : decode cL_law 703 = .ok (.iconst 0, 1) := dk_3 (dk_at dksL_law_19 22 rfl rfl)
theorem dL_law_704 : decode cL_law 704 = .ok (.laload, 1) := dk_47 (dk_at dksL_law_19 23 rfl rfl)
theorem dL_law_705 : decode cL_law 705 = .ok (.iload 6, 2) := dk_21 6 (dk_at dksL_law_20 0 rfl rfl)
theorem dL_law_707 : decode cL_law 707 = .ok (.i2l, 1) := dk_133 (dk_at dksL_law_20 2 rfl rfl)
theorem dL_law_708 : decode cL_law 708 = .ok (.lcmp, 1) := dk_148 (dk_at dksL_law_20 3 rfl rfl)
theorem dL_law_709 : decode cL_law 709 = .ok (.ifCond .eq 5, 3) := dk_153 0 5 (dk_at dksL_law_20 4 rfl rfl)
theorem dL_law_712 : decode cL_law 712 = .ok (.iconst 0, 1) := dk_3 (dk_at dksL_law_20 7 rfl rfl)
theorem dL_law_713 : decode cL_law 713 = .ok (.ireturn, 1) := dk_172 (dk_at dksL_law_20 8 rfl rfl)
theorem dL_law_714 : decode cL_law 714 = .ok (.goto 2633, 3) := dk_167 10 73 (dk_at dksL_law_20 9 rfl rfl)
theorem dL_law_717 : decode cL_law 717 = .ok (.aload_n 1, 1) := dk_43 (dk_at dksL_law_20 12 rfl rfl)
theorem dL_law_718 : decode cL_law 718 = .ok (.aload_n 0, 1) := dk_42 (dk_at dksL_law_20 13 rfl rfl)
theorem dL_law_719 : decode cL_law 719 = .ok (.iload 4, 2) := dk_21 4 (dk_at dksL_law_20 14 rfl rfl)
theorem dL_law_721 : decode cL_law 721 = .ok (.iconst 1, 1) := dk_4 (dk_at dksL_law_20 16 rfl rfl)
theorem dL_law_722 : decode cL_law 722 = .ok (.iadd, 1) := dk_96 (dk_at dksL_law_20 17 rfl rfl)
theorem dL_law_723 : decode cL_law 723 = .ok (.iaload, 1) := dk_46 (dk_at dksL_law_20 18 rfl rfl)
theorem dL_law_724 : decode cL_law 724 = .ok (.aload_n 0, 1) := dk_42 (dk_at dksL_law_20 19 rfl rfl)
theorem dL_law_725 : decode cL_law 725 = .ok (.iload 4, 2) := dk_21 4 (dk_at dksL_law_20 20 rfl rfl)
theorem dL_law_727 : decode cL_law 727 = .ok (.iconst 2, 1) := dk_5 (dk_at dksL_law_20 22 rfl rfl)
theorem dL_law_728 : decode cL_law 728 = .ok (.iadd, 1) := dk_96 (dk_at dksL_law_20 23 rfl rfl)
theorem dL_law_729 : decode cL_law 729 = .ok (.iaload, 1) := dk_46 (dk_at dksL_law_21 0 rfl rfl)
theorem dL_law_730 : decode cL_law 730 = .ok (.aload_n 3, 1) := dk_45 (dk_at dksL_law_21 1 rfl rfl)
theorem dL_law_731 : decode cL_law 731 = .ok (.invokestatic 206, 3) := dk_184 0 206 (dk_at dksL_law_21 2 rfl rfl)
theorem dL_law_734 : decode cL_law 734 = .ok (.istore 5, 2) := dk_54 5 (dk_at dksL_law_21 5 rfl rfl)
theorem dL_law_736 : decode cL_law 736 = .ok (.aload_n 2, 1) := dk_44 (dk_at dksL_law_21 7 rfl rfl)
theorem dL_law_737 : decode cL_law 737 = .ok (.aload_n 0, 1) := dk_42 (dk_at dksL_law_21 8 rfl rfl)
theorem dL_law_738 : decode cL_law 738 = .ok (.iload 4, 2) := dk_21 4 (dk_at dksL_law_21 9 rfl rfl)
theorem dL_law_740 : decode cL_law 740 = .ok (.iconst 1, 1) := dk_4 (dk_at dksL_law_21 11 rfl rfl)
theorem dL_law_741 : decode cL_law 741 = .ok (.iadd, 1) := dk_96 (dk_at dksL_law_21 12 rfl rfl)
theorem dL_law_742 : decode cL_law 742 = .ok (.iaload, 1) := dk_46 (dk_at dksL_law_21 13 rfl rfl)
theorem dL_law_743 : decode cL_law 743 = .ok (.aload_n 0, 1) := dk_42 (dk_at dksL_law_21 14 rfl rfl)
theorem dL_law_744 : decode cL_law 744 = .ok (.iload 4, 2) := dk_21 4 (dk_at dksL_law_21 15 rfl rfl)
theorem dL_law_746 : decode cL_law 746 = .ok (.iconst 2, 1) := dk_5 (dk_at dksL_law_21 17 rfl rfl)
theorem dL_law_747 : decode cL_law 747 = .ok (.iadd, 1) := dk_96 (dk_at dksL_law_21 18 rfl rfl)
theorem dL_law_748 : decode cL_law 748 = .ok (.iaload, 1) := dk_46 (dk_at dksL_law_21 19 rfl rfl)
theorem dL_law_749 : decode cL_law 749 = .ok (.invokevirtual 208, 3) := dk_182 0 208 (dk_at dksL_law_21 20 rfl rfl)
theorem dL_law_752 : decode cL_law 752 = .ok (.istore 6, 2) := dk_54 6 (dk_at dksL_law_22 0 rfl rfl)
theorem dL_law_754 : decode cL_law 754 = .ok (.aload_n 2, 1) := dk_44 (dk_at dksL_law_22 2 rfl rfl)
theorem dL_law_755 : decode cL_law 755 = .ok (.invokevirtual 182, 3) := dk_182 0 182 (dk_at dksL_law_22 3 rfl rfl)
theorem dL_law_758 : decode cL_law 758 = .ok (.iload 5, 2) := dk_21 5 (dk_at dksL_law_22 6 rfl rfl)
theorem dL_law_760 : decode cL_law 760 = .ok (.if_icmp .eq 5, 3) := dk_159 0 5 (dk_at dksL_law_22 8 rfl rfl)
theorem dL_law_763 : decode cL_law 763 = .ok (.iconst 0, 1) := dk_3 (dk_at dksL_law_22 11 rfl rfl)
theorem dL_law_764 : decode cL_law 764 = .ok (.ireturn, 1) := dk_172 (dk_at dksL_law_22 12 rfl rfl)
theorem dL_law_765 : decode cL_law 765 = .ok (.iload 5, 2) := dk_21 5 (dk_at dksL_law_22 13 rfl rfl)
theorem dL_law_767 : decode cL_law 767 = .ok (.ifCond .ne 15, 3) := dk_154 0 15 (dk_at dksL_law_22 15 rfl rfl)
theorem dL_law_770 : decode cL_law 770 = .ok (.aload_n 3, 1) := dk_45 (dk_at dksL_law_22 18 rfl rfl)
theorem dL_law_771 : decode cL_law 771 = .ok (.iconst 0, 1) := dk_3 (dk_at dksL_law_22 19 rfl rfl)
theorem dL_law_772 : decode cL_law 772 = .ok (.laload, 1) := dk_47 (dk_at dksL_law_22 20 rfl rfl)
theorem dL_law_773 : decode cL_law 773 = .ok (.iload 6, 2) := dk_21 6 (dk_at dksL_law_22 21 rfl rfl)
theorem dL_law_775 : decode cL_law 775 = .ok (.i2l, 1) := dk_133 (dk_at dksL_law_22 23 rfl rfl)
theorem dL_law_776 : decode cL_law 776 = .ok (.lcmp, 1) := dk_148 (dk_at dksL_law_23 0 rfl rfl)
theorem dL_law_777 : decode cL_law 777 = .ok (.ifCond .eq 5, 3) := dk_153 0 5 (dk_at dksL_law_23 1 rfl rfl)
theorem dL_law_780 : decode cL_law 780 = .ok (.iconst 0, 1) := dk_3 (dk_at dksL_law_23 4 rfl rfl)
theorem dL_law_781 : decode cL_law 781 = .ok (.ireturn, 1) := dk_172 (dk_at dksL_law_23 5 rfl rfl)
theorem dL_law_782 : decode cL_law 782 = .ok (.goto 2565, 3) := dk_167 10 5 (dk_at dksL_law_23 6 rfl rfl)
theorem dL_law_785 : decode cL_law 785 = .ok (.aload_n 1, 1) := dk_43 (dk_at dksL_law_23 9 rfl rfl)
theorem dL_law_786 : decode cL_law 786 = .ok (.invokevirtual 209, 3) := dk_182 0 209 (dk_at dksL_law_23 10 rfl rfl)
theorem dL_law_789 : decode cL_law 789 = .ok (.aload_n 2, 1) := dk_44 (dk_at dksL_law_23 13 rfl rfl)
theorem dL_law_790 : decode cL_law 790 = .ok (.invokevirtual 212, 3) := dk_182 0 212 (dk_at dksL_law_23 14 rfl rfl)
theorem dL_law_793 : decode cL_law 793 = .ok (.if_icmp .eq 2554, 3) := dk_159 9 250 (dk_at dksL_law_23 17 rfl rfl)
theorem dL_law_796 : decode cL_law 796 = .ok (.iconst 0, 1) := dk_3 (dk_at dksL_law_23 20 rfl rfl)
theorem dL_law_797 : decode cL_law 797 = .ok (.ireturn, 1) := dk_172 (dk_at dksL_law_23 21 rfl rfl)
theorem dL_law_798 : decode cL_law 798 = .ok (.aload_n 1, 1) := dk_43 (dk_at dksL_law_23 22 rfl rfl)
theorem dL_law_799 : decode cL_law 799 = .ok (.invokevirtual 213, 3) := dk_182 0 213 (dk_at dksL_law_24 0 rfl rfl)
theorem dL_law_802 : decode cL_law 802 = .ok (.aload_n 2, 1) := dk_44 (dk_at dksL_law_24 3 rfl rfl)
theorem dL_law_803 : decode cL_law 803 = .ok (.invokevirtual 216, 3) := dk_182 0 216 (dk_at dksL_law_24 4 rfl rfl)
theorem dL_law_806 : decode cL_law 806 = .ok (.if_icmp .eq 2541, 3) := dk_159 9 237 (dk_at dksL_law_24 7 rfl rfl)
theorem dL_law_809 : decode cL_law 809 = .ok (.iconst 0, 1) := dk_3 (dk_at dksL_law_24 10 rfl rfl)
theorem dL_law_810 : decode cL_law 810 = .ok (.ireturn, 1) := dk_172 (dk_at dksL_law_24 11 rfl rfl)
theorem dL_law_811 : decode cL_law 811 = .ok (.aload_n 1, 1) := dk_43 (dk_at dksL_law_24 12 rfl rfl)
theorem dL_law_812 : decode cL_law 812 = .ok (.aload_n 0, 1) := dk_42 (dk_at dksL_law_24 13 rfl rfl)
theorem dL_law_813 : decode cL_law 813 = .ok (.iload 4, 2) := dk_21 4 (dk_at dksL_law_24 14 rfl rfl)
theorem dL_law_815 : decode cL_law 815 = .ok (.iconst 1, 1) := dk_4 (dk_at dksL_law_24 16 rfl rfl)
theorem dL_law_816 : decode cL_law 816 = .ok (.iadd, 1) := dk_96 (dk_at dksL_law_24 17 rfl rfl)
theorem dL_law_817 : decode cL_law 817 = .ok (.iaload, 1) := dk_46 (dk_at dksL_law_24 18 rfl rfl)
theorem dL_law_818 : decode cL_law 818 = .ok (.aload_n 3, 1) := dk_45 (dk_at dksL_law_24 19 rfl rfl)
theorem dL_law_819 : decode cL_law 819 = .ok (.invokestatic 217, 3) := dk_184 0 217 (dk_at dksL_law_24 20 rfl rfl)
theorem dL_law_822 : decode cL_law 822 = .ok (.istore 5, 2) := dk_54 5 (dk_at dksL_law_25 0 rfl rfl)
theorem dL_law_824 : decode cL_law 824 = .ok (.aload_n 2, 1) := dk_44 (dk_at dksL_law_25 2 rfl rfl)
theorem dL_law_825 : decode cL_law 825 = .ok (.aload_n 0, 1) := dk_42 (dk_at dksL_law_25 3 rfl rfl)
theorem dL_law_826 : decode cL_law 826 = .ok (.iload 4, 2) := dk_21 4 (dk_at dksL_law_25 4 rfl rfl)
theorem dL_law_828 : decode cL_law 828 = .ok (.iconst 1, 1) := dk_4 (dk_at dksL_law_25 6 rfl rfl)
theorem dL_law_829 : decode cL_law 829 = .ok (.iadd, 1) := dk_96 (dk_at dksL_law_25 7 rfl rfl)
theorem dL_law_830 : decode cL_law 830 = .ok (.iaload, 1) := dk_46 (dk_at dksL_law_25 8 rfl rfl)
theorem dL_law_831 : decode cL_law 831 = .ok (.invokevirtual 219, 3) := dk_182 0 219 (dk_at dksL_law_25 9 rfl rfl)
theorem dL_law_834 : decode cL_law 834 = .ok (.istore 6, 2) := dk_54 6 (dk_at dksL_law_25 12 rfl rfl)
theorem dL_law_836 : decode cL_law 836 = .ok (.aload_n 2, 1) := dk_44 (dk_at dksL_law_25 14 rfl rfl)
theorem dL_law_837 : decode cL_law 837 = .ok (.invokevirtual 182, 3) := dk_182 0 182 (dk_at dksL_law_25 15 rfl rfl)
theorem dL_law_840 : decode cL_law 840 = .ok (.iload 5, 2) := dk_21 5 (dk_at dksL_law_25 18 rfl rfl)
theorem dL_law_842 : decode cL_law 842 = .ok (.if_icmp .eq 5, 3) := dk_159 0 5 (dk_at dksL_law_25 20 rfl rfl)
theorem dL_law_845 : decode cL_law 845 = .ok (.iconst 0, 1) := dk_3 (dk_at dksL_law_25 23 rfl rfl)
theorem dL_law_846 : decode cL_law 846 = .ok (.ireturn, 1) := dk_172 (dk_at dksL_law_26 0 rfl rfl)
theorem dL_law_847 : decode cL_law 847 = .ok (.iload 5, 2) := dk_21 5 (dk_at dksL_law_26 1 rfl rfl)
theorem dL_law_849 : decode cL_law 849 = .ok (.ifCond .ne 15, 3) := dk_154 0 15 (dk_at dksL_law_26 3 rfl rfl)
theorem dL_law_852 : decode cL_law 852 = .ok (.aload_n 3, 1) := dk_45 (dk_at dksL_law_26 6 rfl rfl)
theorem dL_law_853 : decode cL_law 853 = .ok (.iconst 0, 1) := dk_3 (dk_at dksL_law_26 7 rfl rfl)
theorem dL_law_854 : decode cL_law 854 = .ok (.laload, 1) := dk_47 (dk_at dksL_law_26 8 rfl rfl)
theorem dL_law_855 : decode cL_law 855 = .ok (.iload 6, 2) := dk_21 6 (dk_at dksL_law_26 9 rfl rfl)
theorem dL_law_857 : decode cL_law 857 = .ok (.i2l, 1) := dk_133 (dk_at dksL_law_26 11 rfl rfl)
theorem dL_law_858 : decode cL_law 858 = .ok (.lcmp, 1) := dk_148 (dk_at dksL_law_26 12 rfl rfl)
theorem dL_law_859 : decode cL_law 859 = .ok (.ifCond .eq 5, 3) := dk_153 0 5 (dk_at dksL_law_26 13 rfl rfl)
theorem dL_law_862 : decode cL_law 862 = .ok (.iconst 0, 1) := dk_3 (dk_at dksL_law_26 16 rfl rfl)
theorem dL_law_863 : decode cL_law 863 = .ok (.ireturn, 1) := dk_172 (dk_at dksL_law_26 17 rfl rfl)
theorem dL_law_864 : decode cL_law 864 = .ok (.goto 2483, 3) := dk_167 9 179 (dk_at dksL_law_26 18 rfl rfl)
theorem dL_law_867 : decode cL_law 867 = .ok (.aload_n 1, 1) := dk_43 (dk_at dksL_law_26 21 rfl rfl)
theorem dL_law_868 : decode cL_law 868 = .ok (.invokevirtual 220, 3) := dk_182 0 220 (dk_at dksL_law_27 0 rfl rfl)
theorem dL_law_871 : decode cL_law 871 = .ok (.aload_n 2, 1) := dk_44 (dk_at dksL_law_27 3 rfl rfl)
theorem dL_law_872 : decode cL_law 872 = .ok (.invokevirtual 223, 3) := dk_182 0 223 (dk_at dksL_law_27 4 rfl rfl)
theorem dL_law_875 : decode cL_law 875 = .ok (.if_icmp .eq 2472, 3) := dk_159 9 168 (dk_at dksL_law_27 7 rfl rfl)
theorem dL_law_878 : decode cL_law 878 = .ok (.iconst 0, 1) := dk_3 (dk_at dksL_law_27 10 rfl rfl)
theorem dL_law_879 : decode cL_law 879 = .ok (.ireturn, 1) := dk_172 (dk_at dksL_law_27 11 rfl rfl)
theorem dL_law_880 : decode cL_law 880 = .ok (.aload_n 1, 1) := dk_43 (dk_at dksL_law_27 12 rfl rfl)
theorem dL_law_881 : decode cL_law 881 = .ok (.aload_n 0, 1) := dk_42 (dk_at dksL_law_27 13 rfl rfl)
theorem dL_law_882 : decode cL_law 882 = .ok (.iload 4, 2) := dk_21 4 (dk_at dksL_law_27 14 rfl rfl)
theorem dL_law_884 : decode cL_law 884 = .ok (.iconst 1, 1) := dk_4 (dk_at dksL_law_27 16 rfl rfl)
theorem dL_law_885 : decode cL_law 885 = .ok (.iadd, 1) := dk_96 (dk_at dksL_law_27 17 rfl rfl)
theorem dL_law_886 : decode cL_law 886 = .ok (.iaload, 1) := dk_46 (dk_at dksL_law_27 18 rfl rfl)
theorem dL_law_887 : decode cL_law 887 = .ok (.invokevirtual 224, 3) := dk_182 0 224 (dk_at dksL_law_27 19 rfl rfl)
theorem dL_law_890 : decode cL_law 890 = .ok (.aload_n 2, 1) := dk_44 (dk_at dksL_law_27 22 rfl rfl)
theorem dL_law_891 : decode cL_law 891 = .ok (.aload_n 0, 1) := dk_42 (dk_at dksL_law_27 23 rfl rfl)
theorem dL_law_892 : decode cL_law 892 = .ok (.iload 4, 2) := dk_21 4 (dk_at dksL_law_28 0 rfl rfl)
theorem dL_law_894 : decode cL_law 894 = .ok (.iconst 1, 1) := dk_4 (dk_at dksL_law_28 2 rfl rfl)
theorem dL_law_895 : decode cL_law 895 = .ok (.iadd, 1) := dk_96 (dk_at dksL_law_28 3 rfl rfl)
theorem dL_law_896 : decode cL_law 896 = .ok (.iaload, 1) := dk_46 (dk_at dksL_law_28 4 rfl rfl)
theorem dL_law_897 : decode cL_law 897 = .ok (.invokevirtual 227, 3) := dk_182 0 227 (dk_at dksL_law_28 5 rfl rfl)
theorem dL_law_900 : decode cL_law 900 = .ok (.if_icmp .eq 2447, 3) := dk_159 9 143 (dk_at dksL_law_28 8 rfl rfl)
theorem dL_law_903 : decode cL_law 903 = .ok (.iconst 0, 1) := dk_3 (dk_at dksL_law_28 11 rfl rfl)
theorem dL_law_904 : decode cL_law 904 = .ok (.ireturn, 1) := dk_172 (dk_at dksL_law_28 12 rfl rfl)
theorem dL_law_905 : decode cL_law 905 = .ok (.aload_n 1, 1) := dk_43 (dk_at dksL_law_28 13 rfl rfl)
theorem dL_law_906 : decode cL_law 906 = .ok (.aload_n 0, 1) := dk_42 (dk_at dksL_law_28 14 rfl rfl)
theorem dL_law_907 : decode cL_law 907 = .ok (.iload 4, 2) := dk_21 4 (dk_at dksL_law_28 15 rfl rfl)
theorem dL_law_909 : decode cL_law 909 = .ok (.iconst 1, 1) := dk_4 (dk_at dksL_law_28 17 rfl rfl)
theorem dL_law_910 : decode cL_law 910 = .ok (.iadd, 1) := dk_96 (dk_at dksL_law_28 18 rfl rfl)
theorem dL_law_911 : decode cL_law 911 = .ok (.iaload, 1) := dk_46 (dk_at dksL_law_28 19 rfl rfl)
theorem dL_law_912 : decode cL_law 912 = .ok (.aload_n 3, 1) := dk_45 (dk_at dksL_law_28 20 rfl rfl)
theorem dL_law_913 : decode cL_law 913 = .ok (.invokestatic 228, 3) := dk_184 0 228 (dk_at dksL_law_28 21 rfl rfl)
theorem dL_law_916 : decode cL_law 916 = .ok (.istore 5, 2) := dk_54 5 (dk_at dksL_law_29 0 rfl rfl)
theorem dL_law_918 : decode cL_law 918 = .ok (.aload_n 2, 1) := dk_44 (dk_at dksL_law_29 2 rfl rfl)
theorem dL_law_919 : decode cL_law 919 = .ok (.aload_n 0, 1) := dk_42 (dk_at dksL_law_29 3 rfl rfl)
theorem dL_law_920 : decode cL_law 920 = .ok (.iload 4, 2) := dk_21 4 (dk_at dksL_law_29 4 rfl rfl)
theorem dL_law_922 : decode cL_law 922 = .ok (.iconst 1, 1) := dk_4 (dk_at dksL_law_29 6 rfl rfl)
theorem dL_law_923 : decode cL_law 923 = .ok (.iadd, 1) := dk_96 (dk_at dksL_law_29 7 rfl rfl)
theorem dL_law_924 : decode cL_law 924 = .ok (.iaload, 1) := dk_46 (dk_at dksL_law_29 8 rfl rfl)
theorem dL_law_925 : decode cL_law 925 = .ok (.invokevirtual 230, 3) := dk_182 0 230 (dk_at dksL_law_29 9 rfl rfl)
theorem dL_law_928 : decode cL_law 928 = .ok (.istore 6, 2) := dk_54 6 (dk_at dksL_law_29 12 rfl rfl)
theorem dL_law_930 : decode cL_law 930 = .ok (.aload_n 2, 1) := dk_44 (dk_at dksL_law_29 14 rfl rfl)
theorem dL_law_931 : decode cL_law 931 = .ok (.invokevirtual 182, 3) := dk_182 0 182 (dk_at dksL_law_29 15 rfl rfl)
theorem dL_law_934 : decode cL_law 934 = .ok (.iload 5, 2) := dk_21 5 (dk_at dksL_law_29 18 rfl rfl)
theorem dL_law_936 : decode cL_law 936 = .ok (.if_icmp .eq 5, 3) := dk_159 0 5 (dk_at dksL_law_29 20 rfl rfl)
theorem dL_law_939 : decode cL_law 939 = .ok (.iconst 0, 1) := dk_3 (dk_at dksL_law_29 23 rfl rfl)
theorem dL_law_940 : decode cL_law 940 = .ok (.ireturn, 1) := dk_172 (dk_at dksL_law_30 0 rfl rfl)
theorem dL_law_941 : decode cL_law 941 = .ok (.iload 5, 2) := dk_21 5 (dk_at dksL_law_30 1 rfl rfl)
theorem dL_law_943 : decode cL_law 943 = .ok (.ifCond .ne 15, 3) := dk_154 0 15 (dk_at dksL_law_30 3 rfl rfl)
theorem dL_law_946 : decode cL_law 946 = .ok (.aload_n 3, 1) := dk_45 (dk_at dksL_law_30 6 rfl rfl)
theorem dL_law_947 : decode cL_law 947 = .ok (.iconst 0, 1) := dk_3 (dk_at dksL_law_30 7 rfl rfl)
theorem dL_law_948 : decode cL_law 948 = .ok (.laload, 1) := dk_47 (dk_at dksL_law_30 8 rfl rfl)
theorem dL_law_949 : decode cL_law 949 = .ok (.iload 6, 2) := dk_21 6 (dk_at dksL_law_30 9 rfl rfl)
theorem dL_law_951 : decode cL_law 951 = .ok (.i2l, 1) := dk_133 (dk_at dksL_law_30 11 rfl rfl)
theorem dL_law_952 : decode cL_law 952 = .ok (.lcmp, 1) := dk_148 (dk_at dksL_law_30 12 rfl rfl)
theorem dL_law_953 : decode cL_law 953 = .ok (.ifCond .eq 5, 3) := dk_153 0 5 (dk_at dksL_law_30 13 rfl rfl)
theorem dL_law_956 : decode cL_law 956 = .ok (.iconst 0, 1) := dk_3 (dk_at dksL_law_30 16 rfl rfl)
theorem dL_law_957 : decode cL_law 957 = .ok (.ireturn, 1) := dk_172 (dk_at dksL_law_30 17 rfl rfl)
theorem dL_law_958 : decode cL_law 958 = .ok (.goto 2389, 3) := dk_167 9 85 (dk_at dksL_law_30 18 rfl rfl)
theorem dL_law_961 : decode cL_law 961 = .ok (.aload_n 1, 1) := dk_43 (dk_at dksL_law_30 21 rfl rfl)
theorem dL_law_962 : decode cL_law 962 = .ok (.aload_n 0, 1) := dk_42 (dk_at dksL_law_30 22 rfl rfl)
theorem dL_law_963 : decode cL_law 963 = .ok (.iload 4, 2) := dk_21 4 (dk_at dksL_law_31 0 rfl rfl)
theorem dL_law_965 : decode cL_law 965 = .ok (.iconst 1, 1) := dk_4 (dk_at dksL_law_31 2 rfl rfl)
theorem dL_law_966 : decode cL_law 966 = .ok (.iadd, 1) := dk_96 (dk_at dksL_law_31 3 rfl rfl)
theorem dL_law_967 : decode cL_law 967 = .ok (.iaload, 1) := dk_46 (dk_at dksL_law_31 4 rfl rfl)
theorem dL_law_968 : decode cL_law 968 = .ok (.aload_n 3, 1) := dk_45 (dk_at dksL_law_31 5 rfl rfl)
theorem dL_law_969 : decode cL_law 969 = .ok (.invokestatic 231, 3) := dk_184 0 231 (dk_at dksL_law_31 6 rfl rfl)
theorem dL_law_972 : decode cL_law 972 = .ok (.istore 5, 2) := dk_54 5 (dk_at dksL_law_31 9 rfl rfl)
theorem dL_law_974 : decode cL_law 974 = .ok (.aload_n 2, 1) := dk_44 (dk_at dksL_law_31 11 rfl rfl)
theorem dL_law_975 : decode cL_law 975 = .ok (.aload_n 0, 1) := dk_42 (dk_at dksL_law_31 12 rfl rfl)
theorem dL_law_976 : decode cL_law 976 = .ok (.iload 4, 2) := dk_21 4 (dk_at dksL_law_31 13 rfl rfl)
theorem dL_law_978 : decode cL_law 978 = .ok (.iconst 1, 1) := dk_4 (dk_at dksL_law_31 15 rfl rfl)
theorem dL_law_979 : decode cL_law 979 = .ok (.iadd, 1) := dk_96 (dk_at dksL_law_31 16 rfl rfl)
theorem dL_law_980 : decode cL_law 980 = .ok (.iaload, 1) := dk_46 (dk_at dksL_law_31 17 rfl rfl)
theorem dL_law_981 : decode cL_law 981 = .ok (.invokevirtual 233, 3) := dk_182 0 233 (dk_at dksL_law_31 18 rfl rfl)
theorem dL_law_984 : decode cL_law 984 = .ok (.istore 6, 2) := dk_54 6 (dk_at dksL_law_31 21 rfl rfl)
theorem dL_law_986 : decode cL_law 986 = .ok (.aload_n 2, 1) := dk_44 (dk_at dksL_law_31 23 rfl rfl)
theorem dL_law_987 : decode cL_law 987 = .ok (.invokevirtual 182, 3) := dk_182 0 182 (dk_at dksL_law_32 0 rfl rfl)
theorem dL_law_990 : decode cL_law 990 = .ok (.iload 5, 2) := dk_21 5 (dk_at dksL_law_32 3 rfl rfl)
theorem dL_law_992 : decode cL_law 992 = .ok (.if_icmp .eq 5, 3) := dk_159 0 5 (dk_at dksL_law_32 5 rfl rfl)
theorem dL_law_995 : decode cL_law 995 = .ok (.iconst 0, 1) := dk_3 (dk_at dksL_law_32 8 rfl rfl)
theorem dL_law_996 : decode cL_law 996 = .ok (.ireturn, 1) := dk_172 (dk_at dksL_law_32 9 rfl rfl)
theorem dL_law_997 : decode cL_law 997 = .ok (.iload 5, 2) := dk_21 5 (dk_at dksL_law_32 10 rfl rfl)
theorem dL_law_999 : decode cL_law 999 = .ok (.ifCond .ne 15, 3) := dk_154 0 15 (dk_at dksL_law_32 12 rfl rfl)
theorem dL_law_1002 : decode cL_law 1002 = .ok (.aload_n 3, 1) := dk_45 (dk_at dksL_law_32 15 rfl rfl)
theorem dL_law_1003 : decode cL_law 1003 = .ok (.iconst 0, 1) := dk_3 (dk_at dksL_law_32 16 rfl rfl)
theorem dL_law_1004 : decode cL_law 1004 = .ok (.laload, 1) := dk_47 (dk_at dksL_law_32 17 rfl rfl)
theorem dL_law_1005 : decode cL_law 1005 = .ok (.iload 6, 2) := dk_21 6 (dk_at dksL_law_32 18 rfl rfl)
theorem dL_law_1007 : decode cL_law 1007 = .ok (.i2l, 1) := dk_133 (dk_at dksL_law_32 20 rfl rfl)
theorem dL_law_1008 : decode cL_law 1008 = .ok (.lcmp, 1) := dk_148 (dk_at dksL_law_32 21 rfl rfl)
theorem dL_law_1009 : decode cL_law 1009 = .ok (.ifCond .eq 5, 3) := dk_153 0 5 (dk_at dksL_law_33 0 rfl rfl)
theorem dL_law_1012 : decode cL_law 1012 = .ok (.iconst 0, 1) := dk_3 (dk_at dksL_law_33 3 rfl rfl)
theorem dL_law_1013 : decode cL_law 1013 = .ok (.ireturn, 1) := dk_172 (dk_at dksL_law_33 4 rfl rfl)
theorem dL_law_1014 : decode cL_law 1014 = .ok (.goto 2333, 3) := dk_167 9 29 (dk_at dksL_law_33 5 rfl rfl)
theorem dL_law_1017 : decode cL_law 1017 = .ok (.aload_n 1, 1) := dk_43 (dk_at dksL_law_33 8 rfl rfl)
theorem dL_law_1018 : decode cL_law 1018 = .ok (.aload_n 0, 1) := dk_42 (dk_at dksL_law_33 9 rfl rfl)
theorem dL_law_1019 : decode cL_law 1019 = .ok (.iload 4, 2) := dk_21 4 (dk_at dksL_law_33 10 rfl rfl)
theorem dL_law_1021 : decode cL_law 1021 = .ok (.iconst 1, 1) := dk_4 (dk_at dksL_law_33 12 rfl rfl)
theorem dL_law_1022 : decode cL_law 1022 = .ok (.iadd, 1) := dk_96 (dk_at dksL_law_33 13 rfl rfl)
theorem dL_law_1023 : decode cL_law 1023 = .ok (.iaload, 1) := dk_46 (dk_at dksL_law_33 14 rfl rfl)
theorem dL_law_1024 : decode cL_law 1024 = .ok (.aload_n 3, 1) := dk_45 (dk_at dksL_law_33 15 rfl rfl)
theorem dL_law_1025 : decode cL_law 1025 = .ok (.invokestatic 234, 3) := dk_184 0 234 (dk_at dksL_law_33 16 rfl rfl)
theorem dL_law_1028 : decode cL_law 1028 = .ok (.istore 5, 2) := dk_54 5 (dk_at dksL_law_33 19 rfl rfl)
theorem dL_law_1030 : decode cL_law 1030 = .ok (.aload_n 2, 1) := dk_44 (dk_at dksL_law_33 21 rfl rfl)
theorem dL_law_1031 : decode cL_law 1031 = .ok (.aload_n 0, 1) := dk_42 (dk_at dksL_law_33 22 rfl rfl)
theorem dL_law_1032 : decode cL_law 1032 = .ok (.iload 4, 2) := dk_21 4 (dk_at dksL_law_34 0 rfl rfl)
theorem dL_law_1034 : decode cL_law 1034 = .ok (.iconst 1, 1) := dk_4 (dk_at dksL_law_34 2 rfl rfl)
theorem dL_law_1035 : decode cL_law 1035 = .ok (.iadd, 1) := dk_96 (dk_at dksL_law_34 3 rfl rfl)
theorem dL_law_1036 : decode cL_law 1036 = .ok (.iaload, 1) := dk_46 (dk_at dksL_law_34 4 rfl rfl)
theorem dL_law_1037 : decode cL_law 1037 = .ok (.invokevirtual 236, 3) := dk_182 0 236 (dk_at dksL_law_34 5 rfl rfl)
theorem dL_law_1040 : decode cL_law 1040 = .ok (.istore 6, 2) := dk_54 6 (dk_at dksL_law_34 8 rfl rfl)
theorem dL_law_1042 : decode cL_law 1042 = .ok (.aload_n 2, 1) := dk_44 (dk_at dksL_law_34 10 rfl rfl)
theorem dL_law_1043 : decode cL_law 1043 = .ok (.invokevirtual 182, 3) := dk_182 0 182 (dk_at dksL_law_34 11 rfl rfl)
theorem dL_law_1046 : decode cL_law 1046 = .ok (.iload 5, 2) := dk_21 5 (dk_at dksL_law_34 14 rfl rfl)
theorem dL_law_1048 : decode cL_law 1048 = .ok (.if_icmp .eq 5, 3) := dk_159 0 5 (dk_at dksL_law_34 16 rfl rfl)
theorem dL_law_1051 : decode cL_law 1051 = .ok (.iconst 0, 1) := dk_3 (dk_at dksL_law_34 19 rfl rfl)
theorem dL_law_1052 : decode cL_law 1052 = .ok (.ireturn, 1) := dk_172 (dk_at dksL_law_34 20 rfl rfl)
theorem dL_law_1053 : decode cL_law 1053 = .ok (.iload 5, 2) := dk_21 5 (dk_at dksL_law_34 21 rfl rfl)
theorem dL_law_1055 : decode cL_law 1055 = .ok (.ifCond .ne 15, 3) := dk_154 0 15 (dk_at dksL_law_35 0 rfl rfl)
theorem dL_law_1058 : decode cL_law 1058 = .ok (.aload_n 3, 1) := dk_45 (dk_at dksL_law_35 3 rfl rfl)
theorem dL_law_1059 : decode cL_law 1059 = .ok (.iconst 0, 1) := dk_3 (dk_at dksL_law_35 4 rfl rfl)
theorem dL_law_1060 : decode cL_law 1060 = .ok (.laload, 1) := dk_47 (dk_at dksL_law_35 5 rfl rfl)
theorem dL_law_1061 : decode cL_law 1061 = .ok (.iload 6, 2) := dk_21 6 (dk_at dksL_law_35 6 rfl rfl)
theorem dL_law_1063 : decode cL_law 1063 = .ok (.i2l, 1) := dk_133 (dk_at dksL_law_35 8 rfl rfl)
theorem dL_law_1064 : decode cL_law 1064 = .ok (.lcmp, 1) := dk_148 (dk_at dksL_law_35 9 rfl rfl)
theorem dL_law_1065 : decode cL_law 1065 = .ok (.ifCond .eq 5, 3) := dk_153 0 5 (dk_at dksL_law_35 10 rfl rfl)
theorem dL_law_1068 : decode cL_law 1068 = .ok (.iconst 0, 1) := dk_3 (dk_at dksL_law_35 13 rfl rfl)
theorem dL_law_1069 : decode cL_law 1069 = .ok (.ireturn, 1) := dk_172 (dk_at dksL_law_35 14 rfl rfl)
theorem dL_law_1070 : decode cL_law 1070 = .ok (.goto 2277, 3) := dk_167 8 229 (dk_at dksL_law_35 15 rfl rfl)
theorem dL_law_1073 : decode cL_law 1073 = .ok (.aload_n 1, 1) := dk_43 (dk_at dksL_law_35 18 rfl rfl)
theorem dL_law_1074 : decode cL_law 1074 = .ok (.aload_n 0, 1) := dk_42 (dk_at dksL_law_35 19 rfl rfl)
theorem dL_law_1075 : decode cL_law 1075 = .ok (.iload 4, 2) := dk_21 4 (dk_at dksL_law_35 20 rfl rfl)
theorem dL_law_1077 : decode cL_law 1077 = .ok (.iconst 1, 1) := dk_4 (dk_at dksL_law_35 22 rfl rfl)
theorem dL_law_1078 : decode cL_law 1078 = .ok (.iadd, 1) := dk_96 (dk_at dksL_law_35 23 rfl rfl)
theorem dL_law_1079 : decode cL_law 1079 = .ok (.iaload, 1) := dk_46 (dk_at dksL_law_36 0 rfl rfl)
theorem dL_law_1080 : decode cL_law 1080 = .ok (.aload_n 3, 1) := dk_45 (dk_at dksL_law_36 1 rfl rfl)
theorem dL_law_1081 : decode cL_law 1081 = .ok (.invokestatic 237, 3) := dk_184 0 237 (dk_at dksL_law_36 2 rfl rfl)
theorem dL_law_1084 : decode cL_law 1084 = .ok (.istore 5, 2) := dk_54 5 (dk_at dksL_law_36 5 rfl rfl)
theorem dL_law_1086 : decode cL_law 1086 = .ok (.aload_n 2, 1) := dk_44 (dk_at dksL_law_36 7 rfl rfl)
theorem dL_law_1087 : decode cL_law 1087 = .ok (.aload_n 0, 1) := dk_42 (dk_at dksL_law_36 8 rfl rfl)
theorem dL_law_1088 : decode cL_law 1088 = .ok (.iload 4, 2) := dk_21 4 (dk_at dksL_law_36 9 rfl rfl)
theorem dL_law_1090 : decode cL_law 1090 = .ok (.iconst 1, 1) := dk_4 (dk_at dksL_law_36 11 rfl rfl)
theorem dL_law_1091 : decode cL_law 1091 = .ok (.iadd, 1) := dk_96 (dk_at dksL_law_36 12 rfl rfl)
theorem dL_law_1092 : decode cL_law 1092 = .ok (.iaload, 1) := dk_46 (dk_at dksL_law_36 13 rfl rfl)
theorem dL_law_1093 : decode cL_law 1093 = .ok (.invokevirtual 239, 3) := dk_182 0 239 (dk_at dksL_law_36 14 rfl rfl)
theorem dL_law_1096 : decode cL_law 1096 = .ok (.istore 6, 2) := dk_54 6 (dk_at dksL_law_36 17 rfl rfl)
theorem dL_law_1098 : decode cL_law 1098 = .ok (.aload_n 2, 1) := dk_44 (dk_at dksL_law_36 19 rfl rfl)
theorem dL_law_1099 : decode cL_law 1099 = .ok (.invokevirtual 182, 3) := dk_182 0 182 (dk_at dksL_law_36 20 rfl rfl)
theorem dL_law_1102 : decode cL_law 1102 = .ok (.iload 5, 2) := dk_21 5 (dk_at dksL_law_37 0 rfl rfl)
theorem dL_law_1104 : decode cL_law 1104 = .ok (.if_icmp .eq 5, 3) := dk_159 0 5 (dk_at dksL_law_37 2 rfl rfl)
theorem dL_law_1107 : decode cL_law 1107 = .ok (.iconst 0, 1) := dk_3 (dk_at dksL_law_37 5 rfl rfl)
theorem dL_law_1108 : decode cL_law 1108 = .ok (.ireturn, 1) := dk_172 (dk_at dksL_law_37 6 rfl rfl)
theorem dL_law_1109 : decode cL_law 1109 = .ok (.iload 5, 2) := dk_21 5 (dk_at dksL_law_37 7 rfl rfl)
theorem dL_law_1111 : decode cL_law 1111 = .ok (.ifCond .ne 15, 3) := dk_154 0 15 (dk_at dksL_law_37 9 rfl rfl)
theorem dL_law_1114 : decode cL_law 1114 = .ok (.aload_n 3, 1) := dk_45 (dk_at dksL_law_37 12 rfl rfl)
theorem dL_law_1115 : decode cL_law 1115 = .ok (.iconst 0, 1) := dk_3 (dk_at dksL_law_37 13 rfl rfl)
theorem dL_law_1116 : decode cL_law 1116 = .ok (.laload, 1) := dk_47 (dk_at dksL_law_37 14 rfl rfl)
theorem dL_law_1117 : decode cL_law 1117 = .ok (.iload 6, 2) := dk_21 6 (dk_at dksL_law_37 15 rfl rfl)
theorem dL_law_1119 : decode cL_law 1119 = .ok (.i2l, 1) := dk_133 (dk_at dksL_law_37 17 rfl rfl)
theorem dL_law_1120 : decode cL_law 1120 = .ok (.lcmp, 1) := dk_148 (dk_at dksL_law_37 18 rfl rfl)
theorem dL_law_1121 : decode cL_law 1121 = .ok (.ifCond .eq 5, 3) := dk_153 0 5 (dk_at dksL_law_37 19 rfl rfl)
theorem dL_law_1124 : decode cL_law 1124 = .ok (.iconst 0, 1) := dk_3 (dk_at dksL_law_37 22 rfl rfl)
theorem dL_law_1125 : decode cL_law 1125 = .ok (.ireturn, 1) := dk_172 (dk_at dksL_law_37 23 rfl rfl)
theorem dL_law_1126 : decode cL_law 1126 = .ok (.goto 2221, 3) := dk_167 8 173 (dk_at dksL_law_38 0 rfl rfl)
theorem dL_law_1129 : decode cL_law 1129 = .ok (.aload_n 1, 1) := dk_43 (dk_at dksL_law_38 3 rfl rfl)
theorem dL_law_1130 : decode cL_law 1130 = .ok (.aload_n 0, 1) := dk_42 (dk_at dksL_law_38 4 rfl rfl)
theorem dL_law_1131 : decode cL_law 1131 = .ok (.iload 4, 2) := dk_21 4 (dk_at dksL_law_38 5 rfl rfl)
theorem dL_law_1133 : decode cL_law 1133 = .ok (.iconst 1, 1) := dk_4 (dk_at dksL_law_38 7 rfl rfl)
theorem dL_law_1134 : decode cL_law 1134 = .ok (.iadd, 1) := dk_96 (dk_at dksL_law_38 8 rfl rfl)
theorem dL_law_1135 : decode cL_law 1135 = .ok (.iaload, 1) := dk_46 (dk_at dksL_law_38 9 rfl rfl)
theorem dL_law_1136 : decode cL_law 1136 = .ok (.aload_n 3, 1) := dk_45 (dk_at dksL_law_38 10 rfl rfl)
theorem dL_law_1137 : decode cL_law 1137 = .ok (.invokestatic 240, 3) := dk_184 0 240 (dk_at dksL_law_38 11 rfl rfl)
theorem dL_law_1140 : decode cL_law 1140 = .ok (.istore 5, 2) := dk_54 5 (dk_at dksL_law_38 14 rfl rfl)
theorem dL_law_1142 : decode cL_law 1142 = .ok (.aload_n 2, 1) := dk_44 (dk_at dksL_law_38 16 rfl rfl)
theorem dL_law_1143 : decode cL_law 1143 = .ok (.aload_n 0, 1) := dk_42 (dk_at dksL_law_38 17 rfl rfl)
theorem dL_law_1144 : decode cL_law 1144 = .ok (.iload 4, 2) := dk_21 4 (dk_at dksL_law_38 18 rfl rfl)
theorem dL_law_1146 : decode cL_law 1146 = .ok (.iconst 1, 1) := dk_4 (dk_at dksL_law_38 20 rfl rfl)
theorem dL_law_1147 : decode cL_law 1147 = .ok (.iadd, 1) := dk_96 (dk_at dksL_law_38 21 rfl rfl)
theorem dL_law_1148 : decode cL_law 1148 = .ok (.iaload, 1) := dk_46 (dk_at dksL_law_38 22 rfl rfl)
theorem dL_law_1149 : decode cL_law 1149 = .ok (.invokevirtual 242, 3) := dk_182 0 242 (dk_at dksL_law_39 0 rfl rfl)
theorem dL_law_1152 : decode cL_law 1152 = .ok (.istore 6, 2) := dk_54 6 (dk_at dksL_law_39 3 rfl rfl)
theorem dL_law_1154 : decode cL_law 1154 = .ok (.aload_n 2, 1) := dk_44 (dk_at dksL_law_39 5 rfl rfl)
theorem dL_law_1155 : decode cL_law 1155 = .ok (.invokevirtual 182, 3) := dk_182 0 182 (dk_at dksL_law_39 6 rfl rfl)
theorem dL_law_1158 : decode cL_law 1158 = .ok (.iload 5, 2) := dk_21 5 (dk_at dksL_law_39 9 rfl rfl)
theorem dL_law_1160 : decode cL_law 1160 = .ok (.if_icmp .eq 5, 3) := dk_159 0 5 (dk_at dksL_law_39 11 rfl rfl)
theorem dL_law_1163 : decode cL_law 1163 = .ok (.iconst 0, 1) := dk_3 (dk_at dksL_law_39 14 rfl rfl)
theorem dL_law_1164 : decode cL_law 1164 = .ok (.ireturn, 1) := dk_172 (dk_at dksL_law_39 15 rfl rfl)
theorem dL_law_1165 : decode cL_law 1165 = .ok (.iload 5, 2) := dk_21 5 (dk_at dksL_law_39 16 rfl rfl)
theorem dL_law_1167 : decode cL_law 1167 = .ok (.ifCond .ne 15, 3) := dk_154 0 15 (dk_at dksL_law_39 18 rfl rfl)
theorem dL_law_1170 : decode cL_law 1170 = .ok (.aload_n 3, 1) := dk_45 (dk_at dksL_law_39 21 rfl rfl)
theorem dL_law_1171 : decode cL_law 1171 = .ok (.iconst 0, 1) := dk_3 (dk_at dksL_law_39 22 rfl rfl)
theorem dL_law_1172 : decode cL_law 1172 = .ok (.laload, 1) := dk_47 (dk_at dksL_law_39 23 rfl rfl)
theorem dL_law_1173 : decode cL_law 1173 = .ok (.iload 6, 2) := dk_21 6 (dk_at dksL_law_40 0 rfl rfl)
theorem dL_law_1175 : decode cL_law 1175 = .ok (.i2l, 1) := dk_133 (dk_at dksL_law_40 2 rfl rfl)
theorem dL_law_1176 : decode cL_law 1176 = .ok (.lcmp, 1) := dk_148 (dk_at dksL_law_40 3 rfl rfl)
theorem dL_law_1177 : decode cL_law 1177 = .ok (.ifCond .eq 5, 3) := dk_153 0 5 (dk_at dksL_law_40 4 rfl rfl)
theorem dL_law_1180 : decode cL_law 1180 = .ok (.iconst 0, 1) := dk_3 (dk_at dksL_law_40 7 rfl rfl)
theorem dL_law_1181 : decode cL_law 1181 = .ok (.ireturn, 1) := dk_172 (dk_at dksL_law_40 8 rfl rfl)
theorem dL_law_1182 : decode cL_law 1182 = .ok (.goto 2165, 3) := dk_167 8 117 (dk_at dksL_law_40 9 rfl rfl)
theorem dL_law_1185 : decode cL_law 1185 = .ok (.aload_n 1, 1) := dk_43 (dk_at dksL_law_40 12 rfl rfl)
theorem dL_law_1186 : decode cL_law 1186 = .ok (.aload_n 0, 1) := dk_42 (dk_at dksL_law_40 13 rfl rfl)
theorem dL_law_1187 : decode cL_law 1187 = .ok (.iload 4, 2) := dk_21 4 (dk_at dksL_law_40 14 rfl rfl)
theorem dL_law_1189 : decode cL_law 1189 = .ok (.iconst 1, 1) := dk_4 (dk_at dksL_law_40 16 rfl rfl)
theorem dL_law_1190 : decode cL_law 1190 = .ok (.iadd, 1) := dk_96 (dk_at dksL_law_40 17 rfl rfl)
theorem dL_law_1191 : decode cL_law 1191 = .ok (.iaload, 1) := dk_46 (dk_at dksL_law_40 18 rfl rfl)
theorem dL_law_1192 : decode cL_law 1192 = .ok (.aload_n 3, 1) := dk_45 (dk_at dksL_law_40 19 rfl rfl)
theorem dL_law_1193 : decode cL_law 1193 = .ok (.invokestatic 243, 3) := dk_184 0 243 (dk_at dksL_law_40 20 rfl rfl)
theorem dL_law_1196 : decode cL_law 1196 = .ok (.istore 5, 2) := dk_54 5 (dk_at dksL_law_41 0 rfl rfl)
theorem dL_law_1198 : decode cL_law 1198 = .ok (.aload_n 2, 1) := dk_44 (dk_at dksL_law_41 2 rfl rfl)
theorem dL_law_1199 : decode cL_law 1199 = .ok (.aload_n 0, 1) := dk_42 (dk_at dksL_law_41 3 rfl rfl)
theorem dL_law_1200 : decode cL_law 1200 = .ok (.iload 4, 2) := dk_21 4 (dk_at dksL_law_41 4 rfl rfl)
theorem dL_law_1202 : decode cL_law 1202 = .ok (.iconst 1, 1) := dk_4 (dk_at dksL_law_41 6 rfl rfl)
theorem dL_law_1203 : decode cL_law 1203 = .ok (.iadd, 1) := dk_96 (dk_at dksL_law_41 7 rfl rfl)
theorem dL_law_1204 : decode cL_law 1204 = .ok (.iaload, 1) := dk_46 (dk_at dksL_law_41 8 rfl rfl)
theorem dL_law_1205 : decode cL_law 1205 = .ok (.invokevirtual 245, 3) := dk_182 0 245 (dk_at dksL_law_41 9 rfl rfl)
theorem dL_law_1208 : decode cL_law 1208 = .ok (.istore 6, 2) := dk_54 6 (dk_at dksL_law_41 12 rfl rfl)
theorem dL_law_1210 : decode cL_law 1210 = .ok (.aload_n 2, 1) := dk_44 (dk_at dksL_law_41 14 rfl rfl)
theorem dL_law_1211 : decode cL_law 1211 = .ok (.invokevirtual 182, 3) := dk_182 0 182 (dk_at dksL_law_41 15 rfl rfl)
theorem dL_law_1214 : decode cL_law 1214 = .ok (.iload 5, 2) := dk_21 5 (dk_at dksL_law_41 18 rfl rfl)
theorem dL_law_1216 : decode cL_law 1216 = .ok (.if_icmp .eq 5, 3) := dk_159 0 5 (dk_at dksL_law_41 20 rfl rfl)
theorem dL_law_1219 : decode cL_law 1219 = .ok (.iconst 0, 1) := dk_3 (dk_at dksL_law_41 23 rfl rfl)
theorem dL_law_1220 : decode cL_law 1220 = .ok (.ireturn, 1) := dk_172 (dk_at dksL_law_42 0 rfl rfl)
theorem dL_law_1221 : decode cL_law 1221 = .ok (.iload 5, 2) := dk_21 5 (dk_at dksL_law_42 1 rfl rfl)
theorem dL_law_1223 : decode cL_law 1223 = .ok (.ifCond .ne 15, 3) := dk_154 0 15 (dk_at dksL_law_42 3 rfl rfl)
theorem dL_law_1226 : decode cL_law 1226 = .ok (.aload_n 3, 1) := dk_45 (dk_at dksL_law_42 6 rfl rfl)
theorem dL_law_1227 : decode cL_law 1227 = .ok (.iconst 0, 1) := dk_3 (dk_at dksL_law_42 7 rfl rfl)
theorem dL_law_1228 : decode cL_law 1228 = .ok (.laload, 1) := dk_47 (dk_at dksL_law_42 8 rfl rfl)
theorem dL_law_1229 : decode cL_law 1229 = .ok (.iload 6, 2) := dk_21 6 (dk_at dksL_law_42 9 rfl rfl)
theorem dL_law_1231 : decode cL_law 1231 = .ok (.i2l, 1) := dk_133 (dk_at dksL_law_42 11 rfl rfl)
theorem dL_law_1232 : decode cL_law 1232 = .ok (.lcmp, 1) := dk_148 (dk_at dksL_law_42 12 rfl rfl)
theorem dL_law_1233 : decode cL_law 1233 = .ok (.ifCond .eq 5, 3) := dk_153 0 5 (dk_at dksL_law_42 13 rfl rfl)
theorem dL_law_1236 : decode cL_law 1236 = .ok (.iconst 0, 1) := dk_3 (dk_at dksL_law_42 16 rfl rfl)
theorem dL_law_1237 : decode cL_law 1237 = .ok (.ireturn, 1) := dk_172 (dk_at dksL_law_42 17 rfl rfl)
theorem dL_law_1238 : decode cL_law 1238 = .ok (.goto 2109, 3) := dk_167 8 61 (dk_at dksL_law_42 18 rfl rfl)
theorem dL_law_1241 : decode cL_law 1241 = .ok (.aload_n 1, 1) := dk_43 (dk_at dksL_law_42 21 rfl rfl)
theorem dL_law_1242 : decode cL_law 1242 = .ok (.aload_n 0, 1) := dk_42 (dk_at dksL_law_42 22 rfl rfl)
theorem dL_law_1243 : decode cL_law 1243 = .ok (.iload 4, 2) := dk_21 4 (dk_at dksL_law_43 0 rfl rfl)
theorem dL_law_1245 : decode cL_law 1245 = .ok (.iconst 1, 1) := dk_4 (dk_at dksL_law_43 2 rfl rfl)
theorem dL_law_1246 : decode cL_law 1246 = .ok (.iadd, 1) := dk_96 (dk_at dksL_law_43 3 rfl rfl)
theorem dL_law_1247 : decode cL_law 1247 = .ok (.iaload, 1) := dk_46 (dk_at dksL_law_43 4 rfl rfl)
theorem dL_law_1248 : decode cL_law 1248 = .ok (.aload_n 3, 1) := dk_45 (dk_at dksL_law_43 5 rfl rfl)
theorem dL_law_1249 : decode cL_law 1249 = .ok (.invokestatic 246, 3) := dk_184 0 246 (dk_at dksL_law_43 6 rfl rfl)
theorem dL_law_1252 : decode cL_law 1252 = .ok (.istore 5, 2) := dk_54 5 (dk_at dksL_law_43 9 rfl rfl)
theorem dL_law_1254 : decode cL_law 1254 = .ok (.aload_n 2, 1) := dk_44 (dk_at dksL_law_43 11 rfl rfl)
theorem dL_law_1255 : decode cL_law 1255 = .ok (.aload_n 0, 1) := dk_42 (dk_at dksL_law_43 12 rfl rfl)
theorem dL_law_1256 : decode cL_law 1256 = .ok (.iload 4, 2) := dk_21 4 (dk_at dksL_law_43 13 rfl rfl)
theorem dL_law_1258 : decode cL_law 1258 = .ok (.iconst 1, 1) := dk_4 (dk_at dksL_law_43 15 rfl rfl)
theorem dL_law_1259 : decode cL_law 1259 = .ok (.iadd, 1) := dk_96 (dk_at dksL_law_43 16 rfl rfl)
theorem dL_law_1260 : decode cL_law 1260 = .ok (.iaload, 1) := dk_46 (dk_at dksL_law_43 17 rfl rfl)
theorem dL_law_1261 : decode cL_law 1261 = .ok (.invokevirtual 248, 3) := dk_182 0 248 (dk_at dksL_law_43 18 rfl rfl)
theorem dL_law_1264 : decode cL_law 1264 = .ok (.istore 6, 2) := dk_54 6 (dk_at dksL_law_43 21 rfl rfl)
theorem dL_law_1266 : decode cL_law 1266 = .ok (.aload_n 2, 1) := dk_44 (dk_at dksL_law_43 23 rfl rfl)
theorem dL_law_1267 : decode cL_law 1267 = .ok (.invokevirtual 182, 3) := dk_182 0 182 (dk_at dksL_law_44 0 rfl rfl)
theorem dL_law_1270 : decode cL_law 1270 = .ok (.iload 5, 2) := dk_21 5 (dk_at dksL_law_44 3 rfl rfl)
theorem dL_law_1272 : decode cL_law 1272 = .ok (.if_icmp .eq 5, 3) := dk_159 0 5 (dk_at dksL_law_44 5 rfl rfl)
theorem dL_law_1275 : decode cL_law 1275 = .ok (.iconst 0, 1) := dk_3 (dk_at dksL_law_44 8 rfl rfl)
theorem dL_law_1276 : decode cL_law 1276 = .ok (.ireturn, 1) := dk_172 (dk_at dksL_law_44 9 rfl rfl)
theorem dL_law_1277 : decode cL_law 1277 = .ok (.iload 5, 2) := dk_21 5 (dk_at dksL_law_44 10 rfl rfl)
theorem dL_law_1279 : decode cL_law 1279 = .ok (.ifCond .ne 22, 3) := dk_154 0 22 (dk_at dksL_law_44 12 rfl rfl)
theorem dL_law_1282 : decode cL_law 1282 = .ok (.aload_n 3, 1) := dk_45 (dk_at dksL_law_44 15 rfl rfl)
theorem dL_law_1283 : decode cL_law 1283 = .ok (.iconst 0, 1) := dk_3 (dk_at dksL_law_44 16 rfl rfl)
theorem dL_law_1284 : decode cL_law 1284 = .ok (.laload, 1) := dk_47 (dk_at dksL_law_44 17 rfl rfl)
theorem dL_law_1285 : decode cL_law 1285 = .ok (.iload 6, 2) := dk_21 6 (dk_at dksL_law_44 18 rfl rfl)
theorem dL_law_1287 : decode cL_law 1287 = .ok (.ifCond .eq 7, 3) := dk_153 0 7 (dk_at dksL_law_44 20 rfl rfl)
theorem dL_law_1290 : decode cL_law 1290 = .ok (.lconst 1, 1) := dk_10 (dk_at dksL_law_44 23 rfl rfl)
theorem dL_law_1291 : decode cL_law 1291 = .ok (.goto 4, 3) := dk_167 0 4 (dk_at dksL_law_45 0 rfl rfl)
theorem dL_law_1294 : decode cL_law 1294 = .ok (.lconst 0, 1) := dk_9 (dk_at dksL_law_45 3 rfl rfl)
theorem dL_law_1295 : decode cL_law 1295 = .ok (.lcmp, 1) := dk_148 (dk_at dksL_law_45 4 rfl rfl)
theorem dL_law_1296 : decode cL_law 1296 = .ok (.ifCond .eq 5, 3) := dk_153 0 5 (dk_at dksL_law_45 5 rfl rfl)
theorem dL_law_1299 : decode cL_law 1299 = .ok (.iconst 0, 1) := dk_3 (dk_at dksL_law_45 8 rfl rfl)
theorem dL_law_1300 : decode cL_law 1300 = .ok (.ireturn, 1) := dk_172 (dk_at dksL_law_45 9 rfl rfl)
theorem dL_law_1301 : decode cL_law 1301 = .ok (.goto 2046, 3) := dk_167 7 254 (dk_at dksL_law_45 10 rfl rfl)
theorem dL_law_1304 : decode cL_law 1304 = .ok (.aload_n 1, 1) := dk_43 (dk_at dksL_law_45 13 rfl rfl)
theorem dL_law_1305 : decode cL_law 1305 = .ok (.aload_n 0, 1) := dk_42 (dk_at dksL_law_45 14 rfl rfl)
theorem dL_law_1306 : decode cL_law 1306 = .ok (.iload 4, 2) := dk_21 4 (dk_at dksL_law_45 15 rfl rfl)
theorem dL_law_1308 : decode cL_law 1308 = .ok (.iconst 1, 1) := dk_4 (dk_at dksL_law_45 17 rfl rfl)
theorem dL_law_1309 : decode cL_law 1309 = .ok (.iadd, 1) := dk_96 (dk_at dksL_law_45 18 rfl rfl)
theorem dL_law_1310 : decode cL_law 1310 = .ok (.iaload, 1) := dk_46 (dk_at dksL_law_45 19 rfl rfl)
theorem dL_law_1311 : decode cL_law 1311 = .ok (.aload_n 3, 1) := dk_45 (dk_at dksL_law_45 20 rfl rfl)
theorem dL_law_1312 : decode cL_law 1312 = .ok (.invokestatic 249, 3) := dk_184 0 249 (dk_at dksL_law_45 21 rfl rfl)
theorem dL_law_1315 : decode cL_law 1315 = .ok (.istore 5, 2) := dk_54 5 (dk_at dksL_law_46 0 rfl rfl)
theorem dL_law_1317 : decode cL_law 1317 = .ok (.aload_n 2, 1) := dk_44 (dk_at dksL_law_46 2 rfl rfl)
theorem dL_law_1318 : decode cL_law 1318 = .ok (.aload_n 0, 1) := dk_42 (dk_at dksL_law_46 3 rfl rfl)
theorem dL_law_1319 : decode cL_law 1319 = .ok (.iload 4, 2) := dk_21 4 (dk_at dksL_law_46 4 rfl rfl)
theorem dL_law_1321 : decode cL_law 1321 = .ok (.iconst 1, 1) := dk_4 (dk_at dksL_law_46 6 rfl rfl)
theorem dL_law_1322 : decode cL_law 1322 = .ok (.iadd, 1) := dk_96 (dk_at dksL_law_46 7 rfl rfl)
theorem dL_law_1323 : decode cL_law 1323 = .ok (.iaload, 1) := dk_46 (dk_at dksL_law_46 8 rfl rfl)
theorem dL_law_1324 : decode cL_law 1324 = .ok (.invokevirtual 251, 3) := dk_182 0 251 (dk_at dksL_law_46 9 rfl rfl)
theorem dL_law_1327 : decode cL_law 1327 = .ok (.istore 6, 2) := dk_54 6 (dk_at dksL_law_46 12 rfl rfl)
theorem dL_law_1329 : decode cL_law 1329 = .ok (.aload_n 2, 1) := dk_44 (dk_at dksL_law_46 14 rfl rfl)
theorem dL_law_1330 : decode cL_law 1330 = .ok (.invokevirtual 182, 3) := dk_182 0 182 (dk_at dksL_law_46 15 rfl rfl)
theorem dL_law_1333 : decode cL_law 1333 = .ok (.iload 5, 2) := dk_21 5 (dk_at dksL_law_46 18 rfl rfl)
theorem dL_law_1335 : decode cL_law 1335 = .ok (.if_icmp .eq 5, 3) := dk_159 0 5 (dk_at dksL_law_46 20 rfl rfl)
theorem dL_law_1338 : decode cL_law 1338 = .ok (.iconst 0, 1) := dk_3 (dk_at dksL_law_46 23 rfl rfl)
theorem dL_law_1339 : decode cL_law 1339 = .ok (.ireturn, 1) := dk_172 (dk_at dksL_law_47 0 rfl rfl)
theorem dL_law_1340 : decode cL_law 1340 = .ok (.iload 5, 2) := dk_21 5 (dk_at dksL_law_47 1 rfl rfl)
theorem dL_law_1342 : decode cL_law 1342 = .ok (.ifCond .ne 22, 3) := dk_154 0 22 (dk_at dksL_law_47 3 rfl rfl)
theorem dL_law_1345 : decode cL_law 1345 = .ok (.aload_n 3, 1) := dk_45 (dk_at dksL_law_47 6 rfl rfl)
theorem dL_law_1346 : decode cL_law 1346 = .ok (.iconst 0, 1) := dk_3 (dk_at dksL_law_47 7 rfl rfl)
theorem dL_law_1347 : decode cL_law 1347 = .ok (.laload, 1) := dk_47 (dk_at dksL_law_47 8 rfl rfl)
theorem dL_law_1348 : decode cL_law 1348 = .ok (.iload 6, 2) := dk_21 6 (dk_at dksL_law_47 9 rfl rfl)
theorem dL_law_1350 : decode cL_law 1350 = .ok (.ifCond .eq 7, 3) := dk_153 0 7 (dk_at dksL_law_47 11 rfl rfl)
theorem dL_law_1353 : decode cL_law 1353 = .ok (.lconst 1, 1) := dk_10 (dk_at dksL_law_47 14 rfl rfl)
theorem dL_law_1354 : decode cL_law 1354 = .ok (.goto 4, 3) := dk_167 0 4 (dk_at dksL_law_47 15 rfl rfl)
theorem dL_law_1357 : decode cL_law 1357 = .ok (.lconst 0, 1) := dk_9 (dk_at dksL_law_47 18 rfl rfl)
theorem dL_law_1358 : decode cL_law 1358 = .ok (.lcmp, 1) := dk_148 (dk_at dksL_law_47 19 rfl rfl)
theorem dL_law_1359 : decode cL_law 1359 = .ok (.ifCond .eq 5, 3) := dk_153 0 5 (dk_at dksL_law_47 20 rfl rfl)
theorem dL_law_1362 : decode cL_law 1362 = .ok (.iconst 0, 1) := dk_3 (dk_at dksL_law_47 23 rfl rfl)
theorem dL_law_1363 : decode cL_law 1363 = .ok (.ireturn, 1) := dk_172 (dk_at dksL_law_48 0 rfl rfl)
theorem dL_law_1364 : decode cL_law 1364 = .ok (.goto 1983, 3) := dk_167 7 191 (dk_at dksL_law_48 1 rfl rfl)
theorem dL_law_1367 : decode cL_law 1367 = .ok (.aload_n 1, 1) := dk_43 (dk_at dksL_law_48 4 rfl rfl)
theorem dL_law_1368 : decode cL_law 1368 = .ok (.aload_n 0, 1) := dk_42 (dk_at dksL_law_48 5 rfl rfl)
theorem dL_law_1369 : decode cL_law 1369 = .ok (.iload 4, 2) := dk_21 4 (dk_at dksL_law_48 6 rfl rfl)
theorem dL_law_1371 : decode cL_law 1371 = .ok (.iconst 1, 1) := dk_4 (dk_at dksL_law_48 8 rfl rfl)
theorem dL_law_1372 : decode cL_law 1372 = .ok (.iadd, 1) := dk_96 (dk_at dksL_law_48 9 rfl rfl)
theorem dL_law_1373 : decode cL_law 1373 = .ok (.iaload, 1) := dk_46 (dk_at dksL_law_48 10 rfl rfl)
theorem dL_law_1374 : decode cL_law 1374 = .ok (.aload_n 3, 1) := dk_45 (dk_at dksL_law_48 11 rfl rfl)
theorem dL_law_1375 : decode cL_law 1375 = .ok (.invokestatic 252, 3) := dk_184 0 252 (dk_at dksL_law_48 12 rfl rfl)
theorem dL_law_1378 : decode cL_law 1378 = .ok (.istore 5, 2) := dk_54 5 (dk_at dksL_law_48 15 rfl rfl)
theorem dL_law_1380 : decode cL_law 1380 = .ok (.aload_n 2, 1) := dk_44 (dk_at dksL_law_48 17 rfl rfl)
theorem dL_law_1381 : decode cL_law 1381 = .ok (.aload_n 0, 1) := dk_42 (dk_at dksL_law_48 18 rfl rfl)
theorem dL_law_1382 : decode cL_law 1382 = .ok (.iload 4, 2) := dk_21 4 (dk_at dksL_law_48 19 rfl rfl)
theorem dL_law_1384 : decode cL_law 1384 = .ok (.iconst 1, 1) := dk_4 (dk_at dksL_law_48 21 rfl rfl)
theorem dL_law_1385 : decode cL_law 1385 = .ok (.iadd, 1) := dk_96 (dk_at dksL_law_48 22 rfl rfl)
theorem dL_law_1386 : decode cL_law 1386 = .ok (.iaload, 1) := dk_46 (dk_at dksL_law_48 23 rfl rfl)
theorem dL_law_1387 : decode cL_law 1387 = .ok (.invokevirtual 254, 3) := dk_182 0 254 (dk_at dksL_law_49 0 rfl rfl)
theorem dL_law_1390 : decode cL_law 1390 = .ok (.istore 6, 2) := dk_54 6 (dk_at dksL_law_49 3 rfl rfl)
theorem dL_law_1392 : decode cL_law 1392 = .ok (.aload_n 2, 1) := dk_44 (dk_at dksL_law_49 5 rfl rfl)
theorem dL_law_1393 : decode cL_law 1393 = .ok (.invokevirtual 182, 3) := dk_182 0 182 (dk_at dksL_law_49 6 rfl rfl)
theorem dL_law_1396 : decode cL_law 1396 = .ok (.iload 5, 2) := dk_21 5 (dk_at dksL_law_49 9 rfl rfl)
theorem dL_law_1398 : decode cL_law 1398 = .ok (.if_icmp .eq 5, 3) := dk_159 0 5 (dk_at dksL_law_49 11 rfl rfl)
theorem dL_law_1401 : decode cL_law 1401 = .ok (.iconst 0, 1) := dk_3 (dk_at dksL_law_49 14 rfl rfl)
theorem dL_law_1402 : decode cL_law 1402 = .ok (.ireturn, 1) := dk_172 (dk_at dksL_law_49 15 rfl rfl)
theorem dL_law_1403 : decode cL_law 1403 = .ok (.iload 5, 2) := dk_21 5 (dk_at dksL_law_49 16 rfl rfl)
theorem dL_law_1405 : decode cL_law 1405 = .ok (.ifCond .ne 15, 3) := dk_154 0 15 (dk_at dksL_law_49 18 rfl rfl)
theorem dL_law_1408 : decode cL_law 1408 = .ok (.aload_n 3, 1) := dk_45 (dk_at dksL_law_49 21 rfl rfl)
theorem dL_law_1409 : decode cL_law 1409 = .ok (.iconst 0, 1) := dk_3 (dk_at dksL_law_49 22 rfl rfl)
theorem dL_law_1410 : decode cL_law 1410 = .ok (.laload, 1) := dk_47 (dk_at dksL_law_49 23 rfl rfl)
theorem dL_law_1411 : decode cL_law 1411 = .ok (.iload 6, 2) := dk_21 6 (dk_at dksL_law_50 0 rfl rfl)
theorem dL_law_1413 : decode cL_law 1413 = .ok (.i2l, 1) := dk_133 (dk_at dksL_law_50 2 rfl rfl)
theorem dL_law_1414 : decode cL_law 1414 = .ok (.lcmp, 1) := dk_148 (dk_at dksL_law_50 3 rfl rfl)
theorem dL_law_1415 : decode cL_law 1415 = .ok (.ifCond .eq 5, 3) := dk_153 0 5 (dk_at dksL_law_50 4 rfl rfl)
theorem dL_law_1418 : decode cL_law 1418 = .ok (.iconst 0, 1) := dk_3 (dk_at dksL_law_50 7 rfl rfl)
theorem dL_law_1419 : decode cL_law 1419 = .ok (.ireturn, 1) := dk_172 (dk_at dksL_law_50 8 rfl rfl)
theorem dL_law_1420 : decode cL_law 1420 = .ok (.goto 1927, 3) := dk_167 7 135 (dk_at dksL_law_50 9 rfl rfl)
theorem dL_law_1423 : decode cL_law 1423 = .ok (.aload_n 1, 1) := dk_43 (dk_at dksL_law_50 12 rfl rfl)
theorem dL_law_1424 : decode cL_law 1424 = .ok (.aload_n 0, 1) := dk_42 (dk_at dksL_law_50 13 rfl rfl)
theorem dL_law_1425 : decode cL_law 1425 = .ok (.iload 4, 2) := dk_21 4 (dk_at dksL_law_50 14 rfl rfl)
theorem dL_law_1427 : decode cL_law 1427 = .ok (.iconst 1, 1) := dk_4 (dk_at dksL_law_50 16 rfl rfl)
theorem dL_law_1428 : decode cL_law 1428 = .ok (.iadd, 1) := dk_96 (dk_at dksL_law_50 17 rfl rfl)
theorem dL_law_1429 : decode cL_law 1429 = .ok (.iaload, 1) := dk_46 (dk_at dksL_law_50 18 rfl rfl)
theorem dL_law_1430 : decode cL_law 1430 = .ok (.aload_n 3, 1) := dk_45 (dk_at dksL_law_50 19 rfl rfl)
theorem dL_law_1431 : decode cL_law 1431 = .ok (.invokestatic 255, 3) := dk_184 0 255 (dk_at dksL_law_50 20 rfl rfl)
theorem dL_law_1434 : decode cL_law 1434 = .ok (.istore 5, 2) := dk_54 5 (dk_at dksL_law_51 0 rfl rfl)
theorem dL_law_1436 : decode cL_law 1436 = .ok (.aload_n 2, 1) := dk_44 (dk_at dksL_law_51 2 rfl rfl)
theorem dL_law_1437 : decode cL_law 1437 = .ok (.aload_n 0, 1) := dk_42 (dk_at dksL_law_51 3 rfl rfl)
theorem dL_law_1438 : decode cL_law 1438 = .ok (.iload 4, 2) := dk_21 4 (dk_at dksL_law_51 4 rfl rfl)
theorem dL_law_1440 : decode cL_law 1440 = .ok (.iconst 1, 1) := dk_4 (dk_at dksL_law_51 6 rfl rfl)
theorem dL_law_1441 : decode cL_law 1441 = .ok (.iadd, 1) := dk_96 (dk_at dksL_law_51 7 rfl rfl)
theorem dL_law_1442 : decode cL_law 1442 = .ok (.iaload, 1) := dk_46 (dk_at dksL_law_51 8 rfl rfl)
theorem dL_law_1443 : decode cL_law 1443 = .ok (.invokevirtual 257, 3) := dk_182 1 1 (dk_at dksL_law_51 9 rfl rfl)
theorem dL_law_1446 : decode cL_law 1446 = .ok (.istore 6, 2) := dk_54 6 (dk_at dksL_law_51 12 rfl rfl)
theorem dL_law_1448 : decode cL_law 1448 = .ok (.aload_n 2, 1) := dk_44 (dk_at dksL_law_51 14 rfl rfl)
theorem dL_law_1449 : decode cL_law 1449 = .ok (.invokevirtual 182, 3) := dk_182 0 182 (dk_at dksL_law_51 15 rfl rfl)
theorem dL_law_1452 : decode cL_law 1452 = .ok (.iload 5, 2) := dk_21 5 (dk_at dksL_law_51 18 rfl rfl)
theorem dL_law_1454 : decode cL_law 1454 = .ok (.if_icmp .eq 5, 3) := dk_159 0 5 (dk_at dksL_law_51 20 rfl rfl)
theorem dL_law_1457 : decode cL_law 1457 = .ok (.iconst 0, 1) := dk_3 (dk_at dksL_law_51 23 rfl rfl)
theorem dL_law_1458 : decode cL_law 1458 = .ok (.ireturn, 1) := dk_172 (dk_at dksL_law_52 0 rfl rfl)
theorem dL_law_1459 : decode cL_law 1459 = .ok (.iload 5, 2) := dk_21 5 (dk_at dksL_law_52 1 rfl rfl)
theorem dL_law_1461 : decode cL_law 1461 = .ok (.ifCond .ne 15, 3) := dk_154 0 15 (dk_at dksL_law_52 3 rfl rfl)
theorem dL_law_1464 : decode cL_law 1464 = .ok (.aload_n 3, 1) := dk_45 (dk_at dksL_law_52 6 rfl rfl)
theorem dL_law_1465 : decode cL_law 1465 = .ok (.iconst 0, 1) := dk_3 (dk_at dksL_law_52 7 rfl rfl)
theorem dL_law_1466 : decode cL_law 1466 = .ok (.laload, 1) := dk_47 (dk_at dksL_law_52 8 rfl rfl)
theorem dL_law_1467 : decode cL_law 1467 = .ok (.iload 6, 2) := dk_21 6 (dk_at dksL_law_52 9 rfl rfl)
theorem dL_law_1469 : decode cL_law 1469 = .ok (.i2l, 1) := dk_133 (dk_at dksL_law_52 11 rfl rfl)
theorem dL_law_1470 : decode cL_law 1470 = .ok (.lcmp, 1) := dk_148 (dk_at dksL_law_52 12 rfl rfl)
theorem dL_law_1471 : decode cL_law 1471 = .ok (.ifCond .eq 5, 3) := dk_153 0 5 (dk_at dksL_law_52 13 rfl rfl)
theorem dL_law_1474 : decode cL_law 1474 = .ok (.iconst 0, 1) := dk_3 (dk_at dksL_law_52 16 rfl rfl)
theorem dL_law_1475 : decode cL_law 1475 = .ok (.ireturn, 1) := dk_172 (dk_at dksL_law_52 17 rfl rfl)
theorem dL_law_1476 : decode cL_law 1476 = .ok (.goto 1871, 3) := dk_167 7 79 (dk_at dksL_law_52 18 rfl rfl)
theorem dL_law_1479 : decode cL_law 1479 = .ok (.aload_n 1, 1) := dk_43 (dk_at dksL_law_52 21 rfl rfl)
theorem dL_law_1480 : decode cL_law 1480 = .ok (.aload_n 0, 1) := dk_42 (dk_at dksL_law_52 22 rfl rfl)
theorem dL_law_1481 : decode cL_law 1481 = .ok (.iload 4, 2) := dk_21 4 (dk_at dksL_law_53 0 rfl rfl)
theorem dL_law_1483 : decode cL_law 1483 = .ok (.iconst 1, 1) := dk_4 (dk_at dksL_law_53 2 rfl rfl)
theorem dL_law_1484 : decode cL_law 1484 = .ok (.iadd, 1) := dk_96 (dk_at dksL_law_53 3 rfl rfl)
theorem dL_law_1485 : decode cL_law 1485 = .ok (.iaload, 1) := dk_46 (dk_at dksL_law_53 4 rfl rfl)
theorem dL_law_1486 : decode cL_law 1486 = .ok (.aload_n 3, 1) := dk_45 (dk_at dksL_law_53 5 rfl rfl)
theorem dL_law_1487 : decode cL_law 1487 = .ok (.invokestatic 258, 3) := dk_184 1 2 (dk_at dksL_law_53 6 rfl rfl)
theorem dL_law_1490 : decode cL_law 1490 = .ok (.istore 5, 2) := dk_54 5 (dk_at dksL_law_53 9 rfl rfl)
theorem dL_law_1492 : decode cL_law 1492 = .ok (.aload_n 2, 1) := dk_44 (dk_at dksL_law_53 11 rfl rfl)
theorem dL_law_1493 : decode cL_law 1493 = .ok (.aload_n 0, 1) := dk_42 (dk_at dksL_law_53 12 rfl rfl)
theorem dL_law_1494 : decode cL_law 1494 = .ok (.iload 4, 2) := dk_21 4 (dk_at dksL_law_53 13 rfl rfl)
theorem dL_law_1496 : decode cL_law 1496 = .ok (.iconst 1, 1) := dk_4 (dk_at dksL_law_53 15 rfl rfl)
theorem dL_law_1497 : decode cL_law 1497 = .ok (.iadd, 1) := dk_96 (dk_at dksL_law_53 16 rfl rfl)
theorem dL_law_1498 : decode cL_law 1498 = .ok (.iaload, 1) := dk_46 (dk_at dksL_law_53 17 rfl rfl)
theorem dL_law_1499 : decode cL_law 1499 = .ok (.invokevirtual 260, 3) := dk_182 1 4 (dk_at dksL_law_53 18 rfl rfl)
theorem dL_law_1502 : decode cL_law 1502 = .ok (.istore 6, 2) := dk_54 6 (dk_at dksL_law_53 21 rfl rfl)
theorem dL_law_1504 : decode cL_law 1504 = .ok (.aload_n 2, 1) := dk_44 (dk_at dksL_law_53 23 rfl rfl)
theorem dL_law_1505 : decode cL_law 1505 = .ok (.invokevirtual 182, 3) := dk_182 0 182 (dk_at dksL_law_54 0 rfl rfl)
theorem dL_law_1508 : decode cL_law 1508 = .ok (.iload 5, 2) := dk_21 5 (dk_at dksL_law_54 3 rfl rfl)
theorem dL_law_1510 : decode cL_law 1510 = .ok (.if_icmp .eq 5, 3) := dk_159 0 5 (dk_at dksL_law_54 5 rfl rfl)
theorem dL_law_1513 : decode cL_law 1513 = .ok (.iconst 0, 1) := dk_3 (dk_at dksL_law_54 8 rfl rfl)
theorem dL_law_1514 : decode cL_law 1514 = .ok (.ireturn, 1) := dk_172 (dk_at dksL_law_54 9 rfl rfl)
theorem dL_law_1515 : decode cL_law 1515 = .ok (.iload 5, 2) := dk_21 5 (dk_at dksL_law_54 10 rfl rfl)
theorem dL_law_1517 : decode cL_law 1517 = .ok (.ifCond .ne 15, 3) := dk_154 0 15 (dk_at dksL_law_54 12 rfl rfl)
theorem dL_law_1520 : decode cL_law 1520 = .ok (.aload_n 3, 1) := dk_45 (dk_at dksL_law_54 15 rfl rfl)
theorem dL_law_1521 : decode cL_law 1521 = .ok (.iconst 0, 1) := dk_3 (dk_at dksL_law_54 16 rfl rfl)
theorem dL_law_1522 : decode cL_law 1522 = .ok (.laload, 1) := dk_47 (dk_at dksL_law_54 17 rfl rfl)
theorem dL_law_1523 : decode cL_law 1523 = .ok (.iload 6, 2) := dk_21 6 (dk_at dksL_law_54 18 rfl rfl)
theorem dL_law_1525 : decode cL_law 1525 = .ok (.i2l, 1) := dk_133 (dk_at dksL_law_54 20 rfl rfl)
theorem dL_law_1526 : decode cL_law 1526 = .ok (.lcmp, 1) := dk_148 (dk_at dksL_law_54 21 rfl rfl)
theorem dL_law_1527 : decode cL_law 1527 = .ok (.ifCond .eq 5, 3) := dk_153 0 5 (dk_at dksL_law_55 0 rfl rfl)
theorem dL_law_1530 : decode cL_law 1530 = .ok (.iconst 0, 1) := dk_3 (dk_at dksL_law_55 3 rfl rfl)
theorem dL_law_1531 : decode cL_law 1531 = .ok (.ireturn, 1) := dk_172 (dk_at dksL_law_55 4 rfl rfl)
theorem dL_law_1532 : decode cL_law 1532 = .ok (.goto 1815, 3) := dk_167 7 23 (dk_at dksL_law_55 5 rfl rfl)
theorem dL_law_1535 : decode cL_law 1535 = .ok (.aload_n 1, 1) := dk_43 (dk_at dksL_law_55 8 rfl rfl)
theorem dL_law_1536 : decode cL_law 1536 = .ok (.aload_n 0, 1) := dk_42 (dk_at dksL_law_55 9 rfl rfl)
theorem dL_law_1537 : decode cL_law 1537 = .ok (.iload 4, 2) := dk_21 4 (dk_at dksL_law_55 10 rfl rfl)
theorem dL_law_1539 : decode cL_law 1539 = .ok (.iconst 1, 1) := dk_4 (dk_at dksL_law_55 12 rfl rfl)
theorem dL_law_1540 : decode cL_law 1540 = .ok (.iadd, 1) := dk_96 (dk_at dksL_law_55 13 rfl rfl)
theorem dL_law_1541 : decode cL_law 1541 = .ok (.iaload, 1) := dk_46 (dk_at dksL_law_55 14 rfl rfl)
theorem dL_law_1542 : decode cL_law 1542 = .ok (.aload_n 3, 1) := dk_45 (dk_at dksL_law_55 15 rfl rfl)
theorem dL_law_1543 : decode cL_law 1543 = .ok (.invokestatic 261, 3) := dk_184 1 5 (dk_at dksL_law_55 16 rfl rfl)
theorem dL_law_1546 : decode cL_law 1546 = .ok (.istore 5, 2) := dk_54 5 (dk_at dksL_law_55 19 rfl rfl)
theorem dL_law_1548 : decode cL_law 1548 = .ok (.aload_n 2, 1) := dk_44 (dk_at dksL_law_55 21 rfl rfl)
theorem dL_law_1549 : decode cL_law 1549 = .ok (.aload_n 0, 1) := dk_42 (dk_at dksL_law_55 22 rfl rfl)
theorem dL_law_1550 : decode cL_law 1550 = .ok (.iload 4, 2) := dk_21 4 (dk_at dksL_law_56 0 rfl rfl)
theorem dL_law_1552 : decode cL_law 1552 = .ok (.iconst 1, 1) := dk_4 (dk_at dksL_law_56 2 rfl rfl)
theorem dL_law_1553 : decode cL_law 1553 = .ok (.iadd, 1) := dk_96 (dk_at dksL_law_56 3 rfl rfl)
theorem dL_law_1554 : decode cL_law 1554 = .ok (.iaload, 1) := dk_46 (dk_at dksL_law_56 4 rfl rfl)
theorem dL_law_1555 : decode cL_law 1555 = .ok (.invokevirtual 263, 3) := dk_182 1 7 (dk_at dksL_law_56 5 rfl rfl)
theorem dL_law_1558 : decode cL_law 1558 = .ok (.istore 6, 2) := dk_54 6 (dk_at dksL_law_56 8 rfl rfl)
theorem dL_law_1560 : decode cL_law 1560 = .ok (.aload_n 2, 1) := dk_44 (dk_at dksL_law_56 10 rfl rfl)
theorem dL_law_1561 : decode cL_law 1561 = .ok (.invokevirtual 182, 3) := dk_182 0 182 (dk_at dksL_law_56 11 rfl rfl)
theorem dL_law_1564 : decode cL_law 1564 = .ok (.iload 5, 2) := dk_21 5 (dk_at dksL_law_56 14 rfl rfl)
theorem dL_law_1566 : decode cL_law 1566 = .ok (.if_icmp .eq 5, 3) := dk_159 0 5 (dk_at dksL_law_56 16 rfl rfl)
theorem dL_law_1569 : decode cL_law 1569 = .ok (.iconst 0, 1) := dk_3 (dk_at dksL_law_56 19 rfl rfl)
theorem dL_law_1570 : decode cL_law 1570 = .ok (.ireturn, 1) := dk_172 (dk_at dksL_law_56 20 rfl rfl)
theorem dL_law_1571 : decode cL_law 1571 = .ok (.iload 5, 2) := dk_21 5 (dk_at dksL_law_56 21 rfl rfl)
theorem dL_law_1573 : decode cL_law 1573 = .ok (.ifCond .ne 15, 3) := dk_154 0 15 (dk_at dksL_law_57 0 rfl rfl)
theorem dL_law_1576 : decode cL_law 1576 = .ok (.aload_n 3, 1) := dk_45 (dk_at dksL_law_57 3 rfl rfl)
theorem dL_law_1577 : decode cL_law 1577 = .ok (.iconst 0, 1) := dk_3 (dk_at dksL_law_57 4 rfl rfl)
theorem dL_law_1578 : decode cL_law 1578 = .ok (.laload, 1) := dk_47 (dk_at dksL_law_57 5 rfl rfl)
theorem dL_law_1579 : decode cL_law 1579 = .ok (.iload 6, 2) := dk_21 6 (dk_at dksL_law_57 6 rfl rfl)
theorem dL_law_1581 : decode cL_law 1581 = .ok (.i2l, 1) := dk_133 (dk_at dksL_law_57 8 rfl rfl)
theorem dL_law_1582 : decode cL_law 1582 = .ok (.lcmp, 1) := dk_148 (dk_at dksL_law_57 9 rfl rfl)
theorem dL_law_1583 : decode cL_law 1583 = .ok (.ifCond .eq 5, 3) := dk_153 0 5 (dk_at dksL_law_57 10 rfl rfl)
theorem dL_law_1586 : decode cL_law 1586 = .ok (.iconst 0, 1) := dk_3 (dk_at dksL_law_57 13 rfl rfl)
theorem dL_law_1587 : decode cL_law 1587 = .ok (.ireturn, 1) := dk_172 (dk_at dksL_law_57 14 rfl rfl)
theorem dL_law_1588 : decode cL_law 1588 = .ok (.goto 1759, 3) := dk_167 6 223 (dk_at dksL_law_57 15 rfl rfl)
theorem dL_law_1591 : decode cL_law 1591 = .ok (.aload_n 1, 1) := dk_43 (dk_at dksL_law_57 18 rfl rfl)
theorem dL_law_1592 : decode cL_law 1592 = .ok (.aload_n 0, 1) := dk_42 (dk_at dksL_law_57 19 rfl rfl)
theorem dL_law_1593 : decode cL_law 1593 = .ok (.iload 4, 2) := dk_21 4 (dk_at dksL_law_57 20 rfl rfl)
theorem dL_law_1595 : decode cL_law 1595 = .ok (.iconst 1, 1) := dk_4 (dk_at dksL_law_57 22 rfl rfl)
theorem dL_law_1596 : decode cL_law 1596 = .ok (.iadd, 1) := dk_96 (dk_at dksL_law_57 23 rfl rfl)
theorem dL_law_1597 : decode cL_law 1597 = .ok (.iaload, 1) := dk_46 (dk_at dksL_law_58 0 rfl rfl)
theorem dL_law_1598 : decode cL_law 1598 = .ok (.aload_n 3, 1) := dk_45 (dk_at dksL_law_58 1 rfl rfl)
theorem dL_law_1599 : decode cL_law 1599 = .ok (.invokestatic 264, 3) := dk_184 1 8 (dk_at dksL_law_58 2 rfl rfl)
theorem dL_law_1602 : decode cL_law 1602 = .ok (.istore 5, 2) := dk_54 5 (dk_at dksL_law_58 5 rfl rfl)
theorem dL_law_1604 : decode cL_law 1604 = .ok (.aload_n 2, 1) := dk_44 (dk_at dksL_law_58 7 rfl rfl)
theorem dL_law_1605 : decode cL_law 1605 = .ok (.aload_n 0, 1) := dk_42 (dk_at dksL_law_58 8 rfl rfl)
theorem dL_law_1606 : decode cL_law 1606 = .ok (.iload 4, 2) := dk_21 4 (dk_at dksL_law_58 9 rfl rfl)
theorem dL_law_1608 : decode cL_law 1608 = .ok (.iconst 1, 1) := dk_4 (dk_at dksL_law_58 11 rfl rfl)
theorem dL_law_1609 : decode cL_law 1609 = .ok (.iadd, 1) := dk_96 (dk_at dksL_law_58 12 rfl rfl)
theorem dL_law_1610 : decode cL_law 1610 = .ok (.iaload, 1) := dk_46 (dk_at dksL_law_58 13 rfl rfl)
theorem dL_law_1611 : decode cL_law 1611 = .ok (.invokevirtual 266, 3) := dk_182 1 10 (dk_at dksL_law_58 14 rfl rfl)
theorem dL_law_1614 : decode cL_law 1614 = .ok (.istore 6, 2) := dk_54 6 (dk_at dksL_law_58 17 rfl rfl)
theorem dL_law_1616 : decode cL_law 1616 = .ok (.aload_n 2, 1) := dk_44 (dk_at dksL_law_58 19 rfl rfl)
theorem dL_law_1617 : decode cL_law 1617 = .ok (.invokevirtual 182, 3) := dk_182 0 182 (dk_at dksL_law_58 20 rfl rfl)
theorem dL_law_1620 : decode cL_law 1620 = .ok (.iload 5, 2) := dk_21 5 (dk_at dksL_law_59 0 rfl rfl)
theorem dL_law_1622 : decode cL_law 1622 = .ok (.if_icmp .eq 5, 3) := dk_159 0 5 (dk_at dksL_law_59 2 rfl rfl)
theorem dL_law_1625 : decode cL_law 1625 = .ok (.iconst 0, 1) := dk_3 (dk_at dksL_law_59 5 rfl rfl)
theorem dL_law_1626 : decode cL_law 1626 = .ok (.ireturn, 1) := dk_172 (dk_at dksL_law_59 6 rfl rfl)
theorem dL_law_1627 : decode cL_law 1627 = .ok (.iload 5, 2) := dk_21 5 (dk_at dksL_law_59 7 rfl rfl)
theorem dL_law_1629 : decode cL_law 1629 = .ok (.ifCond .ne 15, 3) := dk_154 0 15 (dk_at dksL_law_59 9 rfl rfl)
theorem dL_law_1632 : decode cL_law 1632 = .ok (.aload_n 3, 1) := dk_45 (dk_at dksL_law_59 12 rfl rfl)
theorem dL_law_1633 : decode cL_law 1633 = .ok (.iconst 0, 1) := dk_3 (dk_at dksL_law_59 13 rfl rfl)
theorem dL_law_1634 : decode cL_law 1634 = .ok (.laload, 1) := dk_47 (dk_at dksL_law_59 14 rfl rfl)
theorem dL_law_1635 : decode cL_law 1635 = .ok (.iload 6, 2) := dk_21 6 (dk_at dksL_law_59 15 rfl rfl)
theorem dL_law_1637 : decode cL_law 1637 = .ok (.i2l, 1) := dk_133 (dk_at dksL_law_59 17 rfl rfl)
theorem dL_law_1638 : decode cL_law 1638 = .ok (.lcmp, 1) := dk_148 (dk_at dksL_law_59 18 rfl rfl)
theorem dL_law_1639 : decode cL_law 1639 = .ok (.ifCond .eq 5, 3) := dk_153 0 5 (dk_at dksL_law_59 19 rfl rfl)
theorem dL_law_1642 : decode cL_law 1642 = .ok (.iconst 0, 1) := dk_3 (dk_at dksL_law_59 22 rfl rfl)
theorem dL_law_1643 : decode cL_law 1643 = .ok (.ireturn, 1) := dk_172 (dk_at dksL_law_59 23 rfl rfl)
theorem dL_law_1644 : decode cL_law 1644 = .ok (.goto 1703, 3) := dk_167 6 167 (dk_at dksL_law_60 0 rfl rfl)
theorem dL_law_1647 : decode cL_law 1647 = .ok (.aload_n 1, 1) := dk_43 (dk_at dksL_law_60 3 rfl rfl)
theorem dL_law_1648 : decode cL_law 1648 = .ok (.aload_n 0, 1) := dk_42 (dk_at dksL_law_60 4 rfl rfl)
theorem dL_law_1649 : decode cL_law 1649 = .ok (.iload 4, 2) := dk_21 4 (dk_at dksL_law_60 5 rfl rfl)
theorem dL_law_1651 : decode cL_law 1651 = .ok (.iconst 1, 1) := dk_4 (dk_at dksL_law_60 7 rfl rfl)
theorem dL_law_1652 : decode cL_law 1652 = .ok (.iadd, 1) := dk_96 (dk_at dksL_law_60 8 rfl rfl)
theorem dL_law_1653 : decode cL_law 1653 = .ok (.iaload, 1) := dk_46 (dk_at dksL_law_60 9 rfl rfl)
theorem dL_law_1654 : decode cL_law 1654 = .ok (.aload_n 3, 1) := dk_45 (dk_at dksL_law_60 10 rfl rfl)
theorem dL_law_1655 : decode cL_law 1655 = .ok (.invokestatic 267, 3) := dk_184 1 11 (dk_at dksL_law_60 11 rfl rfl)
theorem dL_law_1658 : decode cL_law 1658 = .ok (.istore 5, 2) := dk_54 5 (dk_at dksL_law_60 14 rfl rfl)
theorem dL_law_1660 : decode cL_law 1660 = .ok (.aload_n 2, 1) := dk_44 (dk_at dksL_law_60 16 rfl rfl)
theorem dL_law_1661 : decode cL_law 1661 = .ok (.aload_n 0, 1) := dk_42 (dk_at dksL_law_60 17 rfl rfl)
theorem dL_law_1662 : decode cL_law 1662 = .ok (.iload 4, 2) := dk_21 4 (dk_at dksL_law_60 18 rfl rfl)
theorem dL_law_1664 : decode cL_law 1664 = .ok (.iconst 1, 1) := dk_4 (dk_at dksL_law_60 20 rfl rfl)
theorem dL_law_1665 : decode cL_law 1665 = .ok (.iadd, 1) := dk_96 (dk_at dksL_law_60 21 rfl rfl)
theorem dL_law_1666 : decode cL_law 1666 = .ok (.iaload, 1) := dk_46 (dk_at dksL_law_60 22 rfl rfl)
theorem dL_law_1667 : decode cL_law 1667 = .ok (.invokevirtual 269, 3) := dk_182 1 13 (dk_at dksL_law_61 0 rfl rfl)
theorem dL_law_1670 : decode cL_law 1670 = .ok (.istore 6, 2) := dk_54 6 (dk_at dksL_law_61 3 rfl rfl)
theorem dL_law_1672 : decode cL_law 1672 = .ok (.aload_n 2, 1) := dk_44 (dk_at dksL_law_61 5 rfl rfl)
theorem dL_law_1673 : decode cL_law 1673 = .ok (.invokevirtual 182, 3) := dk_182 0 182 (dk_at dksL_law_61 6 rfl rfl)
theorem dL_law_1676 : decode cL_law 1676 = .ok (.iload 5, 2) := dk_21 5 (dk_at dksL_law_61 9 rfl rfl)
theorem dL_law_1678 : decode cL_law 1678 = .ok (.if_icmp .eq 5, 3) := dk_159 0 5 (dk_at dksL_law_61 11 rfl rfl)
theorem dL_law_1681 : decode cL_law 1681 = .ok (.iconst 0, 1) := dk_3 (dk_at dksL_law_61 14 rfl rfl)
theorem dL_law_1682 : decode cL_law 1682 = .ok (.ireturn, 1) := dk_172 (dk_at dksL_law_61 15 rfl rfl)
theorem dL_law_1683 : decode cL_law 1683 = .ok (.iload 5, 2) := dk_21 5 (dk_at dksL_law_61 16 rfl rfl)
theorem dL_law_1685 : decode cL_law 1685 = .ok (.ifCond .ne 15, 3) := dk_154 0 15 (dk_at dksL_law_61 18 rfl rfl)
theorem dL_law_1688 : decode cL_law 1688 = .ok (.aload_n 3, 1) := dk_45 (dk_at dksL_law_61 21 rfl rfl)
theorem dL_law_1689 : decode cL_law 1689 = .ok (.iconst 0, 1) := dk_3 (dk_at dksL_law_61 22 rfl rfl)
theorem dL_law_1690 : decode cL_law 1690 = .ok (.laload, 1) := dk_47 (dk_at dksL_law_61 23 rfl rfl)
theorem dL_law_1691 : decode cL_law 1691 = .ok (.iload 6, 2) := dk_21 6 (dk_at dksL_law_62 0 rfl rfl)
theorem dL_law_1693 : decode cL_law 1693 = .ok (.i2l, 1) := dk_133 (dk_at dksL_law_62 2 rfl rfl)
theorem dL_law_1694 : decode cL_law 1694 = .ok (.lcmp, 1) := dk_148 (dk_at dksL_law_62 3 rfl rfl)
theorem dL_law_1695 : decode cL_law 1695 = .ok (.ifCond .eq 5, 3) := dk_153 0 5 (dk_at dksL_law_62 4 rfl rfl)
theorem dL_law_1698 : decode cL_law 1698 = .ok (.iconst 0, 1) := dk_3 (dk_at dksL_law_62 7 rfl rfl)
theorem dL_law_1699 : decode cL_law 1699 = .ok (.ireturn, 1) := dk_172 (dk_at dksL_law_62 8 rfl rfl)
theorem dL_law_1700 : decode cL_law 1700 = .ok (.goto 1647, 3) := dk_167 6 111 (dk_at dksL_law_62 9 rfl rfl)
theorem dL_law_1703 : decode cL_law 1703 = .ok (.aload_n 1, 1) := dk_43 (dk_at dksL_law_62 12 rfl rfl)
theorem dL_law_1704 : decode cL_law 1704 = .ok (.aload_n 0, 1) := dk_42 (dk_at dksL_law_62 13 rfl rfl)
theorem dL_law_1705 : decode cL_law 1705 = .ok (.iload 4, 2) := dk_21 4 (dk_at dksL_law_62 14 rfl rfl)
theorem dL_law_1707 : decode cL_law 1707 = .ok (.iconst 1, 1) := dk_4 (dk_at dksL_law_62 16 rfl rfl)
theorem dL_law_1708 : decode cL_law 1708 = .ok (.iadd, 1) := dk_96 (dk_at dksL_law_62 17 rfl rfl)
theorem dL_law_1709 : decode cL_law 1709 = .ok (.iaload, 1) := dk_46 (dk_at dksL_law_62 18 rfl rfl)
theorem dL_law_1710 : decode cL_law 1710 = .ok (.aload_n 3, 1) := dk_45 (dk_at dksL_law_62 19 rfl rfl)
theorem dL_law_1711 : decode cL_law 1711 = .ok (.invokestatic 270, 3) := dk_184 1 14 (dk_at dksL_law_62 20 rfl rfl)
theorem dL_law_1714 : decode cL_law 1714 = .ok (.istore 5, 2) := dk_54 5 (dk_at dksL_law_63 0 rfl rfl)
theorem dL_law_1716 : decode cL_law 1716 = .ok (.aload_n 2, 1) := dk_44 (dk_at dksL_law_63 2 rfl rfl)
theorem dL_law_1717 : decode cL_law 1717 = .ok (.aload_n 0, 1) := dk_42 (dk_at dksL_law_63 3 rfl rfl)
theorem dL_law_1718 : decode cL_law 1718 = .ok (.iload 4, 2) := dk_21 4 (dk_at dksL_law_63 4 rfl rfl)
theorem dL_law_1720 : decode cL_law 1720 = .ok (.iconst 1, 1) := dk_4 (dk_at dksL_law_63 6 rfl rfl)
theorem dL_law_1721 : decode cL_law 1721 = .ok (.iadd, 1) := dk_96 (dk_at dksL_law_63 7 rfl rfl)
theorem dL_law_1722 : decode cL_law 1722 = .ok (.iaload, 1) := dk_46 (dk_at dksL_law_63 8 rfl rfl)
theorem dL_law_1723 : decode cL_law 1723 = .ok (.invokevirtual 272, 3) := dk_182 1 16 (dk_at dksL_law_63 9 rfl rfl)
theorem dL_law_1726 : decode cL_law 1726 = .ok (.istore 6, 2) := dk_54 6 (dk_at dksL_law_63 12 rfl rfl)
theorem dL_law_1728 : decode cL_law 1728 = .ok (.aload_n 2, 1) := dk_44 (dk_at dksL_law_63 14 rfl rfl)
theorem dL_law_1729 : decode cL_law 1729 = .ok (.invokevirtual 182, 3) := dk_182 0 182 (dk_at dksL_law_63 15 rfl rfl)
theorem dL_law_1732 : decode cL_law 1732 = .ok (.iload 5, 2) := dk_21 5 (dk_at dksL_law_63 18 rfl rfl)
theorem dL_law_1734 : decode cL_law 1734 = .ok (.if_icmp .eq 5, 3) := dk_159 0 5 (dk_at dksL_law_63 20 rfl rfl)
theorem dL_law_1737 : decode cL_law 1737 = .ok (.iconst 0, 1) := dk_3 (dk_at dksL_law_63 23 rfl rfl)
theorem dL_law_1738 : decode cL_law 1738 = .ok (.ireturn, 1) := dk_172 (dk_at dksL_law_64 0 rfl rfl)
theorem dL_law_1739 : decode cL_law 1739 = .ok (.iload 5, 2) := dk_21 5 (dk_at dksL_law_64 1 rfl rfl)
theorem dL_law_1741 : decode cL_law 1741 = .ok (.ifCond .ne 15, 3) := dk_154 0 15 (dk_at dksL_law_64 3 rfl rfl)
theorem dL_law_1744 : decode cL_law 1744 = .ok (.aload_n 3, 1) := dk_45 (dk_at dksL_law_64 6 rfl rfl)
theorem dL_law_1745 : decode cL_law 1745 = .ok (.iconst 0, 1) := dk_3 (dk_at dksL_law_64 7 rfl rfl)
theorem dL_law_1746 : decode cL_law 1746 = .ok (.laload, 1) := dk_47 (dk_at dksL_law_64 8 rfl rfl)
theorem dL_law_1747 : decode cL_law 1747 = .ok (.iload 6, 2) := dk_21 6 (dk_at dksL_law_64 9 rfl rfl)
theorem dL_law_1749 : decode cL_law 1749 = .ok (.i2l, 1) := dk_133 (dk_at dksL_law_64 11 rfl rfl)
theorem dL_law_1750 : decode cL_law 1750 = .ok (.lcmp, 1) := dk_148 (dk_at dksL_law_64 12 rfl rfl)
theorem dL_law_1751 : decode cL_law 1751 = .ok (.ifCond .eq 5, 3) := dk_153 0 5 (dk_at dksL_law_64 13 rfl rfl)
theorem dL_law_1754 : decode cL_law 1754 = .ok (.iconst 0, 1) := dk_3 (dk_at dksL_law_64 16 rfl rfl)
theorem dL_law_1755 : decode cL_law 1755 = .ok (.ireturn, 1) := dk_172 (dk_at dksL_law_64 17 rfl rfl)
theorem dL_law_1756 : decode cL_law 1756 = .ok (.goto 1591, 3) := dk_167 6 55 (dk_at dksL_law_64 18 rfl rfl)
theorem dL_law_1759 : decode cL_law 1759 = .ok (.aload_n 1, 1) := dk_43 (dk_at dksL_law_64 21 rfl rfl)
theorem dL_law_1760 : decode cL_law 1760 = .ok (.aload_n 3, 1) := dk_45 (dk_at dksL_law_64 22 rfl rfl)
theorem dL_law_1761 : decode cL_law 1761 = .ok (.invokestatic 273, 3) := dk_184 1 17 (dk_at dksL_law_65 0 rfl rfl)
theorem dL_law_1764 : decode cL_law 1764 = .ok (.istore 5, 2) := dk_54 5 (dk_at dksL_law_65 3 rfl rfl)
theorem dL_law_1766 : decode cL_law 1766 = .ok (.aload_n 2, 1) := dk_44 (dk_at dksL_law_65 5 rfl rfl)
theorem dL_law_1767 : decode cL_law 1767 = .ok (.invokevirtual 276, 3) := dk_182 1 20 (dk_at dksL_law_65 6 rfl rfl)
theorem dL_law_1770 : decode cL_law 1770 = .ok (.istore 6, 2) := dk_54 6 (dk_at dksL_law_65 9 rfl rfl)
theorem dL_law_1772 : decode cL_law 1772 = .ok (.aload_n 2, 1) := dk_44 (dk_at dksL_law_65 11 rfl rfl)
theorem dL_law_1773 : decode cL_law 1773 = .ok (.invokevirtual 182, 3) := dk_182 0 182 (dk_at dksL_law_65 12 rfl rfl)
theorem dL_law_1776 : decode cL_law 1776 = .ok (.iload 5, 2) := dk_21 5 (dk_at dksL_law_65 15 rfl rfl)
theorem dL_law_1778 : decode cL_law 1778 = .ok (.if_icmp .eq 5, 3) := dk_159 0 5 (dk_at dksL_law_65 17 rfl rfl)
theorem dL_law_1781 : decode cL_law 1781 = .ok (.iconst 0, 1) := dk_3 (dk_at dksL_law_65 20 rfl rfl)
theorem dL_law_1782 : decode cL_law 1782 = .ok (.ireturn, 1) := dk_172 (dk_at dksL_law_65 21 rfl rfl)
theorem dL_law_1783 : decode cL_law 1783 = .ok (.iload 5, 2) := dk_21 5 (dk_at dksL_law_65 22 rfl rfl)
theorem dL_law_1785 : decode cL_law 1785 = .ok (.ifCond .ne 15, 3) := dk_154 0 15 (dk_at dksL_law_66 0 rfl rfl)
theorem dL_law_1788 : decode cL_law 1788 = .ok (.aload_n 3, 1) := dk_45 (dk_at dksL_law_66 3 rfl rfl)
theorem dL_law_1789 : decode cL_law 1789 = .ok (.iconst 0, 1) := dk_3 (dk_at dksL_law_66 4 rfl rfl)
theorem dL_law_1790 : decode cL_law 1790 = .ok (.laload, 1) := dk_47 (dk_at dksL_law_66 5 rfl rfl)
theorem dL_law_1791 : decode cL_law 1791 = .ok (.iload 6, 2) := dk_21 6 (dk_at dksL_law_66 6 rfl rfl)
theorem dL_law_1793 : decode cL_law 1793 = .ok (.i2l, 1) := dk_133 (dk_at dksL_law_66 8 rfl rfl)
theorem dL_law_1794 : decode cL_law 1794 = .ok (.lcmp, 1) := dk_148 (dk_at dksL_law_66 9 rfl rfl)
theorem dL_law_1795 : decode cL_law 1795 = .ok (.ifCond .eq 5, 3) := dk_153 0 5 (dk_at dksL_law_66 10 rfl rfl)
theorem dL_law_1798 : decode cL_law 1798 = .ok (.iconst 0, 1) := dk_3 (dk_at dksL_law_66 13 rfl rfl)
theorem dL_law_1799 : decode cL_law 1799 = .ok (.ireturn, 1) := dk_172 (dk_at dksL_law_66 14 rfl rfl)
theorem dL_law_1800 : decode cL_law 1800 = .ok (.goto 1547, 3) := dk_167 6 11 (dk_at dksL_law_66 15 rfl rfl)
theorem dL_law_1803 : decode cL_law 1803 = .ok (.aload_n 1, 1) := dk_43 (dk_at dksL_law_66 18 rfl rfl)
theorem dL_law_1804 : decode cL_law 1804 = .ok (.aload_n 3, 1) := dk_45 (dk_at dksL_law_66 19 rfl rfl)
theorem dL_law_1805 : decode cL_law 1805 = .ok (.invokestatic 277, 3) := dk_184 1 21 (dk_at dksL_law_66 20 rfl rfl)
theorem dL_law_1808 : decode cL_law 1808 = .ok (.istore 5, 2) := dk_54 5 (dk_at dksL_law_67 0 rfl rfl)
theorem dL_law_1810 : decode cL_law 1810 = .ok (.aload_n 2, 1) := dk_44 (dk_at dksL_law_67 2 rfl rfl)
theorem dL_law_1811 : decode cL_law 1811 = .ok (.invokevirtual 279, 3) := dk_182 1 23 (dk_at dksL_law_67 3 rfl rfl)
theorem dL_law_1814 : decode cL_law 1814 = .ok (.istore 6, 2) := dk_54 6 (dk_at dksL_law_67 6 rfl rfl)
theorem dL_law_1816 : decode cL_law 1816 = .ok (.aload_n 2, 1) := dk_44 (dk_at dksL_law_67 8 rfl rfl)
theorem dL_law_1817 : decode cL_law 1817 = .ok (.invokevirtual 182, 3) := dk_182 0 182 (dk_at dksL_law_67 9 rfl rfl)
theorem dL_law_1820 : decode cL_law 1820 = .ok (.iload 5, 2) := dk_21 5 (dk_at dksL_law_67 12 rfl rfl)
theorem dL_law_1822 : decode cL_law 1822 = .ok (.if_icmp .eq 5, 3) := dk_159 0 5 (dk_at dksL_law_67 14 rfl rfl)
theorem dL_law_1825 : decode cL_law 1825 = .ok (.iconst 0, 1) := dk_3 (dk_at dksL_law_67 17 rfl rfl)
theorem dL_law_1826 : decode cL_law 1826 = .ok (.ireturn, 1) := dk_172 (dk_at dksL_law_67 18 rfl rfl)
theorem dL_law_1827 : decode cL_law 1827 = .ok (.iload 5, 2) := dk_21 5 (dk_at dksL_law_67 19 rfl rfl)
theorem dL_law_1829 : decode cL_law 1829 = .ok (.ifCond .ne 15, 3) := dk_154 0 15 (dk_at dksL_law_67 21 rfl rfl)
theorem dL_law_1832 : decode cL_law 1832 = .ok (.aload_n 3, 1) := dk_45 (dk_at dksL_law_68 0 rfl rfl)
theorem dL_law_1833 : decode cL_law 1833 = .ok (.iconst 0, 1) := dk_3 (dk_at dksL_law_68 1 rfl rfl)
theorem dL_law_1834 : decode cL_law 1834 = .ok (.laload, 1) := dk_47 (dk_at dksL_law_68 2 rfl rfl)
theorem dL_law_1835 : decode cL_law 1835 = .ok (.iload 6, 2) := dk_21 6 (dk_at dksL_law_68 3 rfl rfl)
theorem dL_law_1837 : decode cL_law 1837 = .ok (.i2l, 1) := dk_133 (dk_at dksL_law_68 5 rfl rfl)
theorem dL_law_1838 : decode cL_law 1838 = .ok (.lcmp, 1) := dk_148 (dk_at dksL_law_68 6 rfl rfl)
theorem dL_law_1839 : decode cL_law 1839 = .ok (.ifCond .eq 5, 3) := dk_153 0 5 (dk_at dksL_law_68 7 rfl rfl)
theorem dL_law_1842 : decode cL_law 1842 = .ok (.iconst 0, 1) := dk_3 (dk_at dksL_law_68 10 rfl rfl)
theorem dL_law_1843 : decode cL_law 1843 = .ok (.ireturn, 1) := dk_172 (dk_at dksL_law_68 11 rfl rfl)
theorem dL_law_1844 : decode cL_law 1844 = .ok (.goto 1503, 3) := dk_167 5 223 (dk_at dksL_law_68 12 rfl rfl)
theorem dL_law_1847 : decode cL_law 1847 = .ok (.aload_n 1, 1) := dk_43 (dk_at dksL_law_68 15 rfl rfl)
theorem dL_law_1848 : decode cL_law 1848 = .ok (.aload_n 3, 1) := dk_45 (dk_at dksL_law_68 16 rfl rfl)
theorem dL_law_1849 : decode cL_law 1849 = .ok (.invokestatic 280, 3) := dk_184 1 24 (dk_at dksL_law_68 17 rfl rfl)
theorem dL_law_1852 : decode cL_law 1852 = .ok (.istore 5, 2) := dk_54 5 (dk_at dksL_law_68 20 rfl rfl)
theorem dL_law_1854 : decode cL_law 1854 = .ok (.aload_n 2, 1) := dk_44 (dk_at dksL_law_68 22 rfl rfl)
theorem dL_law_1855 : decode cL_law 1855 = .ok (.invokevirtual 282, 3) := dk_182 1 26 (dk_at dksL_law_69 0 rfl rfl)
theorem dL_law_1858 : decode cL_law 1858 = .ok (.istore 6, 2) := dk_54 6 (dk_at dksL_law_69 3 rfl rfl)
theorem dL_law_1860 : decode cL_law 1860 = .ok (.aload_n 2, 1) := dk_44 (dk_at dksL_law_69 5 rfl rfl)
theorem dL_law_1861 : decode cL_law 1861 = .ok (.invokevirtual 182, 3) := dk_182 0 182 (dk_at dksL_law_69 6 rfl rfl)
theorem dL_law_1864 : decode cL_law 1864 = .ok (.iload 5, 2) := dk_21 5 (dk_at dksL_law_69 9 rfl rfl)
theorem dL_law_1866 : decode cL_law 1866 = .ok (.if_icmp .eq 5, 3) := dk_159 0 5 (dk_at dksL_law_69 11 rfl rfl)
theorem dL_law_1869 : decode cL_law 1869 = .ok (.iconst 0, 1) := dk_3 (dk_at dksL_law_69 14 rfl rfl)
theorem dL_law_1870 : decode cL_law 1870 = .ok (.ireturn, 1) := dk_172 (dk_at dksL_law_69 15 rfl rfl)
theorem dL_law_1871 : decode cL_law 1871 = .ok (.iload 5, 2) := dk_21 5 (dk_at dksL_law_69 16 rfl rfl)
theorem dL_law_1873 : decode cL_law 1873 = .ok (.ifCond .ne 15, 3) := dk_154 0 15 (dk_at dksL_law_69 18 rfl rfl)
theorem dL_law_1876 : decode cL_law 1876 = .ok (.aload_n 3, 1) := dk_45 (dk_at dksL_law_69 21 rfl rfl)
theorem dL_law_1877 : decode cL_law 1877 = .ok (.iconst 0, 1) := dk_3 (dk_at dksL_law_69 22 rfl rfl)
theorem dL_law_1878 : decode cL_law 1878 = .ok (.laload, 1) := dk_47 (dk_at dksL_law_69 23 rfl rfl)
theorem dL_law_1879 : decode cL_law 1879 = .ok (.iload 6, 2) := dk_21 6 (dk_at dksL_law_70 0 rfl rfl)
theorem dL_law_1881 : decode cL_law 1881 = .ok (.i2l, 1) := dk_133 (dk_at dksL_law_70 2 rfl rfl)
theorem dL_law_1882 : decode cL_law 1882 = .ok (.lcmp, 1) := dk_148 (dk_at dksL_law_70 3 rfl rfl)
theorem dL_law_1883 : decode cL_law 1883 = .ok (.ifCond .eq 5, 3) := dk_153 0 5 (dk_at dksL_law_70 4 rfl rfl)
theorem dL_law_1886 : decode cL_law 1886 = .ok (.iconst 0, 1) := dk_3 (dk_at dksL_law_70 7 rfl rfl)
theorem dL_law_1887 : decode cL_law 1887 = .ok (.ireturn, 1) := dk_172 (dk_at dksL_law_70 8 rfl rfl)
theorem dL_law_1888 : decode cL_law 1888 = .ok (.goto 1459, 3) := dk_167 5 179 (dk_at dksL_law_70 9 rfl rfl)
theorem dL_law_1891 : decode cL_law 1891 = .ok (.aload_n 1, 1) := dk_43 (dk_at dksL_law_70 12 rfl rfl)
theorem dL_law_1892 : decode cL_law 1892 = .ok (.aload_n 3, 1) := dk_45 (dk_at dksL_law_70 13 rfl rfl)
theorem dL_law_1893 : decode cL_law 1893 = .ok (.invokestatic 283, 3) := dk_184 1 27 (dk_at dksL_law_70 14 rfl rfl)
theorem dL_law_1896 : decode cL_law 1896 = .ok (.istore 5, 2) := dk_54 5 (dk_at dksL_law_70 17 rfl rfl)
theorem dL_law_1898 : decode cL_law 1898 = .ok (.aload_n 2, 1) := dk_44 (dk_at dksL_law_70 19 rfl rfl)
theorem dL_law_1899 : decode cL_law 1899 = .ok (.invokevirtual 285, 3) := dk_182 1 29 (dk_at dksL_law_70 20 rfl rfl)
theorem dL_law_1902 : decode cL_law 1902 = .ok (.istore 6, 2) := dk_54 6 (dk_at dksL_law_71 0 rfl rfl)
theorem dL_law_1904 : decode cL_law 1904 = .ok (.aload_n 2, 1) := dk_44 (dk_at dksL_law_71 2 rfl rfl)
theorem dL_law_1905 : decode cL_law 1905 = .ok (.invokevirtual 182, 3) := dk_182 0 182 (dk_at dksL_law_71 3 rfl rfl)
theorem dL_law_1908 : decode cL_law 1908 = .ok (.iload 5, 2) := dk_21 5 (dk_at dksL_law_71 6 rfl rfl)
theorem dL_law_1910 : decode cL_law 1910 = .ok (.if_icmp .eq 5, 3) := dk_159 0 5 (dk_at dksL_law_71 8 rfl rfl)
theorem dL_law_1913 : decode cL_law 1913 = .ok (.iconst 0, 1) := dk_3 (dk_at dksL_law_71 11 rfl rfl)
theorem dL_law_1914 : decode cL_law 1914 = .ok (.ireturn, 1) := dk_172 (dk_at dksL_law_71 12 rfl rfl)
theorem dL_law_1915 : decode cL_law 1915 = .ok (.iload 5, 2) := dk_21 5 (dk_at dksL_law_71 13 rfl rfl)
theorem dL_law_1917 : decode cL_law 1917 = .ok (.ifCond .ne 15, 3) := dk_154 0 15 (dk_at dksL_law_71 15 rfl rfl)
theorem dL_law_1920 : decode cL_law 1920 = .ok (.aload_n 3, 1) := dk_45 (dk_at dksL_law_71 18 rfl rfl)
theorem dL_law_1921 : decode cL_law 1921 = .ok (.iconst 0, 1) := dk_3 (dk_at dksL_law_71 19 rfl rfl)
theorem dL_law_1922 : decode cL_law 1922 = .ok (.laload, 1) := dk_47 (dk_at dksL_law_71 20 rfl rfl)
theorem dL_law_1923 : decode cL_law 1923 = .ok (.iload 6, 2) := dk_21 6 (dk_at dksL_law_71 21 rfl rfl)
theorem dL_law_1925 : decode cL_law 1925 = .ok (.i2l, 1) := dk_133 (dk_at dksL_law_71 23 rfl rfl)
theorem dL_law_1926 : decode cL_law 1926 = .ok (.lcmp, 1) := dk_148 (dk_at dksL_law_72 0 rfl rfl)
theorem dL_law_1927 : decode cL_law 1927 = .ok (.ifCond .eq 5, 3) := dk_153 0 5 (dk_at dksL_law_72 1 rfl rfl)
theorem dL_law_1930 : decode cL_law 1930 = .ok (.iconst 0, 1) := dk_3 (dk_at dksL_law_72 4 rfl rfl)
theorem dL_law_1931 : decode cL_law 1931 = .ok (.ireturn, 1) := dk_172 (dk_at dksL_law_72 5 rfl rfl)
theorem dL_law_1932 : decode cL_law 1932 = .ok (.goto 1415, 3) := dk_167 5 135 (dk_at dksL_law_72 6 rfl rfl)
theorem dL_law_1935 : decode cL_law 1935 = .ok (.aload_n 1, 1) := dk_43 (dk_at dksL_law_72 9 rfl rfl)
theorem dL_law_1936 : decode cL_law 1936 = .ok (.aload_n 0, 1) := dk_42 (dk_at dksL_law_72 10 rfl rfl)
theorem dL_law_1937 : decode cL_law 1937 = .ok (.iload 4, 2) := dk_21 4 (dk_at dksL_law_72 11 rfl rfl)
theorem dL_law_1939 : decode cL_law 1939 = .ok (.iconst 1, 1) := dk_4 (dk_at dksL_law_72 13 rfl rfl)
theorem dL_law_1940 : decode cL_law 1940 = .ok (.iadd, 1) := dk_96 (dk_at dksL_law_72 14 rfl rfl)
theorem dL_law_1941 : decode cL_law 1941 = .ok (.iaload, 1) := dk_46 (dk_at dksL_law_72 15 rfl rfl)
theorem dL_law_1942 : decode cL_law 1942 = .ok (.aload_n 3, 1) := dk_45 (dk_at dksL_law_72 16 rfl rfl)
theorem dL_law_1943 : decode cL_law 1943 = .ok (.invokestatic 286, 3) := dk_184 1 30 (dk_at dksL_law_72 17 rfl rfl)
theorem dL_law_1946 : decode cL_law 1946 = .ok (.istore 5, 2) := dk_54 5 (dk_at dksL_law_72 20 rfl rfl)
theorem dL_law_1948 : decode cL_law 1948 = .ok (.aload_n 2, 1) := dk_44 (dk_at dksL_law_72 22 rfl rfl)
theorem dL_law_1949 : decode cL_law 1949 = .ok (.aload_n 0, 1) := dk_42 (dk_at dksL_law_72 23 rfl rfl)
theorem dL_law_1950 : decode cL_law 1950 = .ok (.iload 4, 2) := dk_21 4 (dk_at dksL_law_73 0 rfl rfl)
theorem dL_law_1952 : decode cL_law 1952 = .ok (.iconst 1, 1) := dk_4 (dk_at dksL_law_73 2 rfl rfl)
theorem dL_law_1953 : decode cL_law 1953 = .ok (.iadd, 1) := dk_96 (dk_at dksL_law_73 3 rfl rfl)
theorem dL_law_1954 : decode cL_law 1954 = .ok (.iaload, 1) := dk_46 (dk_at dksL_law_73 4 rfl rfl)
theorem dL_law_1955 : decode cL_law 1955 = .ok (.invokevirtual 288, 3) := dk_182 1 32 (dk_at dksL_law_73 5 rfl rfl)
theorem dL_law_1958 : decode cL_law 1958 = .ok (.istore 6, 2) := dk_54 6 (dk_at dksL_law_73 8 rfl rfl)
theorem dL_law_1960 : decode cL_law 1960 = .ok (.aload_n 2, 1) := dk_44 (dk_at dksL_law_73 10 rfl rfl)
theorem dL_law_1961 : decode cL_law 1961 = .ok (.invokevirtual 182, 3) := dk_182 0 182 (dk_at dksL_law_73 11 rfl rfl)
theorem dL_law_1964 : decode cL_law 1964 = .ok (.iload 5, 2) := dk_21 5 (dk_at dksL_law_73 14 rfl rfl)
theorem dL_law_1966 : decode cL_law 1966 = .ok (.if_icmp .eq 5, 3) := dk_159 0 5 (dk_at dksL_law_73 16 rfl rfl)
theorem dL_law_1969 : decode cL_law 1969 = .ok (.iconst 0, 1) := dk_3 (dk_at dksL_law_73 19 rfl rfl)
theorem dL_law_1970 : decode cL_law 1970 = .ok (.ireturn, 1) := dk_172 (dk_at dksL_law_73 20 rfl rfl)
theorem dL_law_1971 : decode cL_law 1971 = .ok (.iload 5, 2) := dk_21 5 (dk_at dksL_law_73 21 rfl rfl)
theorem dL_law_1973 : decode cL_law 1973 = .ok (.ifCond .ne 15, 3) := dk_154 0 15 (dk_at dksL_law_74 0 rfl rfl)
theorem dL_law_1976 : decode cL_law 1976 = .ok (.aload_n 3, 1) := dk_45 (dk_at dksL_law_74 3 rfl rfl)
theorem dL_law_1977 : decode cL_law 1977 = .ok (.iconst 0, 1) := dk_3 (dk_at dksL_law_74 4 rfl rfl)
theorem dL_law_1978 : decode cL_law 1978 = .ok (.laload, 1) := dk_47 (dk_at dksL_law_74 5 rfl rfl)
theorem dL_law_1979 : decode cL_law 1979 = .ok (.iload 6, 2) := dk_21 6 (dk_at dksL_law_74 6 rfl rfl)
theorem dL_law_1981 : decode cL_law 1981 = .ok (.i2l, 1) := dk_133 (dk_at dksL_law_74 8 rfl rfl)
theorem dL_law_1982 : decode cL_law 1982 = .ok (.lcmp, 1) := dk_148 (dk_at dksL_law_74 9 rfl rfl)
theorem dL_law_1983 : decode cL_law 1983 = .ok (.ifCond .eq 5, 3) := dk_153 0 5 (dk_at dksL_law_74 10 rfl rfl)
theorem dL_law_1986 : decode cL_law 1986 = .ok (.iconst 0, 1) := dk_3 (dk_at dksL_law_74 13 rfl rfl)
theorem dL_law_1987 : decode cL_law 1987 = .ok (.ireturn, 1) := dk_172 (dk_at dksL_law_74 14 rfl rfl)
theorem dL_law_1988 : decode cL_law 1988 = .ok (.goto 1359, 3) := dk_167 5 79 (dk_at dksL_law_74 15 rfl rfl)
theorem dL_law_1991 : decode cL_law 1991 = .ok (.aload_n 1, 1) := dk_43 (dk_at dksL_law_74 18 rfl rfl)
theorem dL_law_1992 : decode cL_law 1992 = .ok (.aload_n 0, 1) := dk_42 (dk_at dksL_law_74 19 rfl rfl)
theorem dL_law_1993 : decode cL_law 1993 = .ok (.iload 4, 2) := dk_21 4 (dk_at dksL_law_74 20 rfl rfl)
theorem dL_law_1995 : decode cL_law 1995 = .ok (.iconst 1, 1) := dk_4 (dk_at dksL_law_74 22 rfl rfl)
theorem dL_law_1996 : decode cL_law 1996 = .ok (.iadd, 1) := dk_96 (dk_at dksL_law_74 23 rfl rfl)
theorem dL_law_1997 : decode cL_law 1997 = .ok (.iaload, 1) := dk_46 (dk_at dksL_law_75 0 rfl rfl)
theorem dL_law_1998 : decode cL_law 1998 = .ok (.aload_n 0, 1) := dk_42 (dk_at dksL_law_75 1 rfl rfl)
theorem dL_law_1999 : decode cL_law 1999 = .ok (.iload 4, 2) := dk_21 4 (dk_at dksL_law_75 2 rfl rfl)
theorem dL_law_2001 : decode cL_law 2001 = .ok (.iconst 2, 1) := dk_5 (dk_at dksL_law_75 4 rfl rfl)
theorem dL_law_2002 : decode cL_law 2002 = .ok (.iadd, 1) := dk_96 (dk_at dksL_law_75 5 rfl rfl)
theorem dL_law_2003 : decode cL_law 2003 = .ok (.iaload, 1) := dk_46 (dk_at dksL_law_75 6 rfl rfl)
theorem dL_law_2004 : decode cL_law 2004 = .ok (.aload_n 3, 1) := dk_45 (dk_at dksL_law_75 7 rfl rfl)
theorem dL_law_2005 : decode cL_law 2005 = .ok (.invokestatic 289, 3) := dk_184 1 33 (dk_at dksL_law_75 8 rfl rfl)
theorem dL_law_2008 : decode cL_law 2008 = .ok (.istore 5, 2) := dk_54 5 (dk_at dksL_law_75 11 rfl rfl)
theorem dL_law_2010 : decode cL_law 2010 = .ok (.aload_n 2, 1) := dk_44 (dk_at dksL_law_75 13 rfl rfl)
theorem dL_law_2011 : decode cL_law 2011 = .ok (.aload_n 0, 1) := dk_42 (dk_at dksL_law_75 14 rfl rfl)
theorem dL_law_2012 : decode cL_law 2012 = .ok (.iload 4, 2) := dk_21 4 (dk_at dksL_law_75 15 rfl rfl)
theorem dL_law_2014 : decode cL_law 2014 = .ok (.iconst 1, 1) := dk_4 (dk_at dksL_law_75 17 rfl rfl)
theorem dL_law_2015 : decode cL_law 2015 = .ok (.iadd, 1) := dk_96 (dk_at dksL_law_75 18 rfl rfl)
theorem dL_law_2016 : decode cL_law 2016 = .ok (.iaload, 1) := dk_46 (dk_at dksL_law_75 19 rfl rfl)
theorem dL_law_2017 : decode cL_law 2017 = .ok (.aload_n 0, 1) := dk_42 (dk_at dksL_law_75 20 rfl rfl)
theorem dL_law_2018 : decode cL_law 2018 = .ok (.iload 4, 2) := dk_21 4 (dk_at dksL_law_75 21 rfl rfl)
theorem dL_law_2020 : decode cL_law 2020 = .ok (.iconst 2, 1) := dk_5 (dk_at dksL_law_75 23 rfl rfl)
theorem dL_law_2021 : decode cL_law 2021 = .ok (.iadd, 1) := dk_96 (dk_at dksL_law_76 0 rfl rfl)
theorem dL_law_2022 : decode cL_law 2022 = .ok (.iaload, 1) := dk_46 (dk_at dksL_law_76 1 rfl rfl)
theorem dL_law_2023 : decode cL_law 2023 = .ok (.invokevirtual 291, 3) := dk_182 1 35 (dk_at dksL_law_76 2 rfl rfl)
theorem dL_law_2026 : decode cL_law 2026 = .ok (.istore 6, 2) := dk_54 6 (dk_at dksL_law_76 5 rfl rfl)
theorem dL_law_2028 : decode cL_law 2028 = .ok (.aload_n 2, 1) := dk_44 (dk_at dksL_law_76 7 rfl rfl)
theorem dL_law_2029 : decode cL_law 2029 = .ok (.invokevirtual 182, 3) := dk_182 0 182 (dk_at dksL_law_76 8 rfl rfl)
theorem dL_law_2032 : decode cL_law 2032 = .ok (.iload 5, 2) := dk_21 5 (dk_at dksL_law_76 11 rfl rfl)
theorem dL_law_2034 : decode cL_law 2034 = .ok (.if_icmp .eq 5, 3) := dk_159 0 5 (dk_at dksL_law_76 13 rfl rfl)
theorem dL_law_2037 : decode cL_law 2037 = .ok (.iconst 0, 1) := dk_3 (dk_at dksL_law_76 16 rfl rfl)
theorem dL_law_2038 : decode cL_law 2038 = .ok (.ireturn, 1) := dk_172 (dk_at dksL_law_76 17 rfl rfl)
theorem dL_law_2039 : decode cL_law 2039 = .ok (.iload 5, 2) := dk_21 5 (dk_at dksL_law_76 18 rfl rfl)
theorem dL_law_2041 : decode cL_law 2041 = .ok (.ifCond .ne 22, 3) := dk_154 0 22 (dk_at dksL_law_76 20 rfl rfl)
theorem dL_law_2044 : decode cL_law 2044 = .ok (.aload_n 3, 1) := dk_45 (dk_at dksL_law_76 23 rfl rfl)
theorem dL_law_2045 : decode cL_law 2045 = .ok (.iconst 0, 1) := dk_3 (dk_at dksL_law_77 0 rfl rfl)
theorem dL_law_2046 : decode cL_law 2046 = .ok (.laload, 1) := dk_47 (dk_at dksL_law_77 1 rfl rfl)
theorem dL_law_2047 : decode cL_law 2047 = .ok (.iload 6, 2) := dk_21 6 (dk_at dksL_law_77 2 rfl rfl)
theorem dL_law_2049 : decode cL_law 2049 = .ok (.ifCond .eq 7, 3) := dk_153 0 7 (dk_at dksL_law_77 4 rfl rfl)
theorem dL_law_2052 : decode cL_law 2052 = .ok (.lconst 1, 1) := dk_10 (dk_at dksL_law_77 7 rfl rfl)
theorem dL_law_2053 : decode cL_law 2053 = .ok (.goto 4, 3) := dk_167 0 4 (dk_at dksL_law_77 8 rfl rfl)
theorem dL_law_2056 : decode cL_law 2056 = .ok (.lconst 0, 1) := dk_9 (dk_at dksL_law_77 11 rfl rfl)
theorem dL_law_2057 : decode cL_law 2057 = .ok (.lcmp, 1) := dk_148 (dk_at dksL_law_77 12 rfl rfl)
theorem dL_law_2058 : decode cL_law 2058 = .ok (.ifCond .eq 5, 3) := dk_153 0 5 (dk_at dksL_law_77 13 rfl rfl)
theorem dL_law_2061 : decode cL_law 2061 = .ok (.iconst 0, 1) := dk_3 (dk_at dksL_law_77 16 rfl rfl)
theorem dL_law_2062 : decode cL_law 2062 = .ok (.ireturn, 1) := dk_172 (dk_at dksL_law_77 17 rfl rfl)
theorem dL_law_2063 : decode cL_law 2063 = .ok (.goto 1284, 3) := dk_167 5 4 (dk_at dksL_law_77 18 rfl rfl)
theorem dL_law_2066 : decode cL_law 2066 = .ok (.aload_n 1, 1) := dk_43 (dk_at dksL_law_77 21 rfl rfl)
theorem dL_law_2067 : decode cL_law 2067 = .ok (.aload_n 0, 1) := dk_42 (dk_at dksL_law_77 22 rfl rfl)
theorem dL_law_2068 : decode cL_law 2068 = .ok (.iload 4, 2) := dk_21 4 (dk_at dksL_law_78 0 rfl rfl)
theorem dL_law_2070 : decode cL_law 2070 = .ok (.iconst 1, 1) := dk_4 (dk_at dksL_law_78 2 rfl rfl)
theorem dL_law_2071 : decode cL_law 2071 = .ok (.iadd, 1) := dk_96 (dk_at dksL_law_78 3 rfl rfl)
theorem dL_law_2072 : decode cL_law 2072 = .ok (.iaload, 1) := dk_46 (dk_at dksL_law_78 4 rfl rfl)
theorem dL_law_2073 : decode cL_law 2073 = .ok (.aload_n 0, 1) := dk_42 (dk_at dksL_law_78 5 rfl rfl)
theorem dL_law_2074 : decode cL_law 2074 = .ok (.iload 4, 2) := dk_21 4 (dk_at dksL_law_78 6 rfl rfl)
theorem dL_law_2076 : decode cL_law 2076 = .ok (.iconst 2, 1) := dk_5 (dk_at dksL_law_78 8 rfl rfl)
theorem dL_law_2077 : decode cL_law 2077 = .ok (.iadd, 1) := dk_96 (dk_at dksL_law_78 9 rfl rfl)
theorem dL_law_2078 : decode cL_law 2078 = .ok (.iaload, 1) := dk_46 (dk_at dksL_law_78 10 rfl rfl)
theorem dL_law_2079 : decode cL_law 2079 = .ok (.aload_n 3, 1) := dk_45 (dk_at dksL_law_78 11 rfl rfl)
theorem dL_law_2080 : decode cL_law 2080 = .ok (.invokestatic 292, 3) := dk_184 1 36 (dk_at dksL_law_78 12 rfl rfl)
theorem dL_law_2083 : decode cL_law 2083 = .ok (.istore 5, 2) := dk_54 5 (dk_at dksL_law_78 15 rfl rfl)
theorem dL_law_2085 : decode cL_law 2085 = .ok (.aload_n 2, 1) := dk_44 (dk_at dksL_law_78 17 rfl rfl)
theorem dL_law_2086 : decode cL_law 2086 = .ok (.aload_n 0, 1) := dk_42 (dk_at dksL_law_78 18 rfl rfl)
theorem dL_law_2087 : decode cL_law 2087 = .ok (.iload 4, 2) := dk_21 4 (dk_at dksL_law_78 19 rfl rfl)
theorem dL_law_2089 : decode cL_law 2089 = .ok (.iconst 1, 1) := dk_4 (dk_at dksL_law_78 21 rfl rfl)
theorem dL_law_2090 : decode cL_law 2090 = .ok (.iadd, 1) := dk_96 (dk_at dksL_law_78 22 rfl rfl)
theorem dL_law_2091 : decode cL_law 2091 = .ok (.iaload, 1) := dk_46 (dk_at dksL_law_78 23 rfl rfl)
theorem dL_law_2092 : decode cL_law 2092 = .ok (.aload_n 0, 1) := dk_42 (dk_at dksL_law_79 0 rfl rfl)
theorem dL_law_2093 : decode cL_law 2093 = .ok (.iload 4, 2) := dk_21 4 (dk_at dksL_law_79 1 rfl rfl)
theorem dL_law_2095 : decode cL_law 2095 = .ok (.iconst 2, 1) := dk_5 (dk_at dksL_law_79 3 rfl rfl)
theorem dL_law_2096 : decode cL_law 2096 = .ok (.iadd, 1) := dk_96 (dk_at dksL_law_79 4 rfl rfl)
theorem dL_law_2097 : decode cL_law 2097 = .ok (.iaload, 1) := dk_46 (dk_at dksL_law_79 5 rfl rfl)
theorem dL_law_2098 : decode cL_law 2098 = .ok (.invokevirtual 294, 3) := dk_182 1 38 (dk_at dksL_law_79 6 rfl rfl)
theorem dL_law_2101 : decode cL_law 2101 = .ok (.istore 6, 2) := dk_54 6 (dk_at dksL_law_79 9 rfl rfl)
theorem dL_law_2103 : decode cL_law 2103 = .ok (.aload_n 2, 1) := dk_44 (dk_at dksL_law_79 11 rfl rfl)
theorem dL_law_2104 : decode cL_law 2104 = .ok (.invokevirtual 182, 3) := dk_182 0 182 (dk_at dksL_law_79 12 rfl rfl)
theorem dL_law_2107 : decode cL_law 2107 = .ok (.iload 5, 2) := dk_21 5 (dk_at dksL_law_79 15 rfl rfl)
theorem dL_law_2109 : decode cL_law 2109 = .ok (.if_icmp .eq 5, 3) := dk_159 0 5 (dk_at dksL_law_79 17 rfl rfl)
theorem dL_law_2112 : decode cL_law 2112 = .ok (.iconst 0, 1) := dk_3 (dk_at dksL_law_79 20 rfl rfl)
theorem dL_law_2113 : decode cL_law 2113 = .ok (.ireturn, 1) := dk_172 (dk_at dksL_law_79 21 rfl rfl)
theorem dL_law_2114 : decode cL_law 2114 = .ok (.iload 5, 2) := dk_21 5 (dk_at dksL_law_79 22 rfl rfl)
theorem dL_law_2116 : decode cL_law 2116 = .ok (.ifCond .ne 15, 3) := dk_154 0 15 (dk_at dksL_law_80 0 rfl rfl)
theorem dL_law_2119 : decode cL_law 2119 = .ok (.aload_n 3, 1) := dk_45 (dk_at dksL_law_80 3 rfl rfl)
theorem dL_law_2120 : decode cL_law 2120 = .ok (.iconst 0, 1) := dk_3 (dk_at dksL_law_80 4 rfl rfl)
theorem dL_law_2121 : decode cL_law 2121 = .ok (.laload, 1) := dk_47 (dk_at dksL_law_80 5 rfl rfl)
theorem dL_law_2122 : decode cL_law 2122 = .ok (.iload 6, 2) := dk_21 6 (dk_at dksL_law_80 6 rfl rfl)
theorem dL_law_2124 : decode cL_law 2124 = .ok (.i2l, 1) := dk_133 (dk_at dksL_law_80 8 rfl rfl)
theorem dL_law_2125 : decode cL_law 2125 = .ok (.lcmp, 1) := dk_148 (dk_at dksL_law_80 9 rfl rfl)
theorem dL_law_2126 : decode cL_law 2126 = .ok (.ifCond .eq 5, 3) := dk_153 0 5 (dk_at dksL_law_80 10 rfl rfl)
theorem dL_law_2129 : decode cL_law 2129 = .ok (.iconst 0, 1) := dk_3 (dk_at dksL_law_80 13 rfl rfl)
theorem dL_law_2130 : decode cL_law 2130 = .ok (.ireturn, 1) := dk_172 (dk_at dksL_law_80 14 rfl rfl)
theorem dL_law_2131 : decode cL_law 2131 = .ok (.goto 1216, 3) := dk_167 4 192 (dk_at dksL_law_80 15 rfl rfl)
theorem dL_law_2134 : decode cL_law 2134 = .ok (.aload_n 1, 1) := dk_43 (dk_at dksL_law_80 18 rfl rfl)
theorem dL_law_2135 : decode cL_law 2135 = .ok (.aload_n 0, 1) := dk_42 (dk_at dksL_law_80 19 rfl rfl)
theorem dL_law_2136 : decode cL_law 2136 = .ok (.iload 4, 2) := dk_21 4 (dk_at dksL_law_80 20 rfl rfl)
theorem dL_law_2138 : decode cL_law 2138 = .ok (.iconst 1, 1) := dk_4 (dk_at dksL_law_80 22 rfl rfl)
theorem dL_law_2139 : decode cL_law 2139 = .ok (.iadd, 1) := dk_96 (dk_at dksL_law_80 23 rfl rfl)
theorem dL_law_2140 : decode cL_law 2140 = .ok (.iaload, 1) := dk_46 (dk_at dksL_law_81 0 rfl rfl)
theorem dL_law_2141 : decode cL_law 2141 = .ok (.aload_n 0, 1) := dk_42 (dk_at dksL_law_81 1 rfl rfl)
theorem dL_law_2142 : decode cL_law 2142 = .ok (.iload 4, 2) := dk_21 4 (dk_at dksL_law_81 2 rfl rfl)
theorem dL_law_2144 : decode cL_law 2144 = .ok (.iconst 2, 1) := dk_5 (dk_at dksL_law_81 4 rfl rfl)
theorem dL_law_2145 : decode cL_law 2145 = .ok (.iadd, 1) := dk_96 (dk_at dksL_law_81 5 rfl rfl)
theorem dL_law_2146 : decode cL_law 2146 = .ok (.iaload, 1) := dk_46 (dk_at dksL_law_81 6 rfl rfl)
theorem dL_law_2147 : decode cL_law 2147 = .ok (.aload_n 3, 1) := dk_45 (dk_at dksL_law_81 7 rfl rfl)
theorem dL_law_2148 : decode cL_law 2148 = .ok (.invokestatic 295, 3) := dk_184 1 39 (dk_at dksL_law_81 8 rfl rfl)
theorem dL_law_2151 : decode cL_law 2151 = .ok (.istore 5, 2) := dk_54 5 (dk_at dksL_law_81 11 rfl rfl)
theorem dL_law_2153 : decode cL_law 2153 = .ok (.aload_n 2, 1) := dk_44 (dk_at dksL_law_81 13 rfl rfl)
theorem dL_law_2154 : decode cL_law 2154 = .ok (.aload_n 0, 1) := dk_42 (dk_at dksL_law_81 14 rfl rfl)
theorem dL_law_2155 : decode cL_law 2155 = .ok (.iload 4, 2) := dk_21 4 (dk_at dksL_law_81 15 rfl rfl)
theorem dL_law_2157 : decode cL_law 2157 = .ok (.iconst 1, 1) := dk_4 (dk_at dksL_law_81 17 rfl rfl)
theorem dL_law_2158 : decode cL_law 2158 = .ok (.iadd, 1) := dk_96 (dk_at dksL_law_81 18 rfl rfl)
theorem dL_law_2159 : decode cL_law 2159 = .ok (.iaload, 1) := dk_46 (dk_at dksL_law_81 19 rfl rfl)
theorem dL_law_2160 : decode cL_law 2160 = .ok (.aload_n 0, 1) := dk_42 (dk_at dksL_law_81 20 rfl rfl)
theorem dL_law_2161 : decode cL_law 2161 = .ok (.iload 4, 2) := dk_21 4 (dk_at dksL_law_81 21 rfl rfl)
theorem dL_law_2163 : decode cL_law 2163 = .ok (.iconst 2, 1) := dk_5 (dk_at dksL_law_81 23 rfl rfl)
theorem dL_law_2164 : decode cL_law 2164 = .ok (.iadd, 1) := dk_96 (dk_at dksL_law_82 0 rfl rfl)
theorem dL_law_2165 : decode cL_law 2165 = .ok (.iaload, 1) := dk_46 (dk_at dksL_law_82 1 rfl rfl)
theorem dL_law_2166 : decode cL_law 2166 = .ok (.invokevirtual 297, 3) := dk_182 1 41 (dk_at dksL_law_82 2 rfl rfl)
theorem dL_law_2169 : decode cL_law 2169 = .ok (.istore 6, 2) := dk_54 6 (dk_at dksL_law_82 5 rfl rfl)
theorem dL_law_2171 : decode cL_law 2171 = .ok (.aload_n 2, 1) := dk_44 (dk_at dksL_law_82 7 rfl rfl)
theorem dL_law_2172 : decode cL_law 2172 = .ok (.invokevirtual 182, 3) := dk_182 0 182 (dk_at dksL_law_82 8 rfl rfl)
theorem dL_law_2175 : decode cL_law 2175 = .ok (.iload 5, 2) := dk_21 5 (dk_at dksL_law_82 11 rfl rfl)
theorem dL_law_2177 : decode cL_law 2177 = .ok (.if_icmp .eq 5, 3) := dk_159 0 5 (dk_at dksL_law_82 13 rfl rfl)
theorem dL_law_2180 : decode cL_law 2180 = .ok (.iconst 0, 1) := dk_3 (dk_at dksL_law_82 16 rfl rfl)
theorem dL_law_2181 : decode cL_law 2181 = .ok (.ireturn, 1) := dk_172 (dk_at dksL_law_82 17 rfl rfl)
theorem dL_law_2182 : decode cL_law 2182 = .ok (.iload 5, 2) := dk_21 5 (dk_at dksL_law_82 18 rfl rfl)
theorem dL_law_2184 : decode cL_law 2184 = .ok (.ifCond .ne 15, 3) := dk_154 0 15 (dk_at dksL_law_82 20 rfl rfl)
theorem dL_law_2187 : decode cL_law 2187 = .ok (.aload_n 3, 1) := dk_45 (dk_at dksL_law_82 23 rfl rfl)
theorem dL_law_2188 : decode cL_law 2188 = .ok (.iconst 0, 1) := dk_3 (dk_at dksL_law_83 0 rfl rfl)
theorem dL_law_2189 : decode cL_law 2189 = .ok (.laload, 1) := dk_47 (dk_at dksL_law_83 1 rfl rfl)
theorem dL_law_2190 : decode cL_law 2190 = .ok (.iload 6, 2) := dk_21 6 (dk_at dksL_law_83 2 rfl rfl)
theorem dL_law_2192 : decode cL_law 2192 = .ok (.i2l, 1) := dk_133 (dk_at dksL_law_83 4 rfl rfl)
theorem dL_law_2193 : decode cL_law 2193 = .ok (.lcmp, 1) := dk_148 (dk_at dksL_law_83 5 rfl rfl)
theorem dL_law_2194 : decode cL_law 2194 = .ok (.ifCond .eq 5, 3) := dk_153 0 5 (dk_at dksL_law_83 6 rfl rfl)
theorem dL_law_2197 : decode cL_law 2197 = .ok (.iconst 0, 1) := dk_3 (dk_at dksL_law_83 9 rfl rfl)
theorem dL_law_2198 : decode cL_law 2198 = .ok (.ireturn, 1) := dk_172 (dk_at dksL_law_83 10 rfl rfl)
theorem dL_law_2199 : decode cL_law 2199 = .ok (.goto 1148, 3) := dk_167 4 124 (dk_at dksL_law_83 11 rfl rfl)
theorem dL_law_2202 : decode cL_law 2202 = .ok (.aload_n 1, 1) := dk_43 (dk_at dksL_law_83 14 rfl rfl)
theorem dL_law_2203 : decode cL_law 2203 = .ok (.aload_n 0, 1) := dk_42 (dk_at dksL_law_83 15 rfl rfl)
theorem dL_law_2204 : decode cL_law 2204 = .ok (.iload 4, 2) := dk_21 4 (dk_at dksL_law_83 16 rfl rfl)
theorem dL_law_2206 : decode cL_law 2206 = .ok (.iconst 1, 1) := dk_4 (dk_at dksL_law_83 18 rfl rfl)
theorem dL_law_2207 : decode cL_law 2207 = .ok (.iadd, 1) := dk_96 (dk_at dksL_law_83 19 rfl rfl)
theorem dL_law_2208 : decode cL_law 2208 = .ok (.iaload, 1) := dk_46 (dk_at dksL_law_83 20 rfl rfl)
theorem dL_law_2209 : decode cL_law 2209 = .ok (.aload_n 0, 1) := dk_42 (dk_at dksL_law_83 21 rfl rfl)
theorem dL_law_2210 : decode cL_law 2210 = .ok (.iload 4, 2) := dk_21 4 (dk_at dksL_law_83 22 rfl rfl)
theorem dL_law_2212 : decode cL_law 2212 = .ok (.iconst 2, 1) := dk_5 (dk_at dksL_law_84 0 rfl rfl)
theorem dL_law_2213 : decode cL_law 2213 = .ok (.iadd, 1) := dk_96 (dk_at dksL_law_84 1 rfl rfl)
theorem dL_law_2214 : decode cL_law 2214 = .ok (.iaload, 1) := dk_46 (dk_at dksL_law_84 2 rfl rfl)
theorem dL_law_2215 : decode cL_law 2215 = .ok (.aload_n 3, 1) := dk_45 (dk_at dksL_law_84 3 rfl rfl)
theorem dL_law_2216 : decode cL_law 2216 = .ok (.invokestatic 298, 3) := dk_184 1 42 (dk_at dksL_law_84 4 rfl rfl)
theorem dL_law_2219 : decode cL_law 2219 = .ok (.istore 5, 2) := dk_54 5 (dk_at dksL_law_84 7 rfl rfl)
theorem dL_law_2221 : decode cL_law 2221 = .ok (.aload_n 2, 1) := dk_44 (dk_at dksL_law_84 9 rfl rfl)
theorem dL_law_2222 : decode cL_law 2222 = .ok (.aload_n 0, 1) := dk_42 (dk_at dksL_law_84 10 rfl rfl)
theorem dL_law_2223 : decode cL_law 2223 = .ok (.iload 4, 2) := dk_21 4 (dk_at dksL_law_84 11 rfl rfl)
theorem dL_law_2225 : decode cL_law 2225 = .ok (.iconst 1, 1) := dk_4 (dk_at dksL_law_84 13 rfl rfl)
theorem dL_law_2226 : decode cL_law 2226 = .ok (.iadd, 1) := dk_96 (dk_at dksL_law_84 14 rfl rfl)
theorem dL_law_2227 : decode cL_law 2227 = .ok (.iaload, 1) := dk_46 (dk_at dksL_law_84 15 rfl rfl)
theorem dL_law_2228 : decode cL_law 2228 = .ok (.aload_n 0, 1) := dk_42 (dk_at dksL_law_84 16 rfl rfl)
theorem dL_law_2229 : decode cL_law 2229 = .ok (.iload 4, 2) := dk_21 4 (dk_at dksL_law_84 17 rfl rfl)
theorem dL_law_2231 : decode cL_law 2231 = .ok (.iconst 2, 1) := dk_5 (dk_at dksL_law_84 19 rfl rfl)
theorem dL_law_2232 : decode cL_law 2232 = .ok (.iadd, 1) := dk_96 (dk_at dksL_law_84 20 rfl rfl)
theorem dL_law_2233 : decode cL_law 2233 = .ok (.iaload, 1) := dk_46 (dk_at dksL_law_84 21 rfl rfl)
theorem dL_law_2234 : decode cL_law 2234 = .ok (.invokevirtual 300, 3) := dk_182 1 44 (dk_at dksL_law_85 0 rfl rfl)
theorem dL_law_2237 : decode cL_law 2237 = .ok (.istore 6, 2) := dk_54 6 (dk_at dksL_law_85 3 rfl rfl)
theorem dL_law_2239 : decode cL_law 2239 = .ok (.aload_n 2, 1) := dk_44 (dk_at dksL_law_85 5 rfl rfl)
theorem dL_law_2240 : decode cL_law 2240 = .ok (.invokevirtual 182, 3) := dk_182 0 182 (dk_at dksL_law_85 6 rfl rfl)
theorem dL_law_2243 : decode cL_law 2243 = .ok (.iload 5, 2) := dk_21 5 (dk_at dksL_law_85 9 rfl rfl)
theorem dL_law_2245 : decode cL_law 2245 = .ok (.if_icmp .eq 5, 3) := dk_159 0 5 (dk_at dksL_law_85 11 rfl rfl)
theorem dL_law_2248 : decode cL_law 2248 = .ok (.iconst 0, 1) := dk_3 (dk_at dksL_law_85 14 rfl rfl)
theorem dL_law_2249 : decode cL_law 2249 = .ok (.ireturn, 1) := dk_172 (dk_at dksL_law_85 15 rfl rfl)
theorem dL_law_2250 : decode cL_law 2250 = .ok (.iload 5, 2) := dk_21 5 (dk_at dksL_law_85 16 rfl rfl)
theorem dL_law_2252 : decode cL_law 2252 = .ok (.ifCond .ne 15, 3) := dk_154 0 15 (dk_at dksL_law_85 18 rfl rfl)
theorem dL_law_2255 : decode cL_law 2255 = .ok (.aload_n 3, 1) := dk_45 (dk_at dksL_law_85 21 rfl rfl)
theorem dL_law_2256 : decode cL_law 2256 = .ok (.iconst 0, 1) := dk_3 (dk_at dksL_law_85 22 rfl rfl)
theorem dL_law_2257 : decode cL_law 2257 = .ok (.laload, 1) := dk_47 (dk_at dksL_law_85 23 rfl rfl)
theorem dL_law_2258 : decode cL_law 2258 = .ok (.iload 6, 2) := dk_21 6 (dk_at dksL_law_86 0 rfl rfl)
theorem dL_law_2260 : decode cL_law 2260 = .ok (.i2l, 1) := dk_133 (dk_at dksL_law_86 2 rfl rfl)
theorem dL_law_2261 : decode cL_law 2261 = .ok (.lcmp, 1) := dk_148 (dk_at dksL_law_86 3 rfl rfl)
theorem dL_law_2262 : decode cL_law 2262 = .ok (.ifCond .eq 5, 3) := dk_153 0 5 (dk_at dksL_law_86 4 rfl rfl)
theorem dL_law_2265 : decode cL_law 2265 = .ok (.iconst 0, 1) := dk_3 (dk_at dksL_law_86 7 rfl rfl)
theorem dL_law_2266 : decode cL_law 2266 = .ok (.ireturn, 1) := dk_172 (dk_at dksL_law_86 8 rfl rfl)
theorem dL_law_2267 : decode cL_law 2267 = .ok (.goto 1080, 3) := dk_167 4 56 (dk_at dksL_law_86 9 rfl rfl)
theorem dL_law_2270 : decode cL_law 2270 = .ok (.aload_n 1, 1) := dk_43 (dk_at dksL_law_86 12 rfl rfl)
theorem dL_law_2271 : decode cL_law 2271 = .ok (.aload_n 0, 1) := dk_42 (dk_at dksL_law_86 13 rfl rfl)
theorem dL_law_2272 : decode cL_law 2272 = .ok (.iload 4, 2) := dk_21 4 (dk_at dksL_law_86 14 rfl rfl)
theorem dL_law_2274 : decode cL_law 2274 = .ok (.iconst 1, 1) := dk_4 (dk_at dksL_law_86 16 rfl rfl)
theorem dL_law_2275 : decode cL_law 2275 = .ok (.iadd, 1) := dk_96 (dk_at dksL_law_86 17 rfl rfl)
theorem dL_law_2276 : decode cL_law 2276 = .ok (.iaload, 1) := dk_46 (dk_at dksL_law_86 18 rfl rfl)
theorem dL_law_2277 : decode cL_law 2277 = .ok (.aload_n 3, 1) := dk_45 (dk_at dksL_law_86 19 rfl rfl)
theorem dL_law_2278 : decode cL_law 2278 = .ok (.invokestatic 301, 3) := dk_184 1 45 (dk_at dksL_law_86 20 rfl rfl)
theorem dL_law_2281 : decode cL_law 2281 = .ok (.istore 5, 2) := dk_54 5 (dk_at dksL_law_87 0 rfl rfl)
theorem dL_law_2283 : decode cL_law 2283 = .ok (.aload_n 2, 1) := dk_44 (dk_at dksL_law_87 2 rfl rfl)
theorem dL_law_2284 : decode cL_law 2284 = .ok (.aload_n 0, 1) := dk_42 (dk_at dksL_law_87 3 rfl rfl)
theorem dL_law_2285 : decode cL_law 2285 = .ok (.iload 4, 2) := dk_21 4 (dk_at dksL_law_87 4 rfl rfl)
theorem dL_law_2287 : decode cL_law 2287 = .ok (.iconst 1, 1) := dk_4 (dk_at dksL_law_87 6 rfl rfl)
theorem dL_law_2288 : decode cL_law 2288 = .ok (.iadd, 1) := dk_96 (dk_at dksL_law_87 7 rfl rfl)
theorem dL_law_2289 : decode cL_law 2289 = .ok (.iaload, 1) := dk_46 (dk_at dksL_law_87 8 rfl rfl)
theorem dL_law_2290 : decode cL_law 2290 = .ok (.invokevirtual 303, 3) := dk_182 1 47 (dk_at dksL_law_87 9 rfl rfl)
theorem dL_law_2293 : decode cL_law 2293 = .ok (.istore 6, 2) := dk_54 6 (dk_at dksL_law_87 12 rfl rfl)
theorem dL_law_2295 : decode cL_law 2295 = .ok (.aload_n 2, 1) := dk_44 (dk_at dksL_law_87 14 rfl rfl)
theorem dL_law_2296 : decode cL_law 2296 = .ok (.invokevirtual 182, 3) := dk_182 0 182 (dk_at dksL_law_87 15 rfl rfl)
theorem dL_law_2299 : decode cL_law 2299 = .ok (.iload 5, 2) := dk_21 5 (dk_at dksL_law_87 18 rfl rfl)
theorem dL_law_2301 : decode cL_law 2301 = .ok (.if_icmp .eq 5, 3) := dk_159 0 5 (dk_at dksL_law_87 20 rfl rfl)
theorem dL_law_2304 : decode cL_law 2304 = .ok (.iconst 0, 1) := dk_3 (dk_at dksL_law_87 23 rfl rfl)
theorem dL_law_2305 : decode cL_law 2305 = .ok (.ireturn, 1) := dk_172 (dk_at dksL_law_88 0 rfl rfl)
theorem dL_law_2306 : decode cL_law 2306 = .ok (.iload 5, 2) := dk_21 5 (dk_at dksL_law_88 1 rfl rfl)
theorem dL_law_2308 : decode cL_law 2308 = .ok (.ifCond .ne 15, 3) := dk_154 0 15 (dk_at dksL_law_88 3 rfl rfl)
theorem dL_law_2311 : decode cL_law 2311 = .ok (.aload_n 3, 1) := dk_45 (dk_at dksL_law_88 6 rfl rfl)
theorem dL_law_2312 : decode cL_law 2312 = .ok (.iconst 0, 1) := dk_3 (dk_at dksL_law_88 7 rfl rfl)
theorem dL_law_2313 : decode cL_law 2313 = .ok (.laload, 1) := dk_47 (dk_at dksL_law_88 8 rfl rfl)
theorem dL_law_2314 : decode cL_law 2314 = .ok (.iload 6, 2) := dk_21 6 (dk_at dksL_law_88 9 rfl rfl)
theorem dL_law_2316 : decode cL_law 2316 = .ok (.i2l, 1) := dk_133 (dk_at dksL_law_88 11 rfl rfl)
theorem dL_law_2317 : decode cL_law 2317 = .ok (.lcmp, 1) := dk_148 (dk_at dksL_law_88 12 rfl rfl)
theorem dL_law_2318 : decode cL_law 2318 = .ok (.ifCond .eq 5, 3) := dk_153 0 5 (dk_at dksL_law_88 13 rfl rfl)
theorem dL_law_2321 : decode cL_law 2321 = .ok (.iconst 0, 1) := dk_3 (dk_at dksL_law_88 16 rfl rfl)
theorem dL_law_2322 : decode cL_law 2322 = .ok (.ireturn, 1) := dk_172 (dk_at dksL_law_88 17 rfl rfl)
theorem dL_law_2323 : decode cL_law 2323 = .ok (.goto 1024, 3) := dk_167 4 0 (dk_at dksL_law_88 18 rfl rfl)
theorem dL_law_2326 : decode cL_law 2326 = .ok (.aload_n 1, 1) := dk_43 (dk_at dksL_law_88 21 rfl rfl)
theorem dL_law_2327 : decode cL_law 2327 = .ok (.invokevirtual 304, 3) := dk_182 1 48 (dk_at dksL_law_89 0 rfl rfl)
theorem dL_law_2330 : decode cL_law 2330 = .ok (.aload_n 2, 1) := dk_44 (dk_at dksL_law_89 3 rfl rfl)
theorem dL_law_2331 : decode cL_law 2331 = .ok (.invokevirtual 308, 3) := dk_182 1 52 (dk_at dksL_law_89 4 rfl rfl)
theorem dL_law_2334 : decode cL_law 2334 = .ok (.if_icmp .eq 1013, 3) := dk_159 3 245 (dk_at dksL_law_89 7 rfl rfl)
theorem dL_law_2337 : decode cL_law 2337 = .ok (.iconst 0, 1) := dk_3 (dk_at dksL_law_89 10 rfl rfl)
theorem dL_law_2338 : decode cL_law 2338 = .ok (.ireturn, 1) := dk_172 (dk_at dksL_law_89 11 rfl rfl)
theorem dL_law_2339 : decode cL_law 2339 = .ok (.aload_n 1, 1) := dk_43 (dk_at dksL_law_89 12 rfl rfl)
theorem dL_law_2340 : decode cL_law 2340 = .ok (.aload_n 0, 1) := dk_42 (dk_at dksL_law_89 13 rfl rfl)
theorem dL_law_2341 : decode cL_law 2341 = .ok (.iload 4, 2) := dk_21 4 (dk_at dksL_law_89 14 rfl rfl)
theorem dL_law_2343 : decode cL_law 2343 = .ok (.iconst 1, 1) := dk_4 (dk_at dksL_law_89 16 rfl rfl)
theorem dL_law_2344 : decode cL_law 2344 = .ok (.iadd, 1) := dk_96 (dk_at dksL_law_89 17 rfl rfl)
theorem dL_law_2345 : decode cL_law 2345 = .ok (.iaload, 1) := dk_46 (dk_at dksL_law_89 18 rfl rfl)
theorem dL_law_2346 : decode cL_law 2346 = .ok (.aload_n 3, 1) := dk_45 (dk_at dksL_law_89 19 rfl rfl)
theorem dL_law_2347 : decode cL_law 2347 = .ok (.invokestatic 309, 3) := dk_184 1 53 (dk_at dksL_law_89 20 rfl rfl)
theorem dL_law_2350 : decode cL_law 2350 = .ok (.istore 5, 2) := dk_54 5 (dk_at dksL_law_90 0 rfl rfl)
theorem dL_law_2352 : decode cL_law 2352 = .ok (.aload_n 2, 1) := dk_44 (dk_at dksL_law_90 2 rfl rfl)
theorem dL_law_2353 : decode cL_law 2353 = .ok (.aload_n 0, 1) := dk_42 (dk_at dksL_law_90 3 rfl rfl)
theorem dL_law_2354 : decode cL_law 2354 = .ok (.iload 4, 2) := dk_21 4 (dk_at dksL_law_90 4 rfl rfl)
theorem dL_law_2356 : decode cL_law 2356 = .ok (.iconst 1, 1) := dk_4 (dk_at dksL_law_90 6 rfl rfl)
theorem dL_law_2357 : decode cL_law 2357 = .ok (.iadd, 1) := dk_96 (dk_at dksL_law_90 7 rfl rfl)
theorem dL_law_2358 : decode cL_law 2358 = .ok (.iaload, 1) := dk_46 (dk_at dksL_law_90 8 rfl rfl)
theorem dL_law_2359 : decode cL_law 2359 = .ok (.invokevirtual 311, 3) := dk_182 1 55 (dk_at dksL_law_90 9 rfl rfl)
theorem dL_law_2362 : decode cL_law 2362 = .ok (.istore 6, 2) := dk_54 6 (dk_at dksL_law_90 12 rfl rfl)
theorem dL_law_2364 : decode cL_law 2364 = .ok (.aload_n 2, 1) := dk_44 (dk_at dksL_law_90 14 rfl rfl)
theorem dL_law_2365 : decode cL_law 2365 = .ok (.invokevirtual 182, 3) := dk_182 0 182 (dk_at dksL_law_90 15 rfl rfl)
theorem dL_law_2368 : decode cL_law 2368 = .ok (.iload 5, 2) := dk_21 5 (dk_at dksL_law_90 18 rfl rfl)
theorem dL_law_2370 : decode cL_law 2370 = .ok (.if_icmp .eq 5, 3) := dk_159 0 5 (dk_at dksL_law_90 20 rfl rfl)
theorem dL_law_2373 : decode cL_law 2373 = .ok (.iconst 0, 1) := dk_3 (dk_at dksL_law_90 23 rfl rfl)
theorem dL_law_2374 : decode cL_law 2374 = .ok (.ireturn, 1) := dk_172 (dk_at dksL_law_91 0 rfl rfl)
theorem dL_law_2375 : decode cL_law 2375 = .ok (.iload 5, 2) := dk_21 5 (dk_at dksL_law_91 1 rfl rfl)
theorem dL_law_2377 : decode cL_law 2377 = .ok (.ifCond .ne 15, 3) := dk_154 0 15 (dk_at dksL_law_91 3 rfl rfl)
theorem dL_law_2380 : decode cL_law 2380 = .ok (.aload_n 3, 1) := dk_45 (dk_at dksL_law_91 6 rfl rfl)
theorem dL_law_2381 : decode cL_law 2381 = .ok (.iconst 0, 1) := dk_3 (dk_at dksL_law_91 7 rfl rfl)
theorem dL_law_2382 : decode cL_law 2382 = .ok (.laload, 1) := dk_47 (dk_at dksL_law_91 8 rfl rfl)
theorem dL_law_2383 : decode cL_law 2383 = .ok (.iload 6, 2) := dk_21 6 (dk_at dksL_law_91 9 rfl rfl)
theorem dL_law_2385 : decode cL_law 2385 = .ok (.i2l, 1) := dk_133 (dk_at dksL_law_91 11 rfl rfl)
theorem dL_law_2386 : decode cL_law 2386 = .ok (.lcmp, 1) := dk_148 (dk_at dksL_law_91 12 rfl rfl)
theorem dL_law_2387 : decode cL_law 2387 = .ok (.ifCond .eq 5, 3) := dk_153 0 5 (dk_at dksL_law_91 13 rfl rfl)
theorem dL_law_2390 : decode cL_law 2390 = .ok (.iconst 0, 1) := dk_3 (dk_at dksL_law_91 16 rfl rfl)
theorem dL_law_2391 : decode cL_law 2391 = .ok (.ireturn, 1) := dk_172 (dk_at dksL_law_91 17 rfl rfl)
theorem dL_law_2392 : decode cL_law 2392 = .ok (.goto 955, 3) := dk_167 3 187 (dk_at dksL_law_91 18 rfl rfl)
theorem dL_law_2395 : decode cL_law 2395 = .ok (.aload_n 1, 1) := dk_43 (dk_at dksL_law_91 21 rfl rfl)
theorem dL_law_2396 : decode cL_law 2396 = .ok (.aload_n 0, 1) := dk_42 (dk_at dksL_law_91 22 rfl rfl)
theorem dL_law_2397 : decode cL_law 2397 = .ok (.iload 4, 2) := dk_21 4 (dk_at dksL_law_92 0 rfl rfl)
theorem dL_law_2399 : decode cL_law 2399 = .ok (.iconst 1, 1) := dk_4 (dk_at dksL_law_92 2 rfl rfl)
theorem dL_law_2400 : decode cL_law 2400 = .ok (.iadd, 1) := dk_96 (dk_at dksL_law_92 3 rfl rfl)
theorem dL_law_2401 : decode cL_law 2401 = .ok (.iaload, 1) := dk_46 (dk_at dksL_law_92 4 rfl rfl)
theorem dL_law_2402 : decode cL_law 2402 = .ok (.aload_n 3, 1) := dk_45 (dk_at dksL_law_92 5 rfl rfl)
theorem dL_law_2403 : decode cL_law 2403 = .ok (.invokestatic 312, 3) := dk_184 1 56 (dk_at dksL_law_92 6 rfl rfl)
theorem dL_law_2406 : decode cL_law 2406 = .ok (.istore 5, 2) := dk_54 5 (dk_at dksL_law_92 9 rfl rfl)
theorem dL_law_2408 : decode cL_law 2408 = .ok (.aload_n 2, 1) := dk_44 (dk_at dksL_law_92 11 rfl rfl)
theorem dL_law_2409 : decode cL_law 2409 = .ok (.aload_n 0, 1) := dk_42 (dk_at dksL_law_92 12 rfl rfl)
theorem dL_law_2410 : decode cL_law 2410 = .ok (.iload 4, 2) := dk_21 4 (dk_at dksL_law_92 13 rfl rfl)
theorem dL_law_2412 : decode cL_law 2412 = .ok (.iconst 1, 1) := dk_4 (dk_at dksL_law_92 15 rfl rfl)
theorem dL_law_2413 : decode cL_law 2413 = .ok (.iadd, 1) := dk_96 (dk_at dksL_law_92 16 rfl rfl)
theorem dL_law_2414 : decode cL_law 2414 = .ok (.iaload, 1) := dk_46 (dk_at dksL_law_92 17 rfl rfl)
theorem dL_law_2415 : decode cL_law 2415 = .ok (.invokevirtual 314, 3) := dk_182 1 58 (dk_at dksL_law_92 18 rfl rfl)
theorem dL_law_2418 : decode cL_law 2418 = .ok (.istore 6, 2) := dk_54 6 (dk_at dksL_law_92 21 rfl rfl)
theorem dL_law_2420 : decode cL_law 2420 = .ok (.aload_n 2, 1) := dk_44 (dk_at dksL_law_92 23 rfl rfl)
theorem dL_law_2421 : decode cL_law 2421 = .ok (.invokevirtual 182, 3) := dk_182 0 182 (dk_at dksL_law_93 0 rfl rfl)
theorem dL_law_2424 : decode cL_law 2424 = .ok (.iload 5, 2) := dk_21 5 (dk_at dksL_law_93 3 rfl rfl)
theorem dL_law_2426 : decode cL_law 2426 = .ok (.if_icmp .eq 5, 3) := dk_159 0 5 (dk_at dksL_law_93 5 rfl rfl)
theorem dL_law_2429 : decode cL_law 2429 = .ok (.iconst 0, 1) := dk_3 (dk_at dksL_law_93 8 rfl rfl)
theorem dL_law_2430 : decode cL_law 2430 = .ok (.ireturn, 1) := dk_172 (dk_at dksL_law_93 9 rfl rfl)
theorem dL_law_2431 : decode cL_law 2431 = .ok (.iload 5, 2) := dk_21 5 (dk_at dksL_law_93 10 rfl rfl)
theorem dL_law_2433 : decode cL_law 2433 = .ok (.ifCond .ne 15, 3) := dk_154 0 15 (dk_at dksL_law_93 12 rfl rfl)
theorem dL_law_2436 : decode cL_law 2436 = .ok (.aload_n 3, 1) := dk_45 (dk_at dksL_law_93 15 rfl rfl)
theorem dL_law_2437 : decode cL_law 2437 = .ok (.iconst 0, 1) := dk_3 (dk_at dksL_law_93 16 rfl rfl)
theorem dL_law_2438 : decode cL_law 2438 = .ok (.laload, 1) := dk_47 (dk_at dksL_law_93 17 rfl rfl)
theorem dL_law_2439 : decode cL_law 2439 = .ok (.iload 6, 2) := dk_21 6 (dk_at dksL_law_93 18 rfl rfl)
theorem dL_law_2441 : decode cL_law 2441 = .ok (.i2l, 1) := dk_133 (dk_at dksL_law_93 20 rfl rfl)
theorem dL_law_2442 : decode cL_law 2442 = .ok (.lcmp, 1) := dk_148 (dk_at dksL_law_93 21 rfl rfl)
theorem dL_law_2443 : decode cL_law 2443 = .ok (.ifCond .eq 5, 3) := dk_153 0 5 (dk_at dksL_law_94 0 rfl rfl)
theorem dL_law_2446 : decode cL_law 2446 = .ok (.iconst 0, 1) := dk_3 (dk_at dksL_law_94 3 rfl rfl)
theorem dL_law_2447 : decode cL_law 2447 = .ok (.ireturn, 1) := dk_172 (dk_at dksL_law_94 4 rfl rfl)
theorem dL_law_2448 : decode cL_law 2448 = .ok (.goto 899, 3) := dk_167 3 131 (dk_at dksL_law_94 5 rfl rfl)
theorem dL_law_2451 : decode cL_law 2451 = .ok (.aload_n 1, 1) := dk_43 (dk_at dksL_law_94 8 rfl rfl)
theorem dL_law_2452 : decode cL_law 2452 = .ok (.aload_n 0, 1) := dk_42 (dk_at dksL_law_94 9 rfl rfl)
theorem dL_law_2453 : decode cL_law 2453 = .ok (.iload 4, 2) := dk_21 4 (dk_at dksL_law_94 10 rfl rfl)
theorem dL_law_2455 : decode cL_law 2455 = .ok (.iconst 1, 1) := dk_4 (dk_at dksL_law_94 12 rfl rfl)
theorem dL_law_2456 : decode cL_law 2456 = .ok (.iadd, 1) := dk_96 (dk_at dksL_law_94 13 rfl rfl)
theorem dL_law_2457 : decode cL_law 2457 = .ok (.iaload, 1) := dk_46 (dk_at dksL_law_94 14 rfl rfl)
theorem dL_law_2458 : decode cL_law 2458 = .ok (.aload_n 3, 1) := dk_45 (dk_at dksL_law_94 15 rfl rfl)
theorem dL_law_2459 : decode cL_law 2459 = .ok (.invokestatic 315, 3) := dk_184 1 59 (dk_at dksL_law_94 16 rfl rfl)
theorem dL_law_2462 : decode cL_law 2462 = .ok (.istore 5, 2) := dk_54 5 (dk_at dksL_law_94 19 rfl rfl)
theorem dL_law_2464 : decode cL_law 2464 = .ok (.aload_n 2, 1) := dk_44 (dk_at dksL_law_94 21 rfl rfl)
theorem dL_law_2465 : decode cL_law 2465 = .ok (.aload_n 0, 1) := dk_42 (dk_at dksL_law_94 22 rfl rfl)
theorem dL_law_2466 : decode cL_law 2466 = .ok (.iload 4, 2) := dk_21 4 (dk_at dksL_law_95 0 rfl rfl)
theorem dL_law_2468 : decode cL_law 2468 = .ok (.iconst 1, 1) := dk_4 (dk_at dksL_law_95 2 rfl rfl)
theorem dL_law_2469 : decode cL_law 2469 = .ok (.iadd, 1) := dk_96 (dk_at dksL_law_95 3 rfl rfl)
theorem dL_law_2470 : decode cL_law 2470 = .ok (.iaload, 1) := dk_46 (dk_at dksL_law_95 4 rfl rfl)
theorem dL_law_2471 : decode cL_law 2471 = .ok (.invokevirtual 317, 3) := dk_182 1 61 (dk_at dksL_law_95 5 rfl rfl)
theorem dL_law_2474 : decode cL_law 2474 = .ok (.istore 6, 2) := dk_54 6 (dk_at dksL_law_95 8 rfl rfl)
theorem dL_law_2476 : decode cL_law 2476 = .ok (.aload_n 2, 1) := dk_44 (dk_at dksL_law_95 10 rfl rfl)
theorem dL_law_2477 : decode cL_law 2477 = .ok (.invokevirtual 182, 3) := dk_182 0 182 (dk_at dksL_law_95 11 rfl rfl)
theorem dL_law_2480 : decode cL_law 2480 = .ok (.iload 5, 2) := dk_21 5 (dk_at dksL_law_95 14 rfl rfl)
theorem dL_law_2482 : decode cL_law 2482 = .ok (.if_icmp .eq 5, 3) := dk_159 0 5 (dk_at dksL_law_95 16 rfl rfl)
theorem dL_law_2485 : decode cL_law 2485 = .ok (.iconst 0, 1) := dk_3 (dk_at dksL_law_95 19 rfl rfl)
theorem dL_law_2486 : decode cL_law 2486 = .ok (.ireturn, 1) := dk_172 (dk_at dksL_law_95 20 rfl rfl)
theorem dL_law_2487 : decode cL_law 2487 = .ok (.iload 5, 2) := dk_21 5 (dk_at dksL_law_95 21 rfl rfl)
theorem dL_law_2489 : decode cL_law 2489 = .ok (.ifCond .ne 15, 3) := dk_154 0 15 (dk_at dksL_law_96 0 rfl rfl)
theorem dL_law_2492 : decode cL_law 2492 = .ok (.aload_n 3, 1) := dk_45 (dk_at dksL_law_96 3 rfl rfl)
theorem dL_law_2493 : decode cL_law 2493 = .ok (.iconst 0, 1) := dk_3 (dk_at dksL_law_96 4 rfl rfl)
theorem dL_law_2494 : decode cL_law 2494 = .ok (.laload, 1) := dk_47 (dk_at dksL_law_96 5 rfl rfl)
theorem dL_law_2495 : decode cL_law 2495 = .ok (.iload 6, 2) := dk_21 6 (dk_at dksL_law_96 6 rfl rfl)
theorem dL_law_2497 : decode cL_law 2497 = .ok (.i2l, 1) := dk_133 (dk_at dksL_law_96 8 rfl rfl)
theorem dL_law_2498 : decode cL_law 2498 = .ok (.lcmp, 1) := dk_148 (dk_at dksL_law_96 9 rfl rfl)
theorem dL_law_2499 : decode cL_law 2499 = .ok (.ifCond .eq 5, 3) := dk_153 0 5 (dk_at dksL_law_96 10 rfl rfl)
theorem dL_law_2502 : decode cL_law 2502 = .ok (.iconst 0, 1) := dk_3 (dk_at dksL_law_96 13 rfl rfl)
theorem dL_law_2503 : decode cL_law 2503 = .ok (.ireturn, 1) := dk_172 (dk_at dksL_law_96 14 rfl rfl)
theorem dL_law_2504 : decode cL_law 2504 = .ok (.goto 843, 3) := dk_167 3 75 (dk_at dksL_law_96 15 rfl rfl)
theorem dL_law_2507 : decode cL_law 2507 = .ok (.aload_n 1, 1) := dk_43 (dk_at dksL_law_96 18 rfl rfl)
theorem dL_law_2508 : decode cL_law 2508 = .ok (.aload_n 0, 1) := dk_42 (dk_at dksL_law_96 19 rfl rfl)
theorem dL_law_2509 : decode cL_law 2509 = .ok (.iload 4, 2) := dk_21 4 (dk_at dksL_law_96 20 rfl rfl)
theorem dL_law_2511 : decode cL_law 2511 = .ok (.iconst 1, 1) := dk_4 (dk_at dksL_law_96 22 rfl rfl)
theorem dL_law_2512 : decode cL_law 2512 = .ok (.iadd, 1) := dk_96 (dk_at dksL_law_96 23 rfl rfl)
theorem dL_law_2513 : decode cL_law 2513 = .ok (.iaload, 1) := dk_46 (dk_at dksL_law_97 0 rfl rfl)
theorem dL_law_2514 : decode cL_law 2514 = .ok (.aload_n 3, 1) := dk_45 (dk_at dksL_law_97 1 rfl rfl)
theorem dL_law_2515 : decode cL_law 2515 = .ok (.invokestatic 318, 3) := dk_184 1 62 (dk_at dksL_law_97 2 rfl rfl)
theorem dL_law_2518 : decode cL_law 2518 = .ok (.istore 5, 2) := dk_54 5 (dk_at dksL_law_97 5 rfl rfl)
theorem dL_law_2520 : decode cL_law 2520 = .ok (.aload_n 2, 1) := dk_44 (dk_at dksL_law_97 7 rfl rfl)
theorem dL_law_2521 : decode cL_law 2521 = .ok (.aload_n 0, 1) := dk_42 (dk_at dksL_law_97 8 rfl rfl)
theorem dL_law_2522 : decode cL_law 2522 = .ok (.iload 4, 2) := dk_21 4 (dk_at dksL_law_97 9 rfl rfl)
theorem dL_law_2524 : decode cL_law 2524 = .ok (.iconst 1, 1) := dk_4 (dk_at dksL_law_97 11 rfl rfl)
theorem dL_law_2525 : decode cL_law 2525 = .ok (.iadd, 1) := dk_96 (dk_at dksL_law_97 12 rfl rfl)
theorem dL_law_2526 : decode cL_law 2526 = .ok (.iaload, 1) := dk_46 (dk_at dksL_law_97 13 rfl rfl)
theorem dL_law_2527 : decode cL_law 2527 = .ok (.invokevirtual 320, 3) := dk_182 1 64 (dk_at dksL_law_97 14 rfl rfl)
theorem dL_law_2530 : decode cL_law 2530 = .ok (.istore 6, 2) := dk_54 6 (dk_at dksL_law_97 17 rfl rfl)
theorem dL_law_2532 : decode cL_law 2532 = .ok (.aload_n 2, 1) := dk_44 (dk_at dksL_law_97 19 rfl rfl)
theorem dL_law_2533 : decode cL_law 2533 = .ok (.invokevirtual 182, 3) := dk_182 0 182 (dk_at dksL_law_97 20 rfl rfl)
theorem dL_law_2536 : decode cL_law 2536 = .ok (.iload 5, 2) := dk_21 5 (dk_at dksL_law_98 0 rfl rfl)
theorem dL_law_2538 : decode cL_law 2538 = .ok (.if_icmp .eq 5, 3) := dk_159 0 5 (dk_at dksL_law_98 2 rfl rfl)
theorem dL_law_2541 : decode cL_law 2541 = .ok (.iconst 0, 1) := dk_3 (dk_at dksL_law_98 5 rfl rfl)
theorem dL_law_2542 : decode cL_law 2542 = .ok (.ireturn, 1) := dk_172 (dk_at dksL_law_98 6 rfl rfl)
theorem dL_law_2543 : decode cL_law 2543 = .ok (.iload 5, 2) := dk_21 5 (dk_at dksL_law_98 7 rfl rfl)
theorem dL_law_2545 : decode cL_law 2545 = .ok (.ifCond .ne 15, 3) := dk_154 0 15 (dk_at dksL_law_98 9 rfl rfl)
theorem dL_law_2548 : decode cL_law 2548 = .ok (.aload_n 3, 1) := dk_45 (dk_at dksL_law_98 12 rfl rfl)
theorem dL_law_2549 : decode cL_law 2549 = .ok (.iconst 0, 1) := dk_3 (dk_at dksL_law_98 13 rfl rfl)
theorem dL_law_2550 : decode cL_law 2550 = .ok (.laload, 1) := dk_47 (dk_at dksL_law_98 14 rfl rfl)
theorem dL_law_2551 : decode cL_law 2551 = .ok (.iload 6, 2) := dk_21 6 (dk_at dksL_law_98 15 rfl rfl)
theorem dL_law_2553 : decode cL_law 2553 = .ok (.i2l, 1) := dk_133 (dk_at dksL_law_98 17 rfl rfl)
theorem dL_law_2554 : decode cL_law 2554 = .ok (.lcmp, 1) := dk_148 (dk_at dksL_law_98 18 rfl rfl)
theorem dL_law_2555 : decode cL_law 2555 = .ok (.ifCond .eq 5, 3) := dk_153 0 5 (dk_at dksL_law_98 19 rfl rfl)
theorem dL_law_2558 : decode cL_law 2558 = .ok (.iconst 0, 1) := dk_3 (dk_at dksL_law_98 22 rfl rfl)
theorem dL_law_2559 : decode cL_law 2559 = .ok (.ireturn, 1) := dk_172 (dk_at dksL_law_98 23 rfl rfl)
theorem dL_law_2560 : decode cL_law 2560 = .ok (.goto 787, 3) := dk_167 3 19 (dk_at dksL_law_99 0 rfl rfl)
theorem dL_law_2563 : decode cL_law 2563 = .ok (.aload_n 1, 1) := dk_43 (dk_at dksL_law_99 3 rfl rfl)
theorem dL_law_2564 : decode cL_law 2564 = .ok (.aload_n 0, 1) := dk_42 (dk_at dksL_law_99 4 rfl rfl)
theorem dL_law_2565 : decode cL_law 2565 = .ok (.iload 4, 2) := dk_21 4 (dk_at dksL_law_99 5 rfl rfl)
theorem dL_law_2567 : decode cL_law 2567 = .ok (.iconst 1, 1) := dk_4 (dk_at dksL_law_99 7 rfl rfl)
theorem dL_law_2568 : decode cL_law 2568 = .ok (.iadd, 1) := dk_96 (dk_at dksL_law_99 8 rfl rfl)
theorem dL_law_2569 : decode cL_law 2569 = .ok (.iaload, 1) := dk_46 (dk_at dksL_law_99 9 rfl rfl)
theorem dL_law_2570 : decode cL_law 2570 = .ok (.aload_n 0, 1) := dk_42 (dk_at dksL_law_99 10 rfl rfl)
theorem dL_law_2571 : decode cL_law 2571 = .ok (.iload 4, 2) := dk_21 4 (dk_at dksL_law_99 11 rfl rfl)
theorem dL_law_2573 : decode cL_law 2573 = .ok (.iconst 2, 1) := dk_5 (dk_at dksL_law_99 13 rfl rfl)
theorem dL_law_2574 : decode cL_law 2574 = .ok (.iadd, 1) := dk_96 (dk_at dksL_law_99 14 rfl rfl)
theorem dL_law_2575 : decode cL_law 2575 = .ok (.iaload, 1) := dk_46 (dk_at dksL_law_99 15 rfl rfl)
theorem dL_law_2576 : decode cL_law 2576 = .ok (.aload_n 3, 1) := dk_45 (dk_at dksL_law_99 16 rfl rfl)
theorem dL_law_2577 : decode cL_law 2577 = .ok (.invokestatic 321, 3) := dk_184 1 65 (dk_at dksL_law_99 17 rfl rfl)
theorem dL_law_2580 : decode cL_law 2580 = .ok (.istore 5, 2) := dk_54 5 (dk_at dksL_law_99 20 rfl rfl)
theorem dL_law_2582 : decode cL_law 2582 = .ok (.aload_n 2, 1) := dk_44 (dk_at dksL_law_99 22 rfl rfl)
theorem dL_law_2583 : decode cL_law 2583 = .ok (.aload_n 0, 1) := dk_42 (dk_at dksL_law_99 23 rfl rfl)
theorem dL_law_2584 : decode cL_law 2584 = .ok (.iload 4, 2) := dk_21 4 (dk_at dksL_law_100 0 rfl rfl)
theorem dL_law_2586 : decode cL_law 2586 = .ok (.iconst 1, 1) := dk_4 (dk_at dksL_law_100 2 rfl rfl)
theorem dL_law_2587 : decode cL_law 2587 = .ok (.iadd, 1) := dk_96 (dk_at dksL_law_100 3 rfl rfl)
theorem dL_law_2588 : decode cL_law 2588 = .ok (.iaload, 1) := dk_46 (dk_at dksL_law_100 4 rfl rfl)
theorem dL_law_2589 : decode cL_law 2589 = .ok (.aload_n 0, 1) := dk_42 (dk_at dksL_law_100 5 rfl rfl)
theorem dL_law_2590 : decode cL_law 2590 = .ok (.iload 4, 2) := dk_21 4 (dk_at dksL_law_100 6 rfl rfl)
theorem dL_law_2592 : decode cL_law 2592 = .ok (.iconst 2, 1) := dk_5 (dk_at dksL_law_100 8 rfl rfl)
theorem dL_law_2593 : decode cL_law 2593 = .ok (.iadd, 1) := dk_96 (dk_at dksL_law_100 9 rfl rfl)
theorem dL_law_2594 : decode cL_law 2594 = .ok (.iaload, 1) := dk_46 (dk_at dksL_law_100 10 rfl rfl)
theorem dL_law_2595 : decode cL_law 2595 = .ok (.invokevirtual 323, 3) := dk_182 1 67 (dk_at dksL_law_100 11 rfl rfl)
theorem dL_law_2598 : decode cL_law 2598 = .ok (.istore 6, 2) := dk_54 6 (dk_at dksL_law_100 14 rfl rfl)
theorem dL_law_2600 : decode cL_law 2600 = .ok (.aload_n 2, 1) := dk_44 (dk_at dksL_law_100 16 rfl rfl)
theorem dL_law_2601 : decode cL_law 2601 = .ok (.invokevirtual 182, 3) := dk_182 0 182 (dk_at dksL_law_100 17 rfl rfl)
theorem dL_law_2604 : decode cL_law 2604 = .ok (.iload 5, 2) := dk_21 5 (dk_at dksL_law_100 20 rfl rfl)
theorem dL_law_2606 : decode cL_law 2606 = .ok (.if_icmp .eq 5, 3) := dk_159 0 5 (dk_at dksL_law_101 0 rfl rfl)
theorem dL_law_2609 : decode cL_law 2609 = .ok (.iconst 0, 1) := dk_3 (dk_at dksL_law_101 3 rfl rfl)
theorem dL_law_2610 : decode cL_law 2610 = .ok (.ireturn, 1) := dk_172 (dk_at dksL_law_101 4 rfl rfl)
theorem dL_law_2611 : decode cL_law 2611 = .ok (.iload 5, 2) := dk_21 5 (dk_at dksL_law_101 5 rfl rfl)
theorem dL_law_2613 : decode cL_law 2613 = .ok (.ifCond .ne 15, 3) := dk_154 0 15 (dk_at dksL_law_101 7 rfl rfl)
theorem dL_law_2616 : decode cL_law 2616 = .ok (.aload_n 3, 1) := dk_45 (dk_at dksL_law_101 10 rfl rfl)
theorem dL_law_2617 : decode cL_law 2617 = .ok (.iconst 0, 1) := dk_3 (dk_at dksL_law_101 11 rfl rfl)
theorem dL_law_2618 : decode cL_law 2618 = .ok (.laload, 1) := dk_47 (dk_at dksL_law_101 12 rfl rfl)
theorem dL_law_2619 : decode cL_law 2619 = .ok (.iload 6, 2) := dk_21 6 (dk_at dksL_law_101 13 rfl rfl)
theorem dL_law_2621 : decode cL_law 2621 = .ok (.i2l, 1) := dk_133 (dk_at dksL_law_101 15 rfl rfl)
theorem dL_law_2622 : decode cL_law 2622 = .ok (.lcmp, 1) := dk_148 (dk_at dksL_law_101 16 rfl rfl)
theorem dL_law_2623 : decode cL_law 2623 = .ok (.ifCond .eq 5, 3) := dk_153 0 5 (dk_at dksL_law_101 17 rfl rfl)
theorem dL_law_2626 : decode cL_law 2626 = .ok (.iconst 0, 1) := dk_3 (dk_at dksL_law_101 20 rfl rfl)
theorem dL_law_2627 : decode cL_law 2627 = .ok (.ireturn, 1) := dk_172 (dk_at dksL_law_101 21 rfl rfl)
theorem dL_law_2628 : decode cL_law 2628 = .ok (.goto 719, 3) := dk_167 2 207 (dk_at dksL_law_102 0 rfl rfl)
theorem dL_law_2631 : decode cL_law 2631 = .ok (.aload_n 1, 1) := dk_43 (dk_at dksL_law_102 3 rfl rfl)
theorem dL_law_2632 : decode cL_law 2632 = .ok (.aload_n 0, 1) := dk_42 (dk_at dksL_law_102 4 rfl rfl)
theorem dL_law_2633 : decode cL_law 2633 = .ok (.iload 4, 2) := dk_21 4 (dk_at dksL_law_102 5 rfl rfl)
theorem dL_law_2635 : decode cL_law 2635 = .ok (.iconst 1, 1) := dk_4 (dk_at dksL_law_102 7 rfl rfl)
theorem dL_law_2636 : decode cL_law 2636 = .ok (.iadd, 1) := dk_96 (dk_at dksL_law_102 8 rfl rfl)
theorem dL_law_2637 : decode cL_law 2637 = .ok (.iaload, 1) := dk_46 (dk_at dksL_law_102 9 rfl rfl)
theorem dL_law_2638 : decode cL_law 2638 = .ok (.aload_n 0, 1) := dk_42 (dk_at dksL_law_102 10 rfl rfl)
theorem dL_law_2639 : decode cL_law 2639 = .ok (.iload 4, 2) := dk_21 4 (dk_at dksL_law_102 11 rfl rfl)
theorem dL_law_2641 : decode cL_law 2641 = .ok (.iconst 2, 1) := dk_5 (dk_at dksL_law_102 13 rfl rfl)
theorem dL_law_2642 : decode cL_law 2642 = .ok (.iadd, 1) := dk_96 (dk_at dksL_law_102 14 rfl rfl)
theorem dL_law_2643 : decode cL_law 2643 = .ok (.iaload, 1) := dk_46 (dk_at dksL_law_102 15 rfl rfl)
theorem dL_law_2644 : decode cL_law 2644 = .ok (.aload_n 3, 1) := dk_45 (dk_at dksL_law_102 16 rfl rfl)
theorem dL_law_2645 : decode cL_law 2645 = .ok (.invokestatic 324, 3) := dk_184 1 68 (dk_at dksL_law_102 17 rfl rfl)
theorem dL_law_2648 : decode cL_law 2648 = .ok (.istore 5, 2) := dk_54 5 (dk_at dksL_law_102 20 rfl rfl)
theorem dL_law_2650 : decode cL_law 2650 = .ok (.aload_n 2, 1) := dk_44 (dk_at dksL_law_102 22 rfl rfl)
theorem dL_law_2651 : decode cL_law 2651 = .ok (.aload_n 0, 1) := dk_42 (dk_at dksL_law_102 23 rfl rfl)
theorem dL_law_2652 : decode cL_law 2652 = .ok (.iload 4, 2) := dk_21 4 (dk_at dksL_law_103 0 rfl rfl)
theorem dL_law_2654 : decode cL_law 2654 = .ok (.iconst 1, 1) := dk_4 (dk_at dksL_law_103 2 rfl rfl)
theorem dL_law_2655 : decode cL_law 2655 = .ok (.iadd, 1) := dk_96 (dk_at dksL_law_103 3 rfl rfl)
theorem dL_law_2656 : decode cL_law 2656 = .ok (.iaload, 1) := dk_46 (dk_at dksL_law_103 4 rfl rfl)
theorem dL_law_2657 : decode cL_law 2657 = .ok (.aload_n 0, 1) := dk_42 (dk_at dksL_law_103 5 rfl rfl)
theorem dL_law_2658 : decode cL_law 2658 = .ok (.iload 4, 2) := dk_21 4 (dk_at dksL_law_103 6 rfl rfl)
theorem dL_law_2660 : decode cL_law 2660 = .ok (.iconst 2, 1) := dk_5 (dk_at dksL_law_103 8 rfl rfl)
theorem dL_law_2661 : decode cL_law 2661 = .ok (.iadd, 1) := dk_96 (dk_at dksL_law_103 9 rfl rfl)
theorem dL_law_2662 : decode cL_law 2662 = .ok (.iaload, 1) := dk_46 (dk_at dksL_law_103 10 rfl rfl)
theorem dL_law_2663 : decode cL_law 2663 = .ok (.invokevirtual 326, 3) := dk_182 1 70 (dk_at dksL_law_103 11 rfl rfl)
theorem dL_law_2666 : decode cL_law 2666 = .ok (.istore 6, 2) := dk_54 6 (dk_at dksL_law_103 14 rfl rfl)
theorem dL_law_2668 : decode cL_law 2668 = .ok (.aload_n 2, 1) := dk_44 (dk_at dksL_law_103 16 rfl rfl)
theorem dL_law_2669 : decode cL_law 2669 = .ok (.invokevirtual 182, 3) := dk_182 0 182 (dk_at dksL_law_103 17 rfl rfl)
theorem dL_law_2672 : decode cL_law 2672 = .ok (.iload 5, 2) := dk_21 5 (dk_at dksL_law_103 20 rfl rfl)
theorem dL_law_2674 : decode cL_law 2674 = .ok (.if_icmp .eq 5, 3) := dk_159 0 5 (dk_at dksL_law_104 0 rfl rfl)
theorem dL_law_2677 : decode cL_law 2677 = .ok (.iconst 0, 1) := dk_3 (dk_at dksL_law_104 3 rfl rfl)
theorem dL_law_2678 : decode cL_law 2678 = .ok (.ireturn, 1) := dk_172 (dk_at dksL_law_104 4 rfl rfl)
theorem dL_law_2679 : decode cL_law 2679 = .ok (.iload 5, 2) := dk_21 5 (dk_at dksL_law_104 5 rfl rfl)
theorem dL_law_2681 : decode cL_law 2681 = .ok (.ifCond .ne 22, 3) := dk_154 0 22 (dk_at dksL_law_104 7 rfl rfl)
theorem dL_law_2684 : decode cL_law 2684 = .ok (.aload_n 3, 1) := dk_45 (dk_at dksL_law_104 10 rfl rfl)
theorem dL_law_2685 : decode cL_law 2685 = .ok (.iconst 0, 1) := dk_3 (dk_at dksL_law_104 11 rfl rfl)
theorem dL_law_2686 : decode cL_law 2686 = .ok (.laload, 1) := dk_47 (dk_at dksL_law_104 12 rfl rfl)
theorem dL_law_2687 : decode cL_law 2687 = .ok (.iload 6, 2) := dk_21 6 (dk_at dksL_law_104 13 rfl rfl)
theorem dL_law_2689 : decode cL_law 2689 = .ok (.ifCond .eq 7, 3) := dk_153 0 7 (dk_at dksL_law_104 15 rfl rfl)
theorem dL_law_2692 : decode cL_law 2692 = .ok (.lconst 1, 1) := dk_10 (dk_at dksL_law_104 18 rfl rfl)
theorem dL_law_2693 : decode cL_law 2693 = .ok (.goto 4, 3) := dk_167 0 4 (dk_at dksL_law_104 19 rfl rfl)
theorem dL_law_2696 : decode cL_law 2696 = .ok (.lconst 0, 1) := dk_9 (dk_at dksL_law_104 22 rfl rfl)
theorem dL_law_2697 : decode cL_law 2697 = .ok (.lcmp, 1) := dk_148 (dk_at dksL_law_104 23 rfl rfl)
theorem dL_law_2698 : decode cL_law 2698 = .ok (.ifCond .eq 5, 3) := dk_153 0 5 (dk_at dksL_law_105 0 rfl rfl)
theorem dL_law_2701 : decode cL_law 2701 = .ok (.iconst 0, 1) := dk_3 (dk_at dksL_law_105 3 rfl rfl)
theorem dL_law_2702 : decode cL_law 2702 = .ok (.ireturn, 1) := dk_172 (dk_at dksL_law_105 4 rfl rfl)
theorem dL_law_2703 : decode cL_law 2703 = .ok (.goto 644, 3) := dk_167 2 132 (dk_at dksL_law_105 5 rfl rfl)
theorem dL_law_2706 : decode cL_law 2706 = .ok (.aload_n 1, 1) := dk_43 (dk_at dksL_law_105 8 rfl rfl)
theorem dL_law_2707 : decode cL_law 2707 = .ok (.aload_n 0, 1) := dk_42 (dk_at dksL_law_105 9 rfl rfl)
theorem dL_law_2708 : decode cL_law 2708 = .ok (.iload 4, 2) := dk_21 4 (dk_at dksL_law_105 10 rfl rfl)
theorem dL_law_2710 : decode cL_law 2710 = .ok (.iconst 1, 1) := dk_4 (dk_at dksL_law_105 12 rfl rfl)
theorem dL_law_2711 : decode cL_law 2711 = .ok (.iadd, 1) := dk_96 (dk_at dksL_law_105 13 rfl rfl)
theorem dL_law_2712 : decode cL_law 2712 = .ok (.iaload, 1) := dk_46 (dk_at dksL_law_105 14 rfl rfl)
theorem dL_law_2713 : decode cL_law 2713 = .ok (.aload_n 0, 1) := dk_42 (dk_at dksL_law_105 15 rfl rfl)
theorem dL_law_2714 : decode cL_law 2714 = .ok (.iload 4, 2) := dk_21 4 (dk_at dksL_law_105 16 rfl rfl)
theorem dL_law_2716 : decode cL_law 2716 = .ok (.iconst 2, 1) := dk_5 (dk_at dksL_law_105 18 rfl rfl)
theorem dL_law_2717 : decode cL_law 2717 = .ok (.iadd, 1) := dk_96 (dk_at dksL_law_105 19 rfl rfl)
theorem dL_law_2718 : decode cL_law 2718 = .ok (.iaload, 1) := dk_46 (dk_at dksL_law_105 20 rfl rfl)
theorem dL_law_2719 : decode cL_law 2719 = .ok (.aload_n 3, 1) := dk_45 (dk_at dksL_law_105 21 rfl rfl)
theorem dL_law_2720 : decode cL_law 2720 = .ok (.invokestatic 327, 3) := dk_184 1 71 (dk_at dksL_law_106 0 rfl rfl)
theorem dL_law_2723 : decode cL_law 2723 = .ok (.istore 5, 2) := dk_54 5 (dk_at dksL_law_106 3 rfl rfl)
theorem dL_law_2725 : decode cL_law 2725 = .ok (.aload_n 2, 1) := dk_44 (dk_at dksL_law_106 5 rfl rfl)
theorem dL_law_2726 : decode cL_law 2726 = .ok (.aload_n 0, 1) := dk_42 (dk_at dksL_law_106 6 rfl rfl)
theorem dL_law_2727 : decode cL_law 2727 = .ok (.iload 4, 2) := dk_21 4 (dk_at dksL_law_106 7 rfl rfl)
theorem dL_law_2729 : decode cL_law 2729 = .ok (.iconst 1, 1) := dk_4 (dk_at dksL_law_106 9 rfl rfl)
theorem dL_law_2730 : decode cL_law 2730 = .ok (.iadd, 1) := dk_96 (dk_at dksL_law_106 10 rfl rfl)
theorem dL_law_2731 : decode cL_law 2731 = .ok (.iaload, 1) := dk_46 (dk_at dksL_law_106 11 rfl rfl)
theorem dL_law_2732 : decode cL_law 2732 = .ok (.aload_n 0, 1) := dk_42 (dk_at dksL_law_106 12 rfl rfl)
theorem dL_law_2733 : decode cL_law 2733 = .ok (.iload 4, 2) := dk_21 4 (dk_at dksL_law_106 13 rfl rfl)
theorem dL_law_2735 : decode cL_law 2735 = .ok (.iconst 2, 1) := dk_5 (dk_at dksL_law_106 15 rfl rfl)
theorem dL_law_2736 : decode cL_law 2736 = .ok (.iadd, 1) := dk_96 (dk_at dksL_law_106 16 rfl rfl)
theorem dL_law_2737 : decode cL_law 2737 = .ok (.iaload, 1) := dk_46 (dk_at dksL_law_106 17 rfl rfl)
theorem dL_law_2738 : decode cL_law 2738 = .ok (.invokevirtual 329, 3) := dk_182 1 73 (dk_at dksL_law_106 18 rfl rfl)
theorem dL_law_2741 : decode cL_law 2741 = .ok (.istore 6, 2) := dk_54 6 (dk_at dksL_law_106 21 rfl rfl)
theorem dL_law_2743 : decode cL_law 2743 = .ok (.aload_n 2, 1) := dk_44 (dk_at dksL_law_106 23 rfl rfl)
theorem dL_law_2744 : decode cL_law 2744 = .ok (.invokevirtual 182, 3) := dk_182 0 182 (dk_at dksL_law_107 0 rfl rfl)
theorem dL_law_2747 : decode cL_law 2747 = .ok (.iload 5, 2) := dk_21 5 (dk_at dksL_law_107 3 rfl rfl)
theorem dL_law_2749 : decode cL_law 2749 = .ok (.if_icmp .eq 5, 3) := dk_159 0 5 (dk_at dksL_law_107 5 rfl rfl)
theorem dL_law_2752 : decode cL_law 2752 = .ok (.iconst 0, 1) := dk_3 (dk_at dksL_law_107 8 rfl rfl)
theorem dL_law_2753 : decode cL_law 2753 = .ok (.ireturn, 1) := dk_172 (dk_at dksL_law_107 9 rfl rfl)
theorem dL_law_2754 : decode cL_law 2754 = .ok (.iload 5, 2) := dk_21 5 (dk_at dksL_law_107 10 rfl rfl)
theorem dL_law_2756 : decode cL_law 2756 = .ok (.ifCond .ne 22, 3) := dk_154 0 22 (dk_at dksL_law_107 12 rfl rfl)
theorem dL_law_2759 : decode cL_law 2759 = .ok (.aload_n 3, 1) := dk_45 (dk_at dksL_law_107 15 rfl rfl)
theorem dL_law_2760 : decode cL_law 2760 = .ok (.iconst 0, 1) := dk_3 (dk_at dksL_law_107 16 rfl rfl)
theorem dL_law_2761 : decode cL_law 2761 = .ok (.laload, 1) := dk_47 (dk_at dksL_law_107 17 rfl rfl)
theorem dL_law_2762 : decode cL_law 2762 = .ok (.iload 6, 2) := dk_21 6 (dk_at dksL_law_107 18 rfl rfl)
theorem dL_law_2764 : decode cL_law 2764 = .ok (.ifCond .eq 7, 3) := dk_153 0 7 (dk_at dksL_law_107 20 rfl rfl)
theorem dL_law_2767 : decode cL_law 2767 = .ok (.lconst 1, 1) := dk_10 (dk_at dksL_law_107 23 rfl rfl)
theorem dL_law_2768 : decode cL_law 2768 = .ok (.goto 4, 3) := dk_167 0 4 (dk_at dksL_law_108 0 rfl rfl)
theorem dL_law_2771 : decode cL_law 2771 = .ok (.lconst 0, 1) := dk_9 (dk_at dksL_law_108 3 rfl rfl)
theorem dL_law_2772 : decode cL_law 2772 = .ok (.lcmp, 1) := dk_148 (dk_at dksL_law_108 4 rfl rfl)
theorem dL_law_2773 : decode cL_law 2773 = .ok (.ifCond .eq 5, 3) := dk_153 0 5 (dk_at dksL_law_108 5 rfl rfl)
theorem dL_law_2776 : decode cL_law 2776 = .ok (.iconst 0, 1) := dk_3 (dk_at dksL_law_108 8 rfl rfl)
theorem dL_law_2777 : decode cL_law 2777 = .ok (.ireturn, 1) := dk_172 (dk_at dksL_law_108 9 rfl rfl)
theorem dL_law_2778 : decode cL_law 2778 = .ok (.goto 569, 3) := dk_167 2 57 (dk_at dksL_law_108 10 rfl rfl)
theorem dL_law_2781 : decode cL_law 2781 = .ok (.aload_n 1, 1) := dk_43 (dk_at dksL_law_108 13 rfl rfl)
theorem dL_law_2782 : decode cL_law 2782 = .ok (.aload_n 0, 1) := dk_42 (dk_at dksL_law_108 14 rfl rfl)
theorem dL_law_2783 : decode cL_law 2783 = .ok (.iload 4, 2) := dk_21 4 (dk_at dksL_law_108 15 rfl rfl)
theorem dL_law_2785 : decode cL_law 2785 = .ok (.iconst 1, 1) := dk_4 (dk_at dksL_law_108 17 rfl rfl)
theorem dL_law_2786 : decode cL_law 2786 = .ok (.iadd, 1) := dk_96 (dk_at dksL_law_108 18 rfl rfl)
theorem dL_law_2787 : decode cL_law 2787 = .ok (.iaload, 1) := dk_46 (dk_at dksL_law_108 19 rfl rfl)
theorem dL_law_2788 : decode cL_law 2788 = .ok (.aload_n 3, 1) := dk_45 (dk_at dksL_law_108 20 rfl rfl)
theorem dL_law_2789 : decode cL_law 2789 = .ok (.invokestatic 330, 3) := dk_184 1 74 (dk_at dksL_law_108 21 rfl rfl)
theorem dL_law_2792 : decode cL_law 2792 = .ok (.istore 5, 2) := dk_54 5 (dk_at dksL_law_109 0 rfl rfl)
theorem dL_law_2794 : decode cL_law 2794 = .ok (.aload_n 2, 1) := dk_44 (dk_at dksL_law_109 2 rfl rfl)
theorem dL_law_2795 : decode cL_law 2795 = .ok (.aload_n 0, 1) := dk_42 (dk_at dksL_law_109 3 rfl rfl)
theorem dL_law_2796 : decode cL_law 2796 = .ok (.iload 4, 2) := dk_21 4 (dk_at dksL_law_109 4 rfl rfl)
theorem dL_law_2798 : decode cL_law 2798 = .ok (.iconst 1, 1) := dk_4 (dk_at dksL_law_109 6 rfl rfl)
theorem dL_law_2799 : decode cL_law 2799 = .ok (.iadd, 1) := dk_96 (dk_at dksL_law_109 7 rfl rfl)
theorem dL_law_2800 : decode cL_law 2800 = .ok (.iaload, 1) := dk_46 (dk_at dksL_law_109 8 rfl rfl)
theorem dL_law_2801 : decode cL_law 2801 = .ok (.invokevirtual 332, 3) := dk_182 1 76 (dk_at dksL_law_109 9 rfl rfl)
theorem dL_law_2804 : decode cL_law 2804 = .ok (.istore 6, 2) := dk_54 6 (dk_at dksL_law_109 12 rfl rfl)
theorem dL_law_2806 : decode cL_law 2806 = .ok (.aload_n 2, 1) := dk_44 (dk_at dksL_law_109 14 rfl rfl)
theorem dL_law_2807 : decode cL_law 2807 = .ok (.invokevirtual 182, 3) := dk_182 0 182 (dk_at dksL_law_109 15 rfl rfl)
theorem dL_law_2810 : decode cL_law 2810 = .ok (.iload 5, 2) := dk_21 5 (dk_at dksL_law_109 18 rfl rfl)
theorem dL_law_2812 : decode cL_law 2812 = .ok (.if_icmp .eq 5, 3) := dk_159 0 5 (dk_at dksL_law_109 20 rfl rfl)
theorem dL_law_2815 : decode cL_law 2815 = .ok (.iconst 0, 1) := dk_3 (dk_at dksL_law_109 23 rfl rfl)
theorem dL_law_2816 : decode cL_law 2816 = .ok (.ireturn, 1) := dk_172 (dk_at dksL_law_110 0 rfl rfl)
theorem dL_law_2817 : decode cL_law 2817 = .ok (.iload 5, 2) := dk_21 5 (dk_at dksL_law_110 1 rfl rfl)
theorem dL_law_2819 : decode cL_law 2819 = .ok (.ifCond .ne 15, 3) := dk_154 0 15 (dk_at dksL_law_110 3 rfl rfl)
theorem dL_law_2822 : decode cL_law 2822 = .ok (.aload_n 3, 1) := dk_45 (dk_at dksL_law_110 6 rfl rfl)
theorem dL_law_2823 : decode cL_law 2823 = .ok (.iconst 0, 1) := dk_3 (dk_at dksL_law_110 7 rfl rfl)
theorem dL_law_2824 : decode cL_law 2824 = .ok (.laload, 1) := dk_47 (dk_at dksL_law_110 8 rfl rfl)
theorem dL_law_2825 : decode cL_law 2825 = .ok (.iload 6, 2) := dk_21 6 (dk_at dksL_law_110 9 rfl rfl)
theorem dL_law_2827 : decode cL_law 2827 = .ok (.i2l, 1) := dk_133 (dk_at dksL_law_110 11 rfl rfl)
theorem dL_law_2828 : decode cL_law 2828 = .ok (.lcmp, 1) := dk_148 (dk_at dksL_law_110 12 rfl rfl)
theorem dL_law_2829 : decode cL_law 2829 = .ok (.ifCond .eq 5, 3) := dk_153 0 5 (dk_at dksL_law_110 13 rfl rfl)
theorem dL_law_2832 : decode cL_law 2832 = .ok (.iconst 0, 1) := dk_3 (dk_at dksL_law_110 16 rfl rfl)
theorem dL_law_2833 : decode cL_law 2833 = .ok (.ireturn, 1) := dk_172 (dk_at dksL_law_110 17 rfl rfl)
theorem dL_law_2834 : decode cL_law 2834 = .ok (.goto 513, 3) := dk_167 2 1 (dk_at dksL_law_110 18 rfl rfl)
theorem dL_law_2837 : decode cL_law 2837 = .ok (.aload_n 1, 1) := dk_43 (dk_at dksL_law_110 21 rfl rfl)
theorem dL_law_2838 : decode cL_law 2838 = .ok (.invokevirtual 333, 3) := dk_182 1 77 (dk_at dksL_law_111 0 rfl rfl)
theorem dL_law_2841 : decode cL_law 2841 = .ok (.aload_n 2, 1) := dk_44 (dk_at dksL_law_111 3 rfl rfl)
theorem dL_law_2842 : decode cL_law 2842 = .ok (.invokevirtual 336, 3) := dk_182 1 80 (dk_at dksL_law_111 4 rfl rfl)
theorem dL_law_2845 : decode cL_law 2845 = .ok (.if_icmp .eq 502, 3) := dk_159 1 246 (dk_at dksL_law_111 7 rfl rfl)
theorem dL_law_2848 : decode cL_law 2848 = .ok (.iconst 0, 1) := dk_3 (dk_at dksL_law_111 10 rfl rfl)
theorem dL_law_2849 : decode cL_law 2849 = .ok (.ireturn, 1) := dk_172 (dk_at dksL_law_111 11 rfl rfl)
theorem dL_law_2850 : decode cL_law 2850 = .ok (.aload_n 1, 1) := dk_43 (dk_at dksL_law_111 12 rfl rfl)
theorem dL_law_2851 : decode cL_law 2851 = .ok (.invokevirtual 337, 3) := dk_182 1 81 (dk_at dksL_law_111 13 rfl rfl)
theorem dL_law_2854 : decode cL_law 2854 = .ok (.aload_n 2, 1) := dk_44 (dk_at dksL_law_111 16 rfl rfl)
theorem dL_law_2855 : decode cL_law 2855 = .ok (.invokevirtual 340, 3) := dk_182 1 84 (dk_at dksL_law_111 17 rfl rfl)
theorem dL_law_2858 : decode cL_law 2858 = .ok (.if_icmp .eq 489, 3) := dk_159 1 233 (dk_at dksL_law_111 20 rfl rfl)
theorem dL_law_2861 : decode cL_law 2861 = .ok (.iconst 0, 1) := dk_3 (dk_at dksL_law_111 23 rfl rfl)
theorem dL_law_2862 : decode cL_law 2862 = .ok (.ireturn, 1) := dk_172 (dk_at dksL_law_112 0 rfl rfl)
theorem dL_law_2863 : decode cL_law 2863 = .ok (.aload_n 1, 1) := dk_43 (dk_at dksL_law_112 1 rfl rfl)
theorem dL_law_2864 : decode cL_law 2864 = .ok (.invokevirtual 341, 3) := dk_182 1 85 (dk_at dksL_law_112 2 rfl rfl)
theorem dL_law_2867 : decode cL_law 2867 = .ok (.aload_n 2, 1) := dk_44 (dk_at dksL_law_112 5 rfl rfl)
theorem dL_law_2868 : decode cL_law 2868 = .ok (.invokevirtual 344, 3) := dk_182 1 88 (dk_at dksL_law_112 6 rfl rfl)
theorem dL_law_2871 : decode cL_law 2871 = .ok (.if_icmp .eq 476, 3) := dk_159 1 220 (dk_at dksL_law_112 9 rfl rfl)
theorem dL_law_2874 : decode cL_law 2874 = .ok (.iconst 0, 1) := dk_3 (dk_at dksL_law_112 12 rfl rfl)
theorem dL_law_2875 : decode cL_law 2875 = .ok (.ireturn, 1) := dk_172 (dk_at dksL_law_112 13 rfl rfl)
theorem dL_law_2876 : decode cL_law 2876 = .ok (.aload_n 1, 1) := dk_43 (dk_at dksL_law_112 14 rfl rfl)
theorem dL_law_2877 : decode cL_law 2877 = .ok (.invokevirtual 345, 3) := dk_182 1 89 (dk_at dksL_law_112 15 rfl rfl)
theorem dL_law_2880 : decode cL_law 2880 = .ok (.aload_n 2, 1) := dk_44 (dk_at dksL_law_112 18 rfl rfl)
theorem dL_law_2881 : decode cL_law 2881 = .ok (.invokevirtual 349, 3) := dk_182 1 93 (dk_at dksL_law_112 19 rfl rfl)
theorem dL_law_2884 : decode cL_law 2884 = .ok (.lcmp, 1) := dk_148 (dk_at dksL_law_112 22 rfl rfl)
theorem dL_law_2885 : decode cL_law 2885 = .ok (.ifCond .eq 462, 3) := dk_153 1 206 (dk_at dksL_law_113 0 rfl rfl)
theorem dL_law_2888 : decode cL_law 2888 = .ok (.iconst 0, 1) := dk_3 (dk_at dksL_law_113 3 rfl rfl)
theorem dL_law_2889 : decode cL_law 2889 = .ok (.ireturn, 1) := dk_172 (dk_at dksL_law_113 4 rfl rfl)
theorem dL_law_2890 : decode cL_law 2890 = .ok (.aload_n 1, 1) := dk_43 (dk_at dksL_law_113 5 rfl rfl)
theorem dL_law_2891 : decode cL_law 2891 = .ok (.invokevirtual 350, 3) := dk_182 1 94 (dk_at dksL_law_113 6 rfl rfl)
theorem dL_law_2894 : decode cL_law 2894 = .ok (.aload_n 2, 1) := dk_44 (dk_at dksL_law_113 9 rfl rfl)
theorem dL_law_2895 : decode cL_law 2895 = .ok (.invokevirtual 353, 3) := dk_182 1 97 (dk_at dksL_law_113 10 rfl rfl)
theorem dL_law_2898 : decode cL_law 2898 = .ok (.lcmp, 1) := dk_148 (dk_at dksL_law_113 13 rfl rfl)
theorem dL_law_2899 : decode cL_law 2899 = .ok (.ifCond .eq 448, 3) := dk_153 1 192 (dk_at dksL_law_113 14 rfl rfl)
theorem dL_law_2902 : decode cL_law 2902 = .ok (.iconst 0, 1) := dk_3 (dk_at dksL_law_113 17 rfl rfl)
theorem dL_law_2903 : decode cL_law 2903 = .ok (.ireturn, 1) := dk_172 (dk_at dksL_law_113 18 rfl rfl)
theorem dL_law_2904 : decode cL_law 2904 = .ok (.aload_n 1, 1) := dk_43 (dk_at dksL_law_113 19 rfl rfl)
theorem dL_law_2905 : decode cL_law 2905 = .ok (.invokevirtual 354, 3) := dk_182 1 98 (dk_at dksL_law_113 20 rfl rfl)
theorem dL_law_2908 : decode cL_law 2908 = .ok (.aload_n 2, 1) := dk_44 (dk_at dksL_law_113 23 rfl rfl)
theorem dL_law_2909 : decode cL_law 2909 = .ok (.invokevirtual 357, 3) := dk_182 1 101 (dk_at dksL_law_114 0 rfl rfl)
theorem dL_law_2912 : decode cL_law 2912 = .ok (.lcmp, 1) := dk_148 (dk_at dksL_law_114 3 rfl rfl)
theorem dL_law_2913 : decode cL_law 2913 = .ok (.ifCond .eq 434, 3) := dk_153 1 178 (dk_at dksL_law_114 4 rfl rfl)
theorem dL_law_2916 : decode cL_law 2916 = .ok (.iconst 0, 1) := dk_3 (dk_at dksL_law_114 7 rfl rfl)
theorem dL_law_2917 : decode cL_law 2917 = .ok (.ireturn, 1) := dk_172 (dk_at dksL_law_114 8 rfl rfl)
theorem dL_law_2918 : decode cL_law 2918 = .ok (.aload_n 1, 1) := dk_43 (dk_at dksL_law_114 9 rfl rfl)
theorem dL_law_2919 : decode cL_law 2919 = .ok (.invokevirtual 358, 3) := dk_182 1 102 (dk_at dksL_law_114 10 rfl rfl)
theorem dL_law_2922 : decode cL_law 2922 = .ok (.aload_n 2, 1) := dk_44 (dk_at dksL_law_114 13 rfl rfl)
theorem dL_law_2923 : decode cL_law 2923 = .ok (.invokevirtual 361, 3) := dk_182 1 105 (dk_at dksL_law_114 14 rfl rfl)
theorem dL_law_2926 : decode cL_law 2926 = .ok (.if_icmp .eq 421, 3) := dk_159 1 165 (dk_at dksL_law_114 17 rfl rfl)
theorem dL_law_2929 : decode cL_law 2929 = .ok (.iconst 0, 1) := dk_3 (dk_at dksL_law_114 20 rfl rfl)
theorem dL_law_2930 : decode cL_law 2930 = .ok (.ireturn, 1) := dk_172 (dk_at dksL_law_114 21 rfl rfl)
theorem dL_law_2931 : decode cL_law 2931 = .ok (.aload_n 1, 1) := dk_43 (dk_at dksL_law_114 22 rfl rfl)
theorem dL_law_2932 : decode cL_law 2932 = .ok (.aload_n 0, 1) := dk_42 (dk_at dksL_law_114 23 rfl rfl)
theorem dL_law_2933 : decode cL_law 2933 = .ok (.iload 4, 2) := dk_21 4 (dk_at dksL_law_115 0 rfl rfl)
theorem dL_law_2935 : decode cL_law 2935 = .ok (.iconst 1, 1) := dk_4 (dk_at dksL_law_115 2 rfl rfl)
theorem dL_law_2936 : decode cL_law 2936 = .ok (.iadd, 1) := dk_96 (dk_at dksL_law_115 3 rfl rfl)
theorem dL_law_2937 : decode cL_law 2937 = .ok (.iaload, 1) := dk_46 (dk_at dksL_law_115 4 rfl rfl)
theorem dL_law_2938 : decode cL_law 2938 = .ok (.aload_n 3, 1) := dk_45 (dk_at dksL_law_115 5 rfl rfl)
theorem dL_law_2939 : decode cL_law 2939 = .ok (.invokestatic 362, 3) := dk_184 1 106 (dk_at dksL_law_115 6 rfl rfl)
theorem dL_law_2942 : decode cL_law 2942 = .ok (.istore 5, 2) := dk_54 5 (dk_at dksL_law_115 9 rfl rfl)
theorem dL_law_2944 : decode cL_law 2944 = .ok (.aload_n 2, 1) := dk_44 (dk_at dksL_law_115 11 rfl rfl)
theorem dL_law_2945 : decode cL_law 2945 = .ok (.aload_n 0, 1) := dk_42 (dk_at dksL_law_115 12 rfl rfl)
theorem dL_law_2946 : decode cL_law 2946 = .ok (.iload 4, 2) := dk_21 4 (dk_at dksL_law_115 13 rfl rfl)
theorem dL_law_2948 : decode cL_law 2948 = .ok (.iconst 1, 1) := dk_4 (dk_at dksL_law_115 15 rfl rfl)
theorem dL_law_2949 : decode cL_law 2949 = .ok (.iadd, 1) := dk_96 (dk_at dksL_law_115 16 rfl rfl)
theorem dL_law_2950 : decode cL_law 2950 = .ok (.iaload, 1) := dk_46 (dk_at dksL_law_115 17 rfl rfl)
theorem dL_law_2951 : decode cL_law 2951 = .ok (.invokevirtual 364, 3) := dk_182 1 108 (dk_at dksL_law_115 18 rfl rfl)
theorem dL_law_2954 : decode cL_law 2954 = .ok (.istore 6, 2) := dk_54 6 (dk_at dksL_law_115 21 rfl rfl)
theorem dL_law_2956 : decode cL_law 2956 = .ok (.aload_n 2, 1) := dk_44 (dk_at dksL_law_115 23 rfl rfl)
theorem dL_law_2957 : decode cL_law 2957 = .ok (.invokevirtual 182, 3) := dk_182 0 182 (dk_at dksL_law_116 0 rfl rfl)
theorem dL_law_2960 : decode cL_law 2960 = .ok (.iload 5, 2) := dk_21 5 (dk_at dksL_law_116 3 rfl rfl)
theorem dL_law_2962 : decode cL_law 2962 = .ok (.if_icmp .eq 5, 3) := dk_159 0 5 (dk_at dksL_law_116 5 rfl rfl)
theorem dL_law_2965 : decode cL_law 2965 = .ok (.iconst 0, 1) := dk_3 (dk_at dksL_law_116 8 rfl rfl)
theorem dL_law_2966 : decode cL_law 2966 = .ok (.ireturn, 1) := dk_172 (dk_at dksL_law_116 9 rfl rfl)
theorem dL_law_2967 : decode cL_law 2967 = .ok (.iload 5, 2) := dk_21 5 (dk_at dksL_law_116 10 rfl rfl)
theorem dL_law_2969 : decode cL_law 2969 = .ok (.ifCond .ne 15, 3) := dk_154 0 15 (dk_at dksL_law_116 12 rfl rfl)
theorem dL_law_2972 : decode cL_law 2972 = .ok (.aload_n 3, 1) := dk_45 (dk_at dksL_law_116 15 rfl rfl)
theorem dL_law_2973 : decode cL_law 2973 = .ok (.iconst 0, 1) := dk_3 (dk_at dksL_law_116 16 rfl rfl)
theorem dL_law_2974 : decode cL_law 2974 = .ok (.laload, 1) := dk_47 (dk_at dksL_law_116 17 rfl rfl)
theorem dL_law_2975 : decode cL_law 2975 = .ok (.iload 6, 2) := dk_21 6 (dk_at dksL_law_116 18 rfl rfl)
theorem dL_law_2977 : decode cL_law 2977 = .ok (.i2l, 1) := dk_133 (dk_at dksL_law_116 20 rfl rfl)
theorem dL_law_2978 : decode cL_law 2978 = .ok (.lcmp, 1) := dk_148 (dk_at dksL_law_116 21 rfl rfl)
theorem dL_law_2979 : decode cL_law 2979 = .ok (.ifCond .eq 5, 3) := dk_153 0 5 (dk_at dksL_law_117 0 rfl rfl)
theorem dL_law_2982 : decode cL_law 2982 = .ok (.iconst 0, 1) := dk_3 (dk_at dksL_law_117 3 rfl rfl)
theorem dL_law_2983 : decode cL_law 2983 = .ok (.ireturn, 1) := dk_172 (dk_at dksL_law_117 4 rfl rfl)
theorem dL_law_2984 : decode cL_law 2984 = .ok (.goto 363, 3) := dk_167 1 107 (dk_at dksL_law_117 5 rfl rfl)
theorem dL_law_2987 : decode cL_law 2987 = .ok (.aload_n 1, 1) := dk_43 (dk_at dksL_law_117 8 rfl rfl)
theorem dL_law_2988 : decode cL_law 2988 = .ok (.aload_n 0, 1) := dk_42 (dk_at dksL_law_117 9 rfl rfl)
theorem dL_law_2989 : decode cL_law 2989 = .ok (.iload 4, 2) := dk_21 4 (dk_at dksL_law_117 10 rfl rfl)
theorem dL_law_2991 : decode cL_law 2991 = .ok (.iconst 1, 1) := dk_4 (dk_at dksL_law_117 12 rfl rfl)
theorem dL_law_2992 : decode cL_law 2992 = .ok (.iadd, 1) := dk_96 (dk_at dksL_law_117 13 rfl rfl)
theorem dL_law_2993 : decode cL_law 2993 = .ok (.iaload, 1) := dk_46 (dk_at dksL_law_117 14 rfl rfl)
theorem dL_law_2994 : decode cL_law 2994 = .ok (.aload_n 3, 1) := dk_45 (dk_at dksL_law_117 15 rfl rfl)
theorem dL_law_2995 : decode cL_law 2995 = .ok (.invokestatic 365, 3) := dk_184 1 109 (dk_at dksL_law_117 16 rfl rfl)
theorem dL_law_2998 : decode cL_law 2998 = .ok (.istore 5, 2) := dk_54 5 (dk_at dksL_law_117 19 rfl rfl)
theorem dL_law_3000 : decode cL_law 3000 = .ok (.aload_n 2, 1) := dk_44 (dk_at dksL_law_117 21 rfl rfl)
theorem dL_law_3001 : decode cL_law 3001 = .ok (.aload_n 0, 1) := dk_42 (dk_at dksL_law_117 22 rfl rfl)
theorem dL_law_3002 : decode cL_law 3002 = .ok (.iload 4, 2) := dk_21 4 (dk_at dksL_law_118 0 rfl rfl)
theorem dL_law_3004 : decode cL_law 3004 = .ok (.iconst 1, 1) := dk_4 (dk_at dksL_law_118 2 rfl rfl)
theorem dL_law_3005 : decode cL_law 3005 = .ok (.iadd, 1) := dk_96 (dk_at dksL_law_118 3 rfl rfl)
theorem dL_law_3006 : decode cL_law 3006 = .ok (.iaload, 1) := dk_46 (dk_at dksL_law_118 4 rfl rfl)
theorem dL_law_3007 : decode cL_law 3007 = .ok (.invokevirtual 367, 3) := dk_182 1 111 (dk_at dksL_law_118 5 rfl rfl)
theorem dL_law_3010 : decode cL_law 3010 = .ok (.istore 6, 2) := dk_54 6 (dk_at dksL_law_118 8 rfl rfl)
theorem dL_law_3012 : decode cL_law 3012 = .ok (.aload_n 2, 1) := dk_44 (dk_at dksL_law_118 10 rfl rfl)
theorem dL_law_3013 : decode cL_law 3013 = .ok (.invokevirtual 182, 3) := dk_182 0 182 (dk_at dksL_law_118 11 rfl rfl)
theorem dL_law_3016 : decode cL_law 3016 = .ok (.iload 5, 2) := dk_21 5 (dk_at dksL_law_118 14 rfl rfl)
theorem dL_law_3018 : decode cL_law 3018 = .ok (.if_icmp .eq 5, 3) := dk_159 0 5 (dk_at dksL_law_118 16 rfl rfl)
theorem dL_law_3021 : decode cL_law 3021 = .ok (.iconst 0, 1) := dk_3 (dk_at dksL_law_118 19 rfl rfl)
theorem dL_law_3022 : decode cL_law 3022 = .ok (.ireturn, 1) := dk_172 (dk_at dksL_law_118 20 rfl rfl)
theorem dL_law_3023 : decode cL_law 3023 = .ok (.iload 5, 2) := dk_21 5 (dk_at dksL_law_118 21 rfl rfl)
theorem dL_law_3025 : decode cL_law 3025 = .ok (.ifCond .ne 15, 3) := dk_154 0 15 (dk_at dksL_law_119 0 rfl rfl)
theorem dL_law_3028 : decode cL_law 3028 = .ok (.aload_n 3, 1) := dk_45 (dk_at dksL_law_119 3 rfl rfl)
theorem dL_law_3029 : decode cL_law 3029 = .ok (.iconst 0, 1) := dk_3 (dk_at dksL_law_119 4 rfl rfl)
theorem dL_law_3030 : decode cL_law 3030 = .ok (.laload, 1) := dk_47 (dk_at dksL_law_119 5 rfl rfl)
theorem dL_law_3031 : decode cL_law 3031 = .ok (.iload 6, 2) := dk_21 6 (dk_at dksL_law_119 6 rfl rfl)
theorem dL_law_3033 : decode cL_law 3033 = .ok (.i2l, 1) := dk_133 (dk_at dksL_law_119 8 rfl rfl)
theorem dL_law_3034 : decode cL_law 3034 = .ok (.lcmp, 1) := dk_148 (dk_at dksL_law_119 9 rfl rfl)
theorem dL_law_3035 : decode cL_law 3035 = .ok (.ifCond .eq 5, 3) := dk_153 0 5 (dk_at dksL_law_119 10 rfl rfl)
theorem dL_law_3038 : decode cL_law 3038 = .ok (.iconst 0, 1) := dk_3 (dk_at dksL_law_119 13 rfl rfl)
theorem dL_law_3039 : decode cL_law 3039 = .ok (.ireturn, 1) := dk_172 (dk_at dksL_law_119 14 rfl rfl)
theorem dL_law_3040 : decode cL_law 3040 = .ok (.goto 307, 3) := dk_167 1 51 (dk_at dksL_law_119 15 rfl rfl)
theorem dL_law_3043 : decode cL_law 3043 = .ok (.aload_n 1, 1) := dk_43 (dk_at dksL_law_119 18 rfl rfl)
theorem dL_law_3044 : decode cL_law 3044 = .ok (.aload_n 0, 1) := dk_42 (dk_at dksL_law_119 19 rfl rfl)
theorem dL_law_3045 : decode cL_law 3045 = .ok (.iload 4, 2) := dk_21 4 (dk_at dksL_law_119 20 rfl rfl)
theorem dL_law_3047 : decode cL_law 3047 = .ok (.iconst 1, 1) := dk_4 (dk_at dksL_law_119 22 rfl rfl)
theorem dL_law_3048 : decode cL_law 3048 = .ok (.iadd, 1) := dk_96 (dk_at dksL_law_119 23 rfl rfl)
theorem dL_law_3049 : decode cL_law 3049 = .ok (.iaload, 1) := dk_46 (dk_at dksL_law_120 0 rfl rfl)
theorem dL_law_3050 : decode cL_law 3050 = .ok (.i2c, 1) := dk_146 (dk_at dksL_law_120 1 rfl rfl)
theorem dL_law_3051 : decode cL_law 3051 = .ok (.aload_n 3, 1) := dk_45 (dk_at dksL_law_120 2 rfl rfl)
theorem dL_law_3052 : decode cL_law 3052 = .ok (.invokestatic 368, 3) := dk_184 1 112 (dk_at dksL_law_120 3 rfl rfl)
theorem dL_law_3055 : decode cL_law 3055 = .ok (.istore 5, 2) := dk_54 5 (dk_at dksL_law_120 6 rfl rfl)
theorem dL_law_3057 : decode cL_law 3057 = .ok (.aload_n 2, 1) := dk_44 (dk_at dksL_law_120 8 rfl rfl)
theorem dL_law_3058 : decode cL_law 3058 = .ok (.aload_n 0, 1) := dk_42 (dk_at dksL_law_120 9 rfl rfl)
theorem dL_law_3059 : decode cL_law 3059 = .ok (.iload 4, 2) := dk_21 4 (dk_at dksL_law_120 10 rfl rfl)
theorem dL_law_3061 : decode cL_law 3061 = .ok (.iconst 1, 1) := dk_4 (dk_at dksL_law_120 12 rfl rfl)
theorem dL_law_3062 : decode cL_law 3062 = .ok (.iadd, 1) := dk_96 (dk_at dksL_law_120 13 rfl rfl)
theorem dL_law_3063 : decode cL_law 3063 = .ok (.iaload, 1) := dk_46 (dk_at dksL_law_120 14 rfl rfl)
theorem dL_law_3064 : decode cL_law 3064 = .ok (.i2c, 1) := dk_146 (dk_at dksL_law_120 15 rfl rfl)
theorem dL_law_3065 : decode cL_law 3065 = .ok (.invokevirtual 371, 3) := dk_182 1 115 (dk_at dksL_law_120 16 rfl rfl)
theorem dL_law_3068 : decode cL_law 3068 = .ok (.istore 6, 2) := dk_54 6 (dk_at dksL_law_120 19 rfl rfl)
theorem dL_law_3070 : decode cL_law 3070 = .ok (.aload_n 2, 1) := dk_44 (dk_at dksL_law_120 21 rfl rfl)
theorem dL_law_3071 : decode cL_law 3071 = .ok (.invokevirtual 182, 3) := dk_182 0 182 (dk_at dksL_law_121 0 rfl rfl)
theorem dL_law_3074 : decode cL_law 3074 = .ok (.iload 5, 2) := dk_21 5 (dk_at dksL_law_121 3 rfl rfl)
theorem dL_law_3076 : decode cL_law 3076 = .ok (.if_icmp .eq 5, 3) := dk_159 0 5 (dk_at dksL_law_121 5 rfl rfl)
theorem dL_law_3079 : decode cL_law 3079 = .ok (.iconst 0, 1) := dk_3 (dk_at dksL_law_121 8 rfl rfl)
theorem dL_law_3080 : decode cL_law 3080 = .ok (.ireturn, 1) := dk_172 (dk_at dksL_law_121 9 rfl rfl)
theorem dL_law_3081 : decode cL_law 3081 = .ok (.iload 5, 2) := dk_21 5 (dk_at dksL_law_121 10 rfl rfl)
theorem dL_law_3083 : decode cL_law 3083 = .ok (.ifCond .ne 15, 3) := dk_154 0 15 (dk_at dksL_law_121 12 rfl rfl)
theorem dL_law_3086 : decode cL_law 3086 = .ok (.aload_n 3, 1) := dk_45 (dk_at dksL_law_121 15 rfl rfl)
theorem dL_law_3087 : decode cL_law 3087 = .ok (.iconst 0, 1) := dk_3 (dk_at dksL_law_121 16 rfl rfl)
theorem dL_law_3088 : decode cL_law 3088 = .ok (.laload, 1) := dk_47 (dk_at dksL_law_121 17 rfl rfl)
theorem dL_law_3089 : decode cL_law 3089 = .ok (.iload 6, 2) := dk_21 6 (dk_at dksL_law_121 18 rfl rfl)
theorem dL_law_3091 : decode cL_law 3091 = .ok (.i2l, 1) := dk_133 (dk_at dksL_law_121 20 rfl rfl)
theorem dL_law_3092 : decode cL_law 3092 = .ok (.lcmp, 1) := dk_148 (dk_at dksL_law_121 21 rfl rfl)
theorem dL_law_3093 : decode cL_law 3093 = .ok (.ifCond .eq 5, 3) := dk_153 0 5 (dk_at dksL_law_122 0 rfl rfl)
theorem dL_law_3096 : decode cL_law 3096 = .ok (.iconst 0, 1) := dk_3 (dk_at dksL_law_122 3 rfl rfl)
theorem dL_law_3097 : decode cL_law 3097 = .ok (.ireturn, 1) := dk_172 (dk_at dksL_law_122 4 rfl rfl)
theorem dL_law_3098 : decode cL_law 3098 = .ok (.goto 249, 3) := dk_167 0 249 (dk_at dksL_law_122 5 rfl rfl)
theorem dL_law_3101 : decode cL_law 3101 = .ok (.aload_n 1, 1) := dk_43 (dk_at dksL_law_122 8 rfl rfl)
theorem dL_law_3102 : decode cL_law 3102 = .ok (.aload_n 3, 1) := dk_45 (dk_at dksL_law_122 9 rfl rfl)
theorem dL_law_3103 : decode cL_law 3103 = .ok (.invokestatic 372, 3) := dk_184 1 116 (dk_at dksL_law_122 10 rfl rfl)
theorem dL_law_3106 : decode cL_law 3106 = .ok (.istore 5, 2) := dk_54 5 (dk_at dksL_law_122 13 rfl rfl)
theorem dL_law_3108 : decode cL_law 3108 = .ok (.aload_n 2, 1) := dk_44 (dk_at dksL_law_122 15 rfl rfl)
theorem dL_law_3109 : decode cL_law 3109 = .ok (.invokevirtual 374, 3) := dk_182 1 118 (dk_at dksL_law_122 16 rfl rfl)
theorem dL_law_3112 : decode cL_law 3112 = .ok (.istore 6, 2) := dk_54 6 (dk_at dksL_law_122 19 rfl rfl)
theorem dL_law_3114 : decode cL_law 3114 = .ok (.aload_n 2, 1) := dk_44 (dk_at dksL_law_122 21 rfl rfl)
theorem dL_law_3115 : decode cL_law 3115 = .ok (.invokevirtual 182, 3) := dk_182 0 182 (dk_at dksL_law_123 0 rfl rfl)
theorem dL_law_3118 : decode cL_law 3118 = .ok (.iload 5, 2) := dk_21 5 (dk_at dksL_law_123 3 rfl rfl)
theorem dL_law_3120 : decode cL_law 3120 = .ok (.if_icmp .eq 5, 3) := dk_159 0 5 (dk_at dksL_law_123 5 rfl rfl)
theorem dL_law_3123 : decode cL_law 3123 = .ok (.iconst 0, 1) := dk_3 (dk_at dksL_law_123 8 rfl rfl)
theorem dL_law_3124 : decode cL_law 3124 = .ok (.ireturn, 1) := dk_172 (dk_at dksL_law_123 9 rfl rfl)
theorem dL_law_3125 : decode cL_law 3125 = .ok (.iload 5, 2) := dk_21 5 (dk_at dksL_law_123 10 rfl rfl)
theorem dL_law_3127 : decode cL_law 3127 = .ok (.ifCond .ne 15, 3) := dk_154 0 15 (dk_at dksL_law_123 12 rfl rfl)
theorem dL_law_3130 : decode cL_law 3130 = .ok (.aload_n 3, 1) := dk_45 (dk_at dksL_law_123 15 rfl rfl)
theorem dL_law_3131 : decode cL_law 3131 = .ok (.iconst 0, 1) := dk_3 (dk_at dksL_law_123 16 rfl rfl)
theorem dL_law_3132 : decode cL_law 3132 = .ok (.laload, 1) := dk_47 (dk_at dksL_law_123 17 rfl rfl)
theorem dL_law_3133 : decode cL_law 3133 = .ok (.iload 6, 2) := dk_21 6 (dk_at dksL_law_123 18 rfl rfl)
theorem dL_law_3135 : decode cL_law 3135 = .ok (.i2l, 1) := dk_133 (dk_at dksL_law_123 20 rfl rfl)
theorem dL_law_3136 : decode cL_law 3136 = .ok (.lcmp, 1) := dk_148 (dk_at dksL_law_123 21 rfl rfl)
theorem dL_law_3137 : decode cL_law 3137 = .ok (.ifCond .eq 5, 3) := dk_153 0 5 (dk_at dksL_law_124 0 rfl rfl)
theorem dL_law_3140 : decode cL_law 3140 = .ok (.iconst 0, 1) := dk_3 (dk_at dksL_law_124 3 rfl rfl)
theorem dL_law_3141 : decode cL_law 3141 = .ok (.ireturn, 1) := dk_172 (dk_at dksL_law_124 4 rfl rfl)
theorem dL_law_3142 : decode cL_law 3142 = .ok (.goto 205, 3) := dk_167 0 205 (dk_at dksL_law_124 5 rfl rfl)
theorem dL_law_3145 : decode cL_law 3145 = .ok (.aload_n 1, 1) := dk_43 (dk_at dksL_law_124 8 rfl rfl)
theorem dL_law_3146 : decode cL_law 3146 = .ok (.aload_n 3, 1) := dk_45 (dk_at dksL_law_124 9 rfl rfl)
theorem dL_law_3147 : decode cL_law 3147 = .ok (.invokestatic 375, 3) := dk_184 1 119 (dk_at dksL_law_124 10 rfl rfl)
theorem dL_law_3150 : decode cL_law 3150 = .ok (.istore 5, 2) := dk_54 5 (dk_at dksL_law_124 13 rfl rfl)
theorem dL_law_3152 : decode cL_law 3152 = .ok (.aload_n 2, 1) := dk_44 (dk_at dksL_law_124 15 rfl rfl)
theorem dL_law_3153 : decode cL_law 3153 = .ok (.invokevirtual 377, 3) := dk_182 1 121 (dk_at dksL_law_124 16 rfl rfl)
theorem dL_law_3156 : decode cL_law 3156 = .ok (.istore 6, 2) := dk_54 6 (dk_at dksL_law_124 19 rfl rfl)
theorem dL_law_3158 : decode cL_law 3158 = .ok (.aload_n 2, 1) := dk_44 (dk_at dksL_law_124 21 rfl rfl)
theorem dL_law_3159 : decode cL_law 3159 = .ok (.invokevirtual 182, 3) := dk_182 0 182 (dk_at dksL_law_125 0 rfl rfl)
theorem dL_law_3162 : decode cL_law 3162 = .ok (.iload 5, 2) := dk_21 5 (dk_at dksL_law_125 3 rfl rfl)
theorem dL_law_3164 : decode cL_law 3164 = .ok (.if_icmp .eq 5, 3) := dk_159 0 5 (dk_at dksL_law_125 5 rfl rfl)
theorem dL_law_3167 : decode cL_law 3167 = .ok (.iconst 0, 1) := dk_3 (dk_at dksL_law_125 8 rfl rfl)
theorem dL_law_3168 : decode cL_law 3168 = .ok (.ireturn, 1) := dk_172 (dk_at dksL_law_125 9 rfl rfl)
theorem dL_law_3169 : decode cL_law 3169 = .ok (.iload 5, 2) := dk_21 5 (dk_at dksL_law_125 10 rfl rfl)
theorem dL_law_3171 : decode cL_law 3171 = .ok (.ifCond .ne 15, 3) := dk_154 0 15 (dk_at dksL_law_125 12 rfl rfl)
theorem dL_law_3174 : decode cL_law 3174 = .ok (.aload_n 3, 1) := dk_45 (dk_at dksL_law_125 15 rfl rfl)
theorem dL_law_3175 : decode cL_law 3175 = .ok (.iconst 0, 1) := dk_3 (dk_at dksL_law_125 16 rfl rfl)
theorem dL_law_3176 : decode cL_law 3176 = .ok (.laload, 1) := dk_47 (dk_at dksL_law_125 17 rfl rfl)
theorem dL_law_3177 : decode cL_law 3177 = .ok (.iload 6, 2) := dk_21 6 (dk_at dksL_law_125 18 rfl rfl)
theorem dL_law_3179 : decode cL_law 3179 = .ok (.i2l, 1) := dk_133 (dk_at dksL_law_125 20 rfl rfl)
theorem dL_law_3180 : decode cL_law 3180 = .ok (.lcmp, 1) := dk_148 (dk_at dksL_law_125 21 rfl rfl)
theorem dL_law_3181 : decode cL_law 3181 = .ok (.ifCond .eq 5, 3) := dk_153 0 5 (dk_at dksL_law_126 0 rfl rfl)
theorem dL_law_3184 : decode cL_law 3184 = .ok (.iconst 0, 1) := dk_3 (dk_at dksL_law_126 3 rfl rfl)
theorem dL_law_3185 : decode cL_law 3185 = .ok (.ireturn, 1) := dk_172 (dk_at dksL_law_126 4 rfl rfl)
theorem dL_law_3186 : decode cL_law 3186 = .ok (.goto 161, 3) := dk_167 0 161 (dk_at dksL_law_126 5 rfl rfl)
theorem dL_law_3189 : decode cL_law 3189 = .ok (.aload_n 1, 1) := dk_43 (dk_at dksL_law_126 8 rfl rfl)
theorem dL_law_3190 : decode cL_law 3190 = .ok (.aload_n 3, 1) := dk_45 (dk_at dksL_law_126 9 rfl rfl)
theorem dL_law_3191 : decode cL_law 3191 = .ok (.invokestatic 378, 3) := dk_184 1 122 (dk_at dksL_law_126 10 rfl rfl)
theorem dL_law_3194 : decode cL_law 3194 = .ok (.istore 5, 2) := dk_54 5 (dk_at dksL_law_126 13 rfl rfl)
theorem dL_law_3196 : decode cL_law 3196 = .ok (.aload_n 2, 1) := dk_44 (dk_at dksL_law_126 15 rfl rfl)
theorem dL_law_3197 : decode cL_law 3197 = .ok (.invokevirtual 380, 3) := dk_182 1 124 (dk_at dksL_law_126 16 rfl rfl)
theorem dL_law_3200 : decode cL_law 3200 = .ok (.istore 6, 2) := dk_54 6 (dk_at dksL_law_126 19 rfl rfl)
theorem dL_law_3202 : decode cL_law 3202 = .ok (.aload_n 2, 1) := dk_44 (dk_at dksL_law_126 21 rfl rfl)
theorem dL_law_3203 : decode cL_law 3203 = .ok (.invokevirtual 182, 3) := dk_182 0 182 (dk_at dksL_law_127 0 rfl rfl)
theorem dL_law_3206 : decode cL_law 3206 = .ok (.iload 5, 2) := dk_21 5 (dk_at dksL_law_127 3 rfl rfl)
theorem dL_law_3208 : decode cL_law 3208 = .ok (.if_icmp .eq 5, 3) := dk_159 0 5 (dk_at dksL_law_127 5 rfl rfl)
theorem dL_law_3211 : decode cL_law 3211 = .ok (.iconst 0, 1) := dk_3 (dk_at dksL_law_127 8 rfl rfl)
theorem dL_law_3212 : decode cL_law 3212 = .ok (.ireturn, 1) := dk_172 (dk_at dksL_law_127 9 rfl rfl)
theorem dL_law_3213 : decode cL_law 3213 = .ok (.iload 5, 2) := dk_21 5 (dk_at dksL_law_127 10 rfl rfl)
theorem dL_law_3215 : decode cL_law 3215 = .ok (.ifCond .ne 15, 3) := dk_154 0 15 (dk_at dksL_law_127 12 rfl rfl)
theorem dL_law_3218 : decode cL_law 3218 = .ok (.aload_n 3, 1) := dk_45 (dk_at dksL_law_127 15 rfl rfl)
theorem dL_law_3219 : decode cL_law 3219 = .ok (.iconst 0, 1) := dk_3 (dk_at dksL_law_127 16 rfl rfl)
theorem dL_law_3220 : decode cL_law 3220 = .ok (.laload, 1) := dk_47 (dk_at dksL_law_127 17 rfl rfl)
theorem dL_law_3221 : decode cL_law 3221 = .ok (.iload 6, 2) := dk_21 6 (dk_at dksL_law_127 18 rfl rfl)
theorem dL_law_3223 : decode cL_law 3223 = .ok (.i2l, 1) := dk_133 (dk_at dksL_law_127 20 rfl rfl)
theorem dL_law_3224 : decode cL_law 3224 = .ok (.lcmp, 1) := dk_148 (dk_at dksL_law_127 21 rfl rfl)
theorem dL_law_3225 : decode cL_law 3225 = .ok (.ifCond .eq 5, 3) := dk_153 0 5 (dk_at dksL_law_128 0 rfl rfl)
theorem dL_law_3228 : decode cL_law 3228 = .ok (.iconst 0, 1) := dk_3 (dk_at dksL_law_128 3 rfl rfl)
theorem dL_law_3229 : decode cL_law 3229 = .ok (.ireturn, 1) := dk_172 (dk_at dksL_law_128 4 rfl rfl)
theorem dL_law_3230 : decode cL_law 3230 = .ok (.goto 117, 3) := dk_167 0 117 (dk_at dksL_law_128 5 rfl rfl)
theorem dL_law_3233 : decode cL_law 3233 = .ok (.aload_n 1, 1) := dk_43 (dk_at dksL_law_128 8 rfl rfl)
theorem dL_law_3234 : decode cL_law 3234 = .ok (.invokevirtual 381, 3) := dk_182 1 125 (dk_at dksL_law_128 9 rfl rfl)
theorem dL_law_3237 : decode cL_law 3237 = .ok (.aload_n 2, 1) := dk_44 (dk_at dksL_law_128 12 rfl rfl)
theorem dL_law_3238 : decode cL_law 3238 = .ok (.invokevirtual 384, 3) := dk_182 1 128 (dk_at dksL_law_128 13 rfl rfl)
theorem dL_law_3241 : decode cL_law 3241 = .ok (.if_icmp .eq 106, 3) := dk_159 0 106 (dk_at dksL_law_128 16 rfl rfl)
theorem dL_law_3244 : decode cL_law 3244 = .ok (.iconst 0, 1) := dk_3 (dk_at dksL_law_128 19 rfl rfl)
theorem dL_law_3245 : decode cL_law 3245 = .ok (.ireturn, 1) := dk_172 (dk_at dksL_law_128 20 rfl rfl)
theorem dL_law_3246 : decode cL_law 3246 = .ok (.aload_n 1, 1) := dk_43 (dk_at dksL_law_128 21 rfl rfl)
theorem dL_law_3247 : decode cL_law 3247 = .ok (.aload_n 3, 1) := dk_45 (dk_at dksL_law_128 22 rfl rfl)
theorem dL_law_3248 : decode cL_law 3248 = .ok (.invokestatic 385, 3) := dk_184 1 129 (dk_at dksL_law_129 0 rfl rfl)
theorem dL_law_3251 : decode cL_law 3251 = .ok (.istore 5, 2) := dk_54 5 (dk_at dksL_law_129 3 rfl rfl)
theorem dL_law_3253 : decode cL_law 3253 = .ok (.aload_n 2, 1) := dk_44 (dk_at dksL_law_129 5 rfl rfl)
theorem dL_law_3254 : decode cL_law 3254 = .ok (.invokevirtual 387, 3) := dk_182 1 131 (dk_at dksL_law_129 6 rfl rfl)
theorem dL_law_3257 : decode cL_law 3257 = .ok (.istore 6, 2) := dk_54 6 (dk_at dksL_law_129 9 rfl rfl)
theorem dL_law_3259 : decode cL_law 3259 = .ok (.aload_n 2, 1) := dk_44 (dk_at dksL_law_129 11 rfl rfl)
theorem dL_law_3260 : decode cL_law 3260 = .ok (.invokevirtual 182, 3) := dk_182 0 182 (dk_at dksL_law_129 12 rfl rfl)
theorem dL_law_3263 : decode cL_law 3263 = .ok (.iload 5, 2) := dk_21 5 (dk_at dksL_law_129 15 rfl rfl)
theorem dL_law_3265 : decode cL_law 3265 = .ok (.if_icmp .eq 5, 3) := dk_159 0 5 (dk_at dksL_law_129 17 rfl rfl)
theorem dL_law_3268 : decode cL_law 3268 = .ok (.iconst 0, 1) := dk_3 (dk_at dksL_law_129 20 rfl rfl)
theorem dL_law_3269 : decode cL_law 3269 = .ok (.ireturn, 1) := dk_172 (dk_at dksL_law_129 21 rfl rfl)
theorem dL_law_3270 : decode cL_law 3270 = .ok (.iload 5, 2) := dk_21 5 (dk_at dksL_law_129 22 rfl rfl)
theorem dL_law_3272 : decode cL_law 3272 = .ok (.ifCond .ne 15, 3) := dk_154 0 15 (dk_at dksL_law_130 0 rfl rfl)
theorem dL_law_3275 : decode cL_law 3275 = .ok (.aload_n 3, 1) := dk_45 (dk_at dksL_law_130 3 rfl rfl)
theorem dL_law_3276 : decode cL_law 3276 = .ok (.iconst 0, 1) := dk_3 (dk_at dksL_law_130 4 rfl rfl)
theorem dL_law_3277 : decode cL_law 3277 = .ok (.laload, 1) := dk_47 (dk_at dksL_law_130 5 rfl rfl)
theorem dL_law_3278 : decode cL_law 3278 = .ok (.iload 6, 2) := dk_21 6 (dk_at dksL_law_130 6 rfl rfl)
theorem dL_law_3280 : decode cL_law 3280 = .ok (.i2l, 1) := dk_133 (dk_at dksL_law_130 8 rfl rfl)
theorem dL_law_3281 : decode cL_law 3281 = .ok (.lcmp, 1) := dk_148 (dk_at dksL_law_130 9 rfl rfl)
theorem dL_law_3282 : decode cL_law 3282 = .ok (.ifCond .eq 5, 3) := dk_153 0 5 (dk_at dksL_law_130 10 rfl rfl)
theorem dL_law_3285 : decode cL_law 3285 = .ok (.iconst 0, 1) := dk_3 (dk_at dksL_law_130 13 rfl rfl)
theorem dL_law_3286 : decode cL_law 3286 = .ok (.ireturn, 1) := dk_172 (dk_at dksL_law_130 14 rfl rfl)
theorem dL_law_3287 : decode cL_law 3287 = .ok (.goto 60, 3) := dk_167 0 60 (dk_at dksL_law_130 15 rfl rfl)
theorem dL_law_3290 : decode cL_law 3290 = .ok (.aload_n 1, 1) := dk_43 (dk_at dksL_law_130 18 rfl rfl)
theorem dL_law_3291 : decode cL_law 3291 = .ok (.invokevirtual 388, 3) := dk_182 1 132 (dk_at dksL_law_130 19 rfl rfl)
theorem dL_law_3294 : decode cL_law 3294 = .ok (.aload_n 2, 1) := dk_44 (dk_at dksL_law_130 22 rfl rfl)
theorem dL_law_3295 : decode cL_law 3295 = .ok (.invokevirtual 391, 3) := dk_182 1 135 (dk_at dksL_law_131 0 rfl rfl)
theorem dL_law_3298 : decode cL_law 3298 = .ok (.if_icmp .eq 49, 3) := dk_159 0 49 (dk_at dksL_law_131 3 rfl rfl)
theorem dL_law_3301 : decode cL_law 3301 = .ok (.iconst 0, 1) := dk_3 (dk_at dksL_law_131 6 rfl rfl)
theorem dL_law_3302 : decode cL_law 3302 = .ok (.ireturn, 1) := dk_172 (dk_at dksL_law_131 7 rfl rfl)
theorem dL_law_3303 : decode cL_law 3303 = .ok (.aload_n 1, 1) := dk_43 (dk_at dksL_law_131 8 rfl rfl)
theorem dL_law_3304 : decode cL_law 3304 = .ok (.aload_n 3, 1) := dk_45 (dk_at dksL_law_131 9 rfl rfl)
theorem dL_law_3305 : decode cL_law 3305 = .ok (.invokestatic 392, 3) := dk_184 1 136 (dk_at dksL_law_131 10 rfl rfl)
theorem dL_law_3308 : decode cL_law 3308 = .ok (.istore 5, 2) := dk_54 5 (dk_at dksL_law_131 13 rfl rfl)
theorem dL_law_3310 : decode cL_law 3310 = .ok (.aload_n 2, 1) := dk_44 (dk_at dksL_law_131 15 rfl rfl)
theorem dL_law_3311 : decode cL_law 3311 = .ok (.invokevirtual 394, 3) := dk_182 1 138 (dk_at dksL_law_131 16 rfl rfl)
theorem dL_law_3314 : decode cL_law 3314 = .ok (.istore 6, 2) := dk_54 6 (dk_at dksL_law_131 19 rfl rfl)
theorem dL_law_3316 : decode cL_law 3316 = .ok (.aload_n 2, 1) := dk_44 (dk_at dksL_law_131 21 rfl rfl)
theorem dL_law_3317 : decode cL_law 3317 = .ok (.invokevirtual 182, 3) := dk_182 0 182 (dk_at dksL_law_132 0 rfl rfl)
theorem dL_law_3320 : decode cL_law 3320 = .ok (.iload 5, 2) := dk_21 5 (dk_at dksL_law_132 3 rfl rfl)
theorem dL_law_3322 : decode cL_law 3322 = .ok (.if_icmp .eq 5, 3) := dk_159 0 5 (dk_at dksL_law_132 5 rfl rfl)
theorem dL_law_3325 : decode cL_law 3325 = .ok (.iconst 0, 1) := dk_3 (dk_at dksL_law_132 8 rfl rfl)
theorem dL_law_3326 : decode cL_law 3326 = .ok (.ireturn, 1) := dk_172 (dk_at dksL_law_132 9 rfl rfl)
theorem dL_law_3327 : decode cL_law 3327 = .ok (.iload 5, 2) := dk_21 5 (dk_at dksL_law_132 10 rfl rfl)
theorem dL_law_3329 : decode cL_law 3329 = .ok (.ifCond .ne 15, 3) := dk_154 0 15 (dk_at dksL_law_132 12 rfl rfl)
theorem dL_law_3332 : decode cL_law 3332 = .ok (.aload_n 3, 1) := dk_45 (dk_at dksL_law_132 15 rfl rfl)
theorem dL_law_3333 : decode cL_law 3333 = .ok (.iconst 0, 1) := dk_3 (dk_at dksL_law_132 16 rfl rfl)
theorem dL_law_3334 : decode cL_law 3334 = .ok (.laload, 1) := dk_47 (dk_at dksL_law_132 17 rfl rfl)
theorem dL_law_3335 : decode cL_law 3335 = .ok (.iload 6, 2) := dk_21 6 (dk_at dksL_law_132 18 rfl rfl)
theorem dL_law_3337 : decode cL_law 3337 = .ok (.i2l, 1) := dk_133 (dk_at dksL_law_132 20 rfl rfl)
theorem dL_law_3338 : decode cL_law 3338 = .ok (.lcmp, 1) := dk_148 (dk_at dksL_law_132 21 rfl rfl)
theorem dL_law_3339 : decode cL_law 3339 = .ok (.ifCond .eq 5, 3) := dk_153 0 5 (dk_at dksL_law_133 0 rfl rfl)
theorem dL_law_3342 : decode cL_law 3342 = .ok (.iconst 0, 1) := dk_3 (dk_at dksL_law_133 3 rfl rfl)
theorem dL_law_3343 : decode cL_law 3343 = .ok (.ireturn, 1) := dk_172 (dk_at dksL_law_133 4 rfl rfl)
theorem dL_law_3344 : decode cL_law 3344 = .ok (.goto 3, 3) := dk_167 0 3 (dk_at dksL_law_133 5 rfl rfl)
theorem dL_law_3347 : decode cL_law 3347 = .ok (.iinc 4 5, 3) := dk_132 4 5 (dk_at dksL_law_133 8 rfl rfl)
theorem dL_law_3350 : decode cL_law 3350 = .ok (.goto (-3327), 3) := dk_167 243 1 (dk_at dksL_law_133 11 rfl rfl)
theorem dL_law_3353 : decode cL_law 3353 = .ok (.iconst 1, 1) := dk_4 (dk_at dksL_law_133 14 rfl rfl)
theorem dL_law_3354 : decode cL_law 3354 = .ok (.ireturn, 1) := dk_172 (dk_at dksL_law_133 15 rfl rfl)

/-! ClaimRegistryLaw -/
set_option maxRecDepth 100000
def RX0 : String := "ClaimRegistryLaw"
abbrev cX0_add : ByteArray := method_3_code
def yX0_add : MethodName := ⟨RX0, "add", "(LClaimRegistry;IIII[J)I"⟩
def dkwX0_add_1 : List UInt8 := [172, 3, 172]
abbrev dktX0_add_1 : List UInt8 := dkwX0_add_1 ++ []
def dkwX0_add_0 : List UInt8 := [25, 5, 3, 42, 27, 28, 29, 21, 4, 182, 0, 7, 133, 80, 167, 0, 11, 58, 6, 4, 172, 58, 6, 5]
abbrev dktX0_add_0 : List UInt8 := dkwX0_add_0 ++ dktX0_add_1
theorem dksX0_add_0 : cX0_add.data.toList.drop 0 = dktX0_add_0 := by decide +kernel
theorem dksX0_add_1 : cX0_add.data.toList.drop 24 = dktX0_add_1 := dk_seg dksX0_add_0 24 rfl rfl
theorem dX0_add_0 : decode cX0_add 0 = .ok (.aload 5, 2) := dk_25 5 (dk_at dksX0_add_0 0 rfl rfl)
theorem dX0_add_2 : decode cX0_add 2 = .ok (.iconst 0, 1) := dk_3 (dk_at dksX0_add_0 2 rfl rfl)
theorem dX0_add_3 : decode cX0_add 3 = .ok (.aload_n 0, 1) := dk_42 (dk_at dksX0_add_0 3 rfl rfl)
theorem dX0_add_4 : decode cX0_add 4 = .ok (.iload_n 1, 1) := dk_27 (dk_at dksX0_add_0 4 rfl rfl)
theorem dX0_add_5 : decode cX0_add 5 = .ok (.iload_n 2, 1) := dk_28 (dk_at dksX0_add_0 5 rfl rfl)
theorem dX0_add_6 : decode cX0_add 6 = .ok (.iload_n 3, 1) := dk_29 (dk_at dksX0_add_0 6 rfl rfl)
theorem dX0_add_7 : decode cX0_add 7 = .ok (.iload 4, 2) := dk_21 4 (dk_at dksX0_add_0 7 rfl rfl)
theorem dX0_add_9 : decode cX0_add 9 = .ok (.invokevirtual 7, 3) := dk_182 0 7 (dk_at dksX0_add_0 9 rfl rfl)
theorem dX0_add_12 : decode cX0_add 12 = .ok (.i2l, 1) := dk_133 (dk_at dksX0_add_0 12 rfl rfl)
theorem dX0_add_13 : decode cX0_add 13 = .ok (.lastore, 1) := dk_80 (dk_at dksX0_add_0 13 rfl rfl)
theorem dX0_add_14 : decode cX0_add 14 = .ok (.goto 11, 3) := dk_167 0 11 (dk_at dksX0_add_0 14 rfl rfl)
theorem dX0_add_17 : decode cX0_add 17 = .ok (.astore 6, 2) := dk_58 6 (dk_at dksX0_add_0 17 rfl rfl)
theorem dX0_add_19 : decode cX0_add 19 = .ok (.iconst 1, 1) := dk_4 (dk_at dksX0_add_0 19 rfl rfl)
theorem dX0_add_20 : decode cX0_add 20 = .ok (.ireturn, 1) := dk_172 (dk_at dksX0_add_0 20 rfl rfl)
theorem dX0_add_21 : decode cX0_add 21 = .ok (.astore 6, 2) := dk_58 6 (dk_at dksX0_add_0 21 rfl rfl)
theorem dX0_add_23 : decode cX0_add 23 = .ok (.iconst 2, 1) := dk_5 (dk_at dksX0_add_0 23 rfl rfl)
theorem dX0_add_24 : decode cX0_add 24 = .ok (.ireturn, 1) := dk_172 (dk_at dksX0_add_1 0 rfl rfl)
theorem dX0_add_25 : decode cX0_add 25 = .ok (.iconst 0, 1) := dk_3 (dk_at dksX0_add_1 1 rfl rfl)
theorem dX0_add_26 : decode cX0_add 26 = .ok (.ireturn, 1) := dk_172 (dk_at dksX0_add_1 2 rfl rfl)
abbrev cX0_sign : ByteArray := method_4_code
def yX0_sign : MethodName := ⟨RX0, "sign", "(LClaimRegistry;II[J)I"⟩
def dkwX0_sign_1 : List UInt8 := [172, 3, 172]
abbrev dktX0_sign_1 : List UInt8 := dkwX0_sign_1 ++ []
def dkwX0_sign_0 : List UInt8 := [45, 3, 42, 27, 28, 182, 0, 17, 133, 80, 167, 0, 15, 58, 4, 4, 172, 58, 4, 5, 172, 58, 4, 6]
abbrev dktX0_sign_0 : List UInt8 := dkwX0_sign_0 ++ dktX0_sign_1
theorem dksX0_sign_0 : cX0_sign.data.toList.drop 0 = dktX0_sign_0 := by decide +kernel
theorem dksX0_sign_1 : cX0_sign.data.toList.drop 24 = dktX0_sign_1 := dk_seg dksX0_sign_0 24 rfl rfl
theorem dX0_sign_0 : decode cX0_sign 0 = .ok (.aload_n 3, 1) := dk_45 (dk_at dksX0_sign_0 0 rfl rfl)
theorem dX0_sign_1 : decode cX0_sign 1 = .ok (.iconst 0, 1) := dk_3 (dk_at dksX0_sign_0 1 rfl rfl)
theorem dX0_sign_2 : decode cX0_sign 2 = .ok (.aload_n 0, 1) := dk_42 (dk_at dksX0_sign_0 2 rfl rfl)
theorem dX0_sign_3 : decode cX0_sign 3 = .ok (.iload_n 1, 1) := dk_27 (dk_at dksX0_sign_0 3 rfl rfl)
theorem dX0_sign_4 : decode cX0_sign 4 = .ok (.iload_n 2, 1) := dk_28 (dk_at dksX0_sign_0 4 rfl rfl)
theorem dX0_sign_5 : decode cX0_sign 5 = .ok (.invokevirtual 17, 3) := dk_182 0 17 (dk_at dksX0_sign_0 5 rfl rfl)
theorem dX0_sign_8 : decode cX0_sign 8 = .ok (.i2l, 1) := dk_133 (dk_at dksX0_sign_0 8 rfl rfl)
theorem dX0_sign_9 : decode cX0_sign 9 = .ok (.lastore, 1) := dk_80 (dk_at dksX0_sign_0 9 rfl rfl)
theorem dX0_sign_10 : decode cX0_sign 10 = .ok (.goto 15, 3) := dk_167 0 15 (dk_at dksX0_sign_0 10 rfl rfl)
theorem dX0_sign_13 : decode cX0_sign 13 = .ok (.astore 4, 2) := dk_58 4 (dk_at dksX0_sign_0 13 rfl rfl)
theorem dX0_sign_15 : decode cX0_sign 15 = .ok (.iconst 1, 1) := dk_4 (dk_at dksX0_sign_0 15 rfl rfl)
theorem dX0_sign_16 : decode cX0_sign 16 = .ok (.ireturn, 1) := dk_172 (dk_at dksX0_sign_0 16 rfl rfl)
theorem dX0_sign_17 : decode cX0_sign 17 = .ok (.astore 4, 2) := dk_58 4 (dk_at dksX0_sign_0 17 rfl rfl)
theorem dX0_sign_19 : decode cX0_sign 19 = .ok (.iconst 2, 1) := dk_5 (dk_at dksX0_sign_0 19 rfl rfl)
theorem dX0_sign_20 : decode cX0_sign 20 = .ok (.ireturn, 1) := dk_172 (dk_at dksX0_sign_0 20 rfl rfl)
theorem dX0_sign_21 : decode cX0_sign 21 = .ok (.astore 4, 2) := dk_58 4 (dk_at dksX0_sign_0 21 rfl rfl)
theorem dX0_sign_23 : decode cX0_sign 23 = .ok (.iconst 3, 1) := dk_6 (dk_at dksX0_sign_0 23 rfl rfl)
theorem dX0_sign_24 : decode cX0_sign 24 = .ok (.ireturn, 1) := dk_172 (dk_at dksX0_sign_1 0 rfl rfl)
theorem dX0_sign_25 : decode cX0_sign 25 = .ok (.iconst 0, 1) := dk_3 (dk_at dksX0_sign_1 1 rfl rfl)
theorem dX0_sign_26 : decode cX0_sign 26 = .ok (.ireturn, 1) := dk_172 (dk_at dksX0_sign_1 2 rfl rfl)
abbrev cX0_countersign : ByteArray := method_5_code
def yX0_countersign : MethodName := ⟨RX0, "countersign", "(LClaimRegistry;II[J)I"⟩
def dkwX0_countersign_1 : List UInt8 := [172, 3, 172]
abbrev dktX0_countersign_1 : List UInt8 := dkwX0_countersign_1 ++ []
def dkwX0_countersign_0 : List UInt8 := [45, 3, 42, 27, 28, 182, 0, 23, 133, 80, 167, 0, 15, 58, 4, 4, 172, 58, 4, 5, 172, 58, 4, 6]
abbrev dktX0_countersign_0 : List UInt8 := dkwX0_countersign_0 ++ dktX0_countersign_1
theorem dksX0_countersign_0 : cX0_countersign.data.toList.drop 0 = dktX0_countersign_0 := by decide +kernel
theorem dksX0_countersign_1 : cX0_countersign.data.toList.drop 24 = dktX0_countersign_1 := dk_seg dksX0_countersign_0 24 rfl rfl
theorem dX0_countersign_0 : decode cX0_countersign 0 = .ok (.aload_n 3, 1) := dk_45 (dk_at dksX0_countersign_0 0 rfl rfl)
theorem dX0_countersign_1 : decode cX0_countersign 1 = .ok (.iconst 0, 1) := dk_3 (dk_at dksX0_countersign_0 1 rfl rfl)
theorem dX0_countersign_2 : decode cX0_countersign 2 = .ok (.aload_n 0, 1) := dk_42 (dk_at dksX0_countersign_0 2 rfl rfl)
theorem dX0_countersign_3 : decode cX0_countersign 3 = .ok (.iload_n 1, 1) := dk_27 (dk_at dksX0_countersign_0 3 rfl rfl)
theorem dX0_countersign_4 : decode cX0_countersign 4 = .ok (.iload_n 2, 1) := dk_28 (dk_at dksX0_countersign_0 4 rfl rfl)
theorem dX0_countersign_5 : decode cX0_countersign 5 = .ok (.invokevirtual 23, 3) := dk_182 0 23 (dk_at dksX0_countersign_0 5 rfl rfl)
theorem dX0_countersign_8 : decode cX0_countersign 8 = .ok (.i2l, 1) := dk_133 (dk_at dksX0_countersign_0 8 rfl rfl)
theorem dX0_countersign_9 : decode cX0_countersign 9 = .ok (.lastore, 1) := dk_80 (dk_at dksX0_countersign_0 9 rfl rfl)
theorem dX0_countersign_10 : decode cX0_countersign 10 = .ok (.goto 15, 3) := dk_167 0 15 (dk_at dksX0_countersign_0 10 rfl rfl)
theorem dX0_countersign_13 : decode cX0_countersign 13 = .ok (.astore 4, 2) := dk_58 4 (dk_at dksX0_countersign_0 13 rfl rfl)
theorem dX0_countersign_15 : decode cX0_countersign 15 = .ok (.iconst 1, 1) := dk_4 (dk_at dksX0_countersign_0 15 rfl rfl)
theorem dX0_countersign_16 : decode cX0_countersign 16 = .ok (.ireturn, 1) := dk_172 (dk_at dksX0_countersign_0 16 rfl rfl)
theorem dX0_countersign_17 : decode cX0_countersign 17 = .ok (.astore 4, 2) := dk_58 4 (dk_at dksX0_countersign_0 17 rfl rfl)
theorem dX0_countersign_19 : decode cX0_countersign 19 = .ok (.iconst 2, 1) := dk_5 (dk_at dksX0_countersign_0 19 rfl rfl)
theorem dX0_countersign_20 : decode cX0_countersign 20 = .ok (.ireturn, 1) := dk_172 (dk_at dksX0_countersign_0 20 rfl rfl)
theorem dX0_countersign_21 : decode cX0_countersign 21 = .ok (.astore 4, 2) := dk_58 4 (dk_at dksX0_countersign_0 21 rfl rfl)
theorem dX0_countersign_23 : decode cX0_countersign 23 = .ok (.iconst 3, 1) := dk_6 (dk_at dksX0_countersign_0 23 rfl rfl)
theorem dX0_countersign_24 : decode cX0_countersign 24 = .ok (.ireturn, 1) := dk_172 (dk_at dksX0_countersign_1 0 rfl rfl)
theorem dX0_countersign_25 : decode cX0_countersign 25 = .ok (.iconst 0, 1) := dk_3 (dk_at dksX0_countersign_1 1 rfl rfl)
theorem dX0_countersign_26 : decode cX0_countersign 26 = .ok (.ireturn, 1) := dk_172 (dk_at dksX0_countersign_1 2 rfl rfl)
abbrev cX0_settle : ByteArray := method_6_code
def yX0_settle : MethodName := ⟨RX0, "settle", "(LClaimRegistry;I[J)I"⟩
def dkwX0_settle_0 : List UInt8 := [44, 3, 42, 27, 182, 0, 26, 133, 80, 167, 0, 9, 78, 4, 172, 78, 5, 172, 3, 172]
abbrev dktX0_settle_0 : List UInt8 := dkwX0_settle_0 ++ []
theorem dksX0_settle_0 : cX0_settle.data.toList.drop 0 = dktX0_settle_0 := by decide +kernel
theorem dX0_settle_0 : decode cX0_settle 0 = .ok (.aload_n 2, 1) := dk_44 (dk_at dksX0_settle_0 0 rfl rfl)
theorem dX0_settle_1 : decode cX0_settle 1 = .ok (.iconst 0, 1) := dk_3 (dk_at dksX0_settle_0 1 rfl rfl)
theorem dX0_settle_2 : decode cX0_settle 2 = .ok (.aload_n 0, 1) := dk_42 (dk_at dksX0_settle_0 2 rfl rfl)
theorem dX0_settle_3 : decode cX0_settle 3 = .ok (.iload_n 1, 1) := dk_27 (dk_at dksX0_settle_0 3 rfl rfl)
theorem dX0_settle_4 : decode cX0_settle 4 = .ok (.invokevirtual 26, 3) := dk_182 0 26 (dk_at dksX0_settle_0 4 rfl rfl)
theorem dX0_settle_7 : decode cX0_settle 7 = .ok (.i2l, 1) := dk_133 (dk_at dksX0_settle_0 7 rfl rfl)
theorem dX0_settle_8 : decode cX0_settle 8 = .ok (.lastore, 1) := dk_80 (dk_at dksX0_settle_0 8 rfl rfl)
theorem dX0_settle_9 : decode cX0_settle 9 = .ok (.goto 9, 3) := dk_167 0 9 (dk_at dksX0_settle_0 9 rfl rfl)
theorem dX0_settle_12 : decode cX0_settle 12 = .ok (.astore_n 3, 1) := dk_78 (dk_at dksX0_settle_0 12 rfl rfl)
theorem dX0_settle_13 : decode cX0_settle 13 = .ok (.iconst 1, 1) := dk_4 (dk_at dksX0_settle_0 13 rfl rfl)
theorem dX0_settle_14 : decode cX0_settle 14 = .ok (.ireturn, 1) := dk_172 (dk_at dksX0_settle_0 14 rfl rfl)
theorem dX0_settle_15 : decode cX0_settle 15 = .ok (.astore_n 3, 1) := dk_78 (dk_at dksX0_settle_0 15 rfl rfl)
theorem dX0_settle_16 : decode cX0_settle 16 = .ok (.iconst 2, 1) := dk_5 (dk_at dksX0_settle_0 16 rfl rfl)
theorem dX0_settle_17 : decode cX0_settle 17 = .ok (.ireturn, 1) := dk_172 (dk_at dksX0_settle_0 17 rfl rfl)
theorem dX0_settle_18 : decode cX0_settle 18 = .ok (.iconst 0, 1) := dk_3 (dk_at dksX0_settle_0 18 rfl rfl)
theorem dX0_settle_19 : decode cX0_settle 19 = .ok (.ireturn, 1) := dk_172 (dk_at dksX0_settle_0 19 rfl rfl)
abbrev cX0_advance : ByteArray := method_7_code
def yX0_advance : MethodName := ⟨RX0, "advance", "(LClaimRegistry;I[J)I"⟩
def dkwX0_advance_0 : List UInt8 := [44, 3, 42, 27, 182, 0, 30, 133, 80, 167, 0, 6, 78, 4, 172, 3, 172]
abbrev dktX0_advance_0 : List UInt8 := dkwX0_advance_0 ++ []
theorem dksX0_advance_0 : cX0_advance.data.toList.drop 0 = dktX0_advance_0 := by decide +kernel
theorem dX0_advance_0 : decode cX0_advance 0 = .ok (.aload_n 2, 1) := dk_44 (dk_at dksX0_advance_0 0 rfl rfl)
theorem dX0_advance_1 : decode cX0_advance 1 = .ok (.iconst 0, 1) := dk_3 (dk_at dksX0_advance_0 1 rfl rfl)
theorem dX0_advance_2 : decode cX0_advance 2 = .ok (.aload_n 0, 1) := dk_42 (dk_at dksX0_advance_0 2 rfl rfl)
theorem dX0_advance_3 : decode cX0_advance 3 = .ok (.iload_n 1, 1) := dk_27 (dk_at dksX0_advance_0 3 rfl rfl)
theorem dX0_advance_4 : decode cX0_advance 4 = .ok (.invokevirtual 30, 3) := dk_182 0 30 (dk_at dksX0_advance_0 4 rfl rfl)
theorem dX0_advance_7 : decode cX0_advance 7 = .ok (.i2l, 1) := dk_133 (dk_at dksX0_advance_0 7 rfl rfl)
theorem dX0_advance_8 : decode cX0_advance 8 = .ok (.lastore, 1) := dk_80 (dk_at dksX0_advance_0 8 rfl rfl)
theorem dX0_advance_9 : decode cX0_advance 9 = .ok (.goto 6, 3) := dk_167 0 6 (dk_at dksX0_advance_0 9 rfl rfl)
theorem dX0_advance_12 : decode cX0_advance 12 = .ok (.astore_n 3, 1) := dk_78 (dk_at dksX0_advance_0 12 rfl rfl)
theorem dX0_advance_13 : decode cX0_advance 13 = .ok (.iconst 1, 1) := dk_4 (dk_at dksX0_advance_0 13 rfl rfl)
theorem dX0_advance_14 : decode cX0_advance 14 = .ok (.ireturn, 1) := dk_172 (dk_at dksX0_advance_0 14 rfl rfl)
theorem dX0_advance_15 : decode cX0_advance 15 = .ok (.iconst 0, 1) := dk_3 (dk_at dksX0_advance_0 15 rfl rfl)
theorem dX0_advance_16 : decode cX0_advance 16 = .ok (.ireturn, 1) := dk_172 (dk_at dksX0_advance_0 16 rfl rfl)
abbrev cX0_audit : ByteArray := method_8_code
def yX0_audit : MethodName := ⟨RX0, "audit", "(LClaimRegistry;I[J)I"⟩
def dkwX0_audit_0 : List UInt8 := [44, 3, 42, 27, 182, 0, 33, 133, 80, 167, 0, 6, 78, 4, 172, 3, 172]
abbrev dktX0_audit_0 : List UInt8 := dkwX0_audit_0 ++ []
theorem dksX0_audit_0 : cX0_audit.data.toList.drop 0 = dktX0_audit_0 := by decide +kernel
theorem dX0_audit_0 : decode cX0_audit 0 = .ok (.aload_n 2, 1) := dk_44 (dk_at dksX0_audit_0 0 rfl rfl)
theorem dX0_audit_1 : decode cX0_audit 1 = .ok (.iconst 0, 1) := dk_3 (dk_at dksX0_audit_0 1 rfl rfl)
theorem dX0_audit_2 : decode cX0_audit 2 = .ok (.aload_n 0, 1) := dk_42 (dk_at dksX0_audit_0 2 rfl rfl)
theorem dX0_audit_3 : decode cX0_audit 3 = .ok (.iload_n 1, 1) := dk_27 (dk_at dksX0_audit_0 3 rfl rfl)
theorem dX0_audit_4 : decode cX0_audit 4 = .ok (.invokevirtual 33, 3) := dk_182 0 33 (dk_at dksX0_audit_0 4 rfl rfl)
theorem dX0_audit_7 : decode cX0_audit 7 = .ok (.i2l, 1) := dk_133 (dk_at dksX0_audit_0 7 rfl rfl)
theorem dX0_audit_8 : decode cX0_audit 8 = .ok (.lastore, 1) := dk_80 (dk_at dksX0_audit_0 8 rfl rfl)
theorem dX0_audit_9 : decode cX0_audit 9 = .ok (.goto 6, 3) := dk_167 0 6 (dk_at dksX0_audit_0 9 rfl rfl)
theorem dX0_audit_12 : decode cX0_audit 12 = .ok (.astore_n 3, 1) := dk_78 (dk_at dksX0_audit_0 12 rfl rfl)
theorem dX0_audit_13 : decode cX0_audit 13 = .ok (.iconst 1, 1) := dk_4 (dk_at dksX0_audit_0 13 rfl rfl)
theorem dX0_audit_14 : decode cX0_audit 14 = .ok (.ireturn, 1) := dk_172 (dk_at dksX0_audit_0 14 rfl rfl)
theorem dX0_audit_15 : decode cX0_audit 15 = .ok (.iconst 0, 1) := dk_3 (dk_at dksX0_audit_0 15 rfl rfl)
theorem dX0_audit_16 : decode cX0_audit 16 = .ok (.ireturn, 1) := dk_172 (dk_at dksX0_audit_0 16 rfl rfl)
abbrev cX0_setRate : ByteArray := method_9_code
def yX0_setRate : MethodName := ⟨RX0, "setRate", "(LClaimRegistry;II[J)I"⟩
def dkwX0_setRate_0 : List UInt8 := [45, 3, 42, 27, 28, 182, 0, 36, 133, 80, 167, 0, 7, 58, 4, 4, 172, 3, 172]
abbrev dktX0_setRate_0 : List UInt8 := dkwX0_setRate_0 ++ []
theorem dksX0_setRate_0 : cX0_setRate.data.toList.drop 0 = dktX0_setRate_0 := by decide +kernel
theorem dX0_setRate_0 : decode cX0_setRate 0 = .ok (.aload_n 3, 1) := dk_45 (dk_at dksX0_setRate_0 0 rfl rfl)
theorem dX0_setRate_1 : decode cX0_setRate 1 = .ok (.iconst 0, 1) := dk_3 (dk_at dksX0_setRate_0 1 rfl rfl)
theorem dX0_setRate_2 : decode cX0_setRate 2 = .ok (.aload_n 0, 1) := dk_42 (dk_at dksX0_setRate_0 2 rfl rfl)
theorem dX0_setRate_3 : decode cX0_setRate 3 = .ok (.iload_n 1, 1) := dk_27 (dk_at dksX0_setRate_0 3 rfl rfl)
theorem dX0_setRate_4 : decode cX0_setRate 4 = .ok (.iload_n 2, 1) := dk_28 (dk_at dksX0_setRate_0 4 rfl rfl)
theorem dX0_setRate_5 : decode cX0_setRate 5 = .ok (.invokevirtual 36, 3) := dk_182 0 36 (dk_at dksX0_setRate_0 5 rfl rfl)
theorem dX0_setRate_8 : decode cX0_setRate 8 = .ok (.i2l, 1) := dk_133 (dk_at dksX0_setRate_0 8 rfl rfl)
theorem dX0_setRate_9 : decode cX0_setRate 9 = .ok (.lastore, 1) := dk_80 (dk_at dksX0_setRate_0 9 rfl rfl)
theorem dX0_setRate_10 : decode cX0_setRate 10 = .ok (.goto 7, 3) := dk_167 0 7 (dk_at dksX0_setRate_0 10 rfl rfl)
theorem dX0_setRate_13 : decode cX0_setRate 13 = .ok (.astore 4, 2) := dk_58 4 (dk_at dksX0_setRate_0 13 rfl rfl)
theorem dX0_setRate_15 : decode cX0_setRate 15 = .ok (.iconst 1, 1) := dk_4 (dk_at dksX0_setRate_0 15 rfl rfl)
theorem dX0_setRate_16 : decode cX0_setRate 16 = .ok (.ireturn, 1) := dk_172 (dk_at dksX0_setRate_0 16 rfl rfl)
theorem dX0_setRate_17 : decode cX0_setRate 17 = .ok (.iconst 0, 1) := dk_3 (dk_at dksX0_setRate_0 17 rfl rfl)
theorem dX0_setRate_18 : decode cX0_setRate 18 = .ok (.ireturn, 1) := dk_172 (dk_at dksX0_setRate_0 18 rfl rfl)
abbrev cX0_rate : ByteArray := method_10_code
def yX0_rate : MethodName := ⟨RX0, "rate", "(LClaimRegistry;I[J)I"⟩
def dkwX0_rate_0 : List UInt8 := [44, 3, 42, 27, 182, 0, 39, 133, 80, 167, 0, 6, 78, 4, 172, 3, 172]
abbrev dktX0_rate_0 : List UInt8 := dkwX0_rate_0 ++ []
theorem dksX0_rate_0 : cX0_rate.data.toList.drop 0 = dktX0_rate_0 := by decide +kernel
theorem dX0_rate_0 : decode cX0_rate 0 = .ok (.aload_n 2, 1) := dk_44 (dk_at dksX0_rate_0 0 rfl rfl)
theorem dX0_rate_1 : decode cX0_rate 1 = .ok (.iconst 0, 1) := dk_3 (dk_at dksX0_rate_0 1 rfl rfl)
theorem dX0_rate_2 : decode cX0_rate 2 = .ok (.aload_n 0, 1) := dk_42 (dk_at dksX0_rate_0 2 rfl rfl)
theorem dX0_rate_3 : decode cX0_rate 3 = .ok (.iload_n 1, 1) := dk_27 (dk_at dksX0_rate_0 3 rfl rfl)
theorem dX0_rate_4 : decode cX0_rate 4 = .ok (.invokevirtual 39, 3) := dk_182 0 39 (dk_at dksX0_rate_0 4 rfl rfl)
theorem dX0_rate_7 : decode cX0_rate 7 = .ok (.i2l, 1) := dk_133 (dk_at dksX0_rate_0 7 rfl rfl)
theorem dX0_rate_8 : decode cX0_rate 8 = .ok (.lastore, 1) := dk_80 (dk_at dksX0_rate_0 8 rfl rfl)
theorem dX0_rate_9 : decode cX0_rate 9 = .ok (.goto 6, 3) := dk_167 0 6 (dk_at dksX0_rate_0 9 rfl rfl)
theorem dX0_rate_12 : decode cX0_rate 12 = .ok (.astore_n 3, 1) := dk_78 (dk_at dksX0_rate_0 12 rfl rfl)
theorem dX0_rate_13 : decode cX0_rate 13 = .ok (.iconst 1, 1) := dk_4 (dk_at dksX0_rate_0 13 rfl rfl)
theorem dX0_rate_14 : decode cX0_rate 14 = .ok (.ireturn, 1) := dk_172 (dk_at dksX0_rate_0 14 rfl rfl)
theorem dX0_rate_15 : decode cX0_rate 15 = .ok (.iconst 0, 1) := dk_3 (dk_at dksX0_rate_0 15 rfl rfl)
theorem dX0_rate_16 : decode cX0_rate 16 = .ok (.ireturn, 1) := dk_172 (dk_at dksX0_rate_0 16 rfl rfl)
abbrev cX0_idAt : ByteArray := method_11_code
def yX0_idAt : MethodName := ⟨RX0, "idAt", "(LClaimRegistry;I[J)I"⟩
def dkwX0_idAt_0 : List UInt8 := [44, 3, 42, 27, 182, 0, 42, 133, 80, 167, 0, 6, 78, 4, 172, 3, 172]
abbrev dktX0_idAt_0 : List UInt8 := dkwX0_idAt_0 ++ []
theorem dksX0_idAt_0 : cX0_idAt.data.toList.drop 0 = dktX0_idAt_0 := by decide +kernel
theorem dX0_idAt_0 : decode cX0_idAt 0 = .ok (.aload_n 2, 1) := dk_44 (dk_at dksX0_idAt_0 0 rfl rfl)
theorem dX0_idAt_1 : decode cX0_idAt 1 = .ok (.iconst 0, 1) := dk_3 (dk_at dksX0_idAt_0 1 rfl rfl)
theorem dX0_idAt_2 : decode cX0_idAt 2 = .ok (.aload_n 0, 1) := dk_42 (dk_at dksX0_idAt_0 2 rfl rfl)
theorem dX0_idAt_3 : decode cX0_idAt 3 = .ok (.iload_n 1, 1) := dk_27 (dk_at dksX0_idAt_0 3 rfl rfl)
theorem dX0_idAt_4 : decode cX0_idAt 4 = .ok (.invokevirtual 42, 3) := dk_182 0 42 (dk_at dksX0_idAt_0 4 rfl rfl)
theorem dX0_idAt_7 : decode cX0_idAt 7 = .ok (.i2l, 1) := dk_133 (dk_at dksX0_idAt_0 7 rfl rfl)
theorem dX0_idAt_8 : decode cX0_idAt 8 = .ok (.lastore, 1) := dk_80 (dk_at dksX0_idAt_0 8 rfl rfl)
theorem dX0_idAt_9 : decode cX0_idAt 9 = .ok (.goto 6, 3) := dk_167 0 6 (dk_at dksX0_idAt_0 9 rfl rfl)
theorem dX0_idAt_12 : decode cX0_idAt 12 = .ok (.astore_n 3, 1) := dk_78 (dk_at dksX0_idAt_0 12 rfl rfl)
theorem dX0_idAt_13 : decode cX0_idAt 13 = .ok (.iconst 1, 1) := dk_4 (dk_at dksX0_idAt_0 13 rfl rfl)
theorem dX0_idAt_14 : decode cX0_idAt 14 = .ok (.ireturn, 1) := dk_172 (dk_at dksX0_idAt_0 14 rfl rfl)
theorem dX0_idAt_15 : decode cX0_idAt 15 = .ok (.iconst 0, 1) := dk_3 (dk_at dksX0_idAt_0 15 rfl rfl)
theorem dX0_idAt_16 : decode cX0_idAt 16 = .ok (.ireturn, 1) := dk_172 (dk_at dksX0_idAt_0 16 rfl rfl)
abbrev cX0_debtor : ByteArray := method_12_code
def yX0_debtor : MethodName := ⟨RX0, "debtor", "(LClaimRegistry;I[J)I"⟩
def dkwX0_debtor_0 : List UInt8 := [44, 3, 42, 27, 182, 0, 47, 133, 80, 167, 0, 6, 78, 4, 172, 3, 172]
abbrev dktX0_debtor_0 : List UInt8 := dkwX0_debtor_0 ++ []
theorem dksX0_debtor_0 : cX0_debtor.data.toList.drop 0 = dktX0_debtor_0 := by decide +kernel
theorem dX0_debtor_0 : decode cX0_debtor 0 = .ok (.aload_n 2, 1) := dk_44 (dk_at dksX0_debtor_0 0 rfl rfl)
theorem dX0_debtor_1 : decode cX0_debtor 1 = .ok (.iconst 0, 1) := dk_3 (dk_at dksX0_debtor_0 1 rfl rfl)
theorem dX0_debtor_2 : decode cX0_debtor 2 = .ok (.aload_n 0, 1) := dk_42 (dk_at dksX0_debtor_0 2 rfl rfl)
theorem dX0_debtor_3 : decode cX0_debtor 3 = .ok (.iload_n 1, 1) := dk_27 (dk_at dksX0_debtor_0 3 rfl rfl)
theorem dX0_debtor_4 : decode cX0_debtor 4 = .ok (.invokevirtual 47, 3) := dk_182 0 47 (dk_at dksX0_debtor_0 4 rfl rfl)
theorem dX0_debtor_7 : decode cX0_debtor 7 = .ok (.i2l, 1) := dk_133 (dk_at dksX0_debtor_0 7 rfl rfl)
theorem dX0_debtor_8 : decode cX0_debtor 8 = .ok (.lastore, 1) := dk_80 (dk_at dksX0_debtor_0 8 rfl rfl)
theorem dX0_debtor_9 : decode cX0_debtor 9 = .ok (.goto 6, 3) := dk_167 0 6 (dk_at dksX0_debtor_0 9 rfl rfl)
theorem dX0_debtor_12 : decode cX0_debtor 12 = .ok (.astore_n 3, 1) := dk_78 (dk_at dksX0_debtor_0 12 rfl rfl)
theorem dX0_debtor_13 : decode cX0_debtor 13 = .ok (.iconst 1, 1) := dk_4 (dk_at dksX0_debtor_0 13 rfl rfl)
theorem dX0_debtor_14 : decode cX0_debtor 14 = .ok (.ireturn, 1) := dk_172 (dk_at dksX0_debtor_0 14 rfl rfl)
theorem dX0_debtor_15 : decode cX0_debtor 15 = .ok (.iconst 0, 1) := dk_3 (dk_at dksX0_debtor_0 15 rfl rfl)
theorem dX0_debtor_16 : decode cX0_debtor 16 = .ok (.ireturn, 1) := dk_172 (dk_at dksX0_debtor_0 16 rfl rfl)
abbrev cX0_creditor : ByteArray := method_13_code
def yX0_creditor : MethodName := ⟨RX0, "creditor", "(LClaimRegistry;I[J)I"⟩
def dkwX0_creditor_0 : List UInt8 := [44, 3, 42, 27, 182, 0, 50, 133, 80, 167, 0, 6, 78, 4, 172, 3, 172]
abbrev dktX0_creditor_0 : List UInt8 := dkwX0_creditor_0 ++ []
theorem dksX0_creditor_0 : cX0_creditor.data.toList.drop 0 = dktX0_creditor_0 := by decide +kernel
theorem dX0_creditor_0 : decode cX0_creditor 0 = .ok (.aload_n 2, 1) := dk_44 (dk_at dksX0_creditor_0 0 rfl rfl)
theorem dX0_creditor_1 : decode cX0_creditor 1 = .ok (.iconst 0, 1) := dk_3 (dk_at dksX0_creditor_0 1 rfl rfl)
theorem dX0_creditor_2 : decode cX0_creditor 2 = .ok (.aload_n 0, 1) := dk_42 (dk_at dksX0_creditor_0 2 rfl rfl)
theorem dX0_creditor_3 : decode cX0_creditor 3 = .ok (.iload_n 1, 1) := dk_27 (dk_at dksX0_creditor_0 3 rfl rfl)
theorem dX0_creditor_4 : decode cX0_creditor 4 = .ok (.invokevirtual 50, 3) := dk_182 0 50 (dk_at dksX0_creditor_0 4 rfl rfl)
theorem dX0_creditor_7 : decode cX0_creditor 7 = .ok (.i2l, 1) := dk_133 (dk_at dksX0_creditor_0 7 rfl rfl)
theorem dX0_creditor_8 : decode cX0_creditor 8 = .ok (.lastore, 1) := dk_80 (dk_at dksX0_creditor_0 8 rfl rfl)
theorem dX0_creditor_9 : decode cX0_creditor 9 = .ok (.goto 6, 3) := dk_167 0 6 (dk_at dksX0_creditor_0 9 rfl rfl)
theorem dX0_creditor_12 : decode cX0_creditor 12 = .ok (.astore_n 3, 1) := dk_78 (dk_at dksX0_creditor_0 12 rfl rfl)
theorem dX0_creditor_13 : decode cX0_creditor 13 = .ok (.iconst 1, 1) := dk_4 (dk_at dksX0_creditor_0 13 rfl rfl)
theorem dX0_creditor_14 : decode cX0_creditor 14 = .ok (.ireturn, 1) := dk_172 (dk_at dksX0_creditor_0 14 rfl rfl)
theorem dX0_creditor_15 : decode cX0_creditor 15 = .ok (.iconst 0, 1) := dk_3 (dk_at dksX0_creditor_0 15 rfl rfl)
theorem dX0_creditor_16 : decode cX0_creditor 16 = .ok (.ireturn, 1) := dk_172 (dk_at dksX0_creditor_0 16 rfl rfl)
abbrev cX0_weight : ByteArray := method_14_code
def yX0_weight : MethodName := ⟨RX0, "weight", "(LClaimRegistry;I[J)I"⟩
def dkwX0_weight_0 : List UInt8 := [44, 3, 42, 27, 182, 0, 53, 133, 80, 167, 0, 6, 78, 4, 172, 3, 172]
abbrev dktX0_weight_0 : List UInt8 := dkwX0_weight_0 ++ []
theorem dksX0_weight_0 : cX0_weight.data.toList.drop 0 = dktX0_weight_0 := by decide +kernel
theorem dX0_weight_0 : decode cX0_weight 0 = .ok (.aload_n 2, 1) := dk_44 (dk_at dksX0_weight_0 0 rfl rfl)
theorem dX0_weight_1 : decode cX0_weight 1 = .ok (.iconst 0, 1) := dk_3 (dk_at dksX0_weight_0 1 rfl rfl)
theorem dX0_weight_2 : decode cX0_weight 2 = .ok (.aload_n 0, 1) := dk_42 (dk_at dksX0_weight_0 2 rfl rfl)
theorem dX0_weight_3 : decode cX0_weight 3 = .ok (.iload_n 1, 1) := dk_27 (dk_at dksX0_weight_0 3 rfl rfl)
theorem dX0_weight_4 : decode cX0_weight 4 = .ok (.invokevirtual 53, 3) := dk_182 0 53 (dk_at dksX0_weight_0 4 rfl rfl)
theorem dX0_weight_7 : decode cX0_weight 7 = .ok (.i2l, 1) := dk_133 (dk_at dksX0_weight_0 7 rfl rfl)
theorem dX0_weight_8 : decode cX0_weight 8 = .ok (.lastore, 1) := dk_80 (dk_at dksX0_weight_0 8 rfl rfl)
theorem dX0_weight_9 : decode cX0_weight 9 = .ok (.goto 6, 3) := dk_167 0 6 (dk_at dksX0_weight_0 9 rfl rfl)
theorem dX0_weight_12 : decode cX0_weight 12 = .ok (.astore_n 3, 1) := dk_78 (dk_at dksX0_weight_0 12 rfl rfl)
theorem dX0_weight_13 : decode cX0_weight 13 = .ok (.iconst 1, 1) := dk_4 (dk_at dksX0_weight_0 13 rfl rfl)
theorem dX0_weight_14 : decode cX0_weight 14 = .ok (.ireturn, 1) := dk_172 (dk_at dksX0_weight_0 14 rfl rfl)
theorem dX0_weight_15 : decode cX0_weight 15 = .ok (.iconst 0, 1) := dk_3 (dk_at dksX0_weight_0 15 rfl rfl)
theorem dX0_weight_16 : decode cX0_weight 16 = .ok (.ireturn, 1) := dk_172 (dk_at dksX0_weight_0 16 rfl rfl)
abbrev cX0_expiry : ByteArray := method_15_code
def yX0_expiry : MethodName := ⟨RX0, "expiry", "(LClaimRegistry;I[J)I"⟩
def dkwX0_expiry_0 : List UInt8 := [44, 3, 42, 27, 182, 0, 56, 133, 80, 167, 0, 6, 78, 4, 172, 3, 172]
abbrev dktX0_expiry_0 : List UInt8 := dkwX0_expiry_0 ++ []
theorem dksX0_expiry_0 : cX0_expiry.data.toList.drop 0 = dktX0_expiry_0 := by decide +kernel
theorem dX0_expiry_0 : decode cX0_expiry 0 = .ok (.aload_n 2, 1) := dk_44 (dk_at dksX0_expiry_0 0 rfl rfl)
theorem dX0_expiry_1 : decode cX0_expiry 1 = .ok (.iconst 0, 1) := dk_3 (dk_at dksX0_expiry_0 1 rfl rfl)
theorem dX0_expiry_2 : decode cX0_expiry 2 = .ok (.aload_n 0, 1) := dk_42 (dk_at dksX0_expiry_0 2 rfl rfl)
theorem dX0_expiry_3 : decode cX0_expiry 3 = .ok (.iload_n 1, 1) := dk_27 (dk_at dksX0_expiry_0 3 rfl rfl)
theorem dX0_expiry_4 : decode cX0_expiry 4 = .ok (.invokevirtual 56, 3) := dk_182 0 56 (dk_at dksX0_expiry_0 4 rfl rfl)
theorem dX0_expiry_7 : decode cX0_expiry 7 = .ok (.i2l, 1) := dk_133 (dk_at dksX0_expiry_0 7 rfl rfl)
theorem dX0_expiry_8 : decode cX0_expiry 8 = .ok (.lastore, 1) := dk_80 (dk_at dksX0_expiry_0 8 rfl rfl)
theorem dX0_expiry_9 : decode cX0_expiry 9 = .ok (.goto 6, 3) := dk_167 0 6 (dk_at dksX0_expiry_0 9 rfl rfl)
theorem dX0_expiry_12 : decode cX0_expiry 12 = .ok (.astore_n 3, 1) := dk_78 (dk_at dksX0_expiry_0 12 rfl rfl)
theorem dX0_expiry_13 : decode cX0_expiry 13 = .ok (.iconst 1, 1) := dk_4 (dk_at dksX0_expiry_0 13 rfl rfl)
theorem dX0_expiry_14 : decode cX0_expiry 14 = .ok (.ireturn, 1) := dk_172 (dk_at dksX0_expiry_0 14 rfl rfl)
theorem dX0_expiry_15 : decode cX0_expiry 15 = .ok (.iconst 0, 1) := dk_3 (dk_at dksX0_expiry_0 15 rfl rfl)
theorem dX0_expiry_16 : decode cX0_expiry 16 = .ok (.ireturn, 1) := dk_172 (dk_at dksX0_expiry_0 16 rfl rfl)
abbrev cX0_strikes : ByteArray := method_16_code
def yX0_strikes : MethodName := ⟨RX0, "strikes", "(LClaimRegistry;I[J)I"⟩
def dkwX0_strikes_0 : List UInt8 := [44, 3, 42, 27, 182, 0, 59, 133, 80, 167, 0, 6, 78, 4, 172, 3, 172]
abbrev dktX0_strikes_0 : List UInt8 := dkwX0_strikes_0 ++ []
theorem dksX0_strikes_0 : cX0_strikes.data.toList.drop 0 = dktX0_strikes_0 := by decide +kernel
theorem dX0_strikes_0 : decode cX0_strikes 0 = .ok (.aload_n 2, 1) := dk_44 (dk_at dksX0_strikes_0 0 rfl rfl)
theorem dX0_strikes_1 : decode cX0_strikes 1 = .ok (.iconst 0, 1) := dk_3 (dk_at dksX0_strikes_0 1 rfl rfl)
theorem dX0_strikes_2 : decode cX0_strikes 2 = .ok (.aload_n 0, 1) := dk_42 (dk_at dksX0_strikes_0 2 rfl rfl)
theorem dX0_strikes_3 : decode cX0_strikes 3 = .ok (.iload_n 1, 1) := dk_27 (dk_at dksX0_strikes_0 3 rfl rfl)
theorem dX0_strikes_4 : decode cX0_strikes 4 = .ok (.invokevirtual 59, 3) := dk_182 0 59 (dk_at dksX0_strikes_0 4 rfl rfl)
theorem dX0_strikes_7 : decode cX0_strikes 7 = .ok (.i2l, 1) := dk_133 (dk_at dksX0_strikes_0 7 rfl rfl)
theorem dX0_strikes_8 : decode cX0_strikes 8 = .ok (.lastore, 1) := dk_80 (dk_at dksX0_strikes_0 8 rfl rfl)
theorem dX0_strikes_9 : decode cX0_strikes 9 = .ok (.goto 6, 3) := dk_167 0 6 (dk_at dksX0_strikes_0 9 rfl rfl)
theorem dX0_strikes_12 : decode cX0_strikes 12 = .ok (.astore_n 3, 1) := dk_78 (dk_at dksX0_strikes_0 12 rfl rfl)
theorem dX0_strikes_13 : decode cX0_strikes 13 = .ok (.iconst 1, 1) := dk_4 (dk_at dksX0_strikes_0 13 rfl rfl)
theorem dX0_strikes_14 : decode cX0_strikes 14 = .ok (.ireturn, 1) := dk_172 (dk_at dksX0_strikes_0 14 rfl rfl)
theorem dX0_strikes_15 : decode cX0_strikes 15 = .ok (.iconst 0, 1) := dk_3 (dk_at dksX0_strikes_0 15 rfl rfl)
theorem dX0_strikes_16 : decode cX0_strikes 16 = .ok (.ireturn, 1) := dk_172 (dk_at dksX0_strikes_0 16 rfl rfl)
abbrev cX0_isSigned : ByteArray := method_17_code
def yX0_isSigned : MethodName := ⟨RX0, "isSigned", "(LClaimRegistry;I[J)I"⟩
def dkwX0_isSigned_0 : List UInt8 := [44, 3, 42, 27, 182, 0, 62, 153, 0, 7, 10, 167, 0, 4, 9, 80, 167, 0, 6, 78, 4, 172, 3, 172]
abbrev dktX0_isSigned_0 : List UInt8 := dkwX0_isSigned_0 ++ []
theorem dksX0_isSigned_0 : cX0_isSigned.data.toList.drop 0 = dktX0_isSigned_0 := by decide +kernel
theorem dX0_isSigned_0 : decode cX0_isSigned 0 = .ok (.aload_n 2, 1) := dk_44 (dk_at dksX0_isSigned_0 0 rfl rfl)
theorem dX0_isSigned_1 : decode cX0_isSigned 1 = .ok (.iconst 0, 1) := dk_3 (dk_at dksX0_isSigned_0 1 rfl rfl)
theorem dX0_isSigned_2 : decode cX0_isSigned 2 = .ok (.aload_n 0, 1) := dk_42 (dk_at dksX0_isSigned_0 2 rfl rfl)
theorem dX0_isSigned_3 : decode cX0_isSigned 3 = .ok (.iload_n 1, 1) := dk_27 (dk_at dksX0_isSigned_0 3 rfl rfl)
theorem dX0_isSigned_4 : decode cX0_isSigned 4 = .ok (.invokevirtual 62, 3) := dk_182 0 62 (dk_at dksX0_isSigned_0 4 rfl rfl)
theorem dX0_isSigned_7 : decode cX0_isSigned 7 = .ok (.ifCond .eq 7, 3) := dk_153 0 7 (dk_at dksX0_isSigned_0 7 rfl rfl)
theorem dX0_isSigned_10 : decode cX0_isSigned 10 = .ok (.lconst 1, 1) := dk_10 (dk_at dksX0_isSigned_0 10 rfl rfl)
theorem dX0_isSigned_11 : decode cX0_isSigned 11 = .ok (.goto 4, 3) := dk_167 0 4 (dk_at dksX0_isSigned_0 11 rfl rfl)
theorem dX0_isSigned_14 : decode cX0_isSigned 14 = .ok (.lconst 0, 1) := dk_9 (dk_at dksX0_isSigned_0 14 rfl rfl)
theorem dX0_isSigned_15 : decode cX0_isSigned 15 = .ok (.lastore, 1) := dk_80 (dk_at dksX0_isSigned_0 15 rfl rfl)
theorem dX0_isSigned_16 : decode cX0_isSigned 16 = .ok (.goto 6, 3) := dk_167 0 6 (dk_at dksX0_isSigned_0 16 rfl rfl)
theorem dX0_isSigned_19 : decode cX0_isSigned 19 = .ok (.astore_n 3, 1) := dk_78 (dk_at dksX0_isSigned_0 19 rfl rfl)
theorem dX0_isSigned_20 : decode cX0_isSigned 20 = .ok (.iconst 1, 1) := dk_4 (dk_at dksX0_isSigned_0 20 rfl rfl)
theorem dX0_isSigned_21 : decode cX0_isSigned 21 = .ok (.ireturn, 1) := dk_172 (dk_at dksX0_isSigned_0 21 rfl rfl)
theorem dX0_isSigned_22 : decode cX0_isSigned 22 = .ok (.iconst 0, 1) := dk_3 (dk_at dksX0_isSigned_0 22 rfl rfl)
theorem dX0_isSigned_23 : decode cX0_isSigned 23 = .ok (.ireturn, 1) := dk_172 (dk_at dksX0_isSigned_0 23 rfl rfl)
abbrev cX0_isCountersigned : ByteArray := method_18_code
def yX0_isCountersigned : MethodName := ⟨RX0, "isCountersigned", "(LClaimRegistry;I[J)I"⟩
def dkwX0_isCountersigned_0 : List UInt8 := [44, 3, 42, 27, 182, 0, 66, 153, 0, 7, 10, 167, 0, 4, 9, 80, 167, 0, 6, 78, 4, 172, 3, 172]
abbrev dktX0_isCountersigned_0 : List UInt8 := dkwX0_isCountersigned_0 ++ []
theorem dksX0_isCountersigned_0 : cX0_isCountersigned.data.toList.drop 0 = dktX0_isCountersigned_0 := by decide +kernel
theorem dX0_isCountersigned_0 : decode cX0_isCountersigned 0 = .ok (.aload_n 2, 1) := dk_44 (dk_at dksX0_isCountersigned_0 0 rfl rfl)
theorem dX0_isCountersigned_1 : decode cX0_isCountersigned 1 = .ok (.iconst 0, 1) := dk_3 (dk_at dksX0_isCountersigned_0 1 rfl rfl)
theorem dX0_isCountersigned_2 : decode cX0_isCountersigned 2 = .ok (.aload_n 0, 1) := dk_42 (dk_at dksX0_isCountersigned_0 2 rfl rfl)
theorem dX0_isCountersigned_3 : decode cX0_isCountersigned 3 = .ok (.iload_n 1, 1) := dk_27 (dk_at dksX0_isCountersigned_0 3 rfl rfl)
theorem dX0_isCountersigned_4 : decode cX0_isCountersigned 4 = .ok (.invokevirtual 66, 3) := dk_182 0 66 (dk_at dksX0_isCountersigned_0 4 rfl rfl)
theorem dX0_isCountersigned_7 : decode cX0_isCountersigned 7 = .ok (.ifCond .eq 7, 3) := dk_153 0 7 (dk_at dksX0_isCountersigned_0 7 rfl rfl)
theorem dX0_isCountersigned_10 : decode cX0_isCountersigned 10 = .ok (.lconst 1, 1) := dk_10 (dk_at dksX0_isCountersigned_0 10 rfl rfl)
theorem dX0_isCountersigned_11 : decode cX0_isCountersigned 11 = .ok (.goto 4, 3) := dk_167 0 4 (dk_at dksX0_isCountersigned_0 11 rfl rfl)
theorem dX0_isCountersigned_14 : decode cX0_isCountersigned 14 = .ok (.lconst 0, 1) := dk_9 (dk_at dksX0_isCountersigned_0 14 rfl rfl)
theorem dX0_isCountersigned_15 : decode cX0_isCountersigned 15 = .ok (.lastore, 1) := dk_80 (dk_at dksX0_isCountersigned_0 15 rfl rfl)
theorem dX0_isCountersigned_16 : decode cX0_isCountersigned 16 = .ok (.goto 6, 3) := dk_167 0 6 (dk_at dksX0_isCountersigned_0 16 rfl rfl)
theorem dX0_isCountersigned_19 : decode cX0_isCountersigned 19 = .ok (.astore_n 3, 1) := dk_78 (dk_at dksX0_isCountersigned_0 19 rfl rfl)
theorem dX0_isCountersigned_20 : decode cX0_isCountersigned 20 = .ok (.iconst 1, 1) := dk_4 (dk_at dksX0_isCountersigned_0 20 rfl rfl)
theorem dX0_isCountersigned_21 : decode cX0_isCountersigned 21 = .ok (.ireturn, 1) := dk_172 (dk_at dksX0_isCountersigned_0 21 rfl rfl)
theorem dX0_isCountersigned_22 : decode cX0_isCountersigned 22 = .ok (.iconst 0, 1) := dk_3 (dk_at dksX0_isCountersigned_0 22 rfl rfl)
theorem dX0_isCountersigned_23 : decode cX0_isCountersigned 23 = .ok (.ireturn, 1) := dk_172 (dk_at dksX0_isCountersigned_0 23 rfl rfl)
abbrev cX0_signer : ByteArray := method_19_code
def yX0_signer : MethodName := ⟨RX0, "signer", "(LClaimRegistry;I[J)I"⟩
def dkwX0_signer_0 : List UInt8 := [44, 3, 42, 27, 182, 0, 69, 133, 80, 167, 0, 9, 78, 4, 172, 78, 5, 172, 3, 172]
abbrev dktX0_signer_0 : List UInt8 := dkwX0_signer_0 ++ []
theorem dksX0_signer_0 : cX0_signer.data.toList.drop 0 = dktX0_signer_0 := by decide +kernel
theorem dX0_signer_0 : decode cX0_signer 0 = .ok (.aload_n 2, 1) := dk_44 (dk_at dksX0_signer_0 0 rfl rfl)
theorem dX0_signer_1 : decode cX0_signer 1 = .ok (.iconst 0, 1) := dk_3 (dk_at dksX0_signer_0 1 rfl rfl)
theorem dX0_signer_2 : decode cX0_signer 2 = .ok (.aload_n 0, 1) := dk_42 (dk_at dksX0_signer_0 2 rfl rfl)
theorem dX0_signer_3 : decode cX0_signer 3 = .ok (.iload_n 1, 1) := dk_27 (dk_at dksX0_signer_0 3 rfl rfl)
theorem dX0_signer_4 : decode cX0_signer 4 = .ok (.invokevirtual 69, 3) := dk_182 0 69 (dk_at dksX0_signer_0 4 rfl rfl)
theorem dX0_signer_7 : decode cX0_signer 7 = .ok (.i2l, 1) := dk_133 (dk_at dksX0_signer_0 7 rfl rfl)
theorem dX0_signer_8 : decode cX0_signer 8 = .ok (.lastore, 1) := dk_80 (dk_at dksX0_signer_0 8 rfl rfl)
theorem dX0_signer_9 : decode cX0_signer 9 = .ok (.goto 9, 3) := dk_167 0 9 (dk_at dksX0_signer_0 9 rfl rfl)
theorem dX0_signer_12 : decode cX0_signer 12 = .ok (.astore_n 3, 1) := dk_78 (dk_at dksX0_signer_0 12 rfl rfl)
theorem dX0_signer_13 : decode cX0_signer 13 = .ok (.iconst 1, 1) := dk_4 (dk_at dksX0_signer_0 13 rfl rfl)
theorem dX0_signer_14 : decode cX0_signer 14 = .ok (.ireturn, 1) := dk_172 (dk_at dksX0_signer_0 14 rfl rfl)
theorem dX0_signer_15 : decode cX0_signer 15 = .ok (.astore_n 3, 1) := dk_78 (dk_at dksX0_signer_0 15 rfl rfl)
theorem dX0_signer_16 : decode cX0_signer 16 = .ok (.iconst 2, 1) := dk_5 (dk_at dksX0_signer_0 16 rfl rfl)
theorem dX0_signer_17 : decode cX0_signer 17 = .ok (.ireturn, 1) := dk_172 (dk_at dksX0_signer_0 17 rfl rfl)
theorem dX0_signer_18 : decode cX0_signer 18 = .ok (.iconst 0, 1) := dk_3 (dk_at dksX0_signer_0 18 rfl rfl)
theorem dX0_signer_19 : decode cX0_signer 19 = .ok (.ireturn, 1) := dk_172 (dk_at dksX0_signer_0 19 rfl rfl)
abbrev cX0_countersigner : ByteArray := method_20_code
def yX0_countersigner : MethodName := ⟨RX0, "countersigner", "(LClaimRegistry;I[J)I"⟩
def dkwX0_countersigner_0 : List UInt8 := [44, 3, 42, 27, 182, 0, 72, 133, 80, 167, 0, 9, 78, 4, 172, 78, 5, 172, 3, 172]
abbrev dktX0_countersigner_0 : List UInt8 := dkwX0_countersigner_0 ++ []
theorem dksX0_countersigner_0 : cX0_countersigner.data.toList.drop 0 = dktX0_countersigner_0 := by decide +kernel
theorem dX0_countersigner_0 : decode cX0_countersigner 0 = .ok (.aload_n 2, 1) := dk_44 (dk_at dksX0_countersigner_0 0 rfl rfl)
theorem dX0_countersigner_1 : decode cX0_countersigner 1 = .ok (.iconst 0, 1) := dk_3 (dk_at dksX0_countersigner_0 1 rfl rfl)
theorem dX0_countersigner_2 : decode cX0_countersigner 2 = .ok (.aload_n 0, 1) := dk_42 (dk_at dksX0_countersigner_0 2 rfl rfl)
theorem dX0_countersigner_3 : decode cX0_countersigner 3 = .ok (.iload_n 1, 1) := dk_27 (dk_at dksX0_countersigner_0 3 rfl rfl)
theorem dX0_countersigner_4 : decode cX0_countersigner 4 = .ok (.invokevirtual 72, 3) := dk_182 0 72 (dk_at dksX0_countersigner_0 4 rfl rfl)
theorem dX0_countersigner_7 : decode cX0_countersigner 7 = .ok (.i2l, 1) := dk_133 (dk_at dksX0_countersigner_0 7 rfl rfl)
theorem dX0_countersigner_8 : decode cX0_countersigner 8 = .ok (.lastore, 1) := dk_80 (dk_at dksX0_countersigner_0 8 rfl rfl)
theorem dX0_countersigner_9 : decode cX0_countersigner 9 = .ok (.goto 9, 3) := dk_167 0 9 (dk_at dksX0_countersigner_0 9 rfl rfl)
theorem dX0_countersigner_12 : decode cX0_countersigner 12 = .ok (.astore_n 3, 1) := dk_78 (dk_at dksX0_countersigner_0 12 rfl rfl)
theorem dX0_countersigner_13 : decode cX0_countersigner 13 = .ok (.iconst 1, 1) := dk_4 (dk_at dksX0_countersigner_0 13 rfl rfl)
theorem dX0_countersigner_14 : decode cX0_countersigner 14 = .ok (.ireturn, 1) := dk_172 (dk_at dksX0_countersigner_0 14 rfl rfl)
theorem dX0_countersigner_15 : decode cX0_countersigner 15 = .ok (.astore_n 3, 1) := dk_78 (dk_at dksX0_countersigner_0 15 rfl rfl)
theorem dX0_countersigner_16 : decode cX0_countersigner 16 = .ok (.iconst 2, 1) := dk_5 (dk_at dksX0_countersigner_0 16 rfl rfl)
theorem dX0_countersigner_17 : decode cX0_countersigner 17 = .ok (.ireturn, 1) := dk_172 (dk_at dksX0_countersigner_0 17 rfl rfl)
theorem dX0_countersigner_18 : decode cX0_countersigner 18 = .ok (.iconst 0, 1) := dk_3 (dk_at dksX0_countersigner_0 18 rfl rfl)
theorem dX0_countersigner_19 : decode cX0_countersigner 19 = .ok (.ireturn, 1) := dk_172 (dk_at dksX0_countersigner_0 19 rfl rfl)
abbrev cX0_signaturesOf : ByteArray := method_21_code
def yX0_signaturesOf : MethodName := ⟨RX0, "signaturesOf", "(LClaimRegistry;I[J)I"⟩
def dkwX0_signaturesOf_0 : List UInt8 := [44, 3, 42, 27, 182, 0, 75, 133, 80, 167, 0, 6, 78, 4, 172, 3, 172]
abbrev dktX0_signaturesOf_0 : List UInt8 := dkwX0_signaturesOf_0 ++ []
theorem dksX0_signaturesOf_0 : cX0_signaturesOf.data.toList.drop 0 = dktX0_signaturesOf_0 := by decide +kernel
theorem dX0_signaturesOf_0 : decode cX0_signaturesOf 0 = .ok (.aload_n 2, 1) := dk_44 (dk_at dksX0_signaturesOf_0 0 rfl rfl)
theorem dX0_signaturesOf_1 : decode cX0_signaturesOf 1 = .ok (.iconst 0, 1) := dk_3 (dk_at dksX0_signaturesOf_0 1 rfl rfl)
theorem dX0_signaturesOf_2 : decode cX0_signaturesOf 2 = .ok (.aload_n 0, 1) := dk_42 (dk_at dksX0_signaturesOf_0 2 rfl rfl)
theorem dX0_signaturesOf_3 : decode cX0_signaturesOf 3 = .ok (.iload_n 1, 1) := dk_27 (dk_at dksX0_signaturesOf_0 3 rfl rfl)
theorem dX0_signaturesOf_4 : decode cX0_signaturesOf 4 = .ok (.invokevirtual 75, 3) := dk_182 0 75 (dk_at dksX0_signaturesOf_0 4 rfl rfl)
theorem dX0_signaturesOf_7 : decode cX0_signaturesOf 7 = .ok (.i2l, 1) := dk_133 (dk_at dksX0_signaturesOf_0 7 rfl rfl)
theorem dX0_signaturesOf_8 : decode cX0_signaturesOf 8 = .ok (.lastore, 1) := dk_80 (dk_at dksX0_signaturesOf_0 8 rfl rfl)
theorem dX0_signaturesOf_9 : decode cX0_signaturesOf 9 = .ok (.goto 6, 3) := dk_167 0 6 (dk_at dksX0_signaturesOf_0 9 rfl rfl)
theorem dX0_signaturesOf_12 : decode cX0_signaturesOf 12 = .ok (.astore_n 3, 1) := dk_78 (dk_at dksX0_signaturesOf_0 12 rfl rfl)
theorem dX0_signaturesOf_13 : decode cX0_signaturesOf 13 = .ok (.iconst 1, 1) := dk_4 (dk_at dksX0_signaturesOf_0 13 rfl rfl)
theorem dX0_signaturesOf_14 : decode cX0_signaturesOf 14 = .ok (.ireturn, 1) := dk_172 (dk_at dksX0_signaturesOf_0 14 rfl rfl)
theorem dX0_signaturesOf_15 : decode cX0_signaturesOf 15 = .ok (.iconst 0, 1) := dk_3 (dk_at dksX0_signaturesOf_0 15 rfl rfl)
theorem dX0_signaturesOf_16 : decode cX0_signaturesOf 16 = .ok (.ireturn, 1) := dk_172 (dk_at dksX0_signaturesOf_0 16 rfl rfl)
abbrev cX0_countersignaturesOf : ByteArray := method_22_code
def yX0_countersignaturesOf : MethodName := ⟨RX0, "countersignaturesOf", "(LClaimRegistry;I[J)I"⟩
def dkwX0_countersignaturesOf_0 : List UInt8 := [44, 3, 42, 27, 182, 0, 78, 133, 80, 167, 0, 6, 78, 4, 172, 3, 172]
abbrev dktX0_countersignaturesOf_0 : List UInt8 := dkwX0_countersignaturesOf_0 ++ []
theorem dksX0_countersignaturesOf_0 : cX0_countersignaturesOf.data.toList.drop 0 = dktX0_countersignaturesOf_0 := by decide +kernel
theorem dX0_countersignaturesOf_0 : decode cX0_countersignaturesOf 0 = .ok (.aload_n 2, 1) := dk_44 (dk_at dksX0_countersignaturesOf_0 0 rfl rfl)
theorem dX0_countersignaturesOf_1 : decode cX0_countersignaturesOf 1 = .ok (.iconst 0, 1) := dk_3 (dk_at dksX0_countersignaturesOf_0 1 rfl rfl)
theorem dX0_countersignaturesOf_2 : decode cX0_countersignaturesOf 2 = .ok (.aload_n 0, 1) := dk_42 (dk_at dksX0_countersignaturesOf_0 2 rfl rfl)
theorem dX0_countersignaturesOf_3 : decode cX0_countersignaturesOf 3 = .ok (.iload_n 1, 1) := dk_27 (dk_at dksX0_countersignaturesOf_0 3 rfl rfl)
theorem dX0_countersignaturesOf_4 : decode cX0_countersignaturesOf 4 = .ok (.invokevirtual 78, 3) := dk_182 0 78 (dk_at dksX0_countersignaturesOf_0 4 rfl rfl)
theorem dX0_countersignaturesOf_7 : decode cX0_countersignaturesOf 7 = .ok (.i2l, 1) := dk_133 (dk_at dksX0_countersignaturesOf_0 7 rfl rfl)
theorem dX0_countersignaturesOf_8 : decode cX0_countersignaturesOf 8 = .ok (.lastore, 1) := dk_80 (dk_at dksX0_countersignaturesOf_0 8 rfl rfl)
theorem dX0_countersignaturesOf_9 : decode cX0_countersignaturesOf 9 = .ok (.goto 6, 3) := dk_167 0 6 (dk_at dksX0_countersignaturesOf_0 9 rfl rfl)
theorem dX0_countersignaturesOf_12 : decode cX0_countersignaturesOf 12 = .ok (.astore_n 3, 1) := dk_78 (dk_at dksX0_countersignaturesOf_0 12 rfl rfl)
theorem dX0_countersignaturesOf_13 : decode cX0_countersignaturesOf 13 = .ok (.iconst 1, 1) := dk_4 (dk_at dksX0_countersignaturesOf_0 13 rfl rfl)
theorem dX0_countersignaturesOf_14 : decode cX0_countersignaturesOf 14 = .ok (.ireturn, 1) := dk_172 (dk_at dksX0_countersignaturesOf_0 14 rfl rfl)
theorem dX0_countersignaturesOf_15 : decode cX0_countersignaturesOf 15 = .ok (.iconst 0, 1) := dk_3 (dk_at dksX0_countersignaturesOf_0 15 rfl rfl)
theorem dX0_countersignaturesOf_16 : decode cX0_countersignaturesOf 16 = .ok (.ireturn, 1) := dk_172 (dk_at dksX0_countersignaturesOf_0 16 rfl rfl)
abbrev cX0_owedBy : ByteArray := method_23_code
def yX0_owedBy : MethodName := ⟨RX0, "owedBy", "(LClaimRegistry;I[J)I"⟩
def dkwX0_owedBy_0 : List UInt8 := [44, 3, 42, 27, 182, 0, 81, 133, 80, 167, 0, 6, 78, 4, 172, 3, 172]
abbrev dktX0_owedBy_0 : List UInt8 := dkwX0_owedBy_0 ++ []
theorem dksX0_owedBy_0 : cX0_owedBy.data.toList.drop 0 = dktX0_owedBy_0 := by decide +kernel
theorem dX0_owedBy_0 : decode cX0_owedBy 0 = .ok (.aload_n 2, 1) := dk_44 (dk_at dksX0_owedBy_0 0 rfl rfl)
theorem dX0_owedBy_1 : decode cX0_owedBy 1 = .ok (.iconst 0, 1) := dk_3 (dk_at dksX0_owedBy_0 1 rfl rfl)
theorem dX0_owedBy_2 : decode cX0_owedBy 2 = .ok (.aload_n 0, 1) := dk_42 (dk_at dksX0_owedBy_0 2 rfl rfl)
theorem dX0_owedBy_3 : decode cX0_owedBy 3 = .ok (.iload_n 1, 1) := dk_27 (dk_at dksX0_owedBy_0 3 rfl rfl)
theorem dX0_owedBy_4 : decode cX0_owedBy 4 = .ok (.invokevirtual 81, 3) := dk_182 0 81 (dk_at dksX0_owedBy_0 4 rfl rfl)
theorem dX0_owedBy_7 : decode cX0_owedBy 7 = .ok (.i2l, 1) := dk_133 (dk_at dksX0_owedBy_0 7 rfl rfl)
theorem dX0_owedBy_8 : decode cX0_owedBy 8 = .ok (.lastore, 1) := dk_80 (dk_at dksX0_owedBy_0 8 rfl rfl)
theorem dX0_owedBy_9 : decode cX0_owedBy 9 = .ok (.goto 6, 3) := dk_167 0 6 (dk_at dksX0_owedBy_0 9 rfl rfl)
theorem dX0_owedBy_12 : decode cX0_owedBy 12 = .ok (.astore_n 3, 1) := dk_78 (dk_at dksX0_owedBy_0 12 rfl rfl)
theorem dX0_owedBy_13 : decode cX0_owedBy 13 = .ok (.iconst 1, 1) := dk_4 (dk_at dksX0_owedBy_0 13 rfl rfl)
theorem dX0_owedBy_14 : decode cX0_owedBy 14 = .ok (.ireturn, 1) := dk_172 (dk_at dksX0_owedBy_0 14 rfl rfl)
theorem dX0_owedBy_15 : decode cX0_owedBy 15 = .ok (.iconst 0, 1) := dk_3 (dk_at dksX0_owedBy_0 15 rfl rfl)
theorem dX0_owedBy_16 : decode cX0_owedBy 16 = .ok (.ireturn, 1) := dk_172 (dk_at dksX0_owedBy_0 16 rfl rfl)
abbrev cX0_owedTo : ByteArray := method_24_code
def yX0_owedTo : MethodName := ⟨RX0, "owedTo", "(LClaimRegistry;I[J)I"⟩
def dkwX0_owedTo_0 : List UInt8 := [44, 3, 42, 27, 182, 0, 84, 133, 80, 167, 0, 6, 78, 4, 172, 3, 172]
abbrev dktX0_owedTo_0 : List UInt8 := dkwX0_owedTo_0 ++ []
theorem dksX0_owedTo_0 : cX0_owedTo.data.toList.drop 0 = dktX0_owedTo_0 := by decide +kernel
theorem dX0_owedTo_0 : decode cX0_owedTo 0 = .ok (.aload_n 2, 1) := dk_44 (dk_at dksX0_owedTo_0 0 rfl rfl)
theorem dX0_owedTo_1 : decode cX0_owedTo 1 = .ok (.iconst 0, 1) := dk_3 (dk_at dksX0_owedTo_0 1 rfl rfl)
theorem dX0_owedTo_2 : decode cX0_owedTo 2 = .ok (.aload_n 0, 1) := dk_42 (dk_at dksX0_owedTo_0 2 rfl rfl)
theorem dX0_owedTo_3 : decode cX0_owedTo 3 = .ok (.iload_n 1, 1) := dk_27 (dk_at dksX0_owedTo_0 3 rfl rfl)
theorem dX0_owedTo_4 : decode cX0_owedTo 4 = .ok (.invokevirtual 84, 3) := dk_182 0 84 (dk_at dksX0_owedTo_0 4 rfl rfl)
theorem dX0_owedTo_7 : decode cX0_owedTo 7 = .ok (.i2l, 1) := dk_133 (dk_at dksX0_owedTo_0 7 rfl rfl)
theorem dX0_owedTo_8 : decode cX0_owedTo 8 = .ok (.lastore, 1) := dk_80 (dk_at dksX0_owedTo_0 8 rfl rfl)
theorem dX0_owedTo_9 : decode cX0_owedTo 9 = .ok (.goto 6, 3) := dk_167 0 6 (dk_at dksX0_owedTo_0 9 rfl rfl)
theorem dX0_owedTo_12 : decode cX0_owedTo 12 = .ok (.astore_n 3, 1) := dk_78 (dk_at dksX0_owedTo_0 12 rfl rfl)
theorem dX0_owedTo_13 : decode cX0_owedTo 13 = .ok (.iconst 1, 1) := dk_4 (dk_at dksX0_owedTo_0 13 rfl rfl)
theorem dX0_owedTo_14 : decode cX0_owedTo 14 = .ok (.ireturn, 1) := dk_172 (dk_at dksX0_owedTo_0 14 rfl rfl)
theorem dX0_owedTo_15 : decode cX0_owedTo 15 = .ok (.iconst 0, 1) := dk_3 (dk_at dksX0_owedTo_0 15 rfl rfl)
theorem dX0_owedTo_16 : decode cX0_owedTo 16 = .ok (.ireturn, 1) := dk_172 (dk_at dksX0_owedTo_0 16 rfl rfl)
abbrev cX0_balance : ByteArray := method_25_code
def yX0_balance : MethodName := ⟨RX0, "balance", "(LClaimRegistry;I[J)I"⟩
def dkwX0_balance_0 : List UInt8 := [44, 3, 42, 27, 182, 0, 87, 133, 80, 167, 0, 6, 78, 4, 172, 3, 172]
abbrev dktX0_balance_0 : List UInt8 := dkwX0_balance_0 ++ []
theorem dksX0_balance_0 : cX0_balance.data.toList.drop 0 = dktX0_balance_0 := by decide +kernel
theorem dX0_balance_0 : decode cX0_balance 0 = .ok (.aload_n 2, 1) := dk_44 (dk_at dksX0_balance_0 0 rfl rfl)
theorem dX0_balance_1 : decode cX0_balance 1 = .ok (.iconst 0, 1) := dk_3 (dk_at dksX0_balance_0 1 rfl rfl)
theorem dX0_balance_2 : decode cX0_balance 2 = .ok (.aload_n 0, 1) := dk_42 (dk_at dksX0_balance_0 2 rfl rfl)
theorem dX0_balance_3 : decode cX0_balance 3 = .ok (.iload_n 1, 1) := dk_27 (dk_at dksX0_balance_0 3 rfl rfl)
theorem dX0_balance_4 : decode cX0_balance 4 = .ok (.invokevirtual 87, 3) := dk_182 0 87 (dk_at dksX0_balance_0 4 rfl rfl)
theorem dX0_balance_7 : decode cX0_balance 7 = .ok (.i2l, 1) := dk_133 (dk_at dksX0_balance_0 7 rfl rfl)
theorem dX0_balance_8 : decode cX0_balance 8 = .ok (.lastore, 1) := dk_80 (dk_at dksX0_balance_0 8 rfl rfl)
theorem dX0_balance_9 : decode cX0_balance 9 = .ok (.goto 6, 3) := dk_167 0 6 (dk_at dksX0_balance_0 9 rfl rfl)
theorem dX0_balance_12 : decode cX0_balance 12 = .ok (.astore_n 3, 1) := dk_78 (dk_at dksX0_balance_0 12 rfl rfl)
theorem dX0_balance_13 : decode cX0_balance 13 = .ok (.iconst 1, 1) := dk_4 (dk_at dksX0_balance_0 13 rfl rfl)
theorem dX0_balance_14 : decode cX0_balance 14 = .ok (.ireturn, 1) := dk_172 (dk_at dksX0_balance_0 14 rfl rfl)
theorem dX0_balance_15 : decode cX0_balance 15 = .ok (.iconst 0, 1) := dk_3 (dk_at dksX0_balance_0 15 rfl rfl)
theorem dX0_balance_16 : decode cX0_balance 16 = .ok (.ireturn, 1) := dk_172 (dk_at dksX0_balance_0 16 rfl rfl)
abbrev cX0_mostIndebted : ByteArray := method_26_code
def yX0_mostIndebted : MethodName := ⟨RX0, "mostIndebted", "(LClaimRegistry;[J)I"⟩
def dkwX0_mostIndebted_0 : List UInt8 := [43, 3, 42, 182, 0, 90, 133, 80, 167, 0, 6, 77, 4, 172, 3, 172]
abbrev dktX0_mostIndebted_0 : List UInt8 := dkwX0_mostIndebted_0 ++ []
theorem dksX0_mostIndebted_0 : cX0_mostIndebted.data.toList.drop 0 = dktX0_mostIndebted_0 := by decide +kernel
theorem dX0_mostIndebted_0 : decode cX0_mostIndebted 0 = .ok (.aload_n 1, 1) := dk_43 (dk_at dksX0_mostIndebted_0 0 rfl rfl)
theorem dX0_mostIndebted_1 : decode cX0_mostIndebted 1 = .ok (.iconst 0, 1) := dk_3 (dk_at dksX0_mostIndebted_0 1 rfl rfl)
theorem dX0_mostIndebted_2 : decode cX0_mostIndebted 2 = .ok (.aload_n 0, 1) := dk_42 (dk_at dksX0_mostIndebted_0 2 rfl rfl)
theorem dX0_mostIndebted_3 : decode cX0_mostIndebted 3 = .ok (.invokevirtual 90, 3) := dk_182 0 90 (dk_at dksX0_mostIndebted_0 3 rfl rfl)
theorem dX0_mostIndebted_6 : decode cX0_mostIndebted 6 = .ok (.i2l, 1) := dk_133 (dk_at dksX0_mostIndebted_0 6 rfl rfl)
theorem dX0_mostIndebted_7 : decode cX0_mostIndebted 7 = .ok (.lastore, 1) := dk_80 (dk_at dksX0_mostIndebted_0 7 rfl rfl)
theorem dX0_mostIndebted_8 : decode cX0_mostIndebted 8 = .ok (.goto 6, 3) := dk_167 0 6 (dk_at dksX0_mostIndebted_0 8 rfl rfl)
theorem dX0_mostIndebted_11 : decode cX0_mostIndebted 11 = .ok (.astore_n 2, 1) := dk_77 (dk_at dksX0_mostIndebted_0 11 rfl rfl)
theorem dX0_mostIndebted_12 : decode cX0_mostIndebted 12 = .ok (.iconst 1, 1) := dk_4 (dk_at dksX0_mostIndebted_0 12 rfl rfl)
theorem dX0_mostIndebted_13 : decode cX0_mostIndebted 13 = .ok (.ireturn, 1) := dk_172 (dk_at dksX0_mostIndebted_0 13 rfl rfl)
theorem dX0_mostIndebted_14 : decode cX0_mostIndebted 14 = .ok (.iconst 0, 1) := dk_3 (dk_at dksX0_mostIndebted_0 14 rfl rfl)
theorem dX0_mostIndebted_15 : decode cX0_mostIndebted 15 = .ok (.ireturn, 1) := dk_172 (dk_at dksX0_mostIndebted_0 15 rfl rfl)
abbrev cX0_heaviest : ByteArray := method_27_code
def yX0_heaviest : MethodName := ⟨RX0, "heaviest", "(LClaimRegistry;[J)I"⟩
def dkwX0_heaviest_0 : List UInt8 := [43, 3, 42, 182, 0, 94, 133, 80, 167, 0, 6, 77, 4, 172, 3, 172]
abbrev dktX0_heaviest_0 : List UInt8 := dkwX0_heaviest_0 ++ []
theorem dksX0_heaviest_0 : cX0_heaviest.data.toList.drop 0 = dktX0_heaviest_0 := by decide +kernel
theorem dX0_heaviest_0 : decode cX0_heaviest 0 = .ok (.aload_n 1, 1) := dk_43 (dk_at dksX0_heaviest_0 0 rfl rfl)
theorem dX0_heaviest_1 : decode cX0_heaviest 1 = .ok (.iconst 0, 1) := dk_3 (dk_at dksX0_heaviest_0 1 rfl rfl)
theorem dX0_heaviest_2 : decode cX0_heaviest 2 = .ok (.aload_n 0, 1) := dk_42 (dk_at dksX0_heaviest_0 2 rfl rfl)
theorem dX0_heaviest_3 : decode cX0_heaviest 3 = .ok (.invokevirtual 94, 3) := dk_182 0 94 (dk_at dksX0_heaviest_0 3 rfl rfl)
theorem dX0_heaviest_6 : decode cX0_heaviest 6 = .ok (.i2l, 1) := dk_133 (dk_at dksX0_heaviest_0 6 rfl rfl)
theorem dX0_heaviest_7 : decode cX0_heaviest 7 = .ok (.lastore, 1) := dk_80 (dk_at dksX0_heaviest_0 7 rfl rfl)
theorem dX0_heaviest_8 : decode cX0_heaviest 8 = .ok (.goto 6, 3) := dk_167 0 6 (dk_at dksX0_heaviest_0 8 rfl rfl)
theorem dX0_heaviest_11 : decode cX0_heaviest 11 = .ok (.astore_n 2, 1) := dk_77 (dk_at dksX0_heaviest_0 11 rfl rfl)
theorem dX0_heaviest_12 : decode cX0_heaviest 12 = .ok (.iconst 1, 1) := dk_4 (dk_at dksX0_heaviest_0 12 rfl rfl)
theorem dX0_heaviest_13 : decode cX0_heaviest 13 = .ok (.ireturn, 1) := dk_172 (dk_at dksX0_heaviest_0 13 rfl rfl)
theorem dX0_heaviest_14 : decode cX0_heaviest 14 = .ok (.iconst 0, 1) := dk_3 (dk_at dksX0_heaviest_0 14 rfl rfl)
theorem dX0_heaviest_15 : decode cX0_heaviest 15 = .ok (.ireturn, 1) := dk_172 (dk_at dksX0_heaviest_0 15 rfl rfl)
abbrev cX0_nextExpiry : ByteArray := method_28_code
def yX0_nextExpiry : MethodName := ⟨RX0, "nextExpiry", "(LClaimRegistry;[J)I"⟩
def dkwX0_nextExpiry_0 : List UInt8 := [43, 3, 42, 182, 0, 97, 133, 80, 167, 0, 6, 77, 4, 172, 3, 172]
abbrev dktX0_nextExpiry_0 : List UInt8 := dkwX0_nextExpiry_0 ++ []
theorem dksX0_nextExpiry_0 : cX0_nextExpiry.data.toList.drop 0 = dktX0_nextExpiry_0 := by decide +kernel
theorem dX0_nextExpiry_0 : decode cX0_nextExpiry 0 = .ok (.aload_n 1, 1) := dk_43 (dk_at dksX0_nextExpiry_0 0 rfl rfl)
theorem dX0_nextExpiry_1 : decode cX0_nextExpiry 1 = .ok (.iconst 0, 1) := dk_3 (dk_at dksX0_nextExpiry_0 1 rfl rfl)
theorem dX0_nextExpiry_2 : decode cX0_nextExpiry 2 = .ok (.aload_n 0, 1) := dk_42 (dk_at dksX0_nextExpiry_0 2 rfl rfl)
theorem dX0_nextExpiry_3 : decode cX0_nextExpiry 3 = .ok (.invokevirtual 97, 3) := dk_182 0 97 (dk_at dksX0_nextExpiry_0 3 rfl rfl)
theorem dX0_nextExpiry_6 : decode cX0_nextExpiry 6 = .ok (.i2l, 1) := dk_133 (dk_at dksX0_nextExpiry_0 6 rfl rfl)
theorem dX0_nextExpiry_7 : decode cX0_nextExpiry 7 = .ok (.lastore, 1) := dk_80 (dk_at dksX0_nextExpiry_0 7 rfl rfl)
theorem dX0_nextExpiry_8 : decode cX0_nextExpiry 8 = .ok (.goto 6, 3) := dk_167 0 6 (dk_at dksX0_nextExpiry_0 8 rfl rfl)
theorem dX0_nextExpiry_11 : decode cX0_nextExpiry 11 = .ok (.astore_n 2, 1) := dk_77 (dk_at dksX0_nextExpiry_0 11 rfl rfl)
theorem dX0_nextExpiry_12 : decode cX0_nextExpiry 12 = .ok (.iconst 1, 1) := dk_4 (dk_at dksX0_nextExpiry_0 12 rfl rfl)
theorem dX0_nextExpiry_13 : decode cX0_nextExpiry 13 = .ok (.ireturn, 1) := dk_172 (dk_at dksX0_nextExpiry_0 13 rfl rfl)
theorem dX0_nextExpiry_14 : decode cX0_nextExpiry 14 = .ok (.iconst 0, 1) := dk_3 (dk_at dksX0_nextExpiry_0 14 rfl rfl)
theorem dX0_nextExpiry_15 : decode cX0_nextExpiry 15 = .ok (.ireturn, 1) := dk_172 (dk_at dksX0_nextExpiry_0 15 rfl rfl)
abbrev cX0_nextToAudit : ByteArray := method_29_code
def yX0_nextToAudit : MethodName := ⟨RX0, "nextToAudit", "(LClaimRegistry;[J)I"⟩
def dkwX0_nextToAudit_0 : List UInt8 := [43, 3, 42, 182, 0, 100, 133, 80, 167, 0, 6, 77, 4, 172, 3, 172]
abbrev dktX0_nextToAudit_0 : List UInt8 := dkwX0_nextToAudit_0 ++ []
theorem dksX0_nextToAudit_0 : cX0_nextToAudit.data.toList.drop 0 = dktX0_nextToAudit_0 := by decide +kernel
theorem dX0_nextToAudit_0 : decode cX0_nextToAudit 0 = .ok (.aload_n 1, 1) := dk_43 (dk_at dksX0_nextToAudit_0 0 rfl rfl)
theorem dX0_nextToAudit_1 : decode cX0_nextToAudit 1 = .ok (.iconst 0, 1) := dk_3 (dk_at dksX0_nextToAudit_0 1 rfl rfl)
theorem dX0_nextToAudit_2 : decode cX0_nextToAudit 2 = .ok (.aload_n 0, 1) := dk_42 (dk_at dksX0_nextToAudit_0 2 rfl rfl)
theorem dX0_nextToAudit_3 : decode cX0_nextToAudit 3 = .ok (.invokevirtual 100, 3) := dk_182 0 100 (dk_at dksX0_nextToAudit_0 3 rfl rfl)
theorem dX0_nextToAudit_6 : decode cX0_nextToAudit 6 = .ok (.i2l, 1) := dk_133 (dk_at dksX0_nextToAudit_0 6 rfl rfl)
theorem dX0_nextToAudit_7 : decode cX0_nextToAudit 7 = .ok (.lastore, 1) := dk_80 (dk_at dksX0_nextToAudit_0 7 rfl rfl)
theorem dX0_nextToAudit_8 : decode cX0_nextToAudit 8 = .ok (.goto 6, 3) := dk_167 0 6 (dk_at dksX0_nextToAudit_0 8 rfl rfl)
theorem dX0_nextToAudit_11 : decode cX0_nextToAudit 11 = .ok (.astore_n 2, 1) := dk_77 (dk_at dksX0_nextToAudit_0 11 rfl rfl)
theorem dX0_nextToAudit_12 : decode cX0_nextToAudit 12 = .ok (.iconst 1, 1) := dk_4 (dk_at dksX0_nextToAudit_0 12 rfl rfl)
theorem dX0_nextToAudit_13 : decode cX0_nextToAudit 13 = .ok (.ireturn, 1) := dk_172 (dk_at dksX0_nextToAudit_0 13 rfl rfl)
theorem dX0_nextToAudit_14 : decode cX0_nextToAudit 14 = .ok (.iconst 0, 1) := dk_3 (dk_at dksX0_nextToAudit_0 14 rfl rfl)
theorem dX0_nextToAudit_15 : decode cX0_nextToAudit 15 = .ok (.ireturn, 1) := dk_172 (dk_at dksX0_nextToAudit_0 15 rfl rfl)
abbrev cX0_auditPosition : ByteArray := method_30_code
def yX0_auditPosition : MethodName := ⟨RX0, "auditPosition", "(LClaimRegistry;I[J)I"⟩
def dkwX0_auditPosition_0 : List UInt8 := [44, 3, 42, 27, 182, 0, 103, 133, 80, 167, 0, 6, 78, 4, 172, 3, 172]
abbrev dktX0_auditPosition_0 : List UInt8 := dkwX0_auditPosition_0 ++ []
theorem dksX0_auditPosition_0 : cX0_auditPosition.data.toList.drop 0 = dktX0_auditPosition_0 := by decide +kernel
theorem dX0_auditPosition_0 : decode cX0_auditPosition 0 = .ok (.aload_n 2, 1) := dk_44 (dk_at dksX0_auditPosition_0 0 rfl rfl)
theorem dX0_auditPosition_1 : decode cX0_auditPosition 1 = .ok (.iconst 0, 1) := dk_3 (dk_at dksX0_auditPosition_0 1 rfl rfl)
theorem dX0_auditPosition_2 : decode cX0_auditPosition 2 = .ok (.aload_n 0, 1) := dk_42 (dk_at dksX0_auditPosition_0 2 rfl rfl)
theorem dX0_auditPosition_3 : decode cX0_auditPosition 3 = .ok (.iload_n 1, 1) := dk_27 (dk_at dksX0_auditPosition_0 3 rfl rfl)
theorem dX0_auditPosition_4 : decode cX0_auditPosition 4 = .ok (.invokevirtual 103, 3) := dk_182 0 103 (dk_at dksX0_auditPosition_0 4 rfl rfl)
theorem dX0_auditPosition_7 : decode cX0_auditPosition 7 = .ok (.i2l, 1) := dk_133 (dk_at dksX0_auditPosition_0 7 rfl rfl)
theorem dX0_auditPosition_8 : decode cX0_auditPosition 8 = .ok (.lastore, 1) := dk_80 (dk_at dksX0_auditPosition_0 8 rfl rfl)
theorem dX0_auditPosition_9 : decode cX0_auditPosition 9 = .ok (.goto 6, 3) := dk_167 0 6 (dk_at dksX0_auditPosition_0 9 rfl rfl)
theorem dX0_auditPosition_12 : decode cX0_auditPosition 12 = .ok (.astore_n 3, 1) := dk_78 (dk_at dksX0_auditPosition_0 12 rfl rfl)
theorem dX0_auditPosition_13 : decode cX0_auditPosition 13 = .ok (.iconst 1, 1) := dk_4 (dk_at dksX0_auditPosition_0 13 rfl rfl)
theorem dX0_auditPosition_14 : decode cX0_auditPosition 14 = .ok (.ireturn, 1) := dk_172 (dk_at dksX0_auditPosition_0 14 rfl rfl)
theorem dX0_auditPosition_15 : decode cX0_auditPosition 15 = .ok (.iconst 0, 1) := dk_3 (dk_at dksX0_auditPosition_0 15 rfl rfl)
theorem dX0_auditPosition_16 : decode cX0_auditPosition 16 = .ok (.ireturn, 1) := dk_172 (dk_at dksX0_auditPosition_0 16 rfl rfl)
abbrev cX0_owes : ByteArray := method_31_code
def yX0_owes : MethodName := ⟨RX0, "owes", "(LClaimRegistry;II[J)I"⟩
def dkwX0_owes_1 : List UInt8 := [3, 172]
abbrev dktX0_owes_1 : List UInt8 := dkwX0_owes_1 ++ []
def dkwX0_owes_0 : List UInt8 := [45, 3, 42, 27, 28, 182, 0, 106, 153, 0, 7, 10, 167, 0, 4, 9, 80, 167, 0, 7, 58, 4, 4, 172]
abbrev dktX0_owes_0 : List UInt8 := dkwX0_owes_0 ++ dktX0_owes_1
theorem dksX0_owes_0 : cX0_owes.data.toList.drop 0 = dktX0_owes_0 := by decide +kernel
theorem dksX0_owes_1 : cX0_owes.data.toList.drop 24 = dktX0_owes_1 := dk_seg dksX0_owes_0 24 rfl rfl
theorem dX0_owes_0 : decode cX0_owes 0 = .ok (.aload_n 3, 1) := dk_45 (dk_at dksX0_owes_0 0 rfl rfl)
theorem dX0_owes_1 : decode cX0_owes 1 = .ok (.iconst 0, 1) := dk_3 (dk_at dksX0_owes_0 1 rfl rfl)
theorem dX0_owes_2 : decode cX0_owes 2 = .ok (.aload_n 0, 1) := dk_42 (dk_at dksX0_owes_0 2 rfl rfl)
theorem dX0_owes_3 : decode cX0_owes 3 = .ok (.iload_n 1, 1) := dk_27 (dk_at dksX0_owes_0 3 rfl rfl)
theorem dX0_owes_4 : decode cX0_owes 4 = .ok (.iload_n 2, 1) := dk_28 (dk_at dksX0_owes_0 4 rfl rfl)
theorem dX0_owes_5 : decode cX0_owes 5 = .ok (.invokevirtual 106, 3) := dk_182 0 106 (dk_at dksX0_owes_0 5 rfl rfl)
theorem dX0_owes_8 : decode cX0_owes 8 = .ok (.ifCond .eq 7, 3) := dk_153 0 7 (dk_at dksX0_owes_0 8 rfl rfl)
theorem dX0_owes_11 : decode cX0_owes 11 = .ok (.lconst 1, 1) := dk_10 (dk_at dksX0_owes_0 11 rfl rfl)
theorem dX0_owes_12 : decode cX0_owes 12 = .ok (.goto 4, 3) := dk_167 0 4 (dk_at dksX0_owes_0 12 rfl rfl)
theorem dX0_owes_15 : decode cX0_owes 15 = .ok (.lconst 0, 1) := dk_9 (dk_at dksX0_owes_0 15 rfl rfl)
theorem dX0_owes_16 : decode cX0_owes 16 = .ok (.lastore, 1) := dk_80 (dk_at dksX0_owes_0 16 rfl rfl)
theorem dX0_owes_17 : decode cX0_owes 17 = .ok (.goto 7, 3) := dk_167 0 7 (dk_at dksX0_owes_0 17 rfl rfl)
theorem dX0_owes_20 : decode cX0_owes 20 = .ok (.astore 4, 2) := dk_58 4 (dk_at dksX0_owes_0 20 rfl rfl)
theorem dX0_owes_22 : decode cX0_owes 22 = .ok (.iconst 1, 1) := dk_4 (dk_at dksX0_owes_0 22 rfl rfl)
theorem dX0_owes_23 : decode cX0_owes 23 = .ok (.ireturn, 1) := dk_172 (dk_at dksX0_owes_0 23 rfl rfl)
theorem dX0_owes_24 : decode cX0_owes 24 = .ok (.iconst 0, 1) := dk_3 (dk_at dksX0_owes_1 0 rfl rfl)
theorem dX0_owes_25 : decode cX0_owes 25 = .ok (.ireturn, 1) := dk_172 (dk_at dksX0_owes_1 1 rfl rfl)
abbrev cX0_pairBalance : ByteArray := method_32_code
def yX0_pairBalance : MethodName := ⟨RX0, "pairBalance", "(LClaimRegistry;II[J)I"⟩
def dkwX0_pairBalance_0 : List UInt8 := [45, 3, 42, 27, 28, 182, 0, 110, 133, 80, 167, 0, 7, 58, 4, 4, 172, 3, 172]
abbrev dktX0_pairBalance_0 : List UInt8 := dkwX0_pairBalance_0 ++ []
theorem dksX0_pairBalance_0 : cX0_pairBalance.data.toList.drop 0 = dktX0_pairBalance_0 := by decide +kernel
theorem dX0_pairBalance_0 : decode cX0_pairBalance 0 = .ok (.aload_n 3, 1) := dk_45 (dk_at dksX0_pairBalance_0 0 rfl rfl)
theorem dX0_pairBalance_1 : decode cX0_pairBalance 1 = .ok (.iconst 0, 1) := dk_3 (dk_at dksX0_pairBalance_0 1 rfl rfl)
theorem dX0_pairBalance_2 : decode cX0_pairBalance 2 = .ok (.aload_n 0, 1) := dk_42 (dk_at dksX0_pairBalance_0 2 rfl rfl)
theorem dX0_pairBalance_3 : decode cX0_pairBalance 3 = .ok (.iload_n 1, 1) := dk_27 (dk_at dksX0_pairBalance_0 3 rfl rfl)
theorem dX0_pairBalance_4 : decode cX0_pairBalance 4 = .ok (.iload_n 2, 1) := dk_28 (dk_at dksX0_pairBalance_0 4 rfl rfl)
theorem dX0_pairBalance_5 : decode cX0_pairBalance 5 = .ok (.invokevirtual 110, 3) := dk_182 0 110 (dk_at dksX0_pairBalance_0 5 rfl rfl)
theorem dX0_pairBalance_8 : decode cX0_pairBalance 8 = .ok (.i2l, 1) := dk_133 (dk_at dksX0_pairBalance_0 8 rfl rfl)
theorem dX0_pairBalance_9 : decode cX0_pairBalance 9 = .ok (.lastore, 1) := dk_80 (dk_at dksX0_pairBalance_0 9 rfl rfl)
theorem dX0_pairBalance_10 : decode cX0_pairBalance 10 = .ok (.goto 7, 3) := dk_167 0 7 (dk_at dksX0_pairBalance_0 10 rfl rfl)
theorem dX0_pairBalance_13 : decode cX0_pairBalance 13 = .ok (.astore 4, 2) := dk_58 4 (dk_at dksX0_pairBalance_0 13 rfl rfl)
theorem dX0_pairBalance_15 : decode cX0_pairBalance 15 = .ok (.iconst 1, 1) := dk_4 (dk_at dksX0_pairBalance_0 15 rfl rfl)
theorem dX0_pairBalance_16 : decode cX0_pairBalance 16 = .ok (.ireturn, 1) := dk_172 (dk_at dksX0_pairBalance_0 16 rfl rfl)
theorem dX0_pairBalance_17 : decode cX0_pairBalance 17 = .ok (.iconst 0, 1) := dk_3 (dk_at dksX0_pairBalance_0 17 rfl rfl)
theorem dX0_pairBalance_18 : decode cX0_pairBalance 18 = .ok (.ireturn, 1) := dk_172 (dk_at dksX0_pairBalance_0 18 rfl rfl)
abbrev cX0_chainLength : ByteArray := method_33_code
def yX0_chainLength : MethodName := ⟨RX0, "chainLength", "(LClaimRegistry;II[J)I"⟩
def dkwX0_chainLength_0 : List UInt8 := [45, 3, 42, 27, 28, 182, 0, 113, 133, 80, 167, 0, 11, 58, 4, 4, 172, 58, 4, 5, 172, 3, 172]
abbrev dktX0_chainLength_0 : List UInt8 := dkwX0_chainLength_0 ++ []
theorem dksX0_chainLength_0 : cX0_chainLength.data.toList.drop 0 = dktX0_chainLength_0 := by decide +kernel
theorem dX0_chainLength_0 : decode cX0_chainLength 0 = .ok (.aload_n 3, 1) := dk_45 (dk_at dksX0_chainLength_0 0 rfl rfl)
theorem dX0_chainLength_1 : decode cX0_chainLength 1 = .ok (.iconst 0, 1) := dk_3 (dk_at dksX0_chainLength_0 1 rfl rfl)
theorem dX0_chainLength_2 : decode cX0_chainLength 2 = .ok (.aload_n 0, 1) := dk_42 (dk_at dksX0_chainLength_0 2 rfl rfl)
theorem dX0_chainLength_3 : decode cX0_chainLength 3 = .ok (.iload_n 1, 1) := dk_27 (dk_at dksX0_chainLength_0 3 rfl rfl)
theorem dX0_chainLength_4 : decode cX0_chainLength 4 = .ok (.iload_n 2, 1) := dk_28 (dk_at dksX0_chainLength_0 4 rfl rfl)
theorem dX0_chainLength_5 : decode cX0_chainLength 5 = .ok (.invokevirtual 113, 3) := dk_182 0 113 (dk_at dksX0_chainLength_0 5 rfl rfl)
theorem dX0_chainLength_8 : decode cX0_chainLength 8 = .ok (.i2l, 1) := dk_133 (dk_at dksX0_chainLength_0 8 rfl rfl)
theorem dX0_chainLength_9 : decode cX0_chainLength 9 = .ok (.lastore, 1) := dk_80 (dk_at dksX0_chainLength_0 9 rfl rfl)
theorem dX0_chainLength_10 : decode cX0_chainLength 10 = .ok (.goto 11, 3) := dk_167 0 11 (dk_at dksX0_chainLength_0 10 rfl rfl)
theorem dX0_chainLength_13 : decode cX0_chainLength 13 = .ok (.astore 4, 2) := dk_58 4 (dk_at dksX0_chainLength_0 13 rfl rfl)
theorem dX0_chainLength_15 : decode cX0_chainLength 15 = .ok (.iconst 1, 1) := dk_4 (dk_at dksX0_chainLength_0 15 rfl rfl)
theorem dX0_chainLength_16 : decode cX0_chainLength 16 = .ok (.ireturn, 1) := dk_172 (dk_at dksX0_chainLength_0 16 rfl rfl)
theorem dX0_chainLength_17 : decode cX0_chainLength 17 = .ok (.astore 4, 2) := dk_58 4 (dk_at dksX0_chainLength_0 17 rfl rfl)
theorem dX0_chainLength_19 : decode cX0_chainLength 19 = .ok (.iconst 2, 1) := dk_5 (dk_at dksX0_chainLength_0 19 rfl rfl)
theorem dX0_chainLength_20 : decode cX0_chainLength 20 = .ok (.ireturn, 1) := dk_172 (dk_at dksX0_chainLength_0 20 rfl rfl)
theorem dX0_chainLength_21 : decode cX0_chainLength 21 = .ok (.iconst 0, 1) := dk_3 (dk_at dksX0_chainLength_0 21 rfl rfl)
theorem dX0_chainLength_22 : decode cX0_chainLength 22 = .ok (.ireturn, 1) := dk_172 (dk_at dksX0_chainLength_0 22 rfl rfl)
abbrev cX0_chainLengthByRounds : ByteArray := method_34_code
def yX0_chainLengthByRounds : MethodName := ⟨RX0, "chainLengthByRounds", "(LClaimRegistry;II[J)I"⟩
def dkwX0_chainLengthByRounds_0 : List UInt8 := [45, 3, 42, 27, 28, 182, 0, 116, 133, 80, 167, 0, 11, 58, 4, 4, 172, 58, 4, 5, 172, 3, 172]
abbrev dktX0_chainLengthByRounds_0 : List UInt8 := dkwX0_chainLengthByRounds_0 ++ []
theorem dksX0_chainLengthByRounds_0 : cX0_chainLengthByRounds.data.toList.drop 0 = dktX0_chainLengthByRounds_0 := by decide +kernel
theorem dX0_chainLengthByRounds_0 : decode cX0_chainLengthByRounds 0 = .ok (.aload_n 3, 1) := dk_45 (dk_at dksX0_chainLengthByRounds_0 0 rfl rfl)
theorem dX0_chainLengthByRounds_1 : decode cX0_chainLengthByRounds 1 = .ok (.iconst 0, 1) := dk_3 (dk_at dksX0_chainLengthByRounds_0 1 rfl rfl)
theorem dX0_chainLengthByRounds_2 : decode cX0_chainLengthByRounds 2 = .ok (.aload_n 0, 1) := dk_42 (dk_at dksX0_chainLengthByRounds_0 2 rfl rfl)
theorem dX0_chainLengthByRounds_3 : decode cX0_chainLengthByRounds 3 = .ok (.iload_n 1, 1) := dk_27 (dk_at dksX0_chainLengthByRounds_0 3 rfl rfl)
theorem dX0_chainLengthByRounds_4 : decode cX0_chainLengthByRounds 4 = .ok (.iload_n 2, 1) := dk_28 (dk_at dksX0_chainLengthByRounds_0 4 rfl rfl)
theorem dX0_chainLengthByRounds_5 : decode cX0_chainLengthByRounds 5 = .ok (.invokevirtual 116, 3) := dk_182 0 116 (dk_at dksX0_chainLengthByRounds_0 5 rfl rfl)
theorem dX0_chainLengthByRounds_8 : decode cX0_chainLengthByRounds 8 = .ok (.i2l, 1) := dk_133 (dk_at dksX0_chainLengthByRounds_0 8 rfl rfl)
theorem dX0_chainLengthByRounds_9 : decode cX0_chainLengthByRounds 9 = .ok (.lastore, 1) := dk_80 (dk_at dksX0_chainLengthByRounds_0 9 rfl rfl)
theorem dX0_chainLengthByRounds_10 : decode cX0_chainLengthByRounds 10 = .ok (.goto 11, 3) := dk_167 0 11 (dk_at dksX0_chainLengthByRounds_0 10 rfl rfl)
theorem dX0_chainLengthByRounds_13 : decode cX0_chainLengthByRounds 13 = .ok (.astore 4, 2) := dk_58 4 (dk_at dksX0_chainLengthByRounds_0 13 rfl rfl)
theorem dX0_chainLengthByRounds_15 : decode cX0_chainLengthByRounds 15 = .ok (.iconst 1, 1) := dk_4 (dk_at dksX0_chainLengthByRounds_0 15 rfl rfl)
theorem dX0_chainLengthByRounds_16 : decode cX0_chainLengthByRounds 16 = .ok (.ireturn, 1) := dk_172 (dk_at dksX0_chainLengthByRounds_0 16 rfl rfl)
theorem dX0_chainLengthByRounds_17 : decode cX0_chainLengthByRounds 17 = .ok (.astore 4, 2) := dk_58 4 (dk_at dksX0_chainLengthByRounds_0 17 rfl rfl)
theorem dX0_chainLengthByRounds_19 : decode cX0_chainLengthByRounds 19 = .ok (.iconst 2, 1) := dk_5 (dk_at dksX0_chainLengthByRounds_0 19 rfl rfl)
theorem dX0_chainLengthByRounds_20 : decode cX0_chainLengthByRounds 20 = .ok (.ireturn, 1) := dk_172 (dk_at dksX0_chainLengthByRounds_0 20 rfl rfl)
theorem dX0_chainLengthByRounds_21 : decode cX0_chainLengthByRounds 21 = .ok (.iconst 0, 1) := dk_3 (dk_at dksX0_chainLengthByRounds_0 21 rfl rfl)
theorem dX0_chainLengthByRounds_22 : decode cX0_chainLengthByRounds 22 = .ok (.ireturn, 1) := dk_172 (dk_at dksX0_chainLengthByRounds_0 22 rfl rfl)
abbrev cX0_reachableFrom : ByteArray := method_35_code
def yX0_reachableFrom : MethodName := ⟨RX0, "reachableFrom", "(LClaimRegistry;I[J)I"⟩
def dkwX0_reachableFrom_0 : List UInt8 := [44, 3, 42, 27, 182, 0, 119, 133, 80, 167, 0, 6, 78, 4, 172, 3, 172]
abbrev dktX0_reachableFrom_0 : List UInt8 := dkwX0_reachableFrom_0 ++ []
theorem dksX0_reachableFrom_0 : cX0_reachableFrom.data.toList.drop 0 = dktX0_reachableFrom_0 := by decide +kernel
theorem dX0_reachableFrom_0 : decode cX0_reachableFrom 0 = .ok (.aload_n 2, 1) := dk_44 (dk_at dksX0_reachableFrom_0 0 rfl rfl)
theorem dX0_reachableFrom_1 : decode cX0_reachableFrom 1 = .ok (.iconst 0, 1) := dk_3 (dk_at dksX0_reachableFrom_0 1 rfl rfl)
theorem dX0_reachableFrom_2 : decode cX0_reachableFrom 2 = .ok (.aload_n 0, 1) := dk_42 (dk_at dksX0_reachableFrom_0 2 rfl rfl)
theorem dX0_reachableFrom_3 : decode cX0_reachableFrom 3 = .ok (.iload_n 1, 1) := dk_27 (dk_at dksX0_reachableFrom_0 3 rfl rfl)
theorem dX0_reachableFrom_4 : decode cX0_reachableFrom 4 = .ok (.invokevirtual 119, 3) := dk_182 0 119 (dk_at dksX0_reachableFrom_0 4 rfl rfl)
theorem dX0_reachableFrom_7 : decode cX0_reachableFrom 7 = .ok (.i2l, 1) := dk_133 (dk_at dksX0_reachableFrom_0 7 rfl rfl)
theorem dX0_reachableFrom_8 : decode cX0_reachableFrom 8 = .ok (.lastore, 1) := dk_80 (dk_at dksX0_reachableFrom_0 8 rfl rfl)
theorem dX0_reachableFrom_9 : decode cX0_reachableFrom 9 = .ok (.goto 6, 3) := dk_167 0 6 (dk_at dksX0_reachableFrom_0 9 rfl rfl)
theorem dX0_reachableFrom_12 : decode cX0_reachableFrom 12 = .ok (.astore_n 3, 1) := dk_78 (dk_at dksX0_reachableFrom_0 12 rfl rfl)
theorem dX0_reachableFrom_13 : decode cX0_reachableFrom 13 = .ok (.iconst 1, 1) := dk_4 (dk_at dksX0_reachableFrom_0 13 rfl rfl)
theorem dX0_reachableFrom_14 : decode cX0_reachableFrom 14 = .ok (.ireturn, 1) := dk_172 (dk_at dksX0_reachableFrom_0 14 rfl rfl)
theorem dX0_reachableFrom_15 : decode cX0_reachableFrom 15 = .ok (.iconst 0, 1) := dk_3 (dk_at dksX0_reachableFrom_0 15 rfl rfl)
theorem dX0_reachableFrom_16 : decode cX0_reachableFrom 16 = .ok (.ireturn, 1) := dk_172 (dk_at dksX0_reachableFrom_0 16 rfl rfl)
abbrev cX0_idByExpiry : ByteArray := method_36_code
def yX0_idByExpiry : MethodName := ⟨RX0, "idByExpiry", "(LClaimRegistry;I[J)I"⟩
def dkwX0_idByExpiry_0 : List UInt8 := [44, 3, 42, 27, 182, 0, 122, 133, 80, 167, 0, 6, 78, 4, 172, 3, 172]
abbrev dktX0_idByExpiry_0 : List UInt8 := dkwX0_idByExpiry_0 ++ []
theorem dksX0_idByExpiry_0 : cX0_idByExpiry.data.toList.drop 0 = dktX0_idByExpiry_0 := by decide +kernel
theorem dX0_idByExpiry_0 : decode cX0_idByExpiry 0 = .ok (.aload_n 2, 1) := dk_44 (dk_at dksX0_idByExpiry_0 0 rfl rfl)
theorem dX0_idByExpiry_1 : decode cX0_idByExpiry 1 = .ok (.iconst 0, 1) := dk_3 (dk_at dksX0_idByExpiry_0 1 rfl rfl)
theorem dX0_idByExpiry_2 : decode cX0_idByExpiry 2 = .ok (.aload_n 0, 1) := dk_42 (dk_at dksX0_idByExpiry_0 2 rfl rfl)
theorem dX0_idByExpiry_3 : decode cX0_idByExpiry 3 = .ok (.iload_n 1, 1) := dk_27 (dk_at dksX0_idByExpiry_0 3 rfl rfl)
theorem dX0_idByExpiry_4 : decode cX0_idByExpiry 4 = .ok (.invokevirtual 122, 3) := dk_182 0 122 (dk_at dksX0_idByExpiry_0 4 rfl rfl)
theorem dX0_idByExpiry_7 : decode cX0_idByExpiry 7 = .ok (.i2l, 1) := dk_133 (dk_at dksX0_idByExpiry_0 7 rfl rfl)
theorem dX0_idByExpiry_8 : decode cX0_idByExpiry 8 = .ok (.lastore, 1) := dk_80 (dk_at dksX0_idByExpiry_0 8 rfl rfl)
theorem dX0_idByExpiry_9 : decode cX0_idByExpiry 9 = .ok (.goto 6, 3) := dk_167 0 6 (dk_at dksX0_idByExpiry_0 9 rfl rfl)
theorem dX0_idByExpiry_12 : decode cX0_idByExpiry 12 = .ok (.astore_n 3, 1) := dk_78 (dk_at dksX0_idByExpiry_0 12 rfl rfl)
theorem dX0_idByExpiry_13 : decode cX0_idByExpiry 13 = .ok (.iconst 1, 1) := dk_4 (dk_at dksX0_idByExpiry_0 13 rfl rfl)
theorem dX0_idByExpiry_14 : decode cX0_idByExpiry 14 = .ok (.ireturn, 1) := dk_172 (dk_at dksX0_idByExpiry_0 14 rfl rfl)
theorem dX0_idByExpiry_15 : decode cX0_idByExpiry 15 = .ok (.iconst 0, 1) := dk_3 (dk_at dksX0_idByExpiry_0 15 rfl rfl)
theorem dX0_idByExpiry_16 : decode cX0_idByExpiry 16 = .ok (.ireturn, 1) := dk_172 (dk_at dksX0_idByExpiry_0 16 rfl rfl)
abbrev cX0_expiryRank : ByteArray := method_37_code
def yX0_expiryRank : MethodName := ⟨RX0, "expiryRank", "(LClaimRegistry;I[J)I"⟩
def dkwX0_expiryRank_0 : List UInt8 := [44, 3, 42, 27, 182, 0, 125, 133, 80, 167, 0, 6, 78, 4, 172, 3, 172]
abbrev dktX0_expiryRank_0 : List UInt8 := dkwX0_expiryRank_0 ++ []
theorem dksX0_expiryRank_0 : cX0_expiryRank.data.toList.drop 0 = dktX0_expiryRank_0 := by decide +kernel
theorem dX0_expiryRank_0 : decode cX0_expiryRank 0 = .ok (.aload_n 2, 1) := dk_44 (dk_at dksX0_expiryRank_0 0 rfl rfl)
theorem dX0_expiryRank_1 : decode cX0_expiryRank 1 = .ok (.iconst 0, 1) := dk_3 (dk_at dksX0_expiryRank_0 1 rfl rfl)
theorem dX0_expiryRank_2 : decode cX0_expiryRank 2 = .ok (.aload_n 0, 1) := dk_42 (dk_at dksX0_expiryRank_0 2 rfl rfl)
theorem dX0_expiryRank_3 : decode cX0_expiryRank 3 = .ok (.iload_n 1, 1) := dk_27 (dk_at dksX0_expiryRank_0 3 rfl rfl)
theorem dX0_expiryRank_4 : decode cX0_expiryRank 4 = .ok (.invokevirtual 125, 3) := dk_182 0 125 (dk_at dksX0_expiryRank_0 4 rfl rfl)
theorem dX0_expiryRank_7 : decode cX0_expiryRank 7 = .ok (.i2l, 1) := dk_133 (dk_at dksX0_expiryRank_0 7 rfl rfl)
theorem dX0_expiryRank_8 : decode cX0_expiryRank 8 = .ok (.lastore, 1) := dk_80 (dk_at dksX0_expiryRank_0 8 rfl rfl)
theorem dX0_expiryRank_9 : decode cX0_expiryRank 9 = .ok (.goto 6, 3) := dk_167 0 6 (dk_at dksX0_expiryRank_0 9 rfl rfl)
theorem dX0_expiryRank_12 : decode cX0_expiryRank 12 = .ok (.astore_n 3, 1) := dk_78 (dk_at dksX0_expiryRank_0 12 rfl rfl)
theorem dX0_expiryRank_13 : decode cX0_expiryRank 13 = .ok (.iconst 1, 1) := dk_4 (dk_at dksX0_expiryRank_0 13 rfl rfl)
theorem dX0_expiryRank_14 : decode cX0_expiryRank 14 = .ok (.ireturn, 1) := dk_172 (dk_at dksX0_expiryRank_0 14 rfl rfl)
theorem dX0_expiryRank_15 : decode cX0_expiryRank 15 = .ok (.iconst 0, 1) := dk_3 (dk_at dksX0_expiryRank_0 15 rfl rfl)
theorem dX0_expiryRank_16 : decode cX0_expiryRank 16 = .ok (.ireturn, 1) := dk_172 (dk_at dksX0_expiryRank_0 16 rfl rfl)
abbrev cX0_expiringWithin : ByteArray := method_38_code
def yX0_expiringWithin : MethodName := ⟨RX0, "expiringWithin", "(LClaimRegistry;I[J)I"⟩
def dkwX0_expiringWithin_0 : List UInt8 := [44, 3, 42, 27, 182, 0, 128, 133, 80, 167, 0, 6, 78, 4, 172, 3, 172]
abbrev dktX0_expiringWithin_0 : List UInt8 := dkwX0_expiringWithin_0 ++ []
theorem dksX0_expiringWithin_0 : cX0_expiringWithin.data.toList.drop 0 = dktX0_expiringWithin_0 := by decide +kernel
theorem dX0_expiringWithin_0 : decode cX0_expiringWithin 0 = .ok (.aload_n 2, 1) := dk_44 (dk_at dksX0_expiringWithin_0 0 rfl rfl)
theorem dX0_expiringWithin_1 : decode cX0_expiringWithin 1 = .ok (.iconst 0, 1) := dk_3 (dk_at dksX0_expiringWithin_0 1 rfl rfl)
theorem dX0_expiringWithin_2 : decode cX0_expiringWithin 2 = .ok (.aload_n 0, 1) := dk_42 (dk_at dksX0_expiringWithin_0 2 rfl rfl)
theorem dX0_expiringWithin_3 : decode cX0_expiringWithin 3 = .ok (.iload_n 1, 1) := dk_27 (dk_at dksX0_expiringWithin_0 3 rfl rfl)
theorem dX0_expiringWithin_4 : decode cX0_expiringWithin 4 = .ok (.invokevirtual 128, 3) := dk_182 0 128 (dk_at dksX0_expiringWithin_0 4 rfl rfl)
theorem dX0_expiringWithin_7 : decode cX0_expiringWithin 7 = .ok (.i2l, 1) := dk_133 (dk_at dksX0_expiringWithin_0 7 rfl rfl)
theorem dX0_expiringWithin_8 : decode cX0_expiringWithin 8 = .ok (.lastore, 1) := dk_80 (dk_at dksX0_expiringWithin_0 8 rfl rfl)
theorem dX0_expiringWithin_9 : decode cX0_expiringWithin 9 = .ok (.goto 6, 3) := dk_167 0 6 (dk_at dksX0_expiringWithin_0 9 rfl rfl)
theorem dX0_expiringWithin_12 : decode cX0_expiringWithin 12 = .ok (.astore_n 3, 1) := dk_78 (dk_at dksX0_expiringWithin_0 12 rfl rfl)
theorem dX0_expiringWithin_13 : decode cX0_expiringWithin 13 = .ok (.iconst 1, 1) := dk_4 (dk_at dksX0_expiringWithin_0 13 rfl rfl)
theorem dX0_expiringWithin_14 : decode cX0_expiringWithin 14 = .ok (.ireturn, 1) := dk_172 (dk_at dksX0_expiringWithin_0 14 rfl rfl)
theorem dX0_expiringWithin_15 : decode cX0_expiringWithin 15 = .ok (.iconst 0, 1) := dk_3 (dk_at dksX0_expiringWithin_0 15 rfl rfl)
theorem dX0_expiringWithin_16 : decode cX0_expiringWithin 16 = .ok (.ireturn, 1) := dk_172 (dk_at dksX0_expiringWithin_0 16 rfl rfl)
abbrev cX0_expiringBySimulation : ByteArray := method_39_code
def yX0_expiringBySimulation : MethodName := ⟨RX0, "expiringBySimulation", "(LClaimRegistry;I[J)I"⟩
def dkwX0_expiringBySimulation_0 : List UInt8 := [44, 3, 42, 27, 182, 0, 131, 133, 80, 167, 0, 6, 78, 4, 172, 3, 172]
abbrev dktX0_expiringBySimulation_0 : List UInt8 := dkwX0_expiringBySimulation_0 ++ []
theorem dksX0_expiringBySimulation_0 : cX0_expiringBySimulation.data.toList.drop 0 = dktX0_expiringBySimulation_0 := by decide +kernel
theorem dX0_expiringBySimulation_0 : decode cX0_expiringBySimulation 0 = .ok (.aload_n 2, 1) := dk_44 (dk_at dksX0_expiringBySimulation_0 0 rfl rfl)
theorem dX0_expiringBySimulation_1 : decode cX0_expiringBySimulation 1 = .ok (.iconst 0, 1) := dk_3 (dk_at dksX0_expiringBySimulation_0 1 rfl rfl)
theorem dX0_expiringBySimulation_2 : decode cX0_expiringBySimulation 2 = .ok (.aload_n 0, 1) := dk_42 (dk_at dksX0_expiringBySimulation_0 2 rfl rfl)
theorem dX0_expiringBySimulation_3 : decode cX0_expiringBySimulation 3 = .ok (.iload_n 1, 1) := dk_27 (dk_at dksX0_expiringBySimulation_0 3 rfl rfl)
theorem dX0_expiringBySimulation_4 : decode cX0_expiringBySimulation 4 = .ok (.invokevirtual 131, 3) := dk_182 0 131 (dk_at dksX0_expiringBySimulation_0 4 rfl rfl)
theorem dX0_expiringBySimulation_7 : decode cX0_expiringBySimulation 7 = .ok (.i2l, 1) := dk_133 (dk_at dksX0_expiringBySimulation_0 7 rfl rfl)
theorem dX0_expiringBySimulation_8 : decode cX0_expiringBySimulation 8 = .ok (.lastore, 1) := dk_80 (dk_at dksX0_expiringBySimulation_0 8 rfl rfl)
theorem dX0_expiringBySimulation_9 : decode cX0_expiringBySimulation 9 = .ok (.goto 6, 3) := dk_167 0 6 (dk_at dksX0_expiringBySimulation_0 9 rfl rfl)
theorem dX0_expiringBySimulation_12 : decode cX0_expiringBySimulation 12 = .ok (.astore_n 3, 1) := dk_78 (dk_at dksX0_expiringBySimulation_0 12 rfl rfl)
theorem dX0_expiringBySimulation_13 : decode cX0_expiringBySimulation 13 = .ok (.iconst 1, 1) := dk_4 (dk_at dksX0_expiringBySimulation_0 13 rfl rfl)
theorem dX0_expiringBySimulation_14 : decode cX0_expiringBySimulation 14 = .ok (.ireturn, 1) := dk_172 (dk_at dksX0_expiringBySimulation_0 14 rfl rfl)
theorem dX0_expiringBySimulation_15 : decode cX0_expiringBySimulation 15 = .ok (.iconst 0, 1) := dk_3 (dk_at dksX0_expiringBySimulation_0 15 rfl rfl)
theorem dX0_expiringBySimulation_16 : decode cX0_expiringBySimulation 16 = .ok (.ireturn, 1) := dk_172 (dk_at dksX0_expiringBySimulation_0 16 rfl rfl)
abbrev cX0_weightAfter : ByteArray := method_40_code
def yX0_weightAfter : MethodName := ⟨RX0, "weightAfter", "(LClaimRegistry;II[J)I"⟩
def dkwX0_weightAfter_0 : List UInt8 := [45, 3, 42, 27, 28, 182, 0, 134, 133, 80, 167, 0, 11, 58, 4, 4, 172, 58, 4, 5, 172, 3, 172]
abbrev dktX0_weightAfter_0 : List UInt8 := dkwX0_weightAfter_0 ++ []
theorem dksX0_weightAfter_0 : cX0_weightAfter.data.toList.drop 0 = dktX0_weightAfter_0 := by decide +kernel
theorem dX0_weightAfter_0 : decode cX0_weightAfter 0 = .ok (.aload_n 3, 1) := dk_45 (dk_at dksX0_weightAfter_0 0 rfl rfl)
theorem dX0_weightAfter_1 : decode cX0_weightAfter 1 = .ok (.iconst 0, 1) := dk_3 (dk_at dksX0_weightAfter_0 1 rfl rfl)
theorem dX0_weightAfter_2 : decode cX0_weightAfter 2 = .ok (.aload_n 0, 1) := dk_42 (dk_at dksX0_weightAfter_0 2 rfl rfl)
theorem dX0_weightAfter_3 : decode cX0_weightAfter 3 = .ok (.iload_n 1, 1) := dk_27 (dk_at dksX0_weightAfter_0 3 rfl rfl)
theorem dX0_weightAfter_4 : decode cX0_weightAfter 4 = .ok (.iload_n 2, 1) := dk_28 (dk_at dksX0_weightAfter_0 4 rfl rfl)
theorem dX0_weightAfter_5 : decode cX0_weightAfter 5 = .ok (.invokevirtual 134, 3) := dk_182 0 134 (dk_at dksX0_weightAfter_0 5 rfl rfl)
theorem dX0_weightAfter_8 : decode cX0_weightAfter 8 = .ok (.i2l, 1) := dk_133 (dk_at dksX0_weightAfter_0 8 rfl rfl)
theorem dX0_weightAfter_9 : decode cX0_weightAfter 9 = .ok (.lastore, 1) := dk_80 (dk_at dksX0_weightAfter_0 9 rfl rfl)
theorem dX0_weightAfter_10 : decode cX0_weightAfter 10 = .ok (.goto 11, 3) := dk_167 0 11 (dk_at dksX0_weightAfter_0 10 rfl rfl)
theorem dX0_weightAfter_13 : decode cX0_weightAfter 13 = .ok (.astore 4, 2) := dk_58 4 (dk_at dksX0_weightAfter_0 13 rfl rfl)
theorem dX0_weightAfter_15 : decode cX0_weightAfter 15 = .ok (.iconst 1, 1) := dk_4 (dk_at dksX0_weightAfter_0 15 rfl rfl)
theorem dX0_weightAfter_16 : decode cX0_weightAfter 16 = .ok (.ireturn, 1) := dk_172 (dk_at dksX0_weightAfter_0 16 rfl rfl)
theorem dX0_weightAfter_17 : decode cX0_weightAfter 17 = .ok (.astore 4, 2) := dk_58 4 (dk_at dksX0_weightAfter_0 17 rfl rfl)
theorem dX0_weightAfter_19 : decode cX0_weightAfter 19 = .ok (.iconst 2, 1) := dk_5 (dk_at dksX0_weightAfter_0 19 rfl rfl)
theorem dX0_weightAfter_20 : decode cX0_weightAfter 20 = .ok (.ireturn, 1) := dk_172 (dk_at dksX0_weightAfter_0 20 rfl rfl)
theorem dX0_weightAfter_21 : decode cX0_weightAfter 21 = .ok (.iconst 0, 1) := dk_3 (dk_at dksX0_weightAfter_0 21 rfl rfl)
theorem dX0_weightAfter_22 : decode cX0_weightAfter 22 = .ok (.ireturn, 1) := dk_172 (dk_at dksX0_weightAfter_0 22 rfl rfl)
abbrev cX0_canSign : ByteArray := method_41_code
def yX0_canSign : MethodName := ⟨RX0, "canSign", "(LClaimRegistry;II[J)I"⟩
def dkwX0_canSign_1 : List UInt8 := [58, 4, 5, 172, 3, 172]
abbrev dktX0_canSign_1 : List UInt8 := dkwX0_canSign_1 ++ []
def dkwX0_canSign_0 : List UInt8 := [45, 3, 42, 27, 28, 182, 0, 137, 153, 0, 7, 10, 167, 0, 4, 9, 80, 167, 0, 11, 58, 4, 4, 172]
abbrev dktX0_canSign_0 : List UInt8 := dkwX0_canSign_0 ++ dktX0_canSign_1
theorem dksX0_canSign_0 : cX0_canSign.data.toList.drop 0 = dktX0_canSign_0 := by decide +kernel
theorem dksX0_canSign_1 : cX0_canSign.data.toList.drop 24 = dktX0_canSign_1 := dk_seg dksX0_canSign_0 24 rfl rfl
theorem dX0_canSign_0 : decode cX0_canSign 0 = .ok (.aload_n 3, 1) := dk_45 (dk_at dksX0_canSign_0 0 rfl rfl)
theorem dX0_canSign_1 : decode cX0_canSign 1 = .ok (.iconst 0, 1) := dk_3 (dk_at dksX0_canSign_0 1 rfl rfl)
theorem dX0_canSign_2 : decode cX0_canSign 2 = .ok (.aload_n 0, 1) := dk_42 (dk_at dksX0_canSign_0 2 rfl rfl)
theorem dX0_canSign_3 : decode cX0_canSign 3 = .ok (.iload_n 1, 1) := dk_27 (dk_at dksX0_canSign_0 3 rfl rfl)
theorem dX0_canSign_4 : decode cX0_canSign 4 = .ok (.iload_n 2, 1) := dk_28 (dk_at dksX0_canSign_0 4 rfl rfl)
theorem dX0_canSign_5 : decode cX0_canSign 5 = .ok (.invokevirtual 137, 3) := dk_182 0 137 (dk_at dksX0_canSign_0 5 rfl rfl)
theorem dX0_canSign_8 : decode cX0_canSign 8 = .ok (.ifCond .eq 7, 3) := dk_153 0 7 (dk_at dksX0_canSign_0 8 rfl rfl)
theorem dX0_canSign_11 : decode cX0_canSign 11 = .ok (.lconst 1, 1) := dk_10 (dk_at dksX0_canSign_0 11 rfl rfl)
theorem dX0_canSign_12 : decode cX0_canSign 12 = .ok (.goto 4, 3) := dk_167 0 4 (dk_at dksX0_canSign_0 12 rfl rfl)
theorem dX0_canSign_15 : decode cX0_canSign 15 = .ok (.lconst 0, 1) := dk_9 (dk_at dksX0_canSign_0 15 rfl rfl)
theorem dX0_canSign_16 : decode cX0_canSign 16 = .ok (.lastore, 1) := dk_80 (dk_at dksX0_canSign_0 16 rfl rfl)
theorem dX0_canSign_17 : decode cX0_canSign 17 = .ok (.goto 11, 3) := dk_167 0 11 (dk_at dksX0_canSign_0 17 rfl rfl)
theorem dX0_canSign_20 : decode cX0_canSign 20 = .ok (.astore 4, 2) := dk_58 4 (dk_at dksX0_canSign_0 20 rfl rfl)
theorem dX0_canSign_22 : decode cX0_canSign 22 = .ok (.iconst 1, 1) := dk_4 (dk_at dksX0_canSign_0 22 rfl rfl)
theorem dX0_canSign_23 : decode cX0_canSign 23 = .ok (.ireturn, 1) := dk_172 (dk_at dksX0_canSign_0 23 rfl rfl)
theorem dX0_canSign_24 : decode cX0_canSign 24 = .ok (.astore 4, 2) := dk_58 4 (dk_at dksX0_canSign_1 0 rfl rfl)
theorem dX0_canSign_26 : decode cX0_canSign 26 = .ok (.iconst 2, 1) := dk_5 (dk_at dksX0_canSign_1 2 rfl rfl)
theorem dX0_canSign_27 : decode cX0_canSign 27 = .ok (.ireturn, 1) := dk_172 (dk_at dksX0_canSign_1 3 rfl rfl)
theorem dX0_canSign_28 : decode cX0_canSign 28 = .ok (.iconst 0, 1) := dk_3 (dk_at dksX0_canSign_1 4 rfl rfl)
theorem dX0_canSign_29 : decode cX0_canSign 29 = .ok (.ireturn, 1) := dk_172 (dk_at dksX0_canSign_1 5 rfl rfl)
abbrev cX0_canCountersign : ByteArray := method_42_code
def yX0_canCountersign : MethodName := ⟨RX0, "canCountersign", "(LClaimRegistry;II[J)I"⟩
def dkwX0_canCountersign_1 : List UInt8 := [58, 4, 5, 172, 3, 172]
abbrev dktX0_canCountersign_1 : List UInt8 := dkwX0_canCountersign_1 ++ []
def dkwX0_canCountersign_0 : List UInt8 := [45, 3, 42, 27, 28, 182, 0, 140, 153, 0, 7, 10, 167, 0, 4, 9, 80, 167, 0, 11, 58, 4, 4, 172]
abbrev dktX0_canCountersign_0 : List UInt8 := dkwX0_canCountersign_0 ++ dktX0_canCountersign_1
theorem dksX0_canCountersign_0 : cX0_canCountersign.data.toList.drop 0 = dktX0_canCountersign_0 := by decide +kernel
theorem dksX0_canCountersign_1 : cX0_canCountersign.data.toList.drop 24 = dktX0_canCountersign_1 := dk_seg dksX0_canCountersign_0 24 rfl rfl
theorem dX0_canCountersign_0 : decode cX0_canCountersign 0 = .ok (.aload_n 3, 1) := dk_45 (dk_at dksX0_canCountersign_0 0 rfl rfl)
theorem dX0_canCountersign_1 : decode cX0_canCountersign 1 = .ok (.iconst 0, 1) := dk_3 (dk_at dksX0_canCountersign_0 1 rfl rfl)
theorem dX0_canCountersign_2 : decode cX0_canCountersign 2 = .ok (.aload_n 0, 1) := dk_42 (dk_at dksX0_canCountersign_0 2 rfl rfl)
theorem dX0_canCountersign_3 : decode cX0_canCountersign 3 = .ok (.iload_n 1, 1) := dk_27 (dk_at dksX0_canCountersign_0 3 rfl rfl)
theorem dX0_canCountersign_4 : decode cX0_canCountersign 4 = .ok (.iload_n 2, 1) := dk_28 (dk_at dksX0_canCountersign_0 4 rfl rfl)
theorem dX0_canCountersign_5 : decode cX0_canCountersign 5 = .ok (.invokevirtual 140, 3) := dk_182 0 140 (dk_at dksX0_canCountersign_0 5 rfl rfl)
theorem dX0_canCountersign_8 : decode cX0_canCountersign 8 = .ok (.ifCond .eq 7, 3) := dk_153 0 7 (dk_at dksX0_canCountersign_0 8 rfl rfl)
theorem dX0_canCountersign_11 : decode cX0_canCountersign 11 = .ok (.lconst 1, 1) := dk_10 (dk_at dksX0_canCountersign_0 11 rfl rfl)
theorem dX0_canCountersign_12 : decode cX0_canCountersign 12 = .ok (.goto 4, 3) := dk_167 0 4 (dk_at dksX0_canCountersign_0 12 rfl rfl)
theorem dX0_canCountersign_15 : decode cX0_canCountersign 15 = .ok (.lconst 0, 1) := dk_9 (dk_at dksX0_canCountersign_0 15 rfl rfl)
theorem dX0_canCountersign_16 : decode cX0_canCountersign 16 = .ok (.lastore, 1) := dk_80 (dk_at dksX0_canCountersign_0 16 rfl rfl)
theorem dX0_canCountersign_17 : decode cX0_canCountersign 17 = .ok (.goto 11, 3) := dk_167 0 11 (dk_at dksX0_canCountersign_0 17 rfl rfl)
theorem dX0_canCountersign_20 : decode cX0_canCountersign 20 = .ok (.astore 4, 2) := dk_58 4 (dk_at dksX0_canCountersign_0 20 rfl rfl)
theorem dX0_canCountersign_22 : decode cX0_canCountersign 22 = .ok (.iconst 1, 1) := dk_4 (dk_at dksX0_canCountersign_0 22 rfl rfl)
theorem dX0_canCountersign_23 : decode cX0_canCountersign 23 = .ok (.ireturn, 1) := dk_172 (dk_at dksX0_canCountersign_0 23 rfl rfl)
theorem dX0_canCountersign_24 : decode cX0_canCountersign 24 = .ok (.astore 4, 2) := dk_58 4 (dk_at dksX0_canCountersign_1 0 rfl rfl)
theorem dX0_canCountersign_26 : decode cX0_canCountersign 26 = .ok (.iconst 2, 1) := dk_5 (dk_at dksX0_canCountersign_1 2 rfl rfl)
theorem dX0_canCountersign_27 : decode cX0_canCountersign 27 = .ok (.ireturn, 1) := dk_172 (dk_at dksX0_canCountersign_1 3 rfl rfl)
theorem dX0_canCountersign_28 : decode cX0_canCountersign 28 = .ok (.iconst 0, 1) := dk_3 (dk_at dksX0_canCountersign_1 4 rfl rfl)
theorem dX0_canCountersign_29 : decode cX0_canCountersign 29 = .ok (.ireturn, 1) := dk_172 (dk_at dksX0_canCountersign_1 5 rfl rfl)
abbrev cX0_recentlyExpired : ByteArray := method_43_code
def yX0_recentlyExpired : MethodName := ⟨RX0, "recentlyExpired", "(LClaimRegistry;I[J)I"⟩
def dkwX0_recentlyExpired_0 : List UInt8 := [44, 3, 42, 27, 182, 0, 143, 133, 80, 167, 0, 6, 78, 4, 172, 3, 172]
abbrev dktX0_recentlyExpired_0 : List UInt8 := dkwX0_recentlyExpired_0 ++ []
theorem dksX0_recentlyExpired_0 : cX0_recentlyExpired.data.toList.drop 0 = dktX0_recentlyExpired_0 := by decide +kernel
theorem dX0_recentlyExpired_0 : decode cX0_recentlyExpired 0 = .ok (.aload_n 2, 1) := dk_44 (dk_at dksX0_recentlyExpired_0 0 rfl rfl)
theorem dX0_recentlyExpired_1 : decode cX0_recentlyExpired 1 = .ok (.iconst 0, 1) := dk_3 (dk_at dksX0_recentlyExpired_0 1 rfl rfl)
theorem dX0_recentlyExpired_2 : decode cX0_recentlyExpired 2 = .ok (.aload_n 0, 1) := dk_42 (dk_at dksX0_recentlyExpired_0 2 rfl rfl)
theorem dX0_recentlyExpired_3 : decode cX0_recentlyExpired 3 = .ok (.iload_n 1, 1) := dk_27 (dk_at dksX0_recentlyExpired_0 3 rfl rfl)
theorem dX0_recentlyExpired_4 : decode cX0_recentlyExpired 4 = .ok (.invokevirtual 143, 3) := dk_182 0 143 (dk_at dksX0_recentlyExpired_0 4 rfl rfl)
theorem dX0_recentlyExpired_7 : decode cX0_recentlyExpired 7 = .ok (.i2l, 1) := dk_133 (dk_at dksX0_recentlyExpired_0 7 rfl rfl)
theorem dX0_recentlyExpired_8 : decode cX0_recentlyExpired 8 = .ok (.lastore, 1) := dk_80 (dk_at dksX0_recentlyExpired_0 8 rfl rfl)
theorem dX0_recentlyExpired_9 : decode cX0_recentlyExpired 9 = .ok (.goto 6, 3) := dk_167 0 6 (dk_at dksX0_recentlyExpired_0 9 rfl rfl)
theorem dX0_recentlyExpired_12 : decode cX0_recentlyExpired 12 = .ok (.astore_n 3, 1) := dk_78 (dk_at dksX0_recentlyExpired_0 12 rfl rfl)
theorem dX0_recentlyExpired_13 : decode cX0_recentlyExpired 13 = .ok (.iconst 1, 1) := dk_4 (dk_at dksX0_recentlyExpired_0 13 rfl rfl)
theorem dX0_recentlyExpired_14 : decode cX0_recentlyExpired 14 = .ok (.ireturn, 1) := dk_172 (dk_at dksX0_recentlyExpired_0 14 rfl rfl)
theorem dX0_recentlyExpired_15 : decode cX0_recentlyExpired 15 = .ok (.iconst 0, 1) := dk_3 (dk_at dksX0_recentlyExpired_0 15 rfl rfl)
theorem dX0_recentlyExpired_16 : decode cX0_recentlyExpired 16 = .ok (.ireturn, 1) := dk_172 (dk_at dksX0_recentlyExpired_0 16 rfl rfl)
abbrev cX0_format : ByteArray := method_44_code
def yX0_format : MethodName := ⟨RX0, "format", "(LClaimRegistry;I[J)I"⟩
def dkwX0_format_0 : List UInt8 := [44, 3, 42, 27, 182, 0, 146, 133, 80, 167, 0, 6, 78, 4, 172, 3, 172]
abbrev dktX0_format_0 : List UInt8 := dkwX0_format_0 ++ []
theorem dksX0_format_0 : cX0_format.data.toList.drop 0 = dktX0_format_0 := by decide +kernel
theorem dX0_format_0 : decode cX0_format 0 = .ok (.aload_n 2, 1) := dk_44 (dk_at dksX0_format_0 0 rfl rfl)
theorem dX0_format_1 : decode cX0_format 1 = .ok (.iconst 0, 1) := dk_3 (dk_at dksX0_format_0 1 rfl rfl)
theorem dX0_format_2 : decode cX0_format 2 = .ok (.aload_n 0, 1) := dk_42 (dk_at dksX0_format_0 2 rfl rfl)
theorem dX0_format_3 : decode cX0_format 3 = .ok (.iload_n 1, 1) := dk_27 (dk_at dksX0_format_0 3 rfl rfl)
theorem dX0_format_4 : decode cX0_format 4 = .ok (.invokevirtual 146, 3) := dk_182 0 146 (dk_at dksX0_format_0 4 rfl rfl)
theorem dX0_format_7 : decode cX0_format 7 = .ok (.i2l, 1) := dk_133 (dk_at dksX0_format_0 7 rfl rfl)
theorem dX0_format_8 : decode cX0_format 8 = .ok (.lastore, 1) := dk_80 (dk_at dksX0_format_0 8 rfl rfl)
theorem dX0_format_9 : decode cX0_format 9 = .ok (.goto 6, 3) := dk_167 0 6 (dk_at dksX0_format_0 9 rfl rfl)
theorem dX0_format_12 : decode cX0_format 12 = .ok (.astore_n 3, 1) := dk_78 (dk_at dksX0_format_0 12 rfl rfl)
theorem dX0_format_13 : decode cX0_format 13 = .ok (.iconst 1, 1) := dk_4 (dk_at dksX0_format_0 13 rfl rfl)
theorem dX0_format_14 : decode cX0_format 14 = .ok (.ireturn, 1) := dk_172 (dk_at dksX0_format_0 14 rfl rfl)
theorem dX0_format_15 : decode cX0_format 15 = .ok (.iconst 0, 1) := dk_3 (dk_at dksX0_format_0 15 rfl rfl)
theorem dX0_format_16 : decode cX0_format 16 = .ok (.ireturn, 1) := dk_172 (dk_at dksX0_format_0 16 rfl rfl)
abbrev cX0_lineChar : ByteArray := method_45_code
def yX0_lineChar : MethodName := ⟨RX0, "lineChar", "(LClaimRegistry;I[J)I"⟩
def dkwX0_lineChar_0 : List UInt8 := [44, 3, 42, 27, 182, 0, 149, 133, 80, 167, 0, 6, 78, 4, 172, 3, 172]
abbrev dktX0_lineChar_0 : List UInt8 := dkwX0_lineChar_0 ++ []
theorem dksX0_lineChar_0 : cX0_lineChar.data.toList.drop 0 = dktX0_lineChar_0 := by decide +kernel
theorem dX0_lineChar_0 : decode cX0_lineChar 0 = .ok (.aload_n 2, 1) := dk_44 (dk_at dksX0_lineChar_0 0 rfl rfl)
theorem dX0_lineChar_1 : decode cX0_lineChar 1 = .ok (.iconst 0, 1) := dk_3 (dk_at dksX0_lineChar_0 1 rfl rfl)
theorem dX0_lineChar_2 : decode cX0_lineChar 2 = .ok (.aload_n 0, 1) := dk_42 (dk_at dksX0_lineChar_0 2 rfl rfl)
theorem dX0_lineChar_3 : decode cX0_lineChar 3 = .ok (.iload_n 1, 1) := dk_27 (dk_at dksX0_lineChar_0 3 rfl rfl)
theorem dX0_lineChar_4 : decode cX0_lineChar 4 = .ok (.invokevirtual 149, 3) := dk_182 0 149 (dk_at dksX0_lineChar_0 4 rfl rfl)
theorem dX0_lineChar_7 : decode cX0_lineChar 7 = .ok (.i2l, 1) := dk_133 (dk_at dksX0_lineChar_0 7 rfl rfl)
theorem dX0_lineChar_8 : decode cX0_lineChar 8 = .ok (.lastore, 1) := dk_80 (dk_at dksX0_lineChar_0 8 rfl rfl)
theorem dX0_lineChar_9 : decode cX0_lineChar 9 = .ok (.goto 6, 3) := dk_167 0 6 (dk_at dksX0_lineChar_0 9 rfl rfl)
theorem dX0_lineChar_12 : decode cX0_lineChar 12 = .ok (.astore_n 3, 1) := dk_78 (dk_at dksX0_lineChar_0 12 rfl rfl)
theorem dX0_lineChar_13 : decode cX0_lineChar 13 = .ok (.iconst 1, 1) := dk_4 (dk_at dksX0_lineChar_0 13 rfl rfl)
theorem dX0_lineChar_14 : decode cX0_lineChar 14 = .ok (.ireturn, 1) := dk_172 (dk_at dksX0_lineChar_0 14 rfl rfl)
theorem dX0_lineChar_15 : decode cX0_lineChar 15 = .ok (.iconst 0, 1) := dk_3 (dk_at dksX0_lineChar_0 15 rfl rfl)
theorem dX0_lineChar_16 : decode cX0_lineChar 16 = .ok (.ireturn, 1) := dk_172 (dk_at dksX0_lineChar_0 16 rfl rfl)
abbrev cX0_append : ByteArray := method_46_code
def yX0_append : MethodName := ⟨RX0, "append", "(LClaimRegistry;C[J)I"⟩
def dkwX0_append_0 : List UInt8 := [44, 3, 42, 27, 182, 0, 153, 133, 80, 167, 0, 9, 78, 4, 172, 78, 5, 172, 3, 172]
abbrev dktX0_append_0 : List UInt8 := dkwX0_append_0 ++ []
theorem dksX0_append_0 : cX0_append.data.toList.drop 0 = dktX0_append_0 := by decide +kernel
theorem dX0_append_0 : decode cX0_append 0 = .ok (.aload_n 2, 1) := dk_44 (dk_at dksX0_append_0 0 rfl rfl)
theorem dX0_append_1 : decode cX0_append 1 = .ok (.iconst 0, 1) := dk_3 (dk_at dksX0_append_0 1 rfl rfl)
theorem dX0_append_2 : decode cX0_append 2 = .ok (.aload_n 0, 1) := dk_42 (dk_at dksX0_append_0 2 rfl rfl)
theorem dX0_append_3 : decode cX0_append 3 = .ok (.iload_n 1, 1) := dk_27 (dk_at dksX0_append_0 3 rfl rfl)
theorem dX0_append_4 : decode cX0_append 4 = .ok (.invokevirtual 153, 3) := dk_182 0 153 (dk_at dksX0_append_0 4 rfl rfl)
theorem dX0_append_7 : decode cX0_append 7 = .ok (.i2l, 1) := dk_133 (dk_at dksX0_append_0 7 rfl rfl)
theorem dX0_append_8 : decode cX0_append 8 = .ok (.lastore, 1) := dk_80 (dk_at dksX0_append_0 8 rfl rfl)
theorem dX0_append_9 : decode cX0_append 9 = .ok (.goto 9, 3) := dk_167 0 9 (dk_at dksX0_append_0 9 rfl rfl)
theorem dX0_append_12 : decode cX0_append 12 = .ok (.astore_n 3, 1) := dk_78 (dk_at dksX0_append_0 12 rfl rfl)
theorem dX0_append_13 : decode cX0_append 13 = .ok (.iconst 1, 1) := dk_4 (dk_at dksX0_append_0 13 rfl rfl)
theorem dX0_append_14 : decode cX0_append 14 = .ok (.ireturn, 1) := dk_172 (dk_at dksX0_append_0 14 rfl rfl)
theorem dX0_append_15 : decode cX0_append 15 = .ok (.astore_n 3, 1) := dk_78 (dk_at dksX0_append_0 15 rfl rfl)
theorem dX0_append_16 : decode cX0_append 16 = .ok (.iconst 2, 1) := dk_5 (dk_at dksX0_append_0 16 rfl rfl)
theorem dX0_append_17 : decode cX0_append 17 = .ok (.ireturn, 1) := dk_172 (dk_at dksX0_append_0 17 rfl rfl)
theorem dX0_append_18 : decode cX0_append 18 = .ok (.iconst 0, 1) := dk_3 (dk_at dksX0_append_0 18 rfl rfl)
theorem dX0_append_19 : decode cX0_append 19 = .ok (.ireturn, 1) := dk_172 (dk_at dksX0_append_0 19 rfl rfl)
abbrev cX0_run : ByteArray := method_47_code
def yX0_run : MethodName := ⟨RX0, "run", "(LClaimRegistry;[J)I"⟩
def dkwX0_run_0 : List UInt8 := [43, 3, 42, 182, 0, 157, 133, 80, 167, 0, 9, 77, 4, 172, 77, 5, 172, 3, 172]
abbrev dktX0_run_0 : List UInt8 := dkwX0_run_0 ++ []
theorem dksX0_run_0 : cX0_run.data.toList.drop 0 = dktX0_run_0 := by decide +kernel
theorem dX0_run_0 : decode cX0_run 0 = .ok (.aload_n 1, 1) := dk_43 (dk_at dksX0_run_0 0 rfl rfl)
theorem dX0_run_1 : decode cX0_run 1 = .ok (.iconst 0, 1) := dk_3 (dk_at dksX0_run_0 1 rfl rfl)
theorem dX0_run_2 : decode cX0_run 2 = .ok (.aload_n 0, 1) := dk_42 (dk_at dksX0_run_0 2 rfl rfl)
theorem dX0_run_3 : decode cX0_run 3 = .ok (.invokevirtual 157, 3) := dk_182 0 157 (dk_at dksX0_run_0 3 rfl rfl)
theorem dX0_run_6 : decode cX0_run 6 = .ok (.i2l, 1) := dk_133 (dk_at dksX0_run_0 6 rfl rfl)
theorem dX0_run_7 : decode cX0_run 7 = .ok (.lastore, 1) := dk_80 (dk_at dksX0_run_0 7 rfl rfl)
theorem dX0_run_8 : decode cX0_run 8 = .ok (.goto 9, 3) := dk_167 0 9 (dk_at dksX0_run_0 8 rfl rfl)
theorem dX0_run_11 : decode cX0_run 11 = .ok (.astore_n 2, 1) := dk_77 (dk_at dksX0_run_0 11 rfl rfl)
theorem dX0_run_12 : decode cX0_run 12 = .ok (.iconst 1, 1) := dk_4 (dk_at dksX0_run_0 12 rfl rfl)
theorem dX0_run_13 : decode cX0_run 13 = .ok (.ireturn, 1) := dk_172 (dk_at dksX0_run_0 13 rfl rfl)
theorem dX0_run_14 : decode cX0_run 14 = .ok (.astore_n 2, 1) := dk_77 (dk_at dksX0_run_0 14 rfl rfl)
theorem dX0_run_15 : decode cX0_run 15 = .ok (.iconst 2, 1) := dk_5 (dk_at dksX0_run_0 15 rfl rfl)
theorem dX0_run_16 : decode cX0_run 16 = .ok (.ireturn, 1) := dk_172 (dk_at dksX0_run_0 16 rfl rfl)
theorem dX0_run_17 : decode cX0_run 17 = .ok (.iconst 0, 1) := dk_3 (dk_at dksX0_run_0 17 rfl rfl)
theorem dX0_run_18 : decode cX0_run 18 = .ok (.ireturn, 1) := dk_172 (dk_at dksX0_run_0 18 rfl rfl)
abbrev cX0_errorPosition : ByteArray := method_48_code
def yX0_errorPosition : MethodName := ⟨RX0, "errorPosition", "(LClaimRegistry;[J)I"⟩
def dkwX0_errorPosition_0 : List UInt8 := [43, 3, 42, 182, 0, 160, 133, 80, 167, 0, 6, 77, 4, 172, 3, 172]
abbrev dktX0_errorPosition_0 : List UInt8 := dkwX0_errorPosition_0 ++ []
theorem dksX0_errorPosition_0 : cX0_errorPosition.data.toList.drop 0 = dktX0_errorPosition_0 := by decide +kernel
theorem dX0_errorPosition_0 : decode cX0_errorPosition 0 = .ok (.aload_n 1, 1) := dk_43 (dk_at dksX0_errorPosition_0 0 rfl rfl)
theorem dX0_errorPosition_1 : decode cX0_errorPosition 1 = .ok (.iconst 0, 1) := dk_3 (dk_at dksX0_errorPosition_0 1 rfl rfl)
theorem dX0_errorPosition_2 : decode cX0_errorPosition 2 = .ok (.aload_n 0, 1) := dk_42 (dk_at dksX0_errorPosition_0 2 rfl rfl)
theorem dX0_errorPosition_3 : decode cX0_errorPosition 3 = .ok (.invokevirtual 160, 3) := dk_182 0 160 (dk_at dksX0_errorPosition_0 3 rfl rfl)
theorem dX0_errorPosition_6 : decode cX0_errorPosition 6 = .ok (.i2l, 1) := dk_133 (dk_at dksX0_errorPosition_0 6 rfl rfl)
theorem dX0_errorPosition_7 : decode cX0_errorPosition 7 = .ok (.lastore, 1) := dk_80 (dk_at dksX0_errorPosition_0 7 rfl rfl)
theorem dX0_errorPosition_8 : decode cX0_errorPosition 8 = .ok (.goto 6, 3) := dk_167 0 6 (dk_at dksX0_errorPosition_0 8 rfl rfl)
theorem dX0_errorPosition_11 : decode cX0_errorPosition 11 = .ok (.astore_n 2, 1) := dk_77 (dk_at dksX0_errorPosition_0 11 rfl rfl)
theorem dX0_errorPosition_12 : decode cX0_errorPosition 12 = .ok (.iconst 1, 1) := dk_4 (dk_at dksX0_errorPosition_0 12 rfl rfl)
theorem dX0_errorPosition_13 : decode cX0_errorPosition 13 = .ok (.ireturn, 1) := dk_172 (dk_at dksX0_errorPosition_0 13 rfl rfl)
theorem dX0_errorPosition_14 : decode cX0_errorPosition 14 = .ok (.iconst 0, 1) := dk_3 (dk_at dksX0_errorPosition_0 14 rfl rfl)
theorem dX0_errorPosition_15 : decode cX0_errorPosition 15 = .ok (.ireturn, 1) := dk_172 (dk_at dksX0_errorPosition_0 15 rfl rfl)
abbrev cX0_failedCommand : ByteArray := method_49_code
def yX0_failedCommand : MethodName := ⟨RX0, "failedCommand", "(LClaimRegistry;[J)I"⟩
def dkwX0_failedCommand_0 : List UInt8 := [43, 3, 42, 182, 0, 163, 133, 80, 167, 0, 6, 77, 4, 172, 3, 172]
abbrev dktX0_failedCommand_0 : List UInt8 := dkwX0_failedCommand_0 ++ []
theorem dksX0_failedCommand_0 : cX0_failedCommand.data.toList.drop 0 = dktX0_failedCommand_0 := by decide +kernel
theorem dX0_failedCommand_0 : decode cX0_failedCommand 0 = .ok (.aload_n 1, 1) := dk_43 (dk_at dksX0_failedCommand_0 0 rfl rfl)
theorem dX0_failedCommand_1 : decode cX0_failedCommand 1 = .ok (.iconst 0, 1) := dk_3 (dk_at dksX0_failedCommand_0 1 rfl rfl)
theorem dX0_failedCommand_2 : decode cX0_failedCommand 2 = .ok (.aload_n 0, 1) := dk_42 (dk_at dksX0_failedCommand_0 2 rfl rfl)
theorem dX0_failedCommand_3 : decode cX0_failedCommand 3 = .ok (.invokevirtual 163, 3) := dk_182 0 163 (dk_at dksX0_failedCommand_0 3 rfl rfl)
theorem dX0_failedCommand_6 : decode cX0_failedCommand 6 = .ok (.i2l, 1) := dk_133 (dk_at dksX0_failedCommand_0 6 rfl rfl)
theorem dX0_failedCommand_7 : decode cX0_failedCommand 7 = .ok (.lastore, 1) := dk_80 (dk_at dksX0_failedCommand_0 7 rfl rfl)
theorem dX0_failedCommand_8 : decode cX0_failedCommand 8 = .ok (.goto 6, 3) := dk_167 0 6 (dk_at dksX0_failedCommand_0 8 rfl rfl)
theorem dX0_failedCommand_11 : decode cX0_failedCommand 11 = .ok (.astore_n 2, 1) := dk_77 (dk_at dksX0_failedCommand_0 11 rfl rfl)
theorem dX0_failedCommand_12 : decode cX0_failedCommand 12 = .ok (.iconst 1, 1) := dk_4 (dk_at dksX0_failedCommand_0 12 rfl rfl)
theorem dX0_failedCommand_13 : decode cX0_failedCommand 13 = .ok (.ireturn, 1) := dk_172 (dk_at dksX0_failedCommand_0 13 rfl rfl)
theorem dX0_failedCommand_14 : decode cX0_failedCommand 14 = .ok (.iconst 0, 1) := dk_3 (dk_at dksX0_failedCommand_0 14 rfl rfl)
theorem dX0_failedCommand_15 : decode cX0_failedCommand 15 = .ok (.ireturn, 1) := dk_172 (dk_at dksX0_failedCommand_0 15 rfl rfl)
abbrev cX0_undo : ByteArray := method_50_code
def yX0_undo : MethodName := ⟨RX0, "undo", "(LClaimRegistry;[J)I"⟩
def dkwX0_undo_0 : List UInt8 := [43, 3, 42, 182, 0, 166, 133, 80, 167, 0, 6, 77, 4, 172, 3, 172]
abbrev dktX0_undo_0 : List UInt8 := dkwX0_undo_0 ++ []
theorem dksX0_undo_0 : cX0_undo.data.toList.drop 0 = dktX0_undo_0 := by decide +kernel
theorem dX0_undo_0 : decode cX0_undo 0 = .ok (.aload_n 1, 1) := dk_43 (dk_at dksX0_undo_0 0 rfl rfl)
theorem dX0_undo_1 : decode cX0_undo 1 = .ok (.iconst 0, 1) := dk_3 (dk_at dksX0_undo_0 1 rfl rfl)
theorem dX0_undo_2 : decode cX0_undo 2 = .ok (.aload_n 0, 1) := dk_42 (dk_at dksX0_undo_0 2 rfl rfl)
theorem dX0_undo_3 : decode cX0_undo 3 = .ok (.invokevirtual 166, 3) := dk_182 0 166 (dk_at dksX0_undo_0 3 rfl rfl)
theorem dX0_undo_6 : decode cX0_undo 6 = .ok (.i2l, 1) := dk_133 (dk_at dksX0_undo_0 6 rfl rfl)
theorem dX0_undo_7 : decode cX0_undo 7 = .ok (.lastore, 1) := dk_80 (dk_at dksX0_undo_0 7 rfl rfl)
theorem dX0_undo_8 : decode cX0_undo 8 = .ok (.goto 6, 3) := dk_167 0 6 (dk_at dksX0_undo_0 8 rfl rfl)
theorem dX0_undo_11 : decode cX0_undo 11 = .ok (.astore_n 2, 1) := dk_77 (dk_at dksX0_undo_0 11 rfl rfl)
theorem dX0_undo_12 : decode cX0_undo 12 = .ok (.iconst 1, 1) := dk_4 (dk_at dksX0_undo_0 12 rfl rfl)
theorem dX0_undo_13 : decode cX0_undo 13 = .ok (.ireturn, 1) := dk_172 (dk_at dksX0_undo_0 13 rfl rfl)
theorem dX0_undo_14 : decode cX0_undo 14 = .ok (.iconst 0, 1) := dk_3 (dk_at dksX0_undo_0 14 rfl rfl)
theorem dX0_undo_15 : decode cX0_undo 15 = .ok (.ireturn, 1) := dk_172 (dk_at dksX0_undo_0 15 rfl rfl)
abbrev cX0_restore : ByteArray := method_51_code
def yX0_restore : MethodName := ⟨RX0, "restore", "(LClaimRegistry;[J)I"⟩
def dkwX0_restore_0 : List UInt8 := [43, 3, 42, 182, 0, 169, 133, 80, 167, 0, 6, 77, 4, 172, 3, 172]
abbrev dktX0_restore_0 : List UInt8 := dkwX0_restore_0 ++ []
theorem dksX0_restore_0 : cX0_restore.data.toList.drop 0 = dktX0_restore_0 := by decide +kernel
theorem dX0_restore_0 : decode cX0_restore 0 = .ok (.aload_n 1, 1) := dk_43 (dk_at dksX0_restore_0 0 rfl rfl)
theorem dX0_restore_1 : decode cX0_restore 1 = .ok (.iconst 0, 1) := dk_3 (dk_at dksX0_restore_0 1 rfl rfl)
theorem dX0_restore_2 : decode cX0_restore 2 = .ok (.aload_n 0, 1) := dk_42 (dk_at dksX0_restore_0 2 rfl rfl)
theorem dX0_restore_3 : decode cX0_restore 3 = .ok (.invokevirtual 169, 3) := dk_182 0 169 (dk_at dksX0_restore_0 3 rfl rfl)
theorem dX0_restore_6 : decode cX0_restore 6 = .ok (.i2l, 1) := dk_133 (dk_at dksX0_restore_0 6 rfl rfl)
theorem dX0_restore_7 : decode cX0_restore 7 = .ok (.lastore, 1) := dk_80 (dk_at dksX0_restore_0 7 rfl rfl)
theorem dX0_restore_8 : decode cX0_restore 8 = .ok (.goto 6, 3) := dk_167 0 6 (dk_at dksX0_restore_0 8 rfl rfl)
theorem dX0_restore_11 : decode cX0_restore 11 = .ok (.astore_n 2, 1) := dk_77 (dk_at dksX0_restore_0 11 rfl rfl)
theorem dX0_restore_12 : decode cX0_restore 12 = .ok (.iconst 1, 1) := dk_4 (dk_at dksX0_restore_0 12 rfl rfl)
theorem dX0_restore_13 : decode cX0_restore 13 = .ok (.ireturn, 1) := dk_172 (dk_at dksX0_restore_0 13 rfl rfl)
theorem dX0_restore_14 : decode cX0_restore 14 = .ok (.iconst 0, 1) := dk_3 (dk_at dksX0_restore_0 14 rfl rfl)
theorem dX0_restore_15 : decode cX0_restore 15 = .ok (.ireturn, 1) := dk_172 (dk_at dksX0_restore_0 15 rfl rfl)
theorem q94 : (Jvm.Cond.initialized "ClaimRegistryLaw") ∈ lw_all := lw_g (lw_at lw_m1 0 rfl) rfl
theorem q145 : (Jvm.Cond.classLink "ClaimRegistryLaw" (8 : Nat) "ClaimRegistry") ∈ lw_all := lw_g (lw_at lw_m1 51 rfl) rfl
theorem q147 : (Jvm.Cond.methodLink "ClaimRegistryLaw" (172 : Nat) ({ cls := "ClaimRegistry", name := "<init>", desc := "()V" } : Jvm.MethodName)) ∈ lw_all := lw_g (lw_at lw_m1 53 rfl) rfl
theorem q324 : (Jvm.Cond.methodLink "ClaimRegistryLaw" (196 : Nat) ({ cls := "ClaimRegistry", name := "tick", desc := "()I" } : Jvm.MethodName)) ∈ lw_all := lw_g (lw_at lw_m1 230 rfl) rfl
theorem q1356 : (Jvm.Cond.methodLink "ClaimRegistryLaw" (209 : Nat) ({ cls := "ClaimRegistry", name := "time", desc := "()I" } : Jvm.MethodName)) ∈ lw_all := lw_g (lw_at lw_m6 62 rfl) rfl
theorem q1360 : (Jvm.Cond.methodLink "ClaimRegistryLaw" (213 : Nat) ({ cls := "ClaimRegistry", name := "phase", desc := "()I" } : Jvm.MethodName)) ∈ lw_all := lw_g (lw_at lw_m6 66 rfl) rfl
theorem q1365 : (Jvm.Cond.methodLink "ClaimRegistryLaw" (220 : Nat) ({ cls := "ClaimRegistry", name := "activeCount", desc := "()I" } : Jvm.MethodName)) ∈ lw_all := lw_g (lw_at lw_m6 71 rfl) rfl
theorem q1370 : (Jvm.Cond.methodLink "ClaimRegistryLaw" (224 : Nat) ({ cls := "ClaimRegistry", name := "isActive", desc := "(I)Z" } : Jvm.MethodName)) ∈ lw_all := lw_g (lw_at lw_m6 76 rfl) rfl
theorem q1378 : (Jvm.Cond.methodLink "ClaimRegistryLaw" (304 : Nat) ({ cls := "ClaimRegistry", name := "hasCycle", desc := "()Z" } : Jvm.MethodName)) ∈ lw_all := lw_g (lw_at lw_m6 84 rfl) rfl
theorem q1399 : (Jvm.Cond.methodLink "ClaimRegistryLaw" (333 : Nat) ({ cls := "ClaimRegistry", name := "expiredCount", desc := "()I" } : Jvm.MethodName)) ∈ lw_all := lw_g (lw_at lw_m6 105 rfl) rfl
theorem q1403 : (Jvm.Cond.methodLink "ClaimRegistryLaw" (337 : Nat) ({ cls := "ClaimRegistry", name := "settledCount", desc := "()I" } : Jvm.MethodName)) ∈ lw_all := lw_g (lw_at lw_m6 109 rfl) rfl
theorem q1407 : (Jvm.Cond.methodLink "ClaimRegistryLaw" (341 : Nat) ({ cls := "ClaimRegistry", name := "voidedCount", desc := "()I" } : Jvm.MethodName)) ∈ lw_all := lw_g (lw_at lw_m6 113 rfl) rfl
theorem q1411 : (Jvm.Cond.methodLink "ClaimRegistryLaw" (345 : Nat) ({ cls := "ClaimRegistry", name := "interestTotal", desc := "()J" } : Jvm.MethodName)) ∈ lw_all := lw_g (lw_at lw_m6 117 rfl) rfl
theorem q1415 : (Jvm.Cond.methodLink "ClaimRegistryLaw" (350 : Nat) ({ cls := "ClaimRegistry", name := "activeWeight", desc := "()J" } : Jvm.MethodName)) ∈ lw_all := lw_g (lw_at lw_m6 121 rfl) rfl
theorem q1433 : (Jvm.Cond.methodLink "ClaimRegistryLaw" (354 : Nat) ({ cls := "ClaimRegistry", name := "closedWeight", desc := "()J" } : Jvm.MethodName)) ∈ lw_all := lw_g (lw_at lw_m6 139 rfl) rfl
theorem q1437 : (Jvm.Cond.methodLink "ClaimRegistryLaw" (358 : Nat) ({ cls := "ClaimRegistry", name := "isConsistent", desc := "()Z" } : Jvm.MethodName)) ∈ lw_all := lw_g (lw_at lw_m6 143 rfl) rfl
theorem q1494 : (Jvm.Cond.methodLink "ClaimRegistryLaw" (381 : Nat) ({ cls := "ClaimRegistry", name := "undoableCount", desc := "()I" } : Jvm.MethodName)) ∈ lw_all := lw_g (lw_at lw_m6 200 rfl) rfl
theorem q1498 : (Jvm.Cond.methodLink "ClaimRegistryLaw" (388 : Nat) ({ cls := "ClaimRegistry", name := "save", desc := "()I" } : Jvm.MethodName)) ∈ lw_all := lw_g (lw_at lw_m6 204 rfl) rfl
theorem q1502 : (Jvm.Cond.methodLink "ClaimRegistryLaw" (176 : Nat) ({ cls := "ClaimRegistryLaw", name := "add", desc := "(LClaimRegistry;IIII[J)I" } : Jvm.MethodName)) ∈ lw_all := lw_g (lw_at lw_m6 208 rfl) rfl
theorem q1503 : (Jvm.Cond.static ({ cls := "ClaimRegistryLaw", name := "add", desc := "(LClaimRegistry;IIII[J)I" } : Jvm.MethodName)) ∈ lw_all := lw_g (lw_at lw_m6 209 rfl) rfl
theorem q1504 : (Jvm.Cond.codeWith ({ cls := "ClaimRegistryLaw", name := "add", desc := "(LClaimRegistry;IIII[J)I" } : Jvm.MethodName) method_3_code (7 : Nat) (Option.some Jvm.ClassFile.FieldType.int) [((0 : Nat), (14 : Nat), (17 : Nat), (13 : Nat)), ((0 : Nat), (14 : Nat), (21 : Nat), (15 : Nat))]) ∈ lw_all := lw_g (lw_at lw_m6 210 rfl) rfl
theorem q1505 : (Jvm.Cond.classLink "ClaimRegistryLaw" (13 : Nat) "java/lang/IllegalArgumentException") ∈ lw_all := lw_g (lw_at lw_m6 211 rfl) rfl
theorem q1506 : (Jvm.Cond.classLink "ClaimRegistryLaw" (15 : Nat) "java/lang/IllegalStateException") ∈ lw_all := lw_g (lw_at lw_m6 212 rfl) rfl
theorem q1507 : (Jvm.Cond.methodLink "ClaimRegistryLaw" (7 : Nat) ({ cls := "ClaimRegistry", name := "add", desc := "(IIII)I" } : Jvm.MethodName)) ∈ lw_all := lw_g (lw_at lw_m6 213 rfl) rfl
theorem q1535 : (Jvm.Cond.methodLink "ClaimRegistryLaw" (185 : Nat) ({ cls := "ClaimRegistryLaw", name := "sign", desc := "(LClaimRegistry;II[J)I" } : Jvm.MethodName)) ∈ lw_all := lw_g (lw_at lw_m7 1 rfl) rfl
theorem q1536 : (Jvm.Cond.static ({ cls := "ClaimRegistryLaw", name := "sign", desc := "(LClaimRegistry;II[J)I" } : Jvm.MethodName)) ∈ lw_all := lw_g (lw_at lw_m7 2 rfl) rfl
theorem q1537 : (Jvm.Cond.codeWith ({ cls := "ClaimRegistryLaw", name := "sign", desc := "(LClaimRegistry;II[J)I" } : Jvm.MethodName) method_4_code (5 : Nat) (Option.some Jvm.ClassFile.FieldType.int) [((0 : Nat), (10 : Nat), (13 : Nat), (21 : Nat)), ((0 : Nat), (10 : Nat), (17 : Nat), (13 : Nat)), ((0 : Nat), (10 : Nat), (21 : Nat), (15 : Nat))]) ∈ lw_all := lw_g (lw_at lw_m7 3 rfl) rfl
theorem q1538 : (Jvm.Cond.classLink "ClaimRegistryLaw" (21 : Nat) "java/util/NoSuchElementException") ∈ lw_all := lw_g (lw_at lw_m7 4 rfl) rfl
theorem q1539 : (Jvm.Cond.methodLink "ClaimRegistryLaw" (17 : Nat) ({ cls := "ClaimRegistry", name := "sign", desc := "(II)I" } : Jvm.MethodName)) ∈ lw_all := lw_g (lw_at lw_m7 5 rfl) rfl
theorem q1566 : (Jvm.Cond.methodLink "ClaimRegistryLaw" (189 : Nat) ({ cls := "ClaimRegistryLaw", name := "countersign", desc := "(LClaimRegistry;II[J)I" } : Jvm.MethodName)) ∈ lw_all := lw_g (lw_at lw_m7 32 rfl) rfl
theorem q1567 : (Jvm.Cond.static ({ cls := "ClaimRegistryLaw", name := "countersign", desc := "(LClaimRegistry;II[J)I" } : Jvm.MethodName)) ∈ lw_all := lw_g (lw_at lw_m7 33 rfl) rfl
theorem q1568 : (Jvm.Cond.codeWith ({ cls := "ClaimRegistryLaw", name := "countersign", desc := "(LClaimRegistry;II[J)I" } : Jvm.MethodName) method_5_code (5 : Nat) (Option.some Jvm.ClassFile.FieldType.int) [((0 : Nat), (10 : Nat), (13 : Nat), (21 : Nat)), ((0 : Nat), (10 : Nat), (17 : Nat), (13 : Nat)), ((0 : Nat), (10 : Nat), (21 : Nat), (15 : Nat))]) ∈ lw_all := lw_g (lw_at lw_m7 34 rfl) rfl
theorem q1569 : (Jvm.Cond.methodLink "ClaimRegistryLaw" (23 : Nat) ({ cls := "ClaimRegistry", name := "countersign", desc := "(II)I" } : Jvm.MethodName)) ∈ lw_all := lw_g (lw_at lw_m7 35 rfl) rfl
theorem q1590 : (Jvm.Cond.methodLink "ClaimRegistryLaw" (192 : Nat) ({ cls := "ClaimRegistryLaw", name := "settle", desc := "(LClaimRegistry;I[J)I" } : Jvm.MethodName)) ∈ lw_all := lw_g (lw_at lw_m7 56 rfl) rfl
theorem q1591 : (Jvm.Cond.static ({ cls := "ClaimRegistryLaw", name := "settle", desc := "(LClaimRegistry;I[J)I" } : Jvm.MethodName)) ∈ lw_all := lw_g (lw_at lw_m7 57 rfl) rfl
theorem q1592 : (Jvm.Cond.codeWith ({ cls := "ClaimRegistryLaw", name := "settle", desc := "(LClaimRegistry;I[J)I" } : Jvm.MethodName) method_6_code (4 : Nat) (Option.some Jvm.ClassFile.FieldType.int) [((0 : Nat), (9 : Nat), (12 : Nat), (21 : Nat)), ((0 : Nat), (9 : Nat), (15 : Nat), (15 : Nat))]) ∈ lw_all := lw_g (lw_at lw_m7 58 rfl) rfl
theorem q1593 : (Jvm.Cond.methodLink "ClaimRegistryLaw" (26 : Nat) ({ cls := "ClaimRegistry", name := "settle", desc := "(I)I" } : Jvm.MethodName)) ∈ lw_all := lw_g (lw_at lw_m7 59 rfl) rfl
theorem q1605 : (Jvm.Cond.methodLink "ClaimRegistryLaw" (200 : Nat) ({ cls := "ClaimRegistryLaw", name := "advance", desc := "(LClaimRegistry;I[J)I" } : Jvm.MethodName)) ∈ lw_all := lw_g (lw_at lw_m7 71 rfl) rfl
theorem q1606 : (Jvm.Cond.static ({ cls := "ClaimRegistryLaw", name := "advance", desc := "(LClaimRegistry;I[J)I" } : Jvm.MethodName)) ∈ lw_all := lw_g (lw_at lw_m7 72 rfl) rfl
theorem q1607 : (Jvm.Cond.codeWith ({ cls := "ClaimRegistryLaw", name := "advance", desc := "(LClaimRegistry;I[J)I" } : Jvm.MethodName) method_7_code (4 : Nat) (Option.some Jvm.ClassFile.FieldType.int) [((0 : Nat), (9 : Nat), (12 : Nat), (13 : Nat))]) ∈ lw_all := lw_g (lw_at lw_m7 73 rfl) rfl
theorem q1608 : (Jvm.Cond.methodLink "ClaimRegistryLaw" (30 : Nat) ({ cls := "ClaimRegistry", name := "advance", desc := "(I)I" } : Jvm.MethodName)) ∈ lw_all := lw_g (lw_at lw_m7 74 rfl) rfl
theorem q1612 : (Jvm.Cond.methodLink "ClaimRegistryLaw" (203 : Nat) ({ cls := "ClaimRegistryLaw", name := "audit", desc := "(LClaimRegistry;I[J)I" } : Jvm.MethodName)) ∈ lw_all := lw_g (lw_at lw_m7 78 rfl) rfl
theorem q1613 : (Jvm.Cond.static ({ cls := "ClaimRegistryLaw", name := "audit", desc := "(LClaimRegistry;I[J)I" } : Jvm.MethodName)) ∈ lw_all := lw_g (lw_at lw_m7 79 rfl) rfl
theorem q1614 : (Jvm.Cond.codeWith ({ cls := "ClaimRegistryLaw", name := "audit", desc := "(LClaimRegistry;I[J)I" } : Jvm.MethodName) method_8_code (4 : Nat) (Option.some Jvm.ClassFile.FieldType.int) [((0 : Nat), (9 : Nat), (12 : Nat), (13 : Nat))]) ∈ lw_all := lw_g (lw_at lw_m7 80 rfl) rfl
theorem q1615 : (Jvm.Cond.methodLink "ClaimRegistryLaw" (33 : Nat) ({ cls := "ClaimRegistry", name := "audit", desc := "(I)I" } : Jvm.MethodName)) ∈ lw_all := lw_g (lw_at lw_m7 81 rfl) rfl
theorem q1636 : (Jvm.Cond.methodLink "ClaimRegistryLaw" (206 : Nat) ({ cls := "ClaimRegistryLaw", name := "setRate", desc := "(LClaimRegistry;II[J)I" } : Jvm.MethodName)) ∈ lw_all := lw_g (lw_at lw_m7 102 rfl) rfl
theorem q1637 : (Jvm.Cond.static ({ cls := "ClaimRegistryLaw", name := "setRate", desc := "(LClaimRegistry;II[J)I" } : Jvm.MethodName)) ∈ lw_all := lw_g (lw_at lw_m7 103 rfl) rfl
theorem q1638 : (Jvm.Cond.codeWith ({ cls := "ClaimRegistryLaw", name := "setRate", desc := "(LClaimRegistry;II[J)I" } : Jvm.MethodName) method_9_code (5 : Nat) (Option.some Jvm.ClassFile.FieldType.int) [((0 : Nat), (10 : Nat), (13 : Nat), (13 : Nat))]) ∈ lw_all := lw_g (lw_at lw_m7 104 rfl) rfl
theorem q1639 : (Jvm.Cond.methodLink "ClaimRegistryLaw" (36 : Nat) ({ cls := "ClaimRegistry", name := "setRate", desc := "(II)I" } : Jvm.MethodName)) ∈ lw_all := lw_g (lw_at lw_m7 105 rfl) rfl
theorem q1646 : (Jvm.Cond.methodLink "ClaimRegistryLaw" (217 : Nat) ({ cls := "ClaimRegistryLaw", name := "rate", desc := "(LClaimRegistry;I[J)I" } : Jvm.MethodName)) ∈ lw_all := lw_g (lw_at lw_m7 112 rfl) rfl
theorem q1647 : (Jvm.Cond.static ({ cls := "ClaimRegistryLaw", name := "rate", desc := "(LClaimRegistry;I[J)I" } : Jvm.MethodName)) ∈ lw_all := lw_g (lw_at lw_m7 113 rfl) rfl
theorem q1648 : (Jvm.Cond.codeWith ({ cls := "ClaimRegistryLaw", name := "rate", desc := "(LClaimRegistry;I[J)I" } : Jvm.MethodName) method_10_code (4 : Nat) (Option.some Jvm.ClassFile.FieldType.int) [((0 : Nat), (9 : Nat), (12 : Nat), (13 : Nat))]) ∈ lw_all := lw_g (lw_at lw_m7 114 rfl) rfl
theorem q1649 : (Jvm.Cond.methodLink "ClaimRegistryLaw" (39 : Nat) ({ cls := "ClaimRegistry", name := "rate", desc := "(I)I" } : Jvm.MethodName)) ∈ lw_all := lw_g (lw_at lw_m7 115 rfl) rfl
theorem q1653 : (Jvm.Cond.methodLink "ClaimRegistryLaw" (228 : Nat) ({ cls := "ClaimRegistryLaw", name := "idAt", desc := "(LClaimRegistry;I[J)I" } : Jvm.MethodName)) ∈ lw_all := lw_g (lw_at lw_m7 119 rfl) rfl
theorem q1654 : (Jvm.Cond.static ({ cls := "ClaimRegistryLaw", name := "idAt", desc := "(LClaimRegistry;I[J)I" } : Jvm.MethodName)) ∈ lw_all := lw_g (lw_at lw_m7 120 rfl) rfl
theorem q1655 : (Jvm.Cond.codeWith ({ cls := "ClaimRegistryLaw", name := "idAt", desc := "(LClaimRegistry;I[J)I" } : Jvm.MethodName) method_11_code (4 : Nat) (Option.some Jvm.ClassFile.FieldType.int) [((0 : Nat), (9 : Nat), (12 : Nat), (45 : Nat))]) ∈ lw_all := lw_g (lw_at lw_m7 121 rfl) rfl
theorem q1656 : (Jvm.Cond.classLink "ClaimRegistryLaw" (45 : Nat) "java/lang/IndexOutOfBoundsException") ∈ lw_all := lw_g (lw_at lw_m7 122 rfl) rfl
theorem q1672 : (Jvm.Cond.methodLink "ClaimRegistryLaw" (42 : Nat) ({ cls := "ClaimRegistry", name := "idAt", desc := "(I)I" } : Jvm.MethodName)) ∈ lw_all := lw_g (lw_at lw_m7 138 rfl) rfl
theorem q1685 : (Jvm.Cond.methodLink "ClaimRegistryLaw" (231 : Nat) ({ cls := "ClaimRegistryLaw", name := "debtor", desc := "(LClaimRegistry;I[J)I" } : Jvm.MethodName)) ∈ lw_all := lw_g (lw_at lw_m7 151 rfl) rfl
theorem q1686 : (Jvm.Cond.static ({ cls := "ClaimRegistryLaw", name := "debtor", desc := "(LClaimRegistry;I[J)I" } : Jvm.MethodName)) ∈ lw_all := lw_g (lw_at lw_m7 152 rfl) rfl
theorem q1687 : (Jvm.Cond.codeWith ({ cls := "ClaimRegistryLaw", name := "debtor", desc := "(LClaimRegistry;I[J)I" } : Jvm.MethodName) method_12_code (4 : Nat) (Option.some Jvm.ClassFile.FieldType.int) [((0 : Nat), (9 : Nat), (12 : Nat), (21 : Nat))]) ∈ lw_all := lw_g (lw_at lw_m7 153 rfl) rfl
theorem q1688 : (Jvm.Cond.methodLink "ClaimRegistryLaw" (47 : Nat) ({ cls := "ClaimRegistry", name := "debtor", desc := "(I)I" } : Jvm.MethodName)) ∈ lw_all := lw_g (lw_at lw_m7 154 rfl) rfl
theorem q1692 : (Jvm.Cond.methodLink "ClaimRegistryLaw" (234 : Nat) ({ cls := "ClaimRegistryLaw", name := "creditor", desc := "(LClaimRegistry;I[J)I" } : Jvm.MethodName)) ∈ lw_all := lw_g (lw_at lw_m7 158 rfl) rfl
theorem q1693 : (Jvm.Cond.static ({ cls := "ClaimRegistryLaw", name := "creditor", desc := "(LClaimRegistry;I[J)I" } : Jvm.MethodName)) ∈ lw_all := lw_g (lw_at lw_m7 159 rfl) rfl
theorem q1694 : (Jvm.Cond.codeWith ({ cls := "ClaimRegistryLaw", name := "creditor", desc := "(LClaimRegistry;I[J)I" } : Jvm.MethodName) method_13_code (4 : Nat) (Option.some Jvm.ClassFile.FieldType.int) [((0 : Nat), (9 : Nat), (12 : Nat), (21 : Nat))]) ∈ lw_all := lw_g (lw_at lw_m7 160 rfl) rfl
theorem q1695 : (Jvm.Cond.methodLink "ClaimRegistryLaw" (50 : Nat) ({ cls := "ClaimRegistry", name := "creditor", desc := "(I)I" } : Jvm.MethodName)) ∈ lw_all := lw_g (lw_at lw_m7 161 rfl) rfl
theorem q1699 : (Jvm.Cond.methodLink "ClaimRegistryLaw" (237 : Nat) ({ cls := "ClaimRegistryLaw", name := "weight", desc := "(LClaimRegistry;I[J)I" } : Jvm.MethodName)) ∈ lw_all := lw_g (lw_at lw_m7 165 rfl) rfl
theorem q1700 : (Jvm.Cond.static ({ cls := "ClaimRegistryLaw", name := "weight", desc := "(LClaimRegistry;I[J)I" } : Jvm.MethodName)) ∈ lw_all := lw_g (lw_at lw_m7 166 rfl) rfl
theorem q1701 : (Jvm.Cond.codeWith ({ cls := "ClaimRegistryLaw", name := "weight", desc := "(LClaimRegistry;I[J)I" } : Jvm.MethodName) method_14_code (4 : Nat) (Option.some Jvm.ClassFile.FieldType.int) [((0 : Nat), (9 : Nat), (12 : Nat), (21 : Nat))]) ∈ lw_all := lw_g (lw_at lw_m7 167 rfl) rfl
theorem q1702 : (Jvm.Cond.methodLink "ClaimRegistryLaw" (53 : Nat) ({ cls := "ClaimRegistry", name := "weight", desc := "(I)I" } : Jvm.MethodName)) ∈ lw_all := lw_g (lw_at lw_m7 168 rfl) rfl
theorem q1706 : (Jvm.Cond.methodLink "ClaimRegistryLaw" (240 : Nat) ({ cls := "ClaimRegistryLaw", name := "expiry", desc := "(LClaimRegistry;I[J)I" } : Jvm.MethodName)) ∈ lw_all := lw_g (lw_at lw_m7 172 rfl) rfl
theorem q1707 : (Jvm.Cond.static ({ cls := "ClaimRegistryLaw", name := "expiry", desc := "(LClaimRegistry;I[J)I" } : Jvm.MethodName)) ∈ lw_all := lw_g (lw_at lw_m7 173 rfl) rfl
theorem q1708 : (Jvm.Cond.codeWith ({ cls := "ClaimRegistryLaw", name := "expiry", desc := "(LClaimRegistry;I[J)I" } : Jvm.MethodName) method_15_code (4 : Nat) (Option.some Jvm.ClassFile.FieldType.int) [((0 : Nat), (9 : Nat), (12 : Nat), (21 : Nat))]) ∈ lw_all := lw_g (lw_at lw_m7 174 rfl) rfl
theorem q1709 : (Jvm.Cond.methodLink "ClaimRegistryLaw" (56 : Nat) ({ cls := "ClaimRegistry", name := "expiry", desc := "(I)I" } : Jvm.MethodName)) ∈ lw_all := lw_g (lw_at lw_m7 175 rfl) rfl
theorem q1713 : (Jvm.Cond.methodLink "ClaimRegistryLaw" (243 : Nat) ({ cls := "ClaimRegistryLaw", name := "strikes", desc := "(LClaimRegistry;I[J)I" } : Jvm.MethodName)) ∈ lw_all := lw_g (lw_at lw_m7 179 rfl) rfl
theorem q1714 : (Jvm.Cond.static ({ cls := "ClaimRegistryLaw", name := "strikes", desc := "(LClaimRegistry;I[J)I" } : Jvm.MethodName)) ∈ lw_all := lw_g (lw_at lw_m7 180 rfl) rfl
theorem q1715 : (Jvm.Cond.codeWith ({ cls := "ClaimRegistryLaw", name := "strikes", desc := "(LClaimRegistry;I[J)I" } : Jvm.MethodName) method_16_code (4 : Nat) (Option.some Jvm.ClassFile.FieldType.int) [((0 : Nat), (9 : Nat), (12 : Nat), (21 : Nat))]) ∈ lw_all := lw_g (lw_at lw_m7 181 rfl) rfl
theorem q1716 : (Jvm.Cond.methodLink "ClaimRegistryLaw" (59 : Nat) ({ cls := "ClaimRegistry", name := "strikes", desc := "(I)I" } : Jvm.MethodName)) ∈ lw_all := lw_g (lw_at lw_m7 182 rfl) rfl
theorem q1720 : (Jvm.Cond.methodLink "ClaimRegistryLaw" (246 : Nat) ({ cls := "ClaimRegistryLaw", name := "isSigned", desc := "(LClaimRegistry;I[J)I" } : Jvm.MethodName)) ∈ lw_all := lw_g (lw_at lw_m7 186 rfl) rfl
theorem q1721 : (Jvm.Cond.static ({ cls := "ClaimRegistryLaw", name := "isSigned", desc := "(LClaimRegistry;I[J)I" } : Jvm.MethodName)) ∈ lw_all := lw_g (lw_at lw_m7 187 rfl) rfl
theorem q1722 : (Jvm.Cond.codeWith ({ cls := "ClaimRegistryLaw", name := "isSigned", desc := "(LClaimRegistry;I[J)I" } : Jvm.MethodName) method_17_code (4 : Nat) (Option.some Jvm.ClassFile.FieldType.int) [((0 : Nat), (16 : Nat), (19 : Nat), (21 : Nat))]) ∈ lw_all := lw_g (lw_at lw_m7 188 rfl) rfl
theorem q1723 : (Jvm.Cond.methodLink "ClaimRegistryLaw" (62 : Nat) ({ cls := "ClaimRegistry", name := "isSigned", desc := "(I)Z" } : Jvm.MethodName)) ∈ lw_all := lw_g (lw_at lw_m7 189 rfl) rfl
theorem q1727 : (Jvm.Cond.methodLink "ClaimRegistryLaw" (249 : Nat) ({ cls := "ClaimRegistryLaw", name := "isCountersigned", desc := "(LClaimRegistry;I[J)I" } : Jvm.MethodName)) ∈ lw_all := lw_g (lw_at lw_m7 193 rfl) rfl
theorem q1728 : (Jvm.Cond.static ({ cls := "ClaimRegistryLaw", name := "isCountersigned", desc := "(LClaimRegistry;I[J)I" } : Jvm.MethodName)) ∈ lw_all := lw_g (lw_at lw_m7 194 rfl) rfl
theorem q1729 : (Jvm.Cond.codeWith ({ cls := "ClaimRegistryLaw", name := "isCountersigned", desc := "(LClaimRegistry;I[J)I" } : Jvm.MethodName) method_18_code (4 : Nat) (Option.some Jvm.ClassFile.FieldType.int) [((0 : Nat), (16 : Nat), (19 : Nat), (21 : Nat))]) ∈ lw_all := lw_g (lw_at lw_m7 195 rfl) rfl
theorem q1730 : (Jvm.Cond.methodLink "ClaimRegistryLaw" (66 : Nat) ({ cls := "ClaimRegistry", name := "isCountersigned", desc := "(I)Z" } : Jvm.MethodName)) ∈ lw_all := lw_g (lw_at lw_m7 196 rfl) rfl
theorem q1734 : (Jvm.Cond.methodLink "ClaimRegistryLaw" (252 : Nat) ({ cls := "ClaimRegistryLaw", name := "signer", desc := "(LClaimRegistry;I[J)I" } : Jvm.MethodName)) ∈ lw_all := lw_g (lw_at lw_m7 200 rfl) rfl
theorem q1735 : (Jvm.Cond.static ({ cls := "ClaimRegistryLaw", name := "signer", desc := "(LClaimRegistry;I[J)I" } : Jvm.MethodName)) ∈ lw_all := lw_g (lw_at lw_m7 201 rfl) rfl
theorem q1736 : (Jvm.Cond.codeWith ({ cls := "ClaimRegistryLaw", name := "signer", desc := "(LClaimRegistry;I[J)I" } : Jvm.MethodName) method_19_code (4 : Nat) (Option.some Jvm.ClassFile.FieldType.int) [((0 : Nat), (9 : Nat), (12 : Nat), (21 : Nat)), ((0 : Nat), (9 : Nat), (15 : Nat), (15 : Nat))]) ∈ lw_all := lw_g (lw_at lw_m7 202 rfl) rfl
theorem q1737 : (Jvm.Cond.methodLink "ClaimRegistryLaw" (69 : Nat) ({ cls := "ClaimRegistry", name := "signer", desc := "(I)I" } : Jvm.MethodName)) ∈ lw_all := lw_g (lw_at lw_m7 203 rfl) rfl
theorem q1741 : (Jvm.Cond.methodLink "ClaimRegistryLaw" (255 : Nat) ({ cls := "ClaimRegistryLaw", name := "countersigner", desc := "(LClaimRegistry;I[J)I" } : Jvm.MethodName)) ∈ lw_all := lw_g (lw_at lw_m7 207 rfl) rfl
theorem q1742 : (Jvm.Cond.static ({ cls := "ClaimRegistryLaw", name := "countersigner", desc := "(LClaimRegistry;I[J)I" } : Jvm.MethodName)) ∈ lw_all := lw_g (lw_at lw_m7 208 rfl) rfl
theorem q1743 : (Jvm.Cond.codeWith ({ cls := "ClaimRegistryLaw", name := "countersigner", desc := "(LClaimRegistry;I[J)I" } : Jvm.MethodName) method_20_code (4 : Nat) (Option.some Jvm.ClassFile.FieldType.int) [((0 : Nat), (9 : Nat), (12 : Nat), (21 : Nat)), ((0 : Nat), (9 : Nat), (15 : Nat), (15 : Nat))]) ∈ lw_all := lw_g (lw_at lw_m7 209 rfl) rfl
theorem q1744 : (Jvm.Cond.methodLink "ClaimRegistryLaw" (72 : Nat) ({ cls := "ClaimRegistry", name := "countersigner", desc := "(I)I" } : Jvm.MethodName)) ∈ lw_all := lw_g (lw_at lw_m7 210 rfl) rfl
theorem q1748 : (Jvm.Cond.methodLink "ClaimRegistryLaw" (258 : Nat) ({ cls := "ClaimRegistryLaw", name := "signaturesOf", desc := "(LClaimRegistry;I[J)I" } : Jvm.MethodName)) ∈ lw_all := lw_g (lw_at lw_m7 214 rfl) rfl
theorem q1749 : (Jvm.Cond.static ({ cls := "ClaimRegistryLaw", name := "signaturesOf", desc := "(LClaimRegistry;I[J)I" } : Jvm.MethodName)) ∈ lw_all := lw_g (lw_at lw_m7 215 rfl) rfl
theorem q1750 : (Jvm.Cond.codeWith ({ cls := "ClaimRegistryLaw", name := "signaturesOf", desc := "(LClaimRegistry;I[J)I" } : Jvm.MethodName) method_21_code (4 : Nat) (Option.some Jvm.ClassFile.FieldType.int) [((0 : Nat), (9 : Nat), (12 : Nat), (13 : Nat))]) ∈ lw_all := lw_g (lw_at lw_m7 216 rfl) rfl
theorem q1751 : (Jvm.Cond.methodLink "ClaimRegistryLaw" (75 : Nat) ({ cls := "ClaimRegistry", name := "signaturesOf", desc := "(I)I" } : Jvm.MethodName)) ∈ lw_all := lw_g (lw_at lw_m7 217 rfl) rfl
theorem q1755 : (Jvm.Cond.methodLink "ClaimRegistryLaw" (261 : Nat) ({ cls := "ClaimRegistryLaw", name := "countersignaturesOf", desc := "(LClaimRegistry;I[J)I" } : Jvm.MethodName)) ∈ lw_all := lw_g (lw_at lw_m7 221 rfl) rfl
theorem q1756 : (Jvm.Cond.static ({ cls := "ClaimRegistryLaw", name := "countersignaturesOf", desc := "(LClaimRegistry;I[J)I" } : Jvm.MethodName)) ∈ lw_all := lw_g (lw_at lw_m7 222 rfl) rfl
theorem q1757 : (Jvm.Cond.codeWith ({ cls := "ClaimRegistryLaw", name := "countersignaturesOf", desc := "(LClaimRegistry;I[J)I" } : Jvm.MethodName) method_22_code (4 : Nat) (Option.some Jvm.ClassFile.FieldType.int) [((0 : Nat), (9 : Nat), (12 : Nat), (13 : Nat))]) ∈ lw_all := lw_g (lw_at lw_m7 223 rfl) rfl
theorem q1758 : (Jvm.Cond.methodLink "ClaimRegistryLaw" (78 : Nat) ({ cls := "ClaimRegistry", name := "countersignaturesOf", desc := "(I)I" } : Jvm.MethodName)) ∈ lw_all := lw_g (lw_at lw_m7 224 rfl) rfl
theorem q1762 : (Jvm.Cond.methodLink "ClaimRegistryLaw" (264 : Nat) ({ cls := "ClaimRegistryLaw", name := "owedBy", desc := "(LClaimRegistry;I[J)I" } : Jvm.MethodName)) ∈ lw_all := lw_g (lw_at lw_m7 228 rfl) rfl
theorem q1763 : (Jvm.Cond.static ({ cls := "ClaimRegistryLaw", name := "owedBy", desc := "(LClaimRegistry;I[J)I" } : Jvm.MethodName)) ∈ lw_all := lw_g (lw_at lw_m7 229 rfl) rfl
theorem q1764 : (Jvm.Cond.codeWith ({ cls := "ClaimRegistryLaw", name := "owedBy", desc := "(LClaimRegistry;I[J)I" } : Jvm.MethodName) method_23_code (4 : Nat) (Option.some Jvm.ClassFile.FieldType.int) [((0 : Nat), (9 : Nat), (12 : Nat), (13 : Nat))]) ∈ lw_all := lw_g (lw_at lw_m7 230 rfl) rfl
theorem q1765 : (Jvm.Cond.methodLink "ClaimRegistryLaw" (81 : Nat) ({ cls := "ClaimRegistry", name := "owedBy", desc := "(I)I" } : Jvm.MethodName)) ∈ lw_all := lw_g (lw_at lw_m7 231 rfl) rfl
theorem q1771 : (Jvm.Cond.methodLink "ClaimRegistryLaw" (267 : Nat) ({ cls := "ClaimRegistryLaw", name := "owedTo", desc := "(LClaimRegistry;I[J)I" } : Jvm.MethodName)) ∈ lw_all := lw_g (lw_at lw_m7 237 rfl) rfl
theorem q1772 : (Jvm.Cond.static ({ cls := "ClaimRegistryLaw", name := "owedTo", desc := "(LClaimRegistry;I[J)I" } : Jvm.MethodName)) ∈ lw_all := lw_g (lw_at lw_m7 238 rfl) rfl
theorem q1773 : (Jvm.Cond.codeWith ({ cls := "ClaimRegistryLaw", name := "owedTo", desc := "(LClaimRegistry;I[J)I" } : Jvm.MethodName) method_24_code (4 : Nat) (Option.some Jvm.ClassFile.FieldType.int) [((0 : Nat), (9 : Nat), (12 : Nat), (13 : Nat))]) ∈ lw_all := lw_g (lw_at lw_m7 239 rfl) rfl
theorem q1774 : (Jvm.Cond.methodLink "ClaimRegistryLaw" (84 : Nat) ({ cls := "ClaimRegistry", name := "owedTo", desc := "(I)I" } : Jvm.MethodName)) ∈ lw_all := lw_g (lw_at lw_m8 0 rfl) rfl
theorem q1780 : (Jvm.Cond.methodLink "ClaimRegistryLaw" (270 : Nat) ({ cls := "ClaimRegistryLaw", name := "balance", desc := "(LClaimRegistry;I[J)I" } : Jvm.MethodName)) ∈ lw_all := lw_g (lw_at lw_m8 6 rfl) rfl
theorem q1781 : (Jvm.Cond.static ({ cls := "ClaimRegistryLaw", name := "balance", desc := "(LClaimRegistry;I[J)I" } : Jvm.MethodName)) ∈ lw_all := lw_g (lw_at lw_m8 7 rfl) rfl
theorem q1782 : (Jvm.Cond.codeWith ({ cls := "ClaimRegistryLaw", name := "balance", desc := "(LClaimRegistry;I[J)I" } : Jvm.MethodName) method_25_code (4 : Nat) (Option.some Jvm.ClassFile.FieldType.int) [((0 : Nat), (9 : Nat), (12 : Nat), (13 : Nat))]) ∈ lw_all := lw_g (lw_at lw_m8 8 rfl) rfl
theorem q1783 : (Jvm.Cond.methodLink "ClaimRegistryLaw" (87 : Nat) ({ cls := "ClaimRegistry", name := "balance", desc := "(I)I" } : Jvm.MethodName)) ∈ lw_all := lw_g (lw_at lw_m8 9 rfl) rfl
theorem q1787 : (Jvm.Cond.methodLink "ClaimRegistryLaw" (273 : Nat) ({ cls := "ClaimRegistryLaw", name := "mostIndebted", desc := "(LClaimRegistry;[J)I" } : Jvm.MethodName)) ∈ lw_all := lw_g (lw_at lw_m8 13 rfl) rfl
theorem q1788 : (Jvm.Cond.static ({ cls := "ClaimRegistryLaw", name := "mostIndebted", desc := "(LClaimRegistry;[J)I" } : Jvm.MethodName)) ∈ lw_all := lw_g (lw_at lw_m8 14 rfl) rfl
theorem q1789 : (Jvm.Cond.codeWith ({ cls := "ClaimRegistryLaw", name := "mostIndebted", desc := "(LClaimRegistry;[J)I" } : Jvm.MethodName) method_26_code (3 : Nat) (Option.some Jvm.ClassFile.FieldType.int) [((0 : Nat), (8 : Nat), (11 : Nat), (21 : Nat))]) ∈ lw_all := lw_g (lw_at lw_m8 15 rfl) rfl
theorem q1790 : (Jvm.Cond.methodLink "ClaimRegistryLaw" (90 : Nat) ({ cls := "ClaimRegistry", name := "mostIndebted", desc := "()I" } : Jvm.MethodName)) ∈ lw_all := lw_g (lw_at lw_m8 16 rfl) rfl
theorem q1801 : (Jvm.Cond.methodLink "ClaimRegistryLaw" (277 : Nat) ({ cls := "ClaimRegistryLaw", name := "heaviest", desc := "(LClaimRegistry;[J)I" } : Jvm.MethodName)) ∈ lw_all := lw_g (lw_at lw_m8 27 rfl) rfl
theorem q1802 : (Jvm.Cond.static ({ cls := "ClaimRegistryLaw", name := "heaviest", desc := "(LClaimRegistry;[J)I" } : Jvm.MethodName)) ∈ lw_all := lw_g (lw_at lw_m8 28 rfl) rfl
theorem q1803 : (Jvm.Cond.codeWith ({ cls := "ClaimRegistryLaw", name := "heaviest", desc := "(LClaimRegistry;[J)I" } : Jvm.MethodName) method_27_code (3 : Nat) (Option.some Jvm.ClassFile.FieldType.int) [((0 : Nat), (8 : Nat), (11 : Nat), (21 : Nat))]) ∈ lw_all := lw_g (lw_at lw_m8 29 rfl) rfl
theorem q1804 : (Jvm.Cond.methodLink "ClaimRegistryLaw" (94 : Nat) ({ cls := "ClaimRegistry", name := "heaviest", desc := "()I" } : Jvm.MethodName)) ∈ lw_all := lw_g (lw_at lw_m8 30 rfl) rfl
theorem q1818 : (Jvm.Cond.methodLink "ClaimRegistryLaw" (280 : Nat) ({ cls := "ClaimRegistryLaw", name := "nextExpiry", desc := "(LClaimRegistry;[J)I" } : Jvm.MethodName)) ∈ lw_all := lw_g (lw_at lw_m8 44 rfl) rfl
theorem q1819 : (Jvm.Cond.static ({ cls := "ClaimRegistryLaw", name := "nextExpiry", desc := "(LClaimRegistry;[J)I" } : Jvm.MethodName)) ∈ lw_all := lw_g (lw_at lw_m8 45 rfl) rfl
theorem q1820 : (Jvm.Cond.codeWith ({ cls := "ClaimRegistryLaw", name := "nextExpiry", desc := "(LClaimRegistry;[J)I" } : Jvm.MethodName) method_28_code (3 : Nat) (Option.some Jvm.ClassFile.FieldType.int) [((0 : Nat), (8 : Nat), (11 : Nat), (21 : Nat))]) ∈ lw_all := lw_g (lw_at lw_m8 46 rfl) rfl
theorem q1821 : (Jvm.Cond.methodLink "ClaimRegistryLaw" (97 : Nat) ({ cls := "ClaimRegistry", name := "nextExpiry", desc := "()I" } : Jvm.MethodName)) ∈ lw_all := lw_g (lw_at lw_m8 47 rfl) rfl
theorem q1827 : (Jvm.Cond.methodLink "ClaimRegistryLaw" (283 : Nat) ({ cls := "ClaimRegistryLaw", name := "nextToAudit", desc := "(LClaimRegistry;[J)I" } : Jvm.MethodName)) ∈ lw_all := lw_g (lw_at lw_m8 53 rfl) rfl
theorem q1828 : (Jvm.Cond.static ({ cls := "ClaimRegistryLaw", name := "nextToAudit", desc := "(LClaimRegistry;[J)I" } : Jvm.MethodName)) ∈ lw_all := lw_g (lw_at lw_m8 54 rfl) rfl
theorem q1829 : (Jvm.Cond.codeWith ({ cls := "ClaimRegistryLaw", name := "nextToAudit", desc := "(LClaimRegistry;[J)I" } : Jvm.MethodName) method_29_code (3 : Nat) (Option.some Jvm.ClassFile.FieldType.int) [((0 : Nat), (8 : Nat), (11 : Nat), (21 : Nat))]) ∈ lw_all := lw_g (lw_at lw_m8 55 rfl) rfl
theorem q1830 : (Jvm.Cond.methodLink "ClaimRegistryLaw" (100 : Nat) ({ cls := "ClaimRegistry", name := "nextToAudit", desc := "()I" } : Jvm.MethodName)) ∈ lw_all := lw_g (lw_at lw_m8 56 rfl) rfl
theorem q1835 : (Jvm.Cond.methodLink "ClaimRegistryLaw" (286 : Nat) ({ cls := "ClaimRegistryLaw", name := "auditPosition", desc := "(LClaimRegistry;I[J)I" } : Jvm.MethodName)) ∈ lw_all := lw_g (lw_at lw_m8 61 rfl) rfl
theorem q1836 : (Jvm.Cond.static ({ cls := "ClaimRegistryLaw", name := "auditPosition", desc := "(LClaimRegistry;I[J)I" } : Jvm.MethodName)) ∈ lw_all := lw_g (lw_at lw_m8 62 rfl) rfl
theorem q1837 : (Jvm.Cond.codeWith ({ cls := "ClaimRegistryLaw", name := "auditPosition", desc := "(LClaimRegistry;I[J)I" } : Jvm.MethodName) method_30_code (4 : Nat) (Option.some Jvm.ClassFile.FieldType.int) [((0 : Nat), (9 : Nat), (12 : Nat), (21 : Nat))]) ∈ lw_all := lw_g (lw_at lw_m8 63 rfl) rfl
theorem q1838 : (Jvm.Cond.methodLink "ClaimRegistryLaw" (103 : Nat) ({ cls := "ClaimRegistry", name := "auditPosition", desc := "(I)I" } : Jvm.MethodName)) ∈ lw_all := lw_g (lw_at lw_m8 64 rfl) rfl
theorem q1843 : (Jvm.Cond.methodLink "ClaimRegistryLaw" (289 : Nat) ({ cls := "ClaimRegistryLaw", name := "owes", desc := "(LClaimRegistry;II[J)I" } : Jvm.MethodName)) ∈ lw_all := lw_g (lw_at lw_m8 69 rfl) rfl
theorem q1844 : (Jvm.Cond.static ({ cls := "ClaimRegistryLaw", name := "owes", desc := "(LClaimRegistry;II[J)I" } : Jvm.MethodName)) ∈ lw_all := lw_g (lw_at lw_m8 70 rfl) rfl
theorem q1845 : (Jvm.Cond.codeWith ({ cls := "ClaimRegistryLaw", name := "owes", desc := "(LClaimRegistry;II[J)I" } : Jvm.MethodName) method_31_code (5 : Nat) (Option.some Jvm.ClassFile.FieldType.int) [((0 : Nat), (17 : Nat), (20 : Nat), (13 : Nat))]) ∈ lw_all := lw_g (lw_at lw_m8 71 rfl) rfl
theorem q1846 : (Jvm.Cond.methodLink "ClaimRegistryLaw" (106 : Nat) ({ cls := "ClaimRegistry", name := "owes", desc := "(II)Z" } : Jvm.MethodName)) ∈ lw_all := lw_g (lw_at lw_m8 72 rfl) rfl
theorem q1859 : (Jvm.Cond.methodLink "ClaimRegistryLaw" (292 : Nat) ({ cls := "ClaimRegistryLaw", name := "pairBalance", desc := "(LClaimRegistry;II[J)I" } : Jvm.MethodName)) ∈ lw_all := lw_g (lw_at lw_m8 85 rfl) rfl
theorem q1860 : (Jvm.Cond.static ({ cls := "ClaimRegistryLaw", name := "pairBalance", desc := "(LClaimRegistry;II[J)I" } : Jvm.MethodName)) ∈ lw_all := lw_g (lw_at lw_m8 86 rfl) rfl
theorem q1861 : (Jvm.Cond.codeWith ({ cls := "ClaimRegistryLaw", name := "pairBalance", desc := "(LClaimRegistry;II[J)I" } : Jvm.MethodName) method_32_code (5 : Nat) (Option.some Jvm.ClassFile.FieldType.int) [((0 : Nat), (10 : Nat), (13 : Nat), (13 : Nat))]) ∈ lw_all := lw_g (lw_at lw_m8 87 rfl) rfl
theorem q1862 : (Jvm.Cond.methodLink "ClaimRegistryLaw" (110 : Nat) ({ cls := "ClaimRegistry", name := "pairBalance", desc := "(II)I" } : Jvm.MethodName)) ∈ lw_all := lw_g (lw_at lw_m8 88 rfl) rfl
theorem q1870 : (Jvm.Cond.methodLink "ClaimRegistryLaw" (295 : Nat) ({ cls := "ClaimRegistryLaw", name := "chainLength", desc := "(LClaimRegistry;II[J)I" } : Jvm.MethodName)) ∈ lw_all := lw_g (lw_at lw_m8 96 rfl) rfl
theorem q1871 : (Jvm.Cond.static ({ cls := "ClaimRegistryLaw", name := "chainLength", desc := "(LClaimRegistry;II[J)I" } : Jvm.MethodName)) ∈ lw_all := lw_g (lw_at lw_m8 97 rfl) rfl
theorem q1872 : (Jvm.Cond.codeWith ({ cls := "ClaimRegistryLaw", name := "chainLength", desc := "(LClaimRegistry;II[J)I" } : Jvm.MethodName) method_33_code (5 : Nat) (Option.some Jvm.ClassFile.FieldType.int) [((0 : Nat), (10 : Nat), (13 : Nat), (13 : Nat)), ((0 : Nat), (10 : Nat), (17 : Nat), (21 : Nat))]) ∈ lw_all := lw_g (lw_at lw_m8 98 rfl) rfl
theorem q1873 : (Jvm.Cond.methodLink "ClaimRegistryLaw" (113 : Nat) ({ cls := "ClaimRegistry", name := "chainLength", desc := "(II)I" } : Jvm.MethodName)) ∈ lw_all := lw_g (lw_at lw_m8 99 rfl) rfl
theorem q1877 : (Jvm.Cond.methodLink "ClaimRegistryLaw" (298 : Nat) ({ cls := "ClaimRegistryLaw", name := "chainLengthByRounds", desc := "(LClaimRegistry;II[J)I" } : Jvm.MethodName)) ∈ lw_all := lw_g (lw_at lw_m8 103 rfl) rfl
theorem q1878 : (Jvm.Cond.static ({ cls := "ClaimRegistryLaw", name := "chainLengthByRounds", desc := "(LClaimRegistry;II[J)I" } : Jvm.MethodName)) ∈ lw_all := lw_g (lw_at lw_m8 104 rfl) rfl
theorem q1879 : (Jvm.Cond.codeWith ({ cls := "ClaimRegistryLaw", name := "chainLengthByRounds", desc := "(LClaimRegistry;II[J)I" } : Jvm.MethodName) method_34_code (5 : Nat) (Option.some Jvm.ClassFile.FieldType.int) [((0 : Nat), (10 : Nat), (13 : Nat), (13 : Nat)), ((0 : Nat), (10 : Nat), (17 : Nat), (21 : Nat))]) ∈ lw_all := lw_g (lw_at lw_m8 105 rfl) rfl
theorem q1880 : (Jvm.Cond.methodLink "ClaimRegistryLaw" (116 : Nat) ({ cls := "ClaimRegistry", name := "chainLengthByRounds", desc := "(II)I" } : Jvm.MethodName)) ∈ lw_all := lw_g (lw_at lw_m8 106 rfl) rfl
theorem q1884 : (Jvm.Cond.methodLink "ClaimRegistryLaw" (301 : Nat) ({ cls := "ClaimRegistryLaw", name := "reachableFrom", desc := "(LClaimRegistry;I[J)I" } : Jvm.MethodName)) ∈ lw_all := lw_g (lw_at lw_m8 110 rfl) rfl
theorem q1885 : (Jvm.Cond.static ({ cls := "ClaimRegistryLaw", name := "reachableFrom", desc := "(LClaimRegistry;I[J)I" } : Jvm.MethodName)) ∈ lw_all := lw_g (lw_at lw_m8 111 rfl) rfl
theorem q1886 : (Jvm.Cond.codeWith ({ cls := "ClaimRegistryLaw", name := "reachableFrom", desc := "(LClaimRegistry;I[J)I" } : Jvm.MethodName) method_35_code (4 : Nat) (Option.some Jvm.ClassFile.FieldType.int) [((0 : Nat), (9 : Nat), (12 : Nat), (13 : Nat))]) ∈ lw_all := lw_g (lw_at lw_m8 112 rfl) rfl
theorem q1887 : (Jvm.Cond.methodLink "ClaimRegistryLaw" (119 : Nat) ({ cls := "ClaimRegistry", name := "reachableFrom", desc := "(I)I" } : Jvm.MethodName)) ∈ lw_all := lw_g (lw_at lw_m8 113 rfl) rfl
theorem q1891 : (Jvm.Cond.methodLink "ClaimRegistryLaw" (309 : Nat) ({ cls := "ClaimRegistryLaw", name := "idByExpiry", desc := "(LClaimRegistry;I[J)I" } : Jvm.MethodName)) ∈ lw_all := lw_g (lw_at lw_m8 117 rfl) rfl
theorem q1892 : (Jvm.Cond.static ({ cls := "ClaimRegistryLaw", name := "idByExpiry", desc := "(LClaimRegistry;I[J)I" } : Jvm.MethodName)) ∈ lw_all := lw_g (lw_at lw_m8 118 rfl) rfl
theorem q1893 : (Jvm.Cond.codeWith ({ cls := "ClaimRegistryLaw", name := "idByExpiry", desc := "(LClaimRegistry;I[J)I" } : Jvm.MethodName) method_36_code (4 : Nat) (Option.some Jvm.ClassFile.FieldType.int) [((0 : Nat), (9 : Nat), (12 : Nat), (45 : Nat))]) ∈ lw_all := lw_g (lw_at lw_m8 119 rfl) rfl
theorem q1894 : (Jvm.Cond.methodLink "ClaimRegistryLaw" (122 : Nat) ({ cls := "ClaimRegistry", name := "idByExpiry", desc := "(I)I" } : Jvm.MethodName)) ∈ lw_all := lw_g (lw_at lw_m8 120 rfl) rfl
theorem q1924 : (Jvm.Cond.methodLink "ClaimRegistryLaw" (312 : Nat) ({ cls := "ClaimRegistryLaw", name := "expiryRank", desc := "(LClaimRegistry;I[J)I" } : Jvm.MethodName)) ∈ lw_all := lw_g (lw_at lw_m8 150 rfl) rfl
theorem q1925 : (Jvm.Cond.static ({ cls := "ClaimRegistryLaw", name := "expiryRank", desc := "(LClaimRegistry;I[J)I" } : Jvm.MethodName)) ∈ lw_all := lw_g (lw_at lw_m8 151 rfl) rfl
theorem q1926 : (Jvm.Cond.codeWith ({ cls := "ClaimRegistryLaw", name := "expiryRank", desc := "(LClaimRegistry;I[J)I" } : Jvm.MethodName) method_37_code (4 : Nat) (Option.some Jvm.ClassFile.FieldType.int) [((0 : Nat), (9 : Nat), (12 : Nat), (21 : Nat))]) ∈ lw_all := lw_g (lw_at lw_m8 152 rfl) rfl
theorem q1927 : (Jvm.Cond.methodLink "ClaimRegistryLaw" (125 : Nat) ({ cls := "ClaimRegistry", name := "expiryRank", desc := "(I)I" } : Jvm.MethodName)) ∈ lw_all := lw_g (lw_at lw_m8 153 rfl) rfl
theorem q1933 : (Jvm.Cond.methodLink "ClaimRegistryLaw" (315 : Nat) ({ cls := "ClaimRegistryLaw", name := "expiringWithin", desc := "(LClaimRegistry;I[J)I" } : Jvm.MethodName)) ∈ lw_all := lw_g (lw_at lw_m8 159 rfl) rfl
theorem q1934 : (Jvm.Cond.static ({ cls := "ClaimRegistryLaw", name := "expiringWithin", desc := "(LClaimRegistry;I[J)I" } : Jvm.MethodName)) ∈ lw_all := lw_g (lw_at lw_m8 160 rfl) rfl
theorem q1935 : (Jvm.Cond.codeWith ({ cls := "ClaimRegistryLaw", name := "expiringWithin", desc := "(LClaimRegistry;I[J)I" } : Jvm.MethodName) method_38_code (4 : Nat) (Option.some Jvm.ClassFile.FieldType.int) [((0 : Nat), (9 : Nat), (12 : Nat), (13 : Nat))]) ∈ lw_all := lw_g (lw_at lw_m8 161 rfl) rfl
theorem q1936 : (Jvm.Cond.methodLink "ClaimRegistryLaw" (128 : Nat) ({ cls := "ClaimRegistry", name := "expiringWithin", desc := "(I)I" } : Jvm.MethodName)) ∈ lw_all := lw_g (lw_at lw_m8 162 rfl) rfl
theorem q1943 : (Jvm.Cond.methodLink "ClaimRegistryLaw" (318 : Nat) ({ cls := "ClaimRegistryLaw", name := "expiringBySimulation", desc := "(LClaimRegistry;I[J)I" } : Jvm.MethodName)) ∈ lw_all := lw_g (lw_at lw_m8 169 rfl) rfl
theorem q1944 : (Jvm.Cond.static ({ cls := "ClaimRegistryLaw", name := "expiringBySimulation", desc := "(LClaimRegistry;I[J)I" } : Jvm.MethodName)) ∈ lw_all := lw_g (lw_at lw_m8 170 rfl) rfl
theorem q1945 : (Jvm.Cond.codeWith ({ cls := "ClaimRegistryLaw", name := "expiringBySimulation", desc := "(LClaimRegistry;I[J)I" } : Jvm.MethodName) method_39_code (4 : Nat) (Option.some Jvm.ClassFile.FieldType.int) [((0 : Nat), (9 : Nat), (12 : Nat), (13 : Nat))]) ∈ lw_all := lw_g (lw_at lw_m8 171 rfl) rfl
theorem q1946 : (Jvm.Cond.methodLink "ClaimRegistryLaw" (131 : Nat) ({ cls := "ClaimRegistry", name := "expiringBySimulation", desc := "(I)I" } : Jvm.MethodName)) ∈ lw_all := lw_g (lw_at lw_m8 172 rfl) rfl
theorem q1950 : (Jvm.Cond.methodLink "ClaimRegistryLaw" (321 : Nat) ({ cls := "ClaimRegistryLaw", name := "weightAfter", desc := "(LClaimRegistry;II[J)I" } : Jvm.MethodName)) ∈ lw_all := lw_g (lw_at lw_m8 176 rfl) rfl
theorem q1951 : (Jvm.Cond.static ({ cls := "ClaimRegistryLaw", name := "weightAfter", desc := "(LClaimRegistry;II[J)I" } : Jvm.MethodName)) ∈ lw_all := lw_g (lw_at lw_m8 177 rfl) rfl
theorem q1952 : (Jvm.Cond.codeWith ({ cls := "ClaimRegistryLaw", name := "weightAfter", desc := "(LClaimRegistry;II[J)I" } : Jvm.MethodName) method_40_code (5 : Nat) (Option.some Jvm.ClassFile.FieldType.int) [((0 : Nat), (10 : Nat), (13 : Nat), (21 : Nat)), ((0 : Nat), (10 : Nat), (17 : Nat), (13 : Nat))]) ∈ lw_all := lw_g (lw_at lw_m8 178 rfl) rfl
theorem q1953 : (Jvm.Cond.methodLink "ClaimRegistryLaw" (134 : Nat) ({ cls := "ClaimRegistry", name := "weightAfter", desc := "(II)I" } : Jvm.MethodName)) ∈ lw_all := lw_g (lw_at lw_m8 179 rfl) rfl
theorem q1959 : (Jvm.Cond.methodLink "ClaimRegistryLaw" (324 : Nat) ({ cls := "ClaimRegistryLaw", name := "canSign", desc := "(LClaimRegistry;II[J)I" } : Jvm.MethodName)) ∈ lw_all := lw_g (lw_at lw_m8 185 rfl) rfl
theorem q1960 : (Jvm.Cond.static ({ cls := "ClaimRegistryLaw", name := "canSign", desc := "(LClaimRegistry;II[J)I" } : Jvm.MethodName)) ∈ lw_all := lw_g (lw_at lw_m8 186 rfl) rfl
theorem q1961 : (Jvm.Cond.codeWith ({ cls := "ClaimRegistryLaw", name := "canSign", desc := "(LClaimRegistry;II[J)I" } : Jvm.MethodName) method_41_code (5 : Nat) (Option.some Jvm.ClassFile.FieldType.int) [((0 : Nat), (17 : Nat), (20 : Nat), (21 : Nat)), ((0 : Nat), (17 : Nat), (24 : Nat), (13 : Nat))]) ∈ lw_all := lw_g (lw_at lw_m8 187 rfl) rfl
theorem q1962 : (Jvm.Cond.methodLink "ClaimRegistryLaw" (137 : Nat) ({ cls := "ClaimRegistry", name := "canSign", desc := "(II)Z" } : Jvm.MethodName)) ∈ lw_all := lw_g (lw_at lw_m8 188 rfl) rfl
theorem q1966 : (Jvm.Cond.methodLink "ClaimRegistryLaw" (327 : Nat) ({ cls := "ClaimRegistryLaw", name := "canCountersign", desc := "(LClaimRegistry;II[J)I" } : Jvm.MethodName)) ∈ lw_all := lw_g (lw_at lw_m8 192 rfl) rfl
theorem q1967 : (Jvm.Cond.static ({ cls := "ClaimRegistryLaw", name := "canCountersign", desc := "(LClaimRegistry;II[J)I" } : Jvm.MethodName)) ∈ lw_all := lw_g (lw_at lw_m8 193 rfl) rfl
theorem q1968 : (Jvm.Cond.codeWith ({ cls := "ClaimRegistryLaw", name := "canCountersign", desc := "(LClaimRegistry;II[J)I" } : Jvm.MethodName) method_42_code (5 : Nat) (Option.some Jvm.ClassFile.FieldType.int) [((0 : Nat), (17 : Nat), (20 : Nat), (21 : Nat)), ((0 : Nat), (17 : Nat), (24 : Nat), (13 : Nat))]) ∈ lw_all := lw_g (lw_at lw_m8 194 rfl) rfl
theorem q1969 : (Jvm.Cond.methodLink "ClaimRegistryLaw" (140 : Nat) ({ cls := "ClaimRegistry", name := "canCountersign", desc := "(II)Z" } : Jvm.MethodName)) ∈ lw_all := lw_g (lw_at lw_m8 195 rfl) rfl
theorem q1973 : (Jvm.Cond.methodLink "ClaimRegistryLaw" (330 : Nat) ({ cls := "ClaimRegistryLaw", name := "recentlyExpired", desc := "(LClaimRegistry;I[J)I" } : Jvm.MethodName)) ∈ lw_all := lw_g (lw_at lw_m8 199 rfl) rfl
theorem q1974 : (Jvm.Cond.static ({ cls := "ClaimRegistryLaw", name := "recentlyExpired", desc := "(LClaimRegistry;I[J)I" } : Jvm.MethodName)) ∈ lw_all := lw_g (lw_at lw_m8 200 rfl) rfl
theorem q1975 : (Jvm.Cond.codeWith ({ cls := "ClaimRegistryLaw", name := "recentlyExpired", desc := "(LClaimRegistry;I[J)I" } : Jvm.MethodName) method_43_code (4 : Nat) (Option.some Jvm.ClassFile.FieldType.int) [((0 : Nat), (9 : Nat), (12 : Nat), (21 : Nat))]) ∈ lw_all := lw_g (lw_at lw_m8 201 rfl) rfl
theorem q1976 : (Jvm.Cond.methodLink "ClaimRegistryLaw" (143 : Nat) ({ cls := "ClaimRegistry", name := "recentlyExpired", desc := "(I)I" } : Jvm.MethodName)) ∈ lw_all := lw_g (lw_at lw_m8 202 rfl) rfl
theorem q1980 : (Jvm.Cond.methodLink "ClaimRegistryLaw" (362 : Nat) ({ cls := "ClaimRegistryLaw", name := "format", desc := "(LClaimRegistry;I[J)I" } : Jvm.MethodName)) ∈ lw_all := lw_g (lw_at lw_m8 206 rfl) rfl
theorem q1981 : (Jvm.Cond.static ({ cls := "ClaimRegistryLaw", name := "format", desc := "(LClaimRegistry;I[J)I" } : Jvm.MethodName)) ∈ lw_all := lw_g (lw_at lw_m8 207 rfl) rfl
theorem q1982 : (Jvm.Cond.codeWith ({ cls := "ClaimRegistryLaw", name := "format", desc := "(LClaimRegistry;I[J)I" } : Jvm.MethodName) method_44_code (4 : Nat) (Option.some Jvm.ClassFile.FieldType.int) [((0 : Nat), (9 : Nat), (12 : Nat), (21 : Nat))]) ∈ lw_all := lw_g (lw_at lw_m8 208 rfl) rfl
theorem q1983 : (Jvm.Cond.methodLink "ClaimRegistryLaw" (146 : Nat) ({ cls := "ClaimRegistry", name := "format", desc := "(I)I" } : Jvm.MethodName)) ∈ lw_all := lw_g (lw_at lw_m8 209 rfl) rfl
theorem q2066 : (Jvm.Cond.methodLink "ClaimRegistryLaw" (365 : Nat) ({ cls := "ClaimRegistryLaw", name := "lineChar", desc := "(LClaimRegistry;I[J)I" } : Jvm.MethodName)) ∈ lw_all := lw_g (lw_at lw_m9 52 rfl) rfl
theorem q2067 : (Jvm.Cond.static ({ cls := "ClaimRegistryLaw", name := "lineChar", desc := "(LClaimRegistry;I[J)I" } : Jvm.MethodName)) ∈ lw_all := lw_g (lw_at lw_m9 53 rfl) rfl
theorem q2068 : (Jvm.Cond.codeWith ({ cls := "ClaimRegistryLaw", name := "lineChar", desc := "(LClaimRegistry;I[J)I" } : Jvm.MethodName) method_45_code (4 : Nat) (Option.some Jvm.ClassFile.FieldType.int) [((0 : Nat), (9 : Nat), (12 : Nat), (45 : Nat))]) ∈ lw_all := lw_g (lw_at lw_m9 54 rfl) rfl
theorem q2069 : (Jvm.Cond.methodLink "ClaimRegistryLaw" (149 : Nat) ({ cls := "ClaimRegistry", name := "lineChar", desc := "(I)C" } : Jvm.MethodName)) ∈ lw_all := lw_g (lw_at lw_m9 55 rfl) rfl
theorem q2083 : (Jvm.Cond.methodLink "ClaimRegistryLaw" (368 : Nat) ({ cls := "ClaimRegistryLaw", name := "append", desc := "(LClaimRegistry;C[J)I" } : Jvm.MethodName)) ∈ lw_all := lw_g (lw_at lw_m9 69 rfl) rfl
theorem q2084 : (Jvm.Cond.static ({ cls := "ClaimRegistryLaw", name := "append", desc := "(LClaimRegistry;C[J)I" } : Jvm.MethodName)) ∈ lw_all := lw_g (lw_at lw_m9 70 rfl) rfl
theorem q2085 : (Jvm.Cond.codeWith ({ cls := "ClaimRegistryLaw", name := "append", desc := "(LClaimRegistry;C[J)I" } : Jvm.MethodName) method_46_code (4 : Nat) (Option.some Jvm.ClassFile.FieldType.int) [((0 : Nat), (9 : Nat), (12 : Nat), (13 : Nat)), ((0 : Nat), (9 : Nat), (15 : Nat), (15 : Nat))]) ∈ lw_all := lw_g (lw_at lw_m9 71 rfl) rfl
theorem q2086 : (Jvm.Cond.methodLink "ClaimRegistryLaw" (153 : Nat) ({ cls := "ClaimRegistry", name := "append", desc := "(C)I" } : Jvm.MethodName)) ∈ lw_all := lw_g (lw_at lw_m9 72 rfl) rfl
theorem q2090 : (Jvm.Cond.methodLink "ClaimRegistryLaw" (372 : Nat) ({ cls := "ClaimRegistryLaw", name := "run", desc := "(LClaimRegistry;[J)I" } : Jvm.MethodName)) ∈ lw_all := lw_g (lw_at lw_m9 76 rfl) rfl
theorem q2091 : (Jvm.Cond.static ({ cls := "ClaimRegistryLaw", name := "run", desc := "(LClaimRegistry;[J)I" } : Jvm.MethodName)) ∈ lw_all := lw_g (lw_at lw_m9 77 rfl) rfl
theorem q2092 : (Jvm.Cond.codeWith ({ cls := "ClaimRegistryLaw", name := "run", desc := "(LClaimRegistry;[J)I" } : Jvm.MethodName) method_47_code (3 : Nat) (Option.some Jvm.ClassFile.FieldType.int) [((0 : Nat), (8 : Nat), (11 : Nat), (13 : Nat)), ((0 : Nat), (8 : Nat), (14 : Nat), (15 : Nat))]) ∈ lw_all := lw_g (lw_at lw_m9 78 rfl) rfl
theorem q2093 : (Jvm.Cond.methodLink "ClaimRegistryLaw" (157 : Nat) ({ cls := "ClaimRegistry", name := "run", desc := "()I" } : Jvm.MethodName)) ∈ lw_all := lw_g (lw_at lw_m9 79 rfl) rfl
theorem q2537 : (Jvm.Cond.methodLink "ClaimRegistryLaw" (375 : Nat) ({ cls := "ClaimRegistryLaw", name := "errorPosition", desc := "(LClaimRegistry;[J)I" } : Jvm.MethodName)) ∈ lw_all := lw_g (lw_at lw_m11 43 rfl) rfl
theorem q2538 : (Jvm.Cond.static ({ cls := "ClaimRegistryLaw", name := "errorPosition", desc := "(LClaimRegistry;[J)I" } : Jvm.MethodName)) ∈ lw_all := lw_g (lw_at lw_m11 44 rfl) rfl
theorem q2539 : (Jvm.Cond.codeWith ({ cls := "ClaimRegistryLaw", name := "errorPosition", desc := "(LClaimRegistry;[J)I" } : Jvm.MethodName) method_48_code (3 : Nat) (Option.some Jvm.ClassFile.FieldType.int) [((0 : Nat), (8 : Nat), (11 : Nat), (21 : Nat))]) ∈ lw_all := lw_g (lw_at lw_m11 45 rfl) rfl
theorem q2540 : (Jvm.Cond.methodLink "ClaimRegistryLaw" (160 : Nat) ({ cls := "ClaimRegistry", name := "errorPosition", desc := "()I" } : Jvm.MethodName)) ∈ lw_all := lw_g (lw_at lw_m11 46 rfl) rfl
theorem q2544 : (Jvm.Cond.methodLink "ClaimRegistryLaw" (378 : Nat) ({ cls := "ClaimRegistryLaw", name := "failedCommand", desc := "(LClaimRegistry;[J)I" } : Jvm.MethodName)) ∈ lw_all := lw_g (lw_at lw_m11 50 rfl) rfl
theorem q2545 : (Jvm.Cond.static ({ cls := "ClaimRegistryLaw", name := "failedCommand", desc := "(LClaimRegistry;[J)I" } : Jvm.MethodName)) ∈ lw_all := lw_g (lw_at lw_m11 51 rfl) rfl
theorem q2546 : (Jvm.Cond.codeWith ({ cls := "ClaimRegistryLaw", name := "failedCommand", desc := "(LClaimRegistry;[J)I" } : Jvm.MethodName) method_49_code (3 : Nat) (Option.some Jvm.ClassFile.FieldType.int) [((0 : Nat), (8 : Nat), (11 : Nat), (21 : Nat))]) ∈ lw_all := lw_g (lw_at lw_m11 52 rfl) rfl
theorem q2547 : (Jvm.Cond.methodLink "ClaimRegistryLaw" (163 : Nat) ({ cls := "ClaimRegistry", name := "failedCommand", desc := "()I" } : Jvm.MethodName)) ∈ lw_all := lw_g (lw_at lw_m11 53 rfl) rfl
theorem q2551 : (Jvm.Cond.methodLink "ClaimRegistryLaw" (385 : Nat) ({ cls := "ClaimRegistryLaw", name := "undo", desc := "(LClaimRegistry;[J)I" } : Jvm.MethodName)) ∈ lw_all := lw_g (lw_at lw_m11 57 rfl) rfl
theorem q2552 : (Jvm.Cond.static ({ cls := "ClaimRegistryLaw", name := "undo", desc := "(LClaimRegistry;[J)I" } : Jvm.MethodName)) ∈ lw_all := lw_g (lw_at lw_m11 58 rfl) rfl
theorem q2553 : (Jvm.Cond.codeWith ({ cls := "ClaimRegistryLaw", name := "undo", desc := "(LClaimRegistry;[J)I" } : Jvm.MethodName) method_50_code (3 : Nat) (Option.some Jvm.ClassFile.FieldType.int) [((0 : Nat), (8 : Nat), (11 : Nat), (15 : Nat))]) ∈ lw_all := lw_g (lw_at lw_m11 59 rfl) rfl
theorem q2554 : (Jvm.Cond.methodLink "ClaimRegistryLaw" (166 : Nat) ({ cls := "ClaimRegistry", name := "undo", desc := "()I" } : Jvm.MethodName)) ∈ lw_all := lw_g (lw_at lw_m11 60 rfl) rfl
theorem q2559 : (Jvm.Cond.methodLink "ClaimRegistryLaw" (392 : Nat) ({ cls := "ClaimRegistryLaw", name := "restore", desc := "(LClaimRegistry;[J)I" } : Jvm.MethodName)) ∈ lw_all := lw_g (lw_at lw_m11 65 rfl) rfl
theorem q2560 : (Jvm.Cond.static ({ cls := "ClaimRegistryLaw", name := "restore", desc := "(LClaimRegistry;[J)I" } : Jvm.MethodName)) ∈ lw_all := lw_g (lw_at lw_m11 66 rfl) rfl
theorem q2561 : (Jvm.Cond.codeWith ({ cls := "ClaimRegistryLaw", name := "restore", desc := "(LClaimRegistry;[J)I" } : Jvm.MethodName) method_51_code (3 : Nat) (Option.some Jvm.ClassFile.FieldType.int) [((0 : Nat), (8 : Nat), (11 : Nat), (15 : Nat))]) ∈ lw_all := lw_g (lw_at lw_m11 67 rfl) rfl
theorem q2562 : (Jvm.Cond.methodLink "ClaimRegistryLaw" (169 : Nat) ({ cls := "ClaimRegistry", name := "restore", desc := "()I" } : Jvm.MethodName)) ∈ lw_all := lw_g (lw_at lw_m11 68 rfl) rfl
theorem q2573 : (Jvm.Cond.classLink "ClaimRegistryLaw" (173 : Nat) "ClaimRegistryModel") ∈ lw_all := lw_g (lw_at lw_m11 79 rfl) rfl
theorem q2575 : (Jvm.Cond.methodLink "ClaimRegistryLaw" (175 : Nat) ({ cls := "ClaimRegistryModel", name := "<init>", desc := "()V" } : Jvm.MethodName)) ∈ lw_all := lw_g (lw_at lw_m11 81 rfl) rfl
theorem q2626 : (Jvm.Cond.methodLink "ClaimRegistryLaw" (182 : Nat) ({ cls := "ClaimRegistryModel", name := "thrown", desc := "()I" } : Jvm.MethodName)) ∈ lw_all := lw_g (lw_at lw_m11 132 rfl) rfl
theorem q2630 : (Jvm.Cond.methodLink "ClaimRegistryLaw" (181 : Nat) ({ cls := "ClaimRegistryModel", name := "add", desc := "(IIII)I" } : Jvm.MethodName)) ∈ lw_all := lw_g (lw_at lw_m11 136 rfl) rfl
theorem q2660 : (Jvm.Cond.methodLink "ClaimRegistryLaw" (188 : Nat) ({ cls := "ClaimRegistryModel", name := "sign", desc := "(II)I" } : Jvm.MethodName)) ∈ lw_all := lw_g (lw_at lw_m11 166 rfl) rfl
theorem q2684 : (Jvm.Cond.methodLink "ClaimRegistryLaw" (191 : Nat) ({ cls := "ClaimRegistryModel", name := "countersign", desc := "(II)I" } : Jvm.MethodName)) ∈ lw_all := lw_g (lw_at lw_m11 190 rfl) rfl
theorem q2696 : (Jvm.Cond.methodLink "ClaimRegistryLaw" (195 : Nat) ({ cls := "ClaimRegistryModel", name := "settle", desc := "(I)I" } : Jvm.MethodName)) ∈ lw_all := lw_g (lw_at lw_m11 202 rfl) rfl
theorem q2712 : (Jvm.Cond.methodLink "ClaimRegistryLaw" (199 : Nat) ({ cls := "ClaimRegistryModel", name := "tick", desc := "()I" } : Jvm.MethodName)) ∈ lw_all := lw_g (lw_at lw_m11 218 rfl) rfl
theorem q2735 : (Jvm.Cond.methodLink "ClaimRegistryLaw" (202 : Nat) ({ cls := "ClaimRegistryModel", name := "advance", desc := "(I)I" } : Jvm.MethodName)) ∈ lw_all := lw_g (lw_at lw_m12 1 rfl) rfl
theorem q2739 : (Jvm.Cond.methodLink "ClaimRegistryLaw" (205 : Nat) ({ cls := "ClaimRegistryModel", name := "audit", desc := "(I)I" } : Jvm.MethodName)) ∈ lw_all := lw_g (lw_at lw_m12 5 rfl) rfl
theorem q2751 : (Jvm.Cond.methodLink "ClaimRegistryLaw" (208 : Nat) ({ cls := "ClaimRegistryModel", name := "setRate", desc := "(II)I" } : Jvm.MethodName)) ∈ lw_all := lw_g (lw_at lw_m12 17 rfl) rfl
theorem q2759 : (Jvm.Cond.methodLink "ClaimRegistryLaw" (212 : Nat) ({ cls := "ClaimRegistryModel", name := "time", desc := "()I" } : Jvm.MethodName)) ∈ lw_all := lw_g (lw_at lw_m12 25 rfl) rfl
theorem q2763 : (Jvm.Cond.methodLink "ClaimRegistryLaw" (216 : Nat) ({ cls := "ClaimRegistryModel", name := "phase", desc := "()I" } : Jvm.MethodName)) ∈ lw_all := lw_g (lw_at lw_m12 29 rfl) rfl
theorem q2767 : (Jvm.Cond.methodLink "ClaimRegistryLaw" (219 : Nat) ({ cls := "ClaimRegistryModel", name := "rate", desc := "(I)I" } : Jvm.MethodName)) ∈ lw_all := lw_g (lw_at lw_m12 33 rfl) rfl
theorem q2775 : (Jvm.Cond.methodLink "ClaimRegistryLaw" (223 : Nat) ({ cls := "ClaimRegistryModel", name := "activeCount", desc := "()I" } : Jvm.MethodName)) ∈ lw_all := lw_g (lw_at lw_m12 41 rfl) rfl
theorem q2779 : (Jvm.Cond.methodLink "ClaimRegistryLaw" (227 : Nat) ({ cls := "ClaimRegistryModel", name := "isActive", desc := "(I)Z" } : Jvm.MethodName)) ∈ lw_all := lw_g (lw_at lw_m12 45 rfl) rfl
theorem q2783 : (Jvm.Cond.methodLink "ClaimRegistryLaw" (230 : Nat) ({ cls := "ClaimRegistryModel", name := "idAt", desc := "(I)I" } : Jvm.MethodName)) ∈ lw_all := lw_g (lw_at lw_m12 49 rfl) rfl
theorem q2787 : (Jvm.Cond.methodLink "ClaimRegistryLaw" (233 : Nat) ({ cls := "ClaimRegistryModel", name := "debtor", desc := "(I)I" } : Jvm.MethodName)) ∈ lw_all := lw_g (lw_at lw_m12 53 rfl) rfl
theorem q2795 : (Jvm.Cond.methodLink "ClaimRegistryLaw" (236 : Nat) ({ cls := "ClaimRegistryModel", name := "creditor", desc := "(I)I" } : Jvm.MethodName)) ∈ lw_all := lw_g (lw_at lw_m12 61 rfl) rfl
theorem q2799 : (Jvm.Cond.methodLink "ClaimRegistryLaw" (239 : Nat) ({ cls := "ClaimRegistryModel", name := "weight", desc := "(I)I" } : Jvm.MethodName)) ∈ lw_all := lw_g (lw_at lw_m12 65 rfl) rfl
theorem q2803 : (Jvm.Cond.methodLink "ClaimRegistryLaw" (242 : Nat) ({ cls := "ClaimRegistryModel", name := "expiry", desc := "(I)I" } : Jvm.MethodName)) ∈ lw_all := lw_g (lw_at lw_m12 69 rfl) rfl
theorem q2807 : (Jvm.Cond.methodLink "ClaimRegistryLaw" (245 : Nat) ({ cls := "ClaimRegistryModel", name := "strikes", desc := "(I)I" } : Jvm.MethodName)) ∈ lw_all := lw_g (lw_at lw_m12 73 rfl) rfl
theorem q2811 : (Jvm.Cond.methodLink "ClaimRegistryLaw" (248 : Nat) ({ cls := "ClaimRegistryModel", name := "isSigned", desc := "(I)Z" } : Jvm.MethodName)) ∈ lw_all := lw_g (lw_at lw_m12 77 rfl) rfl
theorem q2815 : (Jvm.Cond.methodLink "ClaimRegistryLaw" (251 : Nat) ({ cls := "ClaimRegistryModel", name := "isCountersigned", desc := "(I)Z" } : Jvm.MethodName)) ∈ lw_all := lw_g (lw_at lw_m12 81 rfl) rfl
theorem q2819 : (Jvm.Cond.methodLink "ClaimRegistryLaw" (254 : Nat) ({ cls := "ClaimRegistryModel", name := "signer", desc := "(I)I" } : Jvm.MethodName)) ∈ lw_all := lw_g (lw_at lw_m12 85 rfl) rfl
theorem q2827 : (Jvm.Cond.methodLink "ClaimRegistryLaw" (257 : Nat) ({ cls := "ClaimRegistryModel", name := "countersigner", desc := "(I)I" } : Jvm.MethodName)) ∈ lw_all := lw_g (lw_at lw_m12 93 rfl) rfl
theorem q2831 : (Jvm.Cond.methodLink "ClaimRegistryLaw" (260 : Nat) ({ cls := "ClaimRegistryModel", name := "signaturesOf", desc := "(I)I" } : Jvm.MethodName)) ∈ lw_all := lw_g (lw_at lw_m12 97 rfl) rfl
theorem q2835 : (Jvm.Cond.methodLink "ClaimRegistryLaw" (263 : Nat) ({ cls := "ClaimRegistryModel", name := "countersignaturesOf", desc := "(I)I" } : Jvm.MethodName)) ∈ lw_all := lw_g (lw_at lw_m12 101 rfl) rfl
theorem q2839 : (Jvm.Cond.methodLink "ClaimRegistryLaw" (266 : Nat) ({ cls := "ClaimRegistryModel", name := "owedBy", desc := "(I)I" } : Jvm.MethodName)) ∈ lw_all := lw_g (lw_at lw_m12 105 rfl) rfl
theorem q2847 : (Jvm.Cond.methodLink "ClaimRegistryLaw" (269 : Nat) ({ cls := "ClaimRegistryModel", name := "owedTo", desc := "(I)I" } : Jvm.MethodName)) ∈ lw_all := lw_g (lw_at lw_m12 113 rfl) rfl
theorem q2851 : (Jvm.Cond.methodLink "ClaimRegistryLaw" (272 : Nat) ({ cls := "ClaimRegistryModel", name := "balance", desc := "(I)I" } : Jvm.MethodName)) ∈ lw_all := lw_g (lw_at lw_m12 117 rfl) rfl
theorem q2859 : (Jvm.Cond.methodLink "ClaimRegistryLaw" (276 : Nat) ({ cls := "ClaimRegistryModel", name := "mostIndebted", desc := "()I" } : Jvm.MethodName)) ∈ lw_all := lw_g (lw_at lw_m12 125 rfl) rfl
theorem q2863 : (Jvm.Cond.methodLink "ClaimRegistryLaw" (279 : Nat) ({ cls := "ClaimRegistryModel", name := "heaviest", desc := "()I" } : Jvm.MethodName)) ∈ lw_all := lw_g (lw_at lw_m12 129 rfl) rfl
theorem q2867 : (Jvm.Cond.methodLink "ClaimRegistryLaw" (282 : Nat) ({ cls := "ClaimRegistryModel", name := "nextExpiry", desc := "()I" } : Jvm.MethodName)) ∈ lw_all := lw_g (lw_at lw_m12 133 rfl) rfl
theorem q2871 : (Jvm.Cond.methodLink "ClaimRegistryLaw" (285 : Nat) ({ cls := "ClaimRegistryModel", name := "nextToAudit", desc := "()I" } : Jvm.MethodName)) ∈ lw_all := lw_g (lw_at lw_m12 137 rfl) rfl
theorem q2875 : (Jvm.Cond.methodLink "ClaimRegistryLaw" (288 : Nat) ({ cls := "ClaimRegistryModel", name := "auditPosition", desc := "(I)I" } : Jvm.MethodName)) ∈ lw_all := lw_g (lw_at lw_m12 141 rfl) rfl
theorem q2879 : (Jvm.Cond.methodLink "ClaimRegistryLaw" (291 : Nat) ({ cls := "ClaimRegistryModel", name := "owes", desc := "(II)Z" } : Jvm.MethodName)) ∈ lw_all := lw_g (lw_at lw_m12 145 rfl) rfl
theorem q2887 : (Jvm.Cond.methodLink "ClaimRegistryLaw" (294 : Nat) ({ cls := "ClaimRegistryModel", name := "pairBalance", desc := "(II)I" } : Jvm.MethodName)) ∈ lw_all := lw_g (lw_at lw_m12 153 rfl) rfl
theorem q2895 : (Jvm.Cond.methodLink "ClaimRegistryLaw" (297 : Nat) ({ cls := "ClaimRegistryModel", name := "chainLength", desc := "(II)I" } : Jvm.MethodName)) ∈ lw_all := lw_g (lw_at lw_m12 161 rfl) rfl
theorem q2903 : (Jvm.Cond.methodLink "ClaimRegistryLaw" (300 : Nat) ({ cls := "ClaimRegistryModel", name := "chainLengthByRounds", desc := "(II)I" } : Jvm.MethodName)) ∈ lw_all := lw_g (lw_at lw_m12 169 rfl) rfl
theorem q2908 : (Jvm.Cond.methodLink "ClaimRegistryLaw" (303 : Nat) ({ cls := "ClaimRegistryModel", name := "reachableFrom", desc := "(I)I" } : Jvm.MethodName)) ∈ lw_all := lw_g (lw_at lw_m12 174 rfl) rfl
theorem q2916 : (Jvm.Cond.methodLink "ClaimRegistryLaw" (308 : Nat) ({ cls := "ClaimRegistryModel", name := "hasCycle", desc := "()Z" } : Jvm.MethodName)) ∈ lw_all := lw_g (lw_at lw_m12 182 rfl) rfl
theorem q2920 : (Jvm.Cond.methodLink "ClaimRegistryLaw" (311 : Nat) ({ cls := "ClaimRegistryModel", name := "idByExpiry", desc := "(I)I" } : Jvm.MethodName)) ∈ lw_all := lw_g (lw_at lw_m12 186 rfl) rfl
theorem q2928 : (Jvm.Cond.methodLink "ClaimRegistryLaw" (314 : Nat) ({ cls := "ClaimRegistryModel", name := "expiryRank", desc := "(I)I" } : Jvm.MethodName)) ∈ lw_all := lw_g (lw_at lw_m12 194 rfl) rfl
theorem q2932 : (Jvm.Cond.methodLink "ClaimRegistryLaw" (317 : Nat) ({ cls := "ClaimRegistryModel", name := "expiringWithin", desc := "(I)I" } : Jvm.MethodName)) ∈ lw_all := lw_g (lw_at lw_m12 198 rfl) rfl
theorem q2936 : (Jvm.Cond.methodLink "ClaimRegistryLaw" (320 : Nat) ({ cls := "ClaimRegistryModel", name := "expiringBySimulation", desc := "(I)I" } : Jvm.MethodName)) ∈ lw_all := lw_g (lw_at lw_m12 202 rfl) rfl
theorem q2940 : (Jvm.Cond.methodLink "ClaimRegistryLaw" (323 : Nat) ({ cls := "ClaimRegistryModel", name := "weightAfter", desc := "(II)I" } : Jvm.MethodName)) ∈ lw_all := lw_g (lw_at lw_m12 206 rfl) rfl
theorem q2944 : (Jvm.Cond.methodLink "ClaimRegistryLaw" (326 : Nat) ({ cls := "ClaimRegistryModel", name := "canSign", desc := "(II)Z" } : Jvm.MethodName)) ∈ lw_all := lw_g (lw_at lw_m12 210 rfl) rfl
theorem q2948 : (Jvm.Cond.methodLink "ClaimRegistryLaw" (329 : Nat) ({ cls := "ClaimRegistryModel", name := "canCountersign", desc := "(II)Z" } : Jvm.MethodName)) ∈ lw_all := lw_g (lw_at lw_m12 214 rfl) rfl
theorem q2952 : (Jvm.Cond.methodLink "ClaimRegistryLaw" (332 : Nat) ({ cls := "ClaimRegistryModel", name := "recentlyExpired", desc := "(I)I" } : Jvm.MethodName)) ∈ lw_all := lw_g (lw_at lw_m12 218 rfl) rfl
theorem q2956 : (Jvm.Cond.methodLink "ClaimRegistryLaw" (336 : Nat) ({ cls := "ClaimRegistryModel", name := "expiredCount", desc := "()I" } : Jvm.MethodName)) ∈ lw_all := lw_g (lw_at lw_m12 222 rfl) rfl
theorem q2960 : (Jvm.Cond.methodLink "ClaimRegistryLaw" (340 : Nat) ({ cls := "ClaimRegistryModel", name := "settledCount", desc := "()I" } : Jvm.MethodName)) ∈ lw_all := lw_g (lw_at lw_m12 226 rfl) rfl
theorem q2964 : (Jvm.Cond.methodLink "ClaimRegistryLaw" (344 : Nat) ({ cls := "ClaimRegistryModel", name := "voidedCount", desc := "()I" } : Jvm.MethodName)) ∈ lw_all := lw_g (lw_at lw_m12 230 rfl) rfl
theorem q2968 : (Jvm.Cond.methodLink "ClaimRegistryLaw" (349 : Nat) ({ cls := "ClaimRegistryModel", name := "interestTotal", desc := "()J" } : Jvm.MethodName)) ∈ lw_all := lw_g (lw_at lw_m12 234 rfl) rfl
theorem q2972 : (Jvm.Cond.methodLink "ClaimRegistryLaw" (353 : Nat) ({ cls := "ClaimRegistryModel", name := "activeWeight", desc := "()J" } : Jvm.MethodName)) ∈ lw_all := lw_g (lw_at lw_m12 238 rfl) rfl
theorem q2976 : (Jvm.Cond.methodLink "ClaimRegistryLaw" (357 : Nat) ({ cls := "ClaimRegistryModel", name := "closedWeight", desc := "()J" } : Jvm.MethodName)) ∈ lw_all := lw_g (lw_at lw_m13 2 rfl) rfl
theorem q2980 : (Jvm.Cond.methodLink "ClaimRegistryLaw" (361 : Nat) ({ cls := "ClaimRegistryModel", name := "isConsistent", desc := "()Z" } : Jvm.MethodName)) ∈ lw_all := lw_g (lw_at lw_m13 6 rfl) rfl
theorem q2984 : (Jvm.Cond.methodLink "ClaimRegistryLaw" (364 : Nat) ({ cls := "ClaimRegistryModel", name := "format", desc := "(I)I" } : Jvm.MethodName)) ∈ lw_all := lw_g (lw_at lw_m13 10 rfl) rfl
theorem q3000 : (Jvm.Cond.methodLink "ClaimRegistryLaw" (367 : Nat) ({ cls := "ClaimRegistryModel", name := "lineChar", desc := "(I)C" } : Jvm.MethodName)) ∈ lw_all := lw_g (lw_at lw_m13 26 rfl) rfl
theorem q3004 : (Jvm.Cond.methodLink "ClaimRegistryLaw" (371 : Nat) ({ cls := "ClaimRegistryModel", name := "append", desc := "(C)I" } : Jvm.MethodName)) ∈ lw_all := lw_g (lw_at lw_m13 30 rfl) rfl
theorem q3008 : (Jvm.Cond.methodLink "ClaimRegistryLaw" (374 : Nat) ({ cls := "ClaimRegistryModel", name := "run", desc := "()I" } : Jvm.MethodName)) ∈ lw_all := lw_g (lw_at lw_m13 34 rfl) rfl
theorem q3048 : (Jvm.Cond.methodLink "ClaimRegistryLaw" (377 : Nat) ({ cls := "ClaimRegistryModel", name := "errorPosition", desc := "()I" } : Jvm.MethodName)) ∈ lw_all := lw_g (lw_at lw_m13 74 rfl) rfl
theorem q3052 : (Jvm.Cond.methodLink "ClaimRegistryLaw" (380 : Nat) ({ cls := "ClaimRegistryModel", name := "failedCommand", desc := "()I" } : Jvm.MethodName)) ∈ lw_all := lw_g (lw_at lw_m13 78 rfl) rfl
theorem q3056 : (Jvm.Cond.methodLink "ClaimRegistryLaw" (384 : Nat) ({ cls := "ClaimRegistryModel", name := "undoableCount", desc := "()I" } : Jvm.MethodName)) ∈ lw_all := lw_g (lw_at lw_m13 82 rfl) rfl
theorem q3060 : (Jvm.Cond.methodLink "ClaimRegistryLaw" (387 : Nat) ({ cls := "ClaimRegistryModel", name := "undo", desc := "()I" } : Jvm.MethodName)) ∈ lw_all := lw_g (lw_at lw_m13 86 rfl) rfl
theorem q3064 : (Jvm.Cond.methodLink "ClaimRegistryLaw" (391 : Nat) ({ cls := "ClaimRegistryModel", name := "save", desc := "()I" } : Jvm.MethodName)) ∈ lw_all := lw_g (lw_at lw_m13 90 rfl) rfl
theorem q3068 : (Jvm.Cond.methodLink "ClaimRegistryLaw" (394 : Nat) ({ cls := "ClaimRegistryModel", name := "restore", desc := "()I" } : Jvm.MethodName)) ∈ lw_all := lw_g (lw_at lw_m13 94 rfl) rfl
